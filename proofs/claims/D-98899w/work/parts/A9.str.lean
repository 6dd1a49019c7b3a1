/-! texts of letters: rows for String and StringBuilder -/
section STR1
variable {l : Launch} {D : va_G} {dA : Nat → ClassId} {y : MethodName} {cc : ByteArray} {nL : Nat} {rm : Room} {av : List Value} {H0 : Heap} {A : Nat → Prop} {Q : Option Value → Heap → Prop}
theorem ctr_T (hy : plainName y.cls = true) (hn : (lg_sl av).length ≤ nL) {ty : FieldType}
    (body : ∀ (p : Program) (e : Env) (s : State) (m : MethodId) (args : Array Value) (below : List Frame) (meth : Method) (c : Code) (ls : Array Slot) (QQ : State → Prop) (locs : List Loc), p.tables.exec = Jvm.exec → c.code = cc → c.maxLocals = nL → s.vm.findClass y.cls = some m.cls → (∀ w ∈ lw_all, w.before args s = true) → KK D dA s → (∀ (pc : Nat) (ls : Array Slot) (H : Heap) (locs : List Loc) (v : Int32) , va_S A H0 H locs → decode cc pc = .ok (.ireturn, 1) → narrow ty (.int v) = .int v → Q (some (.int v)) H → W p l e rm s m args below meth c H locs rm.cells rm.slots QQ (F0 m pc ls [.int v])) → va_S A H0 H0 locs → lv_has ls nL (lv_args 0 av) →
      W p l e rm s m args below meth c H0 locs 0 0 QQ (F0 m 0 ls [])) : Ctr l D dA y cc nL (some ty) rm av H0 A Q :=
  ctr_of hy hn fun p e s m args below meth c ls hx hb hml hown hts hK hr hlk hnm hS hs hl => body p e s m args below meth c ls _ [] hx hb hml hown hts hK (fun pc ls H locs v hS hdg hz hq => W.zret hx hb hr hz (e_Q hs hS hq) hS.2.2 hdg (hlocks := hlk)) hS hl
end STR1
section STR2
variable {p : Program} {l : Launch} {e : Env} {R : Room} {s : State} {m : MethodId} {args : Array Value} {below : List Frame} {meth : Method} {c : Code} {H : Heap} {locs : List Loc} {cells slots : Nat} {Q : State → Prop}
variable {cc cc' : ByteArray} {pc nL nL' : Nat} {ls : Array Slot} {rest st : List Value} {D : va_G} {dA : Nat → ClassId} {A A1 : Nat → Prop} {H0 : Heap} {own C owner host : String} {x y : MethodName} {ret : Option FieldType} {rm : Room} {As : List Value} {n index b f w : Nat}
theorem c_UV (hx : p.tables.exec = Jvm.exec) (hb : c.code = cc) (hml : c.maxLocals = nL) (hts : ∀ w ∈ lw_all, w.before args s = true) (hown : s.vm.findClass own = some m.cls) (hK : KK D dA s) (hl : ls.size = nL) (hS : va_S A H0 H locs) (hroom : cells ≤ R.cells ∧ slots ≤ R.slots) {post : Heap → Prop}
    (hM : Ctr l D dA y cc' nL' ret (mkRm f w) (.ref b :: As) H A1 (QV post)) (cw : va_CU R s args own C owner index x y cc' nL' ret (ws_ y cc' nL' ret) (mkRm f w) 0 0 n) {fs : List Value} {ci : Nat} {q : vw_C} (hat : va_at D CL (b, .inr (ci, fs)) H) (hc : CL[ci]? = some q) (hq : q.1 = C) (hn : As.length = n) (hstack : st = As.reverse ++ .ref b :: rest) (hW : (rest.map fun v => v.category).sum ≤ 8) (hdg : decode cc pc = .ok (.invokevirtual index, 3)) (hA : ∀ q, A1 q → A q)
    (kk : ∀ (H1 : Heap) (locs1 : List Loc), post H1 → Fr A1 H H1 → va_S A H0 H1 locs1 → W p l e R s m args below meth c H1 locs1 cells slots Q (F0 m (pc + 3) ls rest)) : W p l e R s m args below meth c H locs cells slots Q (F0 m pc ls st) :=
  c_U hx hb hml hts hown hK hl hS hM cw hat hc hq hn hstack hW hdg hA hroom fun v H1 locs1 hq hF hS => by
    obtain ⟨rfl, hq⟩ := hq
    exact kk H1 locs1 hq hF hS
theorem c_UR (hx : p.tables.exec = Jvm.exec) (hb : c.code = cc) (hml : c.maxLocals = nL) (hts : ∀ w ∈ lw_all, w.before args s = true) (hown : s.vm.findClass own = some m.cls) (hK : KK D dA s) (hl : ls.size = nL) (hS : va_S A H0 H locs) (hroom : cells ≤ R.cells ∧ slots ≤ R.slots) {post : Option Nat → Heap → Prop}
    (hM : Ctr l D dA y cc' nL' ret (mkRm f w) (.ref b :: As) H A1 (QR post)) (cw : va_CU R s args own C owner index x y cc' nL' ret (ws_ y cc' nL' ret) (mkRm f w) 0 0 n) {fs : List Value} {ci : Nat} {q : vw_C} (hat : va_at D CL (b, .inr (ci, fs)) H) (hc : CL[ci]? = some q) (hq : q.1 = C) (hn : As.length = n) (hstack : st = As.reverse ++ .ref b :: rest) (hW : (rest.map fun v => v.category).sum ≤ 8) (hdg : decode cc pc = .ok (.invokevirtual index, 3)) (hA : ∀ q, A1 q → A q)
    (kk : ∀ (r : Option Nat) (H1 : Heap) (locs1 : List Loc), post r H1 → Fr A1 H H1 → va_S A H0 H1 locs1 → W p l e R s m args below meth c H1 locs1 cells slots Q (F0 m (pc + 3) ls (va_rf r :: rest))) : W p l e R s m args below meth c H locs cells slots Q (F0 m pc ls st) :=
  c_U hx hb hml hts hown hK hl hS hM cw hat hc hq hn hstack hW hdg hA hroom fun v H1 locs1 hq hF hS => by
    obtain ⟨r, rfl, hq⟩ := hq
    exact kk r H1 locs1 hq hF hS
/-- the superclass's own method, on this -/
theorem c_SU (hx : p.tables.exec = Jvm.exec) (hb : c.code = cc) (hml : c.maxLocals = nL) (hts : ∀ w ∈ lw_all, w.before args s = true) (hown : s.vm.findClass own = some m.cls) (hK : KK D dA s) (hl : ls.size = nL) (hS : va_S A H0 H locs) (hroom : cells ≤ R.cells ∧ slots ≤ R.slots) {post : Option Value → Heap → Prop}
    (hM : Ctr l D dA y cc' nL' ret (mkRm f w) (.ref b :: As) H A1 post) (cw : va_CS R s args own index y cc' nL' ret (ws_ y cc' nL' ret) (mkRm f w) 0 0 n) {fs : List Value} {ci : Nat} {q : vw_C} (hat : va_at D CL (b, .inr (ci, fs)) H) (hc : CL[ci]? = some q) (hn : As.length = n) (hstack : st = As.reverse ++ .ref b :: rest) (hW : (rest.map fun v => v.category).sum ≤ 8) (hdg : decode cc pc = .ok (.invokespecial index, 3)) (hA : ∀ q, A1 q → A q)
    (kk : ∀ (v : Option Value) (H1 : Heap) (locs1 : List Loc), post v H1 → Fr A1 H H1 → va_S A H0 H1 locs1 → W p l e R s m args below meth c H1 locs1 cells slots Q (F0 m (pc + 3) ls (v.toList ++ rest))) : W p l e R s m args below meth c H locs cells slots Q (F0 m pc ls st) := by
  subst hstack
  exact c_done (rm := mkRm f w) (va_runSU (hK.1.1 ci _ hc).2 ⟨hx, hb, hml, hown, hts⟩ hM cw (c_preV hK hat hc) rfl hn hl rfl (lv_room hW) hdg hroom) hS hA kk
theorem c_SUI (hx : p.tables.exec = Jvm.exec) (hb : c.code = cc) (hml : c.maxLocals = nL) (hts : ∀ w ∈ lw_all, w.before args s = true) (hown : s.vm.findClass own = some m.cls) (hK : KK D dA s) (hl : ls.size = nL) (hS : va_S A H0 H locs) (hroom : cells ≤ R.cells ∧ slots ≤ R.slots) {post : Int32 → Heap → Prop}
    (hM : Ctr l D dA y cc' nL' ret (mkRm f w) (.ref b :: As) H A1 (QI post)) (cw : va_CS R s args own index y cc' nL' ret (ws_ y cc' nL' ret) (mkRm f w) 0 0 n) {fs : List Value} {ci : Nat} {q : vw_C} (hat : va_at D CL (b, .inr (ci, fs)) H) (hc : CL[ci]? = some q) (hn : As.length = n) (hstack : st = As.reverse ++ .ref b :: rest) (hW : (rest.map fun v => v.category).sum ≤ 8) (hdg : decode cc pc = .ok (.invokespecial index, 3)) (hA : ∀ q, A1 q → A q)
    (kk : ∀ (r : Int32) (H1 : Heap) (locs1 : List Loc), post r H1 → Fr A1 H H1 → va_S A H0 H1 locs1 → W p l e R s m args below meth c H1 locs1 cells slots Q (F0 m (pc + 3) ls (.int r :: rest))) : W p l e R s m args below meth c H locs cells slots Q (F0 m pc ls st) :=
  c_SU hx hb hml hts hown hK hl hS hroom hM cw hat hc hn hstack hW hdg hA fun v H1 locs1 hq hF hS => by
    obtain ⟨r, rfl, hq⟩ := hq
    exact kk r H1 locs1 hq hF hS
theorem c_SUR (hx : p.tables.exec = Jvm.exec) (hb : c.code = cc) (hml : c.maxLocals = nL) (hts : ∀ w ∈ lw_all, w.before args s = true) (hown : s.vm.findClass own = some m.cls) (hK : KK D dA s) (hl : ls.size = nL) (hS : va_S A H0 H locs) (hroom : cells ≤ R.cells ∧ slots ≤ R.slots) {post : Option Nat → Heap → Prop}
    (hM : Ctr l D dA y cc' nL' ret (mkRm f w) (.ref b :: As) H A1 (QR post)) (cw : va_CS R s args own index y cc' nL' ret (ws_ y cc' nL' ret) (mkRm f w) 0 0 n) {fs : List Value} {ci : Nat} {q : vw_C} (hat : va_at D CL (b, .inr (ci, fs)) H) (hc : CL[ci]? = some q) (hn : As.length = n) (hstack : st = As.reverse ++ .ref b :: rest) (hW : (rest.map fun v => v.category).sum ≤ 8) (hdg : decode cc pc = .ok (.invokespecial index, 3)) (hA : ∀ q, A1 q → A q)
    (kk : ∀ (r : Option Nat) (H1 : Heap) (locs1 : List Loc), post r H1 → Fr A1 H H1 → va_S A H0 H1 locs1 → W p l e R s m args below meth c H1 locs1 cells slots Q (F0 m (pc + 3) ls (va_rf r :: rest))) : W p l e R s m args below meth c H locs cells slots Q (F0 m pc ls st) :=
  c_SU hx hb hml hts hown hK hl hS hroom hM cw hat hc hn hstack hW hdg hA fun v H1 locs1 hq hF hS => by
    obtain ⟨r, rfl, hq⟩ := hq
    exact kk r H1 locs1 hq hF hS
/-- bytes of any cell -/
theorem xn_bald {a n i : Nat} {g : Nat → Int32} (hx : p.tables.exec = Jvm.exec) (hb : c.code = cc) (hK : KK D dA s) (hG : va_at D CL (a, .inl (dA 1, n, .inl g)) H) (hi : i < n) (hn : n < 2 ^ 31) (hdg : decode cc pc = .ok (.baload, 1))
    (kk : W p l e R s m args below meth c H locs cells slots Q (F0 m (pc + 1) ls (.int (g i) :: rest))) : W p l e R s m args below meth c H locs cells slots Q (F0 m pc ls (.int (nI i) :: .ref a :: rest)) := by
  have hP : va_P D CL [(a, .inl (dA 1, n, .inl g))] H := fun i q hi => by
    cases i with
    | zero => cases hi; exact hG
    | succ i => cases hi
  refine va_bald hx hb hK.1 hP 0 1 rfl rfl (vp_in_nI hi hn) hdg ?_
  rw [nI_clamp (Nat.lt_trans hi hn)]
  exact kk
theorem xn_bast {a n i : Nat} {g : Nat → Int32} {v v2 : Int32} (hx : p.tables.exec = Jvm.exec) (hb : c.code = cc) (hK : KK D dA s) (hG : va_at D CL (a, .inl (dA 1, n, .inl g)) H) (hi : i < n) (hn : n < 2 ^ 31) (hv : vp_nar .byte v = v2) (hdg : decode cc pc = .ok (.bastore, 1))
    (kk : ∀ (H1 : Heap) (k : Nat), va_at D CL (a, .inl (dA 1, n, .inl (va_up g i v2))) H1 → On a H H1 → W p l e R s m args below meth c H1 (locs ++ [⟨a, k⟩]) cells slots Q (F0 m (pc + 1) ls rest)) : W p l e R s m args below meth c H locs cells slots Q (F0 m pc ls (.int v :: .int (nI i) :: .ref a :: rest)) := by
  have ha : H[a]? = some (vp_cell (dA 1) (n, .inl g)) := hG
  have hT : (tysOf dA)[1]? = some (dA 1, .byte) := rfl
  refine W.bast hx hb ha ((hK.1.2 1 _ hT).1 n (fun j => .int (g j))) (fun q => by cases q) (by show ¬ (nI i < 0 ∨ (arrV _ _ _).slots.size ≤ _); rw [arrV_size]; exact vp_in_nI hi hn) rfl rfl hdg fun H1 e z oq => ?_
  refine kk H1 _ ?_ ⟨z, oq⟩
  show H1[a]? = some (vp_cell (dA 1) (n, .inl (va_up g i v2)))
  rw [e, vp_cell_i, vp_cell_i, arrV_store]
  congr 2
  funext q
  rw [nI_clamp (Nat.lt_trans hi hn)]
  by_cases hq : q = i
  · subst hq
    simp only [updV, va_up, if_pos]
    rw [← hv]
    rfl
  · simp [updV, va_up, hq]
/-- instanceof of the class itself -/
theorem x_inst (hx : p.tables.exec = Jvm.exec) (hb : c.code = cc) (hts : ∀ w ∈ lw_all, w.before args s = true) (hown : s.vm.findClass own = some m.cls) (hK : KK D dA s) {a ci : Nat} {fs : List Value} {q : vw_C} (hG : va_at D CL (a, .inr (ci, fs)) H) (hc : CL[ci]? = some q) (hlink : Cond.classLink own index q.1 ∈ lw_all) (hdg : decode cc pc = .ok (.instanceof index, 3))
    (kk : W p l e R s m args below meth c H locs cells slots Q (F0 m (pc + 3) ls (.int (nI 1) :: rest))) : W p l e R s m args below meth c H locs cells slots Q (F0 m pc ls (.ref a :: rest)) := by
  obtain ⟨r, h1, cell, q1, q2, q3, q4⟩ := hG
  have hr : r = q := Option.some.inj (h1.symm.trans hc)
  subst hr
  have hk := hK.1.1 ci _ hc
  exact va_instS hx hb hown (hts _ hlink) hk.2 ⟨cell, q1, by rw [q3]; rfl, by rw [q2]; exact hk.2.1⟩ hdg kk
/-- a string constant is loaded -/
theorem x_ldcS (hx : p.tables.exec = Jvm.exec) (hb : c.code = cc) (hown : s.vm.findClass own = some m.cls) (hK : KK D dA s) (i : Nat) {q : String × Nat × String} (hi : strL[i]? = some q) (ho : q.1 = own) (hdg : decode cc pc = .ok (.ldc q.2.1, 2))
    (kk : W p l e R s m args below meth c H locs cells slots Q (F0 m (pc + 2) ls (.ref (D.2 102 i) :: rest))) : W p l e R s m args below meth c H locs cells slots Q (F0 m pc ls rest) := by
  subst ho
  exact va_ldcS hx hb hown (hK.2.2.2.2.1 i q hi) hdg kk
end STR2
/-- a String at a: its letters -/
def strA (D : va_G) (dA : Nat → ClassId) (H : Heap) (B : Nat → Prop) (a : Nat) (lt : List Nat) : Prop := ∃ va h1 h2, B a ∧ B va ∧ va_at D CL (a, .inr (18, [.ref va, .int (nI 0), .int h1, .int h2])) H ∧ va_at D CL (va, .inl (dA 1, lt.length, .inl (fun j => nI (lt.getD j 0)))) H ∧ lt.length < 1000 ∧ ∀ x, x ∈ lt → x < 128
theorem strA_F {D : va_G} {dA : Nat → ClassId} {A B : Nat → Prop} {H H1 : Heap} {a : Nat} {lt : List Nat} (h : strA D dA H B a lt) (hF : Fr A H H1) (hA : ∀ q, q < H.size → B q → ¬ A q) : strA D dA H1 B a lt := by
  obtain ⟨va, h1, h2, b1, b2, g1, g2, g3⟩ := h
  exact ⟨va, h1, h2, b1, b2, g1.kept (hF.2 _ g1.lt (hA _ g1.lt b1)), g2.kept (hF.2 _ g2.lt (hA _ g2.lt b2)), g3⟩
theorem strA_m {D : va_G} {dA : Nat → ClassId} {B B2 : Nat → Prop} {H : Heap} {a : Nat} {lt : List Nat} (h : strA D dA H B a lt) (hB : ∀ q, q < H.size → B q → B2 q) : strA D dA H B2 a lt := by
  obtain ⟨va, h1, h2, b1, b2, g1, g2, g3⟩ := h
  exact ⟨va, h1, h2, hB _ g1.lt b1, hB _ g2.lt b2, g1, g2, g3⟩
theorem getD_lt {lt : List Nat} (h : ∀ x, x ∈ lt → x < 128) (j : Nat) : lt.getD j 0 < 128 := by
  rw [List.getD_eq_getElem?_getD]
  cases hj : lt[j]? with
  | none => decide
  | some x => exact h x (List.mem_of_getElem? hj)
theorem and255 {x : Nat} (h : x < 256) : x &&& 255 = x := (by decide +kernel : ∀ y : Fin 256, y.val &&& 255 = y.val) ⟨x, h⟩
theorem i2c_n : ∀ x : Fin 256, ((nI x.val).toUInt32 % 65536).toInt32 = nI x.val := by decide +kernel
theorem lt_ext {l1 l2 : List Nat} (hl : l1.length = l2.length) (h : ∀ j, j < l1.length → l1.getD j 0 = l2.getD j 0) : l1 = l2 := by
  apply List.ext_getElem hl
  intro i h1 h2
  have := h i h1
  rw [List.getD_eq_getElem?_getD, List.getD_eq_getElem?_getD, List.getElem?_eq_getElem h1, List.getElem?_eq_getElem h2] at this
  exact this
/-- a StringBuilder at b, its bytes at vb -/
def sbS (D : va_G) (dA : Nat → ClassId) (H : Heap) (b vb : Nat) (lt : List Nat) : Prop := b ≠ vb ∧ (∀ x, x ∈ lt → x < 128) ∧ ∃ mb g, va_at D CL (b, .inr (19, [.ref vb, .int (nI 0), .int mb, .int (nI lt.length)])) H ∧ va_at D CL (vb, .inl (dA 1, 16, .inl g)) H ∧ ∀ j, j < lt.length → g j = nI (lt.getD j 0)
theorem ok_J8 : ClsOK RJ8 TJ8 4 tyJ8 := ⟨in_J8, tyJ8_ok, nmJ8⟩
theorem ok_J12 : ClsOK RJ12 TJ12 4 tyJ12 := ⟨in_J12, tyJ12_ok, nmJ12⟩
theorem cwUP {R : Room} {s : State} {args : Array Value} {own C owner : String} {index maxL mc ms : Nat} {x y : MethodName} {bytes : ByteArray} {ret : Option FieldType} {rm : Room} (n : Nat) (ht : ∀ w ∈ lw_all, w.before args s = true) (hG : GoodIn lw_all (ws_ y bytes maxL ret)) (hrc : rm.cells = mc) (hrs : rm.slots = ms) (hini : Cond.initialized y.cls ∈ lw_all) (hlk : Cond.methodLink own index x ∈ lw_all) (hsm : Cond.sameMethod x.cls owner x.name x.desc ∈ lw_all) (hin : Cond.instanceMethod y ∈ lw_all) (hsel : (Cond.selects C x y).before args s = true)
    (hyx : y = ⟨owner, x.name, x.desc⟩) (hd : owner ≠ "java/lang/invoke/MethodHandle" ∧ owner ≠ "java/lang/invoke/VarHandle" ∧ (parseMethodDescriptor x.desc).map (fun d => d.parameters.length) = some n) (hR : rm.frames + 1 ≤ R.frames ∧ 8 + (maxL + 11) + rm.locals ≤ R.locals) : va_CU R s args own C owner index x y bytes maxL ret (ws_ y bytes maxL ret) rm mc ms n := by
  have hc : Cond.code y bytes maxL ret ∈ ws_ y bytes maxL ret := List.mem_cons_self
  refine ⟨⟨hrc, hrs, hR.1, hR.2, pay_in ht hG, hc⟩, ht _ (hG _ hc).1, ht _ hini, ⟨hd.1, hd.2.1⟩, fun sig h => ?_, ht _ hlk, ht _ hsm, by rw [← hyx]; exact va_Decl.of (ht _ hin) (ht _ (hG _ hc).1), hsel, ht _ hin⟩
  have h2 := hd.2.2
  rw [h] at h2
  exact (Option.some.inj h2).symm
