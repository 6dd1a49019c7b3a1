/-! LAYER 2: overriding methods, nest mates; arrays of any cell -/
theorem lw_U {own C owner : String} {idx : Nat} {x y : MethodName} {b : ByteArray} {L : Nat} {r : Option FieldType} (h1 : Cond.methodLink own idx x ∈ lw_all) (h2 : Cond.sameMethod x.cls owner x.name x.desc ∈ lw_all) (h3 : Cond.selects C x y ∈ lw_all) (h4 : Cond.instanceMethod y ∈ lw_all) (h5 : Cond.initialized y.cls ∈ lw_all) (h6 : Cond.code y b L r ∈ lw_all) : GoodIn lw_all (va_wsU own idx C owner x y (ws_ y b L r)) := by
  unfold va_wsU
  refine lw_app ?_ (lw_meth h6)
  intro w hw
  simp only [List.mem_cons, List.not_mem_nil, or_false] at hw
  rcases hw with e | e | e | e | e
  · rw [e]; exact h1
  · rw [e]; exact h2
  · rw [e]; exact h3
  · rw [e]; exact h4
  · rw [e]; exact h5
section GCALL2
variable {p : Program} {l : Launch} {e : Env} {R : Room} {s : State} {m : MethodId} {args : Array Value} {below : List Frame} {meth : Method} {c : Code} {H : Heap} {locs : List Loc} {cells slots : Nat} {Q : State → Prop}
variable {cc cc' : ByteArray} {pc nL nL' : Nat} {ls : Array Slot} {rest st : List Value} {D : va_G} {dA : Nat → ClassId} {A A1 : Nat → Prop} {H0 : Heap} {own C owner host : String} {x y : MethodName} {ret : Option FieldType} {rm : Room} {As : List Value} {n index b f w : Nat} {post : Option Value → Heap → Prop}
/-- invokevirtual of what the receiver's class overrides -/
theorem c_U (hx : p.tables.exec = Jvm.exec) (hb : c.code = cc) (hml : c.maxLocals = nL) (hts : ∀ w ∈ lw_all, w.before args s = true) (hown : s.vm.findClass own = some m.cls) (hK : KK D dA s) (hl : ls.size = nL) (hS : va_S A H0 H locs)
    (hM : Ctr l D dA y cc' nL' ret rm (.ref b :: As) H A1 post) (cw : va_CU R s args own C owner index x y cc' nL' ret (ws_ y cc' nL' ret) rm rm.cells rm.slots n) {fs : List Value} {ci : Nat} {q : vw_C} (hat : va_at D CL (b, .inr (ci, fs)) H) (hc : CL[ci]? = some q) (hq : q.1 = C) (hn : As.length = n) (hstack : st = As.reverse ++ .ref b :: rest) (hW : (rest.map fun v => v.category).sum ≤ 8) (hdg : decode cc pc = .ok (.invokevirtual index, 3)) (hA : ∀ q, A1 q → A q) (hroom : cells + rm.cells ≤ R.cells ∧ slots + rm.slots ≤ R.slots)
    (kk : ∀ (v : Option Value) (H1 : Heap) (locs1 : List Loc), post v H1 → Fr A1 H H1 → va_S A H0 H1 locs1 → W p l e R s m args below meth c H1 locs1 (cells + rm.cells) (slots + rm.slots) Q (F0 m (pc + 3) ls (v.toList ++ rest))) : W p l e R s m args below meth c H locs cells slots Q (F0 m pc ls st) := by
  subst hstack; subst hq
  exact c_done (va_runU ⟨hx, hb, hml, hown, hts⟩ hM cw (c_preV hK hat hc) rfl hn hl rfl (lv_room hW) hdg hroom) hS hA kk
theorem c_UI (hx : p.tables.exec = Jvm.exec) (hb : c.code = cc) (hml : c.maxLocals = nL) (hts : ∀ w ∈ lw_all, w.before args s = true) (hown : s.vm.findClass own = some m.cls) (hK : KK D dA s) (hl : ls.size = nL) (hS : va_S A H0 H locs) (hroom : cells ≤ R.cells ∧ slots ≤ R.slots) {post : Int32 → Heap → Prop}
    (hM : Ctr l D dA y cc' nL' ret (mkRm f w) (.ref b :: As) H A1 (QI post)) (cw : va_CU R s args own C owner index x y cc' nL' ret (ws_ y cc' nL' ret) (mkRm f w) 0 0 n) {fs : List Value} {ci : Nat} {q : vw_C} (hat : va_at D CL (b, .inr (ci, fs)) H) (hc : CL[ci]? = some q) (hq : q.1 = C) (hn : As.length = n) (hstack : st = As.reverse ++ .ref b :: rest) (hW : (rest.map fun v => v.category).sum ≤ 8) (hdg : decode cc pc = .ok (.invokevirtual index, 3)) (hA : ∀ q, A1 q → A q)
    (kk : ∀ (r : Int32) (H1 : Heap) (locs1 : List Loc), post r H1 → Fr A1 H H1 → va_S A H0 H1 locs1 → W p l e R s m args below meth c H1 locs1 cells slots Q (F0 m (pc + 3) ls (.int r :: rest))) : W p l e R s m args below meth c H locs cells slots Q (F0 m pc ls st) :=
  c_U hx hb hml hts hown hK hl hS hM cw hat hc hq hn hstack hW hdg hA hroom fun v H1 locs1 hq hF hS => by
    obtain ⟨r, rfl, hq⟩ := hq
    exact kk r H1 locs1 hq hF hS
/-- a nest mate's static method -/
theorem c_SN (hx : p.tables.exec = Jvm.exec) (hb : c.code = cc) (hml : c.maxLocals = nL) (hts : ∀ w ∈ lw_all, w.before args s = true) (hown : s.vm.findClass own = some m.cls) (hK : KK D dA s) (hl : ls.size = nL) (hS : va_S A H0 H locs) (hroom : cells ≤ R.cells ∧ slots ≤ R.slots) {post : Int32 → Heap → Prop}
    (hM : Ctr l D dA y cc' nL' ret (mkRm f w) As H A1 (QI post)) (cw : va_CN R s args own index y host cc' nL' ret (ws_ y cc' nL' ret) (mkRm f w) 0 0 n ∧ (Cond.static y).before args s = true ∧ True) (hn : As.length = n) (hstack : st = As.reverse ++ rest) (hW : (rest.map fun v => v.category).sum ≤ 8) (hdg : decode cc pc = .ok (.invokestatic index, 3)) (hA : ∀ q, A1 q → A q)
    (kk : ∀ (r : Int32) (H1 : Heap) (locs1 : List Loc), post r H1 → Fr A1 H H1 → va_S A H0 H1 locs1 → W p l e R s m args below meth c H1 locs1 cells slots Q (F0 m (pc + 3) ls (.int r :: rest))) : W p l e R s m args below meth c H locs cells slots Q (F0 m pc ls st) := by
  subst hstack
  refine c_done (rm := mkRm f w) (va_runSN ⟨hx, hb, hml, hown, hts⟩ hM cw (c_preS hK) rfl hn hl rfl (lv_room hW) hdg hroom) hS hA fun v H1 locs1 hq hF hS => ?_
  obtain ⟨r, rfl, hq⟩ := hq
  exact kk r H1 locs1 hq hF hS
/-- arrays of any cell -/
theorem x_iald (hx : p.tables.exec = Jvm.exec) (hb : c.code = cc) (hK : KK D dA s) {a n : Nat} {g : Nat → Int32} (hG : va_at D CL (a, .inl (dA 0, n, .inl g)) H) {i : Int32} (hin : vp_in i n) (hdg : decode cc pc = .ok (.iaload, 1))
    (kk : W p l e R s m args below meth c H locs cells slots Q (F0 m (pc + 1) ls (.int (g i.toNatClampNeg) :: rest))) : W p l e R s m args below meth c H locs cells slots Q (F0 m pc ls (.int i :: .ref a :: rest)) := by
  have hP : va_P D CL [(a, .inl (dA 0, n, .inl g))] H := fun i q hi => by
    cases i with
    | zero => cases hi; exact hG
    | succ i => cases hi
  exact va_iald hx hb hK.1 hP 0 0 rfl rfl hin hdg kk
theorem xn_iald {i : Nat} (hx : p.tables.exec = Jvm.exec) (hb : c.code = cc) (hK : KK D dA s) {a n : Nat} {g : Nat → Int32} (hG : va_at D CL (a, .inl (dA 0, n, .inl g)) H) (hi : i < n) (hn : n < 2 ^ 31) (hdg : decode cc pc = .ok (.iaload, 1))
    (kk : W p l e R s m args below meth c H locs cells slots Q (F0 m (pc + 1) ls (.int (g i) :: rest))) : W p l e R s m args below meth c H locs cells slots Q (F0 m pc ls (.int (nI i) :: .ref a :: rest)) :=
  x_iald hx hb hK hG (vp_in_nI hi hn) hdg (by rw [nI_clamp (Nat.lt_trans hi hn)]; exact kk)
theorem xn_aald {i : Nat} (hx : p.tables.exec = Jvm.exec) (hb : c.code = cc) (hK : KK D dA s) {a n : Nat} {g : Nat → Option Nat} (t : Nat) {C : String} (hG : va_at D CL (a, .inl (dA t, n, .inr (.inr (.inr (.inr g))))) H) (ht : (tysOf dA)[t]? = some (dA t, .object C)) (hi : i < n) (hn : n < 2 ^ 31) {o : Option Nat} (ho : g i = o) (hdg : decode cc pc = .ok (.aaload, 1))
    (kk : W p l e R s m args below meth c H locs cells slots Q (F0 m (pc + 1) ls (va_rf o :: rest))) : W p l e R s m args below meth c H locs cells slots Q (F0 m pc ls (.int (nI i) :: .ref a :: rest)) :=
  x_aald hx hb hK t hG ht (vp_in_nI hi hn) hdg (by rw [nI_clamp (Nat.lt_trans hi hn), ho]; exact kk)
end GCALL2
theorem ok_X4 : ClsOK RX4 TX4 8 tyX4 := ⟨in_X4, tyX4_ok, nmX4⟩
theorem ok_X5 : ClsOK RX5 TX5 11 tyX5 := ⟨in_X5, tyX5_ok, nmX5⟩
theorem ok_X9 : ClsOK RX9 TX9 2 tyX9 := ⟨in_X9, tyX9_ok, nmX9⟩
theorem ok_X14 : ClsOK RX14 TX14 4 tyX14 := ⟨in_X14, tyX14_ok, nmX14⟩
theorem ok_X16 : ClsOK RX16 TX16 1 tyX16 := ⟨in_X16, tyX16_ok, nmX16⟩
theorem ok_X17 : ClsOK RX17 TX17 1 tyX17 := ⟨in_X17, tyX17_ok, nmX17⟩
theorem ok_X18 : ClsOK RX18 TX18 3 tyX18 := ⟨in_X18, tyX18_ok, nmX18⟩
theorem ok_X19 : ClsOK RX19 TX19 3 tyX19 := ⟨in_X19, tyX19_ok, nmX19⟩
theorem ok_J5 : ClsOK RJ5 TJ5 3 tyJ5 := ⟨in_J5, tyJ5_ok, nmJ5⟩
/-! sums: what they come to -/
theorem evS_cons0 {vars : Nat → Int32} {i : Int32} {es : List Sg} {st : List Int32} : evS vars ((0, i) :: es) st = evS vars es (i :: st) := rfl
theorem evS_cons1 {vars : Nat → Int32} {i : Int32} {es : List Sg} {st : List Int32} : evS vars ((1, i) :: es) st = evS vars es (vars i.toNatClampNeg :: st) := rfl
theorem evS_op {vars : Nat → Int32} {k : Nat} {i a b : Int32} {es : List Sg} {st : List Int32} : evS vars ((k + 2, i) :: es) (b :: a :: st) = if k = 3 ∧ b = 0 then none else evS vars es (opI k a b :: st) := rfl
/-- a list of signs that puts one value, or breaks -/
def evG (es : List Sg) : Prop := ∀ vars : Nat → Int32, (∃ v, ∀ rest st, evS vars (es ++ rest) st = evS vars rest (v :: st)) ∨ ∀ rest st, evS vars (es ++ rest) st = none
theorem evG_v {es : List Sg} {vars : Nat → Int32} {v : Int32} (h : ∀ rest st, evS vars (es ++ rest) st = evS vars rest (v :: st)) : tmV vars es = some v := by
  have := h [] []
  rw [List.append_nil] at this
  exact tmV_some this
theorem evG_n {es : List Sg} {vars : Nat → Int32} (h : ∀ rest st, evS vars (es ++ rest) st = none) : tmV vars es = none := by
  have := h [] []
  rw [List.append_nil] at this
  exact tmV_none this
theorem evG_int (i : Int32) : evG [(0, i)] := fun vars => Or.inl ⟨i, fun _ _ => rfl⟩
theorem evG_var (i : Int32) : evG [(1, i)] := fun vars => Or.inl ⟨vars i.toNatClampNeg, fun _ _ => rfl⟩
theorem evG_join {a b : List Sg} {k : Nat} {i : Int32} (ha : evG a) (hb : evG b) : evG (a ++ b ++ [(k + 2, i)]) := fun vars => by
  rcases ha vars with ⟨x, hx⟩ | hx
  · rcases hb vars with ⟨y, hy⟩ | hy
    · by_cases h : k = 3 ∧ y = 0
      · refine Or.inr fun rest st => ?_
        rw [List.append_assoc, List.append_assoc, hx, hy]
        exact if_pos h
      · refine Or.inl ⟨opI k x y, fun rest st => ?_⟩
        rw [List.append_assoc, List.append_assoc, hx, hy]
        exact if_neg h
    · refine Or.inr fun rest st => ?_
      rw [List.append_assoc, List.append_assoc, hx, hy]
  · refine Or.inr fun rest st => ?_
    rw [List.append_assoc, List.append_assoc, hx]
/-- what a join comes to, out of its parts -/
theorem tm_join {a b : List Sg} {k : Nat} {i : Int32} (ha : evG a) (hb : evG b) (vars : Nat → Int32) : tmV vars (a ++ b ++ [(k + 2, i)]) = match tmV vars a, tmV vars b with
    | some x, some y => if k = 3 ∧ y = 0 then none else some (opI k x y)
    | _, _ => none := by
  rcases ha vars with ⟨x, hx⟩ | hx
  · rw [evG_v hx]
    rcases hb vars with ⟨y, hy⟩ | hy
    · rw [evG_v hy]
      have e : evS vars (a ++ b ++ [(k + 2, i)]) [] = if k = 3 ∧ y = 0 then none else some [opI k x y] := by
        rw [List.append_assoc, hx, hy]
        rfl
      by_cases h : k = 3 ∧ y = 0
      · rw [if_pos h] at e
        show _ = if k = 3 ∧ y = 0 then none else some (opI k x y)
        rw [if_pos h]; exact tmV_none e
      · rw [if_neg h] at e
        show _ = if k = 3 ∧ y = 0 then none else some (opI k x y)
        rw [if_neg h]; exact tmV_some e
    · rw [evG_n hy]
      refine tmV_none ?_
      rw [List.append_assoc, hx, hy]
  · rw [evG_n hx]
    refine tmV_none ?_
    rw [List.append_assoc, hx]
/-- the sign's letter -/
def opCh (k : Nat) : Nat := if k = 0 then 43 else if k = 1 then 45 else if k = 2 then 42 else 47
/-- a sum at a, of depth at most d, in cells of O -/
def smA (D : va_G) (H : Heap) (O : Nat → Prop) : Nat → Nat → List Sg → Prop
  | 0, _, _ => False
  | d + 1, a, es => O a ∧ ((∃ v, es = [(0, v)] ∧ va_at D CL (a, .inr (9, [.int v])) H) ∨ (∃ k, k < 9 ∧ es = [(1, nI k)] ∧ va_at D CL (a, .inr (10, [.int (nI k)])) H) ∨ ∃ k x y ex ey, k ≤ 3 ∧ es = ex ++ ey ++ [(k + 2, nI 0)] ∧ va_at D CL (a, .inr (11, [.int (nI (opCh k)), .ref x, .ref y])) H ∧ smA D H O d x ex ∧ smA D H O d y ey)
theorem smA_ev {D : va_G} {H : Heap} {O : Nat → Prop} : ∀ (d a : Nat) (es : List Sg), smA D H O d a es → evG es
  | 0, _, _, h => h.elim
  | d + 1, a, es, h => by
    rcases h.2 with ⟨v, rfl, _⟩ | ⟨k, _, rfl, _⟩ | ⟨k, x, y, ex, ey, _, rfl, _, h1, h2⟩
    · exact evG_int v
    · exact evG_var _
    · exact evG_join (smA_ev d x ex h1) (smA_ev d y ey h2)
theorem smA_kept {D : va_G} {H H1 : Heap} {O : Nat → Prop} (hk : ∀ q, O q → q < H.size → H1[q]? = H[q]?) : ∀ (d a : Nat) (es : List Sg), smA D H O d a es → smA D H1 O d a es
  | 0, _, _, h => h
  | d + 1, a, es, h => by
    refine ⟨h.1, ?_⟩
    rcases h.2 with ⟨v, e, g⟩ | ⟨k, g0, e, g⟩ | ⟨k, x, y, ex, ey, g0, e, g, h1, h2⟩
    · exact Or.inl ⟨v, e, g.kept (hk a h.1 g.lt)⟩
    · exact Or.inr (Or.inl ⟨k, g0, e, g.kept (hk a h.1 g.lt)⟩)
    · exact Or.inr (Or.inr ⟨k, x, y, ex, ey, g0, e, g.kept (hk a h.1 g.lt), smA_kept hk d x ex h1, smA_kept hk d y ey h2⟩)
theorem smA_up {D : va_G} {H : Heap} {O : Nat → Prop} : ∀ (d a : Nat) (es : List Sg), smA D H O d a es → smA D H O (d + 1) a es
  | 0, _, _, h => h.elim
  | d + 1, a, es, h => by
    refine ⟨h.1, ?_⟩
    rcases h.2 with g | g | ⟨k, x, y, ex, ey, g0, e, g, h1, h2⟩
    · exact Or.inl g
    · exact Or.inr (Or.inl g)
    · exact Or.inr (Or.inr ⟨k, x, y, ex, ey, g0, e, g, smA_up d x ex h1, smA_up d y ey h2⟩)
theorem smA_mono {D : va_G} {H : Heap} {O O2 : Nat → Prop} (hO : ∀ q, q < H.size → O q → O2 q) : ∀ (d a : Nat) (es : List Sg), smA D H O d a es → smA D H O2 d a es
  | 0, _, _, h => h
  | d + 1, a, es, h => by
    have hlt : a < H.size := by
      rcases h.2 with ⟨v, e, g⟩ | ⟨k, g0, e, g⟩ | ⟨k, x, y, ex, ey, g0, e, g, h1, h2⟩ <;> exact g.lt
    refine ⟨hO a hlt h.1, ?_⟩
    rcases h.2 with g | g | ⟨k, x, y, ex, ey, g0, e, g, h1, h2⟩
    · exact Or.inl g
    · exact Or.inr (Or.inl g)
    · exact Or.inr (Or.inr ⟨k, x, y, ex, ey, g0, e, g, smA_mono hO d x ex h1, smA_mono hO d y ey h2⟩)
/-- who is asked: the object q, its nine numbers at va -/
def asA (D : va_G) (dA : Nat → ClassId) (H : Heap) (q va : Nat) (vars : Nat → Int32) (nt : Int32) : Prop := va_at D CL (q, .inr (6, [.ref va, .int nt])) H ∧ va_at D CL (va, .inl (dA 0, 9, .inl vars)) H ∧ va ≠ q
abbrev rmS (d : Nat) : Room := mkRm d (23 * d)
def smQ (D : va_G) (dA : Nat → ClassId) (q va : Nat) (vars : Nat → Int32) (nt : Int32) (es : List Sg) : Int32 → Heap → Prop := fun r H1 => (∀ v, tmV vars es = some v → r = v) ∧ asA D dA H1 q va vars (brk nt (tmV vars es))
