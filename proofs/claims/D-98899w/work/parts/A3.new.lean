/-! what is made: objects and arrays at the heap's end; references put into arrays; constructors of a nest -/
section NEWO
variable {p : Program} {l : Launch} {e : Env} {R : Room} {s : State} {m : MethodId} {args : Array Value} {below : List Frame} {meth : Method} {c : Code} {H : Heap} {locs : List Loc} {cells slots : Nat} {Q : State → Prop}
variable {cc : ByteArray} {pc : Nat} {ls : Array Slot} {rest : List Value} {D : va_G} {dA : Nat → ClassId} {own : String} {index : Nat} {A : Nat → Prop} {H0 : Heap}
theorem x_new (hx : p.tables.exec = Jvm.exec) (hb : c.code = cc) (hts : ∀ w ∈ lw_all, w.before args s = true) (hown : s.vm.findClass own = some m.cls) (hK : KK D dA s) {C : String} {T : u_T} {N ci : Nat} {ty : Nat → FieldType} (hc : CL[ci]? = some (C, T, N)) (hC : ClsOK C T N ty) (hcl : Cond.classLink own index C ∈ lw_all) (hinst : Cond.instantiable C N ∈ lw_all) (hini : Cond.initialized C ∈ lw_all) {fs : List Value} (hfs : ∀ j, j < N → defaultValue (ty j) = vp_V fs j) (hS : va_S A H0 H locs) (hcells : cells + 1 ≤ R.cells) (hslots : slots + N ≤ R.slots) (hdg : decode cc pc = .ok (.new index, 3)) {h : Nat} (hh : H.size = h)
    (kk : ∀ H1 : Heap, va_at D CL (h, .inr (ci, fs)) H1 → H1.size = h + 1 → Fr A0 H H1 → va_S A H0 H1 locs → W p l e R s m args below meth c H1 locs (cells + 1) (slots + N) Q (F0 m (pc + 3) ls (.ref h :: rest))) : W p l e R s m args below meth c H locs cells slots Q (F0 m pc ls rest) := by
  subst hh
  have hKn := hK.1.1 ci _ hc
  refine W.newcK hx hb hown (hts _ hcl) (hts _ hinst) (hts _ hini) rfl hdg hcells hslots hKn.2.1 rfl fun H1 kC hkC e1 z1 o1 => ?_
  exact kk H1 ⟨_, hc, (u_born ty hts hC.1 hKn hkC e1 hC.2.1).to hfs⟩ z1 ⟨by omega, fun x h1 _ => o1 x h1⟩ ⟨Nat.le_trans hS.1 (by omega), fun x h1 h2 => (o1 x (Nat.lt_of_lt_of_le h1 hS.1)).trans (hS.2.1 x h1 h2), hS.2.2⟩
theorem x_newa (hx : p.tables.exec = Jvm.exec) (hb : c.code = cc) (hts : ∀ w ∈ lw_all, w.before args s = true) (hK : KK D dA s) (t : Nat) {ty : FieldType} {atype : ArrayType} (hty : newarray.typeOf atype = ty) (htt : (tysOf dA)[t]? = some (dA t, ty)) (harr : Cond.arrayClass ty ∈ lw_all) {n : Nat} (hn : n < 2 ^ 31) (hbytes : n * componentBytes ty ≤ 536870912) (hS : va_S A H0 H locs) (hcells : cells + 1 ≤ R.cells) (hslots : slots + n ≤ R.slots) {a0 : vp_A} (ha : vp_cell (dA t) a0 = arrV (dA t) n (fun _ => defaultValue ty)) (hdg : decode cc pc = .ok (.newarray atype, 2)) {h : Nat} (hh : H.size = h)
    (kk : ∀ H1 : Heap, va_at D CL (h, .inl (dA t, a0)) H1 → H1.size = h + 1 → Fr A0 H H1 → va_S A H0 H1 locs → W p l e R s m args below meth c H1 locs (cells + 1) (slots + n) Q (F0 m (pc + 2) ls (.ref h :: rest))) : W p l e R s m args below meth c H locs cells slots Q (F0 m pc ls (.int (nI n) :: rest)) := by
  subst hty
  subst hh
  refine va_newaK hx hb (hts _ harr) rfl hdg rfl (nI_pos hn) (nI_clamp hn) hbytes hcells hslots rfl fun H1 cA e1 z1 o1 hAr hNm => ?_
  have hd : cA = dA t := by
    have h2 := (hK.1.2 t _ htt).2
    revert h2
    cases atype <;> exact fun h2 => Option.some.inj (hNm.symm.trans h2)
  refine kk H1 ?_ z1 ⟨by omega, fun x h1 _ => o1 x h1⟩ ⟨Nat.le_trans hS.1 (by omega), fun x h1 h2 => (o1 x (Nat.lt_of_lt_of_le h1 hS.1)).trans (hS.2.1 x h1 h2), hS.2.2⟩
  show H1[H.size]? = some (vp_cell (dA t) a0)
  rw [ha, ← hd]
  exact e1
theorem x_anewa (hx : p.tables.exec = Jvm.exec) (hb : c.code = cc) (hts : ∀ w ∈ lw_all, w.before args s = true) (hown : s.vm.findClass own = some m.cls) (hK : KK D dA s) (t : Nat) {C : String} (htt : (tysOf dA)[t]? = some (dA t, .object C)) (hcl : Cond.classLink own index C ∈ lw_all) (hover : Cond.arrayOver (.object C) ∈ lw_tbl) {n : Nat} (hn : n < 2 ^ 31) (hbytes : n * 4 ≤ 536870912) (hS : va_S A H0 H locs) (hcells : cells + 1 ≤ R.cells) (hslots : slots + n ≤ R.slots) (hdg : decode cc pc = .ok (.anewarray index, 3)) {h : Nat} (hh : H.size = h)
    (kk : ∀ H1 : Heap, va_at D CL (h, .inl (dA t, n, .inr (.inr (.inr (.inr (fun _ => none)))))) H1 → H1.size = h + 1 → Fr A0 H H1 → va_S A H0 H1 locs → W p l e R s m args below meth c H1 locs (cells + 1) (slots + n) Q (F0 m (pc + 3) ls (.ref h :: rest))) : W p l e R s m args below meth c H locs cells slots Q (F0 m pc ls (.int (nI n) :: rest)) := by
  subst hh
  have hc : (nI n).toNatClampNeg = n := nI_clamp hn
  refine W.anew hx hb hown (hts _ hcl) (va_AO.use (hK.2.2.1 C hover)) rfl hdg rfl (nI_pos hn) (by rw [hc]; exact hbytes) hcells (by rw [hc]; exact hslots) fun cA kA comp f1 f2 f3 f4 => ?_
  generalize hH1 : H.push ({ cls := cA, slots := Array.replicate (nI n).toNatClampNeg .null, vm := .none } : Cell) = H1
  have z1 : H1.size = H.size + 1 := by rw [← hH1, Array.size_push]
  have e1 : H1[H.size]? = some (arrV cA (nI n).toNatClampNeg (fun _ => .null)) := by rw [← hH1, Array.getElem?_push_size, ← arrV_new]
  have o1 : ∀ q : Nat, q < H.size → H1[q]? = H[q]? := fun q hq => by rw [← hH1, Array.getElem?_push, if_neg (Nat.ne_of_lt hq)]
  obtain ⟨kA', comp', k1, k2, k3, k4⟩ := (hK.1.2 t _ htt).2
  have hd : cA = dA t := Option.some.inj (f1.symm.trans k4)
  rw [hc] at e1
  rw [hc]
  refine kk H1 ?_ z1 ⟨by omega, fun x h1 _ => o1 x h1⟩ ⟨Nat.le_trans hS.1 (by omega), fun x h1 h2 => (o1 x (Nat.lt_of_lt_of_le h1 hS.1)).trans (hS.2.1 x h1 h2), hS.2.2⟩
  show H1[H.size]? = some (vp_cell (dA t) _)
  rw [vp_cell_q, ← hd]
  exact e1
/-- a reference is put into an array of any cell: of the array's own class, or of one below it -/
theorem x_aast (hx : p.tables.exec = Jvm.exec) (hb : c.code = cc) (hK : KK D dA s) {a n v : Nat} {f : Nat → Option Nat} (t : Nat) {E : String} (hG : va_at D CL (a, .inl (dA t, n, .inr (.inr (.inr (.inr f))))) H) (ht : (tysOf dA)[t]? = some (dA t, .object E)) {ci : Nat} {r : vw_C} {vs : List Value} (hv : va_at D CL (v, .inr (ci, vs)) H) (hc : CL[ci]? = some r) (hca : r.1 = E ∨ Cond.castable r.1 E ∈ lw_tbl) {i : Nat} (hi : i < n) (hn : n < 2 ^ 31) (hdg : decode cc pc = .ok (.aastore, 1))
    (kk : ∀ (H1 : Heap) (k : Nat), va_at D CL (a, .inl (dA t, n, .inr (.inr (.inr (.inr (va_up f i (some v))))))) H1 → On a H H1 → W p l e R s m args below meth c H1 (locs ++ [⟨a, k⟩]) cells slots Q (F0 m (pc + 1) ls rest)) : W p l e R s m args below meth c H locs cells slots Q (F0 m pc ls (.ref v :: .int (nI i) :: .ref a :: rest)) := by
  have hin : vp_in (nI i) n := vp_in_nI hi hn
  have hic : (nI i).toNatClampNeg = i := nI_clamp (Nat.lt_trans hi hn)
  have hlt : (nI i).toNatClampNeg < n := by rw [hic]; exact hi
  have h0 : ¬ nI i < 0 := fun q => hin (Or.inl q)
  obtain ⟨r', hr', cellV, g1, g2, g3, -⟩ := hv
  have hcls := (hK.1.1 ci r hc).2
  obtain ⟨kA, comp, k1, k2, k3, -⟩ := (hK.1.2 t _ ht).2
  obtain ⟨kE, hkE, -⟩ := Vm.findClass_spec k3
  obtain ⟨kC, hkC, -⟩ := hcls.2
  have hasg : s.vm.assignable (D.1 ci) comp = true := by
    rcases hca with hca | hca
    · subst hca
      have hcomp : comp = D.1 ci := Option.some.inj (k3.symm.trans hcls.1)
      rw [hcomp]
      exact va_assign hcls
    · obtain ⟨c0, t1, f1, f2, f3⟩ := Cond.castable_spec (va_Nw.use (A := args) rfl (hK.2.1 _ hca rfl))
      cases hcls.1.symm.trans f1
      cases k3.symm.trans f2
      exact f3
  refine W.aast hx hb hG (fun q h => by cases h) (fun h => by cases h) k1 k2 rfl hkE ⟨h0, by show _ < (arrV _ _ _).slots.size; rw [arrV_size]; exact hlt⟩ g1 (fun q h => by rw [g3] at h; cases h) (by rw [g2]; exact hkC) (by rw [g2]; exact hasg) rfl rfl hdg fun H1 e z oq => ?_
  refine kk H1 _ ?_ ⟨z, oq⟩
  show H1[a]? = some (vp_cell _ _)
  rw [e, hic]
  rw [vp_cell_q, vp_cell_q, arrV_store]
  congr 2
  funext q
  by_cases hq : q = i
  · subst hq
    simp [updV, va_up, va_rf]
  · simp [updV, va_up, hq]
/-- Object's constructor -/
theorem x_obj {nL : Nat} (hx : p.tables.exec = Jvm.exec) (hb : c.code = cc) (hml : c.maxLocals = nL) (hts : ∀ w ∈ lw_all, w.before args s = true) (hown : s.vm.findClass own = some m.cls) (hl : ls.size = nL) {a : Nat} (hlink : Cond.methodLink own index Lib.objectInit ∈ lw_all) (hinst : Cond.instanceMethod Lib.objectInit ∈ lw_all) (hcode : Cond.code Lib.objectInit ⟨#[0xb1]⟩ 1 none ∈ lw_all) (hW : (rest.map fun v => v.category).sum ≤ 8) (hR : 1 ≤ R.frames ∧ 20 ≤ R.locals) (hdg : decode cc pc = .ok (.invokespecial index, 3))
    (kk : W p l e R s m args below meth c H locs cells slots Q (F0 m (pc + 3) ls rest)) : W p l e R s m args below meth c H locs cells slots Q (F0 m pc ls (.ref a :: rest)) :=
  W.objInit hx hb hown (hts _ hlink) (hts _ hinst) (hts _ hcode) rfl (by rw [hml]; exact hl) rfl hdg hR.1 (by have h2 := hR.2; show 2 * 0 + _ + 12 ≤ _; omega) kk
end NEWO
section CALLIN
variable {p : Program} {l : Launch} {e : Env} {R : Room} {s : State} {m : MethodId} {args : Array Value} {below : List Frame} {meth : Method} {c : Code} {H : Heap} {locs : List Loc} {cells slots : Nat} {Q : State → Prop}
variable {cc cc' : ByteArray} {pc nL nL' : Nat} {ls : Array Slot} {rest st : List Value} {D : va_G} {dA : Nat → ClassId} {A A1 : Nat → Prop} {H0 : Heap} {own host : String} {y : MethodName} {rm : Room} {As : List Value} {n index b : Nat} {post : Heap → Prop}
/-- a nest mate's constructor -/
theorem c_IN (hx : p.tables.exec = Jvm.exec) (hb : c.code = cc) (hml : c.maxLocals = nL) (hts : ∀ w ∈ lw_all, w.before args s = true) (hown : s.vm.findClass own = some m.cls) (hK : KK D dA s) (hl : ls.size = nL) (hS : va_S A H0 H locs)
    (hM : Ctr l D dA y cc' nL' none rm (.ref b :: As) H A1 (QV post)) (cw : va_CN R s args own index y host cc' nL' none (ws_ y cc' nL' none) rm rm.cells rm.slots n ∧ y.name = "<init>" ∧ (Cond.instanceMethod y).before args s = true) (hn : As.length = n) (hstack : st = As.reverse ++ .ref b :: rest) (hW : (rest.map fun v => v.category).sum ≤ 8) (hdg : decode cc pc = .ok (.invokespecial index, 3)) (hA : ∀ q, A1 q → A q) (hroom : cells + rm.cells ≤ R.cells ∧ slots + rm.slots ≤ R.slots)
    (kk : ∀ (H1 : Heap) (locs1 : List Loc), post H1 → Fr A1 H H1 → va_S A H0 H1 locs1 → W p l e R s m args below meth c H1 locs1 (cells + rm.cells) (slots + rm.slots) Q (F0 m (pc + 3) ls rest)) : W p l e R s m args below meth c H locs cells slots Q (F0 m pc ls st) := by
  subst hstack
  refine c_done (rm := rm) (va_runIN ⟨hx, hb, hml, hown, hts⟩ hM cw (c_preS hK) rfl hn hl rfl (lv_room hW) hdg hroom) hS hA fun v H1 locs1 hq hF hS => ?_
  obtain ⟨rfl, hq⟩ := hq
  exact kk H1 locs1 hq hF hS
theorem c_IV (hx : p.tables.exec = Jvm.exec) (hb : c.code = cc) (hml : c.maxLocals = nL) (hts : ∀ w ∈ lw_all, w.before args s = true) (hown : s.vm.findClass own = some m.cls) (hK : KK D dA s) (hl : ls.size = nL) (hS : va_S A H0 H locs)
    (hM : Ctr l D dA y cc' nL' none rm (.ref b :: As) H A1 (QV post)) (cw : CallB R s args own index y cc' nL' none (ws_ y cc' nL' none) rm rm.cells rm.slots n ∧ y.name = "<init>" ∧ (Cond.instanceMethod y).before args s = true) (hn : As.length = n) (hstack : st = As.reverse ++ .ref b :: rest) (hW : (rest.map fun v => v.category).sum ≤ 8) (hdg : decode cc pc = .ok (.invokespecial index, 3)) (hA : ∀ q, A1 q → A q) (hroom : cells + rm.cells ≤ R.cells ∧ slots + rm.slots ≤ R.slots)
    (kk : ∀ (H1 : Heap) (locs1 : List Loc), post H1 → Fr A1 H H1 → va_S A H0 H1 locs1 → W p l e R s m args below meth c H1 locs1 (cells + rm.cells) (slots + rm.slots) Q (F0 m (pc + 3) ls rest)) : W p l e R s m args below meth c H locs cells slots Q (F0 m pc ls st) := by
  refine c_I hx hb hml hts hown hK hl hS hM cw hn hstack hW hdg hA hroom fun v H1 locs1 hq hF hS => ?_
  obtain ⟨rfl, hq⟩ := hq
  exact kk H1 locs1 hq hF hS
end CALLIN
section CALLA
variable {p : Program} {l : Launch} {e : Env} {R : Room} {s : State} {m : MethodId} {args : Array Value} {below : List Frame} {meth : Method} {c : Code} {H : Heap} {locs : List Loc} {cells slots : Nat} {Q : State → Prop}
variable {cc cc' : ByteArray} {pc nL nL' n b : Nat} {ls : Array Slot} {rest st As : List Value} {D : va_G} {dA : Nat → ClassId} {A A1 : Nat → Prop} {H0 : Heap} {own C : String} {index : Nat} {QX : Nat → Heap → Prop} {y : MethodName} {ret : Option FieldType} {rm : Room}
/-- calls of what makes cells -/
theorem c_VXRA (hx : p.tables.exec = Jvm.exec) (hb : c.code = cc) (hml : c.maxLocals = nL) (hts : ∀ w ∈ lw_all, w.before args s = true) (hown : s.vm.findClass own = some m.cls) (hK : KK D dA s) (hl : ls.size = nL) (hS : va_S A H0 H locs) {post : Option Nat → Heap → Prop}
    (hM : CtrX l D dA y cc' nL' ret rm (.ref b :: As) H A1 (QR post) QX) (cw : CallW R s args own C index y cc' nL' ret (ws_ y cc' nL' ret) rm rm.cells rm.slots n) {fs : List Value} {ci : Nat} {q : vw_C} (hat : va_at D CL (b, .inr (ci, fs)) H) (hc : CL[ci]? = some q) (hq : q.1 = C) (hn : As.length = n) (hstack : st = As.reverse ++ .ref b :: rest) (hW : (rest.map fun v => v.category).sum ≤ 8) (hdg : decode cc pc = .ok (.invokevirtual index, 3)) (hA : ∀ q, A1 q → A q) (hroom : cells + rm.cells ≤ R.cells ∧ slots + rm.slots ≤ R.slots)
    (kx : ∀ (q : Nat) (H1 : Heap) (locs1 : List Loc), QX q H1 → Fr A1 H H1 → va_S A H0 H1 locs1 → xq_W p l e R s m args below meth c H1 locs1 (cells + rm.cells) (slots + rm.slots) Q (F0 m pc ls rest) q)
    (kk : ∀ (r : Option Nat) (H1 : Heap) (locs1 : List Loc), post r H1 → Fr A1 H H1 → va_S A H0 H1 locs1 → W p l e R s m args below meth c H1 locs1 (cells + rm.cells) (slots + rm.slots) Q (F0 m (pc + 3) ls (va_rf r :: rest))) : W p l e R s m args below meth c H locs cells slots Q (F0 m pc ls st) :=
  c_VX hx hb hml hts hown hK hl hS hM cw hat hc hq hn hstack hW hdg hA hroom kx fun v H1 locs1 hq hF hS => by
    obtain ⟨r, rfl, hq⟩ := hq
    exact kk r H1 locs1 hq hF hS
theorem c_VXVA (hx : p.tables.exec = Jvm.exec) (hb : c.code = cc) (hml : c.maxLocals = nL) (hts : ∀ w ∈ lw_all, w.before args s = true) (hown : s.vm.findClass own = some m.cls) (hK : KK D dA s) (hl : ls.size = nL) (hS : va_S A H0 H locs) {post : Heap → Prop}
    (hM : CtrX l D dA y cc' nL' ret rm (.ref b :: As) H A1 (QV post) QX) (cw : CallW R s args own C index y cc' nL' ret (ws_ y cc' nL' ret) rm rm.cells rm.slots n) {fs : List Value} {ci : Nat} {q : vw_C} (hat : va_at D CL (b, .inr (ci, fs)) H) (hc : CL[ci]? = some q) (hq : q.1 = C) (hn : As.length = n) (hstack : st = As.reverse ++ .ref b :: rest) (hW : (rest.map fun v => v.category).sum ≤ 8) (hdg : decode cc pc = .ok (.invokevirtual index, 3)) (hA : ∀ q, A1 q → A q) (hroom : cells + rm.cells ≤ R.cells ∧ slots + rm.slots ≤ R.slots)
    (kx : ∀ (q : Nat) (H1 : Heap) (locs1 : List Loc), QX q H1 → Fr A1 H H1 → va_S A H0 H1 locs1 → xq_W p l e R s m args below meth c H1 locs1 (cells + rm.cells) (slots + rm.slots) Q (F0 m pc ls rest) q)
    (kk : ∀ (H1 : Heap) (locs1 : List Loc), post H1 → Fr A1 H H1 → va_S A H0 H1 locs1 → W p l e R s m args below meth c H1 locs1 (cells + rm.cells) (slots + rm.slots) Q (F0 m (pc + 3) ls rest)) : W p l e R s m args below meth c H locs cells slots Q (F0 m pc ls st) :=
  c_VX hx hb hml hts hown hK hl hS hM cw hat hc hq hn hstack hW hdg hA hroom kx fun v H1 locs1 hq hF hS => by
    obtain ⟨rfl, hq⟩ := hq
    exact kk H1 locs1 hq hF hS
theorem c_VRA (hx : p.tables.exec = Jvm.exec) (hb : c.code = cc) (hml : c.maxLocals = nL) (hts : ∀ w ∈ lw_all, w.before args s = true) (hown : s.vm.findClass own = some m.cls) (hK : KK D dA s) (hl : ls.size = nL) (hS : va_S A H0 H locs) {post : Option Nat → Heap → Prop}
    (hM : Ctr l D dA y cc' nL' ret rm (.ref b :: As) H A1 (QR post)) (cw : CallW R s args own C index y cc' nL' ret (ws_ y cc' nL' ret) rm rm.cells rm.slots n) {fs : List Value} {ci : Nat} {q : vw_C} (hat : va_at D CL (b, .inr (ci, fs)) H) (hc : CL[ci]? = some q) (hq : q.1 = C) (hn : As.length = n) (hstack : st = As.reverse ++ .ref b :: rest) (hW : (rest.map fun v => v.category).sum ≤ 8) (hdg : decode cc pc = .ok (.invokevirtual index, 3)) (hA : ∀ q, A1 q → A q) (hroom : cells + rm.cells ≤ R.cells ∧ slots + rm.slots ≤ R.slots)
    (kk : ∀ (r : Option Nat) (H1 : Heap) (locs1 : List Loc), post r H1 → Fr A1 H H1 → va_S A H0 H1 locs1 → W p l e R s m args below meth c H1 locs1 (cells + rm.cells) (slots + rm.slots) Q (F0 m (pc + 3) ls (va_rf r :: rest))) : W p l e R s m args below meth c H locs cells slots Q (F0 m pc ls st) :=
  c_V hx hb hml hts hown hK hl hS hM cw hat hc hq hn hstack hW hdg hA hroom fun v H1 locs1 hq hF hS => by
    obtain ⟨r, rfl, hq⟩ := hq
    exact kk r H1 locs1 hq hF hS
theorem c_VIA (hx : p.tables.exec = Jvm.exec) (hb : c.code = cc) (hml : c.maxLocals = nL) (hts : ∀ w ∈ lw_all, w.before args s = true) (hown : s.vm.findClass own = some m.cls) (hK : KK D dA s) (hl : ls.size = nL) (hS : va_S A H0 H locs) {post : Int32 → Heap → Prop}
    (hM : Ctr l D dA y cc' nL' ret rm (.ref b :: As) H A1 (QI post)) (cw : CallW R s args own C index y cc' nL' ret (ws_ y cc' nL' ret) rm rm.cells rm.slots n) {fs : List Value} {ci : Nat} {q : vw_C} (hat : va_at D CL (b, .inr (ci, fs)) H) (hc : CL[ci]? = some q) (hq : q.1 = C) (hn : As.length = n) (hstack : st = As.reverse ++ .ref b :: rest) (hW : (rest.map fun v => v.category).sum ≤ 8) (hdg : decode cc pc = .ok (.invokevirtual index, 3)) (hA : ∀ q, A1 q → A q) (hroom : cells + rm.cells ≤ R.cells ∧ slots + rm.slots ≤ R.slots)
    (kk : ∀ (r : Int32) (H1 : Heap) (locs1 : List Loc), post r H1 → Fr A1 H H1 → va_S A H0 H1 locs1 → W p l e R s m args below meth c H1 locs1 (cells + rm.cells) (slots + rm.slots) Q (F0 m (pc + 3) ls (.int r :: rest))) : W p l e R s m args below meth c H locs cells slots Q (F0 m pc ls st) :=
  c_V hx hb hml hts hown hK hl hS hM cw hat hc hq hn hstack hW hdg hA hroom fun v H1 locs1 hq hF hS => by
    obtain ⟨r, rfl, hq⟩ := hq
    exact kk r H1 locs1 hq hF hS
theorem c_VVA (hx : p.tables.exec = Jvm.exec) (hb : c.code = cc) (hml : c.maxLocals = nL) (hts : ∀ w ∈ lw_all, w.before args s = true) (hown : s.vm.findClass own = some m.cls) (hK : KK D dA s) (hl : ls.size = nL) (hS : va_S A H0 H locs) {post : Heap → Prop}
    (hM : Ctr l D dA y cc' nL' ret rm (.ref b :: As) H A1 (QV post)) (cw : CallW R s args own C index y cc' nL' ret (ws_ y cc' nL' ret) rm rm.cells rm.slots n) {fs : List Value} {ci : Nat} {q : vw_C} (hat : va_at D CL (b, .inr (ci, fs)) H) (hc : CL[ci]? = some q) (hq : q.1 = C) (hn : As.length = n) (hstack : st = As.reverse ++ .ref b :: rest) (hW : (rest.map fun v => v.category).sum ≤ 8) (hdg : decode cc pc = .ok (.invokevirtual index, 3)) (hA : ∀ q, A1 q → A q) (hroom : cells + rm.cells ≤ R.cells ∧ slots + rm.slots ≤ R.slots)
    (kk : ∀ (H1 : Heap) (locs1 : List Loc), post H1 → Fr A1 H H1 → va_S A H0 H1 locs1 → W p l e R s m args below meth c H1 locs1 (cells + rm.cells) (slots + rm.slots) Q (F0 m (pc + 3) ls rest)) : W p l e R s m args below meth c H locs cells slots Q (F0 m pc ls st) :=
  c_V hx hb hml hts hown hK hl hS hM cw hat hc hq hn hstack hW hdg hA hroom fun v H1 locs1 hq hF hS => by
    obtain ⟨rfl, hq⟩ := hq
    exact kk H1 locs1 hq hF hS
theorem c_SRA (hx : p.tables.exec = Jvm.exec) (hb : c.code = cc) (hml : c.maxLocals = nL) (hts : ∀ w ∈ lw_all, w.before args s = true) (hown : s.vm.findClass own = some m.cls) (hK : KK D dA s) (hl : ls.size = nL) (hS : va_S A H0 H locs) {post : Option Nat → Heap → Prop}
    (hM : Ctr l D dA y cc' nL' ret rm As H A1 (QR post)) (cw : CallB R s args own index y cc' nL' ret (ws_ y cc' nL' ret) rm rm.cells rm.slots n ∧ (Cond.static y).before args s = true) (hn : As.length = n) (hstack : st = As.reverse ++ rest) (hW : (rest.map fun v => v.category).sum ≤ 8) (hdg : decode cc pc = .ok (.invokestatic index, 3)) (hA : ∀ q, A1 q → A q) (hroom : cells + rm.cells ≤ R.cells ∧ slots + rm.slots ≤ R.slots)
    (kk : ∀ (r : Option Nat) (H1 : Heap) (locs1 : List Loc), post r H1 → Fr A1 H H1 → va_S A H0 H1 locs1 → W p l e R s m args below meth c H1 locs1 (cells + rm.cells) (slots + rm.slots) Q (F0 m (pc + 3) ls (va_rf r :: rest))) : W p l e R s m args below meth c H locs cells slots Q (F0 m pc ls st) :=
  c_S hx hb hml hts hown hK hl hS hM cw hn hstack hW hdg hA hroom fun v H1 locs1 hq hF hS => by
    obtain ⟨r, rfl, hq⟩ := hq
    exact kk r H1 locs1 hq hF hS
end CALLA
