/-- a list of the JDK with n entries -/
def liA (D : va_G) (dA : Nat → ClassId) (H : Heap) (ed al ea n : Nat) (g : Nat → Option Nat) : Prop := ∃ (mc : Int32) (cap : Nat), va_at D CL (al, .inr (17, [.int mc, .ref ea, .int (nI n)])) H ∧ va_at D CL (ea, .inl (dA 10, cap, .inr (.inr (.inr (.inr g))))) H ∧ ea ≠ al ∧ ((n = 0 ∧ cap = 0 ∧ ea = ed) ∨ (cap = 10 ∧ 0 < n ∧ n < 11 ∧ ea ≠ ed))
theorem liA_F {D : va_G} {dA : Nat → ClassId} {A : Nat → Prop} {H H1 : Heap} {ed al ea n : Nat} {g : Nat → Option Nat} (h : liA D dA H ed al ea n g) (hF : Fr A H H1) (h1 : al < H.size → ¬ A al) (h2 : ea < H.size → ¬ A ea) : liA D dA H1 ed al ea n g := by
  obtain ⟨mc, cap, a1, a2, a3, a4⟩ := h
  exact ⟨mc, cap, a1.kept (hF.2 _ a1.lt (h1 a1.lt)), a2.kept (hF.2 _ a2.lt (h2 a2.lt)), a3, a4⟩
section INHF
variable {p : Program} {l : Launch} {e : Env} {R : Room} {s : State} {m : MethodId} {args : Array Value} {below : List Frame} {meth : Method} {c : Code} {H : Heap} {locs : List Loc} {cells slots : Nat} {Q : State → Prop}
variable {cc : ByteArray} {pc : Nat} {ls : Array Slot} {rest : List Value} {D : va_G} {dA : Nat → ClassId} {own : String}
theorem same_ff {ref owner name desc : String} (h : (Cond.sameField ref owner name desc).before args s = true) {x : ClassId × Class × Nat × Field} (hi : s.fieldFound? owner name desc = some x) : s.fieldFound? ref name desc = some x := by
  cases hf : s.fieldFound? ref name desc with
  | none =>
    have h2 := h
    simp only [Cond.before, Cond.holds, Cond.value, hf] at h2
    simp at h2
  | some y =>
    obtain ⟨c1, k1, i1, f1⟩ := y
    have h3 := Cond.sameField_spec hf h
    exact h3.symm.trans hi
theorem x_getI (hx : p.tables.exec = Jvm.exec) (hb : c.code = cc) (hts : ∀ w ∈ lw_all, w.before args s = true) (hown : s.vm.findClass own = some m.cls) (hK : KK D dA s) {C ref : String} {T : u_T} {N ci index a : Nat} {ty : Nat → FieldType} {fs : List Value} (hG : va_at D CL (a, .inr (ci, fs)) H) (hc : CL[ci]? = some (C, T, N)) (hC : ClsOK C T N ty) (j : Nat) (hj : j < N) (hsm : Cond.sameField ref (T j).1 (T j).2.1 (T j).2.2.1 ∈ lw_all) (hq : Cond.fieldLink own index ref (T j).2.1 (T j).2.2.1 ∈ lw_all) {v : Value} (hv : fs[j]? = some v) (hdg : decode cc pc = .ok (.getfield index, 3))
    (kk : W p l e R s m args below meth c H locs cells slots Q (F0 m (pc + 3) ls (v :: rest))) : W p l e R s m args below meth c H locs cells slots Q (F0 m pc ls (.ref a :: rest)) := by
  have hP : va_P D CL [(a, .inr (ci, fs))] H := fun i q hi => by
    cases i with
    | zero => cases hi; exact hG
    | succ i => cases hi
  exact va_get hx hb hts hC.1 hown hK.1 hP 0 rfl hc j hj (hts _ hq) (fun _ h => same_ff (hts _ hsm) h) hv hdg kk
theorem x_putI (hx : p.tables.exec = Jvm.exec) (hb : c.code = cc) (hts : ∀ w ∈ lw_all, w.before args s = true) (hown : s.vm.findClass own = some m.cls) (hK : KK D dA s) {C ref : String} {T : u_T} {N ci index a : Nat} {ty : Nat → FieldType} {fs : List Value} (hG : va_at D CL (a, .inr (ci, fs)) H) (hc : CL[ci]? = some (C, T, N)) (hC : ClsOK C T N ty) (j : Nat) (hj : j < N) (hsm : Cond.sameField ref (T j).1 (T j).2.1 (T j).2.2.1 ∈ lw_all) (hq : Cond.fieldLink own index ref (T j).2.1 (T j).2.2.1 ∈ lw_all) (hfin : (T j).2.2.2 = false) {v : Value} (hn : narrow (ty j) v = v) (hfit : fits (ty j) v = true) (hlen : j < fs.length) (hdg : decode cc pc = .ok (.putfield index, 3))
    (kk : ∀ (H1 : Heap) (i : Nat), va_at D CL (a, .inr (ci, fs.set j v)) H1 → On a H H1 → W p l e R s m args below meth c H1 (locs ++ [⟨a, i⟩]) cells slots Q (F0 m (pc + 3) ls rest)) : W p l e R s m args below meth c H locs cells slots Q (F0 m pc ls (v :: .ref a :: rest)) := by
  have hap := va_apart (own := own) hts hC.1 ty hC.2.1 hC.2.2 hK.1 hc
  obtain ⟨r, h1, cell, q1, q2, q3, q4⟩ := hG
  have hr : r = (C, T, N) := Option.some.inj (h1.symm.trans hc)
  subst hr
  obtain ⟨hS, hfc, kC, hkC, hkind⟩ := hK.1.1 ci _ hc
  obtain ⟨cf, kf, fi, f, hi, hsl⟩ := hS j hj
  have hlay := hts _ (hC.1 _ (u_in_lay hj))
  unfold u_lay at hlay
  have hst := (u_facts hfc hkC (u_lays hts hC.1 hj) hi).1
  have fin : ∀ H' : Heap, H'[a]? = some (cell.setSlot f.slot v) → H'.size = H.size → (∀ q, q ≠ a → H'[q]? = H[q]?) → W p l e R s m args below meth c H' (locs ++ [⟨a, f.slot⟩]) cells slots Q (F0 m (pc + 3) ls rest) := by
    intro H' e1 e2 e3
    rw [hsl] at e1
    exact kk H' f.slot ⟨_, hc, t_OB.to (V := updV (vp_V fs) j v) ⟨_, e1, q2, q3, t_set q4 hap hj v⟩ (fun i _ => vp_updV_set hlen v i)⟩ ⟨e2, e3⟩
  rw [if_neg (by rw [hfin]; decide)] at hlay
  have h6 := u_store hfc hkC hkind hlay hi (hC.2.1 j hj) hn hfit
  exact W.putK hx hb (f := f) ⟨hown, hts _ hq, ⟨_, _, _, same_ff (hts _ hsm) hi⟩, hst⟩ (by rw [q2]; exact h6) q1 q3 (by rw [hsl]; exact k2_hasslot (q4 j hj)) rfl rfl hdg fin
end INHF
set_option maxHeartbeats 4000000 in
theorem met_J3_init (l : Launch) (D : va_G) (dA : Nat → ClassId) {H0 : Heap} {a : Nat} : Ctr l D dA yJ3_init cJ3_init 1 none (mkRm 1 20) [.ref a] H0 A0 (QV (fun H1 => H0 = H1)) := by
  refine ctr_V (by decide) (Nat.le_of_ble_eq_true rfl) ?_
  intro p e s m args below meth c ls QQ locs hx hb hml hown hts hK hend hS hl
  have hl : lv_has ls 1 [(0, .ref a)] := hl
  refine lv_aload_n hx hb dJ3_init_0 rfl (lv_at hl 0 rfl) ?_
  refine x_obj hx hb hml hts hown hl.1 q333 q152 q153 (Nat.le_of_ble_eq_true rfl) ⟨Nat.le_of_ble_eq_true rfl, Nat.le_of_ble_eq_true rfl⟩ dJ3_init_1 ?_
  refine hend _ _ _ _ hS dJ3_init_4 ?_
  exact ⟨rfl, rfl⟩
set_option maxHeartbeats 4000000 in
theorem met_J4_init (l : Launch) (D : va_G) (dA : Nat → ClassId) {H0 : Heap} {al : Nat} (hat : va_at D CL (al, .inr (17, [.int 0, .null, .int 0])) H0) : Ctr l D dA yJ4_init cJ4_init 1 none (mkRm 2 50) [.ref al] H0 (fun q => q = al) (QV (fun H1 => va_at D CL (al, .inr (17, [.int (nI 0), .null, .int 0])) H1 ∧ H1.size = H0.size)) := by
  have hz : H0.size = H0.size := rfl
  refine ctr_V (by decide) (Nat.le_of_ble_eq_true rfl) ?_
  intro p e s m args below meth c ls QQ locs hx hb hml hown hts hK hend hS hl
  have hl : lv_has ls 1 [(0, .ref al)] := hl
  refine lv_aload_n hx hb dJ4_init_0 rfl (lv_at hl 0 rfl) ?_
  refine c_IV (rm := (mkRmC 1 20 0 0)) hx hb hml hts hown hK hl.1 hS (met_J3_init l D dA ) (cwI 0 hts (lw_meth q332) rfl rfl rfl (hts _ q116) (hts _ q330) (hts _ q331) rfl (by decide +kernel) ⟨Nat.le_of_ble_eq_true rfl, Nat.le_of_ble_eq_true rfl⟩) rfl rfl (Nat.le_of_ble_eq_true rfl) dJ4_init_1 (fun _ h => h.elim) ⟨Nat.le_refl _, Nat.le_refl _⟩ (fun H locs hq hF hS => ?_)
  subst hq
  refine lv_aload_n hx hb dJ4_init_4 rfl (lv_at hl 0 rfl) ?_
  refine lv_iconst (v := (nI 0)) hx hb dJ4_init_5 (by decide) ?_
  refine x_put hx hb hts hown hK hat rfl ok_J5 0 (by decide) q338 (Or.inl rfl) rfl rfl (Nat.le_of_ble_eq_true rfl) dJ4_init_6 (fun H i hat1 hO => ?_)
  have hS := hO.S (k := i) hS rfl
  have hz := hO.1.trans hz
  refine hend _ _ _ _ hS dJ4_init_9 ?_
  exact ⟨rfl, hat1, hz⟩
set_option maxHeartbeats 4000000 in
theorem met_J5_init (l : Launch) (D : va_G) (dA : Nat → ClassId) {H0 : Heap} {al ed : Nat} (hat : va_at D CL (al, .inr (17, [.int 0, .null, .int 0])) H0) (hst : stH D H0 3 (.ref ed)) (hsal : D.2 100 3 ≠ al) : Ctr l D dA yJ5_init cJ5_init 1 none (mkRm 3 80) [.ref al] H0 (fun q => q = al) (QV (fun H1 => va_at D CL (al, .inr (17, [.int (nI 0), .ref ed, .int 0])) H1 ∧ H1.size = H0.size)) := by
  refine ctr_V (by decide) (Nat.le_of_ble_eq_true rfl) ?_
  intro p e s m args below meth c ls QQ locs hx hb hml hown hts hK hend hS hl
  have hl : lv_has ls 1 [(0, .ref al)] := hl
  refine lv_aload_n hx hb dJ5_init_0 rfl (lv_at hl 0 rfl) ?_
  refine c_IV (rm := (mkRmC 2 50 0 0)) hx hb hml hts hown hK hl.1 hS (met_J4_init l D dA hat) (cwI 0 hts (lw_meth q329) rfl rfl rfl (hts _ q117) (hts _ q327) (hts _ q328) rfl (by decide +kernel) ⟨Nat.le_of_ble_eq_true rfl, Nat.le_of_ble_eq_true rfl⟩) rfl rfl (Nat.le_of_ble_eq_true rfl) dJ5_init_1 (fun _ h => h) ⟨Nat.le_refl _, Nat.le_refl _⟩ (fun H locs hq hF hS => ?_)
  obtain ⟨hq, hz⟩ := hq
  have hst := stH_F hst hF (fun q h1 h2 z => hsal (h2.symm.trans z))
  refine lv_aload_n hx hb dJ5_init_4 rfl (lv_at hl 0 rfl) ?_
  refine x_gets (v := .ref ed) hx hb hts hown hK 3 rfl hst q334 dJ5_init_5 ?_
  refine x_put hx hb hts hown hK hq rfl ok_J5 1 (by decide) q336 (Or.inl rfl) rfl rfl (Nat.le_of_ble_eq_true rfl) dJ5_init_8 (fun H i hat1 hO => ?_)
  have hS := hO.S (k := i) hS rfl
  have hz := hO.1.trans hz
  refine hend _ _ _ _ hS dJ5_init_11 ?_
  exact ⟨rfl, hat1, hz⟩
set_option maxHeartbeats 4000000 in
theorem met_J5_grow_2 (l : Launch) (D : va_G) (dA : Nat → ClassId) {H0 : Heap} {al ed z : Nat} {mc : Int32} {g : Nat → Option Nat} (hat : va_at D CL (al, .inr (17, [.int mc, .ref ed, .int (nI 0)])) H0) (hed : va_at D CL (ed, .inl (dA 10, 0, .inr (.inr (.inr (.inr g))))) H0) (hst : stH D H0 3 (.ref ed)) (hsal : D.2 100 3 ≠ al) (hz : H0.size = z) : Ctr l D dA yJ5_grow_2 cJ5_grow_2 4 (some (.array (.object "java/lang/Object"))) (mkRmC 1 60 1 10) [.ref al, .int (nI 1)] H0 (fun q => q = al) (QR (fun r H1 => r = some z ∧ va_at D CL (al, .inr (17, [.int mc, .ref z, .int (nI 0)])) H1 ∧ va_at D CL (z, .inl (dA 10, 10, .inr (.inr (.inr (.inr (fun _ => none)))))) H1 ∧ H1.size = z + 1)) := by
  have hal := hat.lt
  dsimp only at hal
  refine ctr_R (by decide) (Nat.le_of_ble_eq_true rfl) (Or.inr ⟨_, rfl⟩) ?_
  intro p e s m args below meth c ls QQ locs hx hb hml hown hts hK hend hS hl
  have hl : lv_has ls 4 [(0, .ref al), (1, .int (nI 1))] := hl
  refine lv_aload_n hx hb dJ5_grow_2_0 rfl (lv_at hl 0 rfl) ?_
  refine x_get hx hb hts hown hK hat rfl ok_J5 1 (by decide) q336 rfl dJ5_grow_2_1 ?_
  refine x_alen hx hb hK 10 hed rfl (v := nI 0) rfl dJ5_grow_2_4 ?_
  refine lv_istore_n (lv' := [(2, .int (nI 0)), (0, .ref al), (1, .int (nI 1))]) hx hb dJ5_grow_2_5 rfl hl (by decide) rfl (fun ls hl => ?_)
  refine lv_iload_n hx hb dJ5_grow_2_6 rfl (lv_at hl 0 rfl) ?_
  refine n_if_gt (tgt := 20) hx hb dJ5_grow_2_7 (by decide) (by omega) (fun c7 => ?_) (fun c7 => ?_)
  · exact absurd c7 (by omega)
  refine lv_aload_n hx hb dJ5_grow_2_10 rfl (lv_at hl 1 rfl) ?_
  refine x_get hx hb hts hown hK hat rfl ok_J5 1 (by decide) q336 rfl dJ5_grow_2_11 ?_
  refine x_gets (v := .ref ed) hx hb hts hown hK 3 rfl hst q334 dJ5_grow_2_14 ?_
  refine lv_acmp_eq (rx := some ed) (ry := some ed) (tgt := 45) hx hb dJ5_grow_2_17 (by decide) (fun _ => ?_) (fun z => absurd rfl z)
  refine lv_aload_n hx hb dJ5_grow_2_45 rfl (lv_at hl 1 rfl) ?_
  refine lv_bipush (v := (nI 10)) hx hb dJ5_grow_2_46 (by decide) ?_
  refine lv_iload_n hx hb dJ5_grow_2_48 rfl (lv_at hl 2 rfl) ?_
  refine va_mmax hx hb (hml.trans hl.1.symm) hown (hts _ q1092) (hts _ q890) (hts _ q142) (hts _ q891) (by decide) (Nat.le_of_ble_eq_true rfl) (by show 0 ≤ 1; omega) (by show 0 ≤ 10; omega) dJ5_grow_2_49 ?_
  refine iv (y := (nI 10)) (by decide) ?_
  refine x_anewa hx hb hts hown hK 10 rfl q1093 q1090 (n := 10) (by decide) (by decide) hS (by show 0 + 1 ≤ 1; omega) (by show 0 + 10 ≤ 10; omega) dJ5_grow_2_52 hz (fun H hat1 hz1 hF hS => ?_)
  have hat := hat.kept (hF.2 _ hat.lt (fun z => z))
  have hz1 : H.size = z + 1 := hz1
  refine lv_dup_x1 hx hb dJ5_grow_2_55 rfl rfl ?_
  refine x_put hx hb hts hown hK hat rfl ok_J5 1 (by decide) q336 (Or.inl rfl) rfl rfl (Nat.le_of_ble_eq_true rfl) dJ5_grow_2_56 (fun H i hat2 hO => ?_)
  have hS := hO.S (k := i) hS rfl
  have hat1 := hat1.kept (hO.2 _ (by show (z : Nat) ≠ al; omega))
  have hz1 := hO.1.trans hz1
  refine W.widen (k := 1) (n := 10) (by show 0 + 1 ≤ 1; omega) (by show 0 + 10 ≤ 10; omega) ?_
  refine hend _ _ _ _ _ hS dJ5_grow_2_59 (Or.inr ⟨_, rfl⟩) ?_
  exact ⟨some z, rfl, rfl, hat2, hat1, hz1⟩
theorem cw_J5_69 {R : Room} {s : State} {args : Array Value} (hts : ∀ w ∈ lw_all, w.before args s = true) {f w k j : Nat} (hR : f + 1 ≤ R.frames ∧ 8 + (4 + 11) + w ≤ R.locals) : CallW R s args RJ5 RJ5 69 yJ5_grow_2 cJ5_grow_2 4 (some (.array (.object "java/lang/Object"))) (ws_ yJ5_grow_2 cJ5_grow_2 4 (some (.array (.object "java/lang/Object")))) (mkRmC f w k j) k j 1 := cwV 1 hts (lw_V q1054 q1056 qs28 q118 q1057) rfl rfl rfl (by decide +kernel) hR
set_option maxHeartbeats 4000000 in
theorem met_J5_grow (l : Launch) (D : va_G) (dA : Nat → ClassId) {H0 : Heap} {al ed z : Nat} {mc : Int32} {g : Nat → Option Nat} (hat : va_at D CL (al, .inr (17, [.int mc, .ref ed, .int (nI 0)])) H0) (hed : va_at D CL (ed, .inl (dA 10, 0, .inr (.inr (.inr (.inr g))))) H0) (hst : stH D H0 3 (.ref ed)) (hsal : D.2 100 3 ≠ al) (hz : H0.size = z) : Ctr l D dA yJ5_grow cJ5_grow 1 (some (.array (.object "java/lang/Object"))) (mkRmC 2 100 1 10) [.ref al] H0 (fun q => q = al) (QR (fun r H1 => r = some z ∧ va_at D CL (al, .inr (17, [.int mc, .ref z, .int (nI 0)])) H1 ∧ va_at D CL (z, .inl (dA 10, 10, .inr (.inr (.inr (.inr (fun _ => none)))))) H1 ∧ H1.size = z + 1)) := by
  refine ctr_R (by decide) (Nat.le_of_ble_eq_true rfl) (Or.inr ⟨_, rfl⟩) ?_
  intro p e s m args below meth c ls QQ locs hx hb hml hown hts hK hend hS hl
  have hl : lv_has ls 1 [(0, .ref al)] := hl
  refine lv_aload_n hx hb dJ5_grow_0 rfl (lv_at hl 0 rfl) ?_
  refine lv_aload_n hx hb dJ5_grow_1 rfl (lv_at hl 0 rfl) ?_
  refine x_get hx hb hts hown hK hat rfl ok_J5 2 (by decide) q337 rfl dJ5_grow_2 ?_
  refine lv_iconst (v := (nI 1)) hx hb dJ5_grow_5 (by decide) ?_
  refine n_iadd hx hb dJ5_grow_6 ?_
  refine c_VRA (rm := mkRmC 1 60 1 10) hx hb hml hts hown hK hl.1 hS (met_J5_grow_2 l D dA hat hed hst hsal hz) (cw_J5_69 hts ⟨by show _ ≤ 2; omega, by show _ ≤ 100; omega⟩) hat rfl rfl rfl rfl (Nat.le_of_ble_eq_true rfl) dJ5_grow_7 (fun _ h => h) ⟨by show 0 + 1 ≤ 1; omega, by show 0 + 10 ≤ 10; omega⟩ (fun r H locs hq hF hS => ?_)
  obtain ⟨rfl, h1, h2, h3⟩ := hq
  refine W.widen (k := 1) (n := 10) (by show 0 + 1 ≤ 1; omega) (by show 0 + 10 ≤ 10; omega) ?_
  refine hend _ _ _ _ _ hS dJ5_grow_10 (Or.inr ⟨_, rfl⟩) ?_
  exact ⟨some z, rfl, rfl, h1, h2, h3⟩
theorem cw_J5_129 {R : Room} {s : State} {args : Array Value} (hts : ∀ w ∈ lw_all, w.before args s = true) {f w k j : Nat} (hR : f + 1 ≤ R.frames ∧ 8 + (1 + 11) + w ≤ R.locals) : CallW R s args RJ5 RJ5 129 yJ5_grow cJ5_grow 1 (some (.array (.object "java/lang/Object"))) (ws_ yJ5_grow cJ5_grow 1 (some (.array (.object "java/lang/Object")))) (mkRmC f w k j) k j 0 := cwV 0 hts (lw_V q1050 q1052 qs27 q118 q1053) rfl rfl rfl (by decide +kernel) hR
set_option maxHeartbeats 4000000 in
theorem met_J5_add_2 (l : Launch) (D : va_G) (dA : Nat → ClassId) {H0 : Heap} {al ea ed n x z : Nat} {g : Nat → Option Nat} {vs : List Value} (hli : liA D dA H0 ed al ea n g) (hxal : x ≠ al) (hn9 : n < 9) (hx2 : va_at D CL (x, .inr (12, vs)) H0) (hst : stH D H0 3 (.ref ed)) (hsal : D.2 100 3 ≠ al) (hz : H0.size = z) : Ctr l D dA yJ5_add_2 cJ5_add_2 4 none (mkRmC 3 140 1 10) [.ref al, .ref x, .ref ea, .int (nI n)] H0 (fun q => q = al ∨ (q = ea ∧ n ≠ 0) ∨ H0.size ≤ q) (QV (fun H1 => ∃ ea1 g1, liA D dA H1 ed al ea1 (n + 1) g1 ∧ (∀ k, k < n → g1 k = g k) ∧ g1 n = some x ∧ ((ea1 = ea ∧ n ≠ 0) ∨ ea1 = z))) := by
  obtain ⟨mc, cap, hat, hea, hne, hcc⟩ := hli
  have hal := hat.lt
  have hel := hea.lt
  dsimp only at hal hel
  have hcap9 : cap < 11 := by rcases hcc with h | h <;> omega
  refine ctr_V (by decide) (Nat.le_of_ble_eq_true rfl) ?_
  intro p e s m args below meth c ls QQ locs hx hb hml hown hts hK hend hS hl
  have hl : lv_has ls 4 [(0, .ref al), (1, .ref x), (2, .ref ea), (3, .int (nI n))] := hl
  refine lv_iload_n hx hb dJ5_add_2_0 rfl (lv_at hl 3 rfl) ?_
  refine lv_aload_n hx hb dJ5_add_2_1 rfl (lv_at hl 2 rfl) ?_
  refine x_alen hx hb hK 10 hea rfl (v := nI cap) rfl dJ5_add_2_2 ?_
  refine n_icmp_ne (tgt := 11) hx hb dJ5_add_2_3 (by decide) (by omega) (by omega) (fun c3 => ?_) (fun c3 => ?_)
  · have hcap : cap = 10 := by rcases hcc with h | h; omega; exact h.1
    have hn0 : n < cap := by omega
    refine lv_aload_n hx hb dJ5_add_2_11 rfl (lv_at hl 2 rfl) ?_
    refine lv_iload_n hx hb dJ5_add_2_12 rfl (lv_at hl 3 rfl) ?_
    refine lv_aload_n hx hb dJ5_add_2_13 rfl (lv_at hl 1 rfl) ?_
    refine x_aast hx hb hK 10 hea rfl hx2 rfl (Or.inr q2104) (i := n) (by omega) (by omega) dJ5_add_2_14 (fun H k hat1 hO => ?_)
    have hS := hO.S (k := k) hS (Or.inr (Or.inl ⟨rfl, by omega⟩))
    have hat := hat.kept (hO.2 _ (fun q => hne q.symm))
    refine lv_aload_n hx hb dJ5_add_2_15 rfl (lv_at hl 0 rfl) ?_
    refine lv_iload_n hx hb dJ5_add_2_16 rfl (lv_at hl 3 rfl) ?_
    refine lv_iconst (v := (nI 1)) hx hb dJ5_add_2_17 (by decide) ?_
    refine n_iadd hx hb dJ5_add_2_18 ?_
    refine x_put hx hb hts hown hK hat rfl ok_J5 2 (by decide) q337 (Or.inl rfl) rfl rfl (Nat.le_of_ble_eq_true rfl) dJ5_add_2_19 (fun H i hat2 hO => ?_)
    have hS := hO.S (k := i) hS (Or.inl rfl)
    have hat1 := hat1.kept (hO.2 _ (fun q => hne q))
    refine W.widen (k := 1) (n := 10) (by show 0 ≤ 1; omega) (by show 0 ≤ 10; omega) ?_
    refine hend _ _ _ _ hS dJ5_add_2_22 ?_
    exact ⟨rfl, _, _, ⟨mc, cap, hat2, hat1, hne, Or.inr ⟨by omega, by omega, by omega, by rcases hcc with h | h; omega; exact h.2.2.2⟩⟩, (fun k hk => by have : k ≠ n := (by omega); simp [va_up, this]), (by simp [va_up]), Or.inl ⟨rfl, by omega⟩⟩
  obtain ⟨hn0, hcap, hee⟩ : n = 0 ∧ cap = 0 ∧ ea = ed := by rcases hcc with h | h; exact h; omega
  have hat0 : va_at D CL (al, .inr (17, [.int mc, .ref ed, .int (nI 0)])) H0 := by rw [← hn0, ← hee]; exact hat
  have hea0 : va_at D CL (ed, .inl (dA 10, 0, .inr (.inr (.inr (.inr g))))) H0 := by rw [← hcap, ← hee]; exact hea
  refine lv_aload_n hx hb dJ5_add_2_6 rfl (lv_at hl 0 rfl) ?_
  refine c_VRA (rm := mkRmC 2 100 1 10) hx hb hml hts hown hK hl.1 hS (met_J5_grow l D dA hat0 hea0 hst hsal hz) (cw_J5_129 hts ⟨by show _ ≤ 3; omega, by show _ ≤ 140; omega⟩) hat rfl rfl rfl rfl (Nat.le_of_ble_eq_true rfl) dJ5_add_2_7 (fun _ h => Or.inl h) ⟨by show 0 + 1 ≤ 1; omega, by show 0 + 10 ≤ 10; omega⟩ (fun r H locs hq hF hS => ?_)
  obtain ⟨rfl, hat, hea, hz1⟩ := hq
  have hx2 := hx2.kept (hF.2 _ hx2.lt (fun q => hxal q))
  refine lv_astore_n (lv' := [(2, .ref z), (0, .ref al), (1, .ref x), (3, .int (nI n))]) hx hb dJ5_add_2_10 rfl hl (by decide) rfl (fun ls hl => ?_)
  refine lv_aload_n hx hb dJ5_add_2_11 rfl (lv_at hl 0 rfl) ?_
  refine lv_iload_n hx hb dJ5_add_2_12 rfl (lv_at hl 3 rfl) ?_
  refine lv_aload_n hx hb dJ5_add_2_13 rfl (lv_at hl 2 rfl) ?_
  refine x_aast hx hb hK 10 hea rfl hx2 rfl (Or.inr q2104) (i := n) (by omega) (by decide) dJ5_add_2_14 (fun H k hat3 hO => ?_)
  have hS := hO.S (k := k) hS (Or.inr (Or.inr (by omega)))
  have hat := hat.kept (hO.2 _ (fun q => absurd q (by omega)))
  refine lv_aload_n hx hb dJ5_add_2_15 rfl (lv_at hl 1 rfl) ?_
  refine lv_iload_n hx hb dJ5_add_2_16 rfl (lv_at hl 3 rfl) ?_
  refine lv_iconst (v := (nI 1)) hx hb dJ5_add_2_17 (by decide) ?_
  refine n_iadd hx hb dJ5_add_2_18 ?_
  refine x_put hx hb hts hown hK hat rfl ok_J5 2 (by decide) q337 (Or.inl rfl) rfl rfl (Nat.le_of_ble_eq_true rfl) dJ5_add_2_19 (fun H i hat4 hO => ?_)
  have hS := hO.S (k := i) hS (Or.inl rfl)
  have hat3 := hat3.kept (hO.2 _ (fun q => absurd q (by omega)))
  refine W.widen (k := 1) (n := 10) (by show 0 + 1 ≤ 1; omega) (by show 0 + 10 ≤ 10; omega) ?_
  refine hend _ _ _ _ hS dJ5_add_2_22 ?_
  exact ⟨rfl, _, _, ⟨mc, 10, hat4, hat3, by omega, Or.inr ⟨rfl, by omega, by omega, by omega⟩⟩, (fun k hk => absurd hk (by omega)), (by simp [va_up]), Or.inr rfl⟩
theorem cw_J5_131 {R : Room} {s : State} {args : Array Value} (hts : ∀ w ∈ lw_all, w.before args s = true) {f w k j : Nat} (hR : f + 1 ≤ R.frames ∧ 8 + (4 + 11) + w ≤ R.locals) : CallW R s args RJ5 RJ5 131 yJ5_add_2 cJ5_add_2 4 none (ws_ yJ5_add_2 cJ5_add_2 4 none) (mkRmC f w k j) k j 3 := cwV 3 hts (lw_V q1046 q1048 qs26 q118 q1049) rfl rfl rfl (by decide +kernel) hR
set_option maxHeartbeats 4000000 in
theorem met_J5_add (l : Launch) (D : va_G) (dA : Nat → ClassId) {H0 : Heap} {al ea ed n x z : Nat} {g : Nat → Option Nat} {vs : List Value} (hli : liA D dA H0 ed al ea n g) (hxal : x ≠ al) (hn9 : n < 9) (hx2 : va_at D CL (x, .inr (12, vs)) H0) (hst : stH D H0 3 (.ref ed)) (hsal : D.2 100 3 ≠ al) (hz : H0.size = z) : Ctr l D dA yJ5_add cJ5_add 2 (some .boolean) (mkRmC 4 180 1 10) [.ref al, .ref x] H0 (fun q => q = al ∨ (q = ea ∧ n ≠ 0) ∨ H0.size ≤ q) (QI (fun r H1 => r = nI 1 ∧ ∃ ea1 g1, liA D dA H1 ed al ea1 (n + 1) g1 ∧ (∀ k, k < n → g1 k = g k) ∧ g1 n = some x ∧ ((ea1 = ea ∧ n ≠ 0) ∨ ea1 = z))) := by
  obtain ⟨mc, cap, hat, hea, hne, hcc⟩ := hli
  have hal := hat.lt
  have hel := hea.lt
  dsimp only at hal hel
  refine ctr_Z (by decide) (Nat.le_of_ble_eq_true rfl) ?_
  intro p e s m args below meth c ls QQ locs hx hb hml hown hts hK hend hS hl
  have hl : lv_has ls 2 [(0, .ref al), (1, .ref x)] := hl
  refine lv_aload_n hx hb dJ5_add_0 rfl (lv_at hl 0 rfl) ?_
  refine lv_dup hx hb dJ5_add_1 rfl ?_
  refine x_getI hx hb hts hown hK hat rfl ok_J5 0 (by decide) q340 q339 rfl dJ5_add_2 ?_
  refine lv_iconst (v := (nI 1)) hx hb dJ5_add_5 (by decide) ?_
  refine lv_iadd hx hb dJ5_add_6 ?_
  refine x_putI hx hb hts hown hK hat rfl ok_J5 0 (by decide) q340 q339 rfl rfl rfl (Nat.le_of_ble_eq_true rfl) dJ5_add_7 (fun H i hat1 hO => ?_)
  have hS := hO.S (k := i) hS (Or.inl rfl)
  refine lv_aload_n hx hb dJ5_add_10 rfl (lv_at hl 0 rfl) ?_
  refine lv_aload_n hx hb dJ5_add_11 rfl (lv_at hl 1 rfl) ?_
  refine lv_aload_n hx hb dJ5_add_12 rfl (lv_at hl 0 rfl) ?_
  refine x_get hx hb hts hown hK hat1 rfl ok_J5 1 (by decide) q336 rfl dJ5_add_13 ?_
  refine lv_aload_n hx hb dJ5_add_16 rfl (lv_at hl 0 rfl) ?_
  refine x_get hx hb hts hown hK hat1 rfl ok_J5 2 (by decide) q337 rfl dJ5_add_17 ?_
  refine c_VVA (rm := mkRmC 3 140 1 10) hx hb hml hts hown hK hl.1 hS (met_J5_add_2 l D dA (n := n) ⟨_, cap, hat1, hea.kept (hO.2 _ hne), hne, hcc⟩ hxal hn9 (hx2.kept (hO.2 _ hxal)) (stH_F hst (hO.fr (A := fun q => q = al) rfl) (fun q h1 h2 z => hsal (h2.symm.trans z))) hsal (hO.1.trans hz)) (cw_J5_131 hts ⟨by show _ ≤ 4; omega, by show _ ≤ 180; omega⟩) hat1 rfl rfl rfl rfl (Nat.le_of_ble_eq_true rfl) dJ5_add_20 (fun q h => by rcases h with h | h | h; exact Or.inl h; exact Or.inr (Or.inl h); exact Or.inr (Or.inr (by have := hO.1; omega))) ⟨by show 0 + 1 ≤ 1; omega, by show 0 + 10 ≤ 10; omega⟩ (fun H locs hq hF hS => ?_)
  refine lv_iconst (v := (nI 1)) hx hb dJ5_add_23 (by decide) ?_
  refine W.widen (k := 1) (n := 10) (by show 0 + 1 ≤ 1; omega) (by show 0 + 10 ≤ 10; omega) ?_
  refine hend _ _ _ _ _ hS dJ5_add_24 (by decide) ?_
  exact ⟨_, rfl, rfl, hq⟩
