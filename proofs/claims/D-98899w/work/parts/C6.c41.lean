/-- the words' strings stand -/
def wsA (D : va_G) (dA : Nat → ClassId) (H : Heap) (B : Nat) : Prop := ∀ w, w < 21 → strA D dA H (fun q => q < B) (D.2 102 (w + 1)) (kyW.getD w [])
theorem wsA_F {D : va_G} {dA : Nat → ClassId} {A : Nat → Prop} {H H1 : Heap} {B : Nat} (h : wsA D dA H B) (hF : Fr A H H1) (hA : ∀ q, q < H.size → A q → B ≤ q) : wsA D dA H1 B := fun w hw => strA_F (h w hw) hF (fun q a b z => by have := hA q a z; have h2 : q < B := b; omega)
theorem wsA_at {D : va_G} {dA : Nat → ClassId} {H : Heap} {B : Nat} (h : wsA D dA H B) {w : Nat} (hw : w < 21) : ∃ vs, va_at D CL (D.2 102 (w + 1), .inr (18, vs)) H := by
  obtain ⟨va, h1, h2, b1, b2, g1, g2, g3⟩ := h w hw
  exact ⟨_, g1⟩
set_option maxHeartbeats 4000000 in
theorem met_J0_init_2 (l : Launch) (D : va_G) (dA : Nat → ClassId) {H0 : Heap} {a sm : Nat} {r1 r2 : Option Nat} (hat : va_at D CL (a, .inr (1, [.null, .null, .null, .null, .null, .int 0, .int 0, .int 0])) H0) (hst1 : stH D H0 1 (va_rf r1)) (hst2 : stH D H0 2 (va_rf r2)) (hn1 : D.2 100 1 ≠ a) (hn2 : D.2 100 2 ≠ a) : Ctr l D dA yJ0_init_2 cJ0_init_2 5 none (mkRm 1 50) [.ref a, .ref sm, .null, .int (nI 0), .int (nI 0)] H0 (fun q => q = a) (QV (fun H1 => va_at D CL (a, .inr (1, [.null, .null, .null, .ref sm, .null, .int 0, .int 0, .int 0])) H1 ∧ H1.size = H0.size)) := by
  have hz : H0.size = H0.size := rfl
  refine ctr_V (by decide) (Nat.le_of_ble_eq_true rfl) ?_
  intro p e s m args below meth c ls QQ locs hx hb hml hown hts hK hend hS hl
  have hl : lv_has ls 5 [(0, .ref a), (1, .ref sm), (2, .null), (3, .int (nI 0)), (4, .int (nI 0))] := hl
  refine lv_aload_n hx hb dJ0_init_2_0 rfl (lv_at hl 0 rfl) ?_
  refine x_obj hx hb hml hts hown hl.1 q179 q152 q153 (Nat.le_of_ble_eq_true rfl) ⟨Nat.le_of_ble_eq_true rfl, Nat.le_of_ble_eq_true rfl⟩ dJ0_init_2_1 ?_
  refine lv_aload_n hx hb dJ0_init_2_4 rfl (lv_at hl 0 rfl) ?_
  refine lv_aload_n hx hb dJ0_init_2_5 rfl (lv_at hl 0 rfl) ?_
  refine x_put hx hb hts hown hK hat rfl ok_X1 0 (by decide) q212 (Or.inl rfl) rfl rfl (Nat.le_of_ble_eq_true rfl) dJ0_init_2_6 (fun H i hat1 hO => ?_)
  have hS := hO.S (k := i) hS rfl
  have hz := hO.1.trans hz
  have hst1 := stH_F hst1 (hO.fr (A := fun q => q = a) rfl) (fun q h1 h2 z => hn1 (h2.symm.trans z))
  have hst2 := stH_F hst2 (hO.fr (A := fun q => q = a) rfl) (fun q h1 h2 z => hn2 (h2.symm.trans z))
  refine lv_aload_n hx hb dJ0_init_2_9 rfl (lv_at hl 0 rfl) ?_
  refine x_gets (v := va_rf r1) hx hb hts hown hK 1 rfl hst1 q180 dJ0_init_2_10 ?_
  refine x_put hx hb hts hown hK hat1 rfl ok_X1 1 (by decide) q213 (Or.inl rfl) (by cases r1 <;> rfl) (by cases r1 <;> rfl) (Nat.le_of_ble_eq_true rfl) dJ0_init_2_13 (fun H i hat2 hO => ?_)
  have hS := hO.S (k := i) hS rfl
  have hz := hO.1.trans hz
  have hst1 := stH_F hst1 (hO.fr (A := fun q => q = a) rfl) (fun q h1 h2 z => hn1 (h2.symm.trans z))
  have hst2 := stH_F hst2 (hO.fr (A := fun q => q = a) rfl) (fun q h1 h2 z => hn2 (h2.symm.trans z))
  refine lv_aload_n hx hb dJ0_init_2_16 rfl (lv_at hl 0 rfl) ?_
  refine x_gets (v := va_rf r2) hx hb hts hown hK 2 rfl hst2 q182 dJ0_init_2_17 ?_
  refine x_put hx hb hts hown hK hat2 rfl ok_X1 2 (by decide) q214 (Or.inl rfl) (by cases r2 <;> rfl) (by cases r2 <;> rfl) (Nat.le_of_ble_eq_true rfl) dJ0_init_2_20 (fun H i hat3 hO => ?_)
  have hS := hO.S (k := i) hS rfl
  have hz := hO.1.trans hz
  have hst1 := stH_F hst1 (hO.fr (A := fun q => q = a) rfl) (fun q h1 h2 z => hn1 (h2.symm.trans z))
  have hst2 := stH_F hst2 (hO.fr (A := fun q => q = a) rfl) (fun q h1 h2 z => hn2 (h2.symm.trans z))
  refine lv_iload hx hb dJ0_init_2_23 (lv_at hl 4 rfl) ?_
  refine n_if_eq (tgt := 36) hx hb dJ0_init_2_25 (by decide) (by decide) (fun _ => ?_) (fun z => absurd z (by decide))
  refine lv_aload_n hx hb dJ0_init_2_36 rfl (lv_at hl 0 rfl) ?_
  refine lv_null hx hb dJ0_init_2_37 ?_
  refine x_put hx hb hts hown hK hat3 rfl ok_X1 1 (by decide) q213 (Or.inl rfl) rfl rfl (Nat.le_of_ble_eq_true rfl) dJ0_init_2_38 (fun H i hat4 hO => ?_)
  have hS := hO.S (k := i) hS rfl
  have hz := hO.1.trans hz
  have hst1 := stH_F hst1 (hO.fr (A := fun q => q = a) rfl) (fun q h1 h2 z => hn1 (h2.symm.trans z))
  have hst2 := stH_F hst2 (hO.fr (A := fun q => q = a) rfl) (fun q h1 h2 z => hn2 (h2.symm.trans z))
  refine lv_aload_n hx hb dJ0_init_2_41 rfl (lv_at hl 0 rfl) ?_
  refine lv_aload_n hx hb dJ0_init_2_42 rfl (lv_at hl 1 rfl) ?_
  refine x_put hx hb hts hown hK hat4 rfl ok_X1 3 (by decide) q211 (Or.inl rfl) rfl rfl (Nat.le_of_ble_eq_true rfl) dJ0_init_2_43 (fun H i hat5 hO => ?_)
  have hS := hO.S (k := i) hS rfl
  have hz := hO.1.trans hz
  have hst1 := stH_F hst1 (hO.fr (A := fun q => q = a) rfl) (fun q h1 h2 z => hn1 (h2.symm.trans z))
  have hst2 := stH_F hst2 (hO.fr (A := fun q => q = a) rfl) (fun q h1 h2 z => hn2 (h2.symm.trans z))
  refine lv_aload_n hx hb dJ0_init_2_46 rfl (lv_at hl 0 rfl) ?_
  refine lv_aload_nN hx hb dJ0_init_2_47 rfl (lv_at hl 2 rfl) ?_
  refine x_put hx hb hts hown hK hat5 rfl ok_X1 0 (by decide) q212 (Or.inl rfl) rfl rfl (Nat.le_of_ble_eq_true rfl) dJ0_init_2_48 (fun H i hat6 hO => ?_)
  have hS := hO.S (k := i) hS rfl
  have hz := hO.1.trans hz
  have hst1 := stH_F hst1 (hO.fr (A := fun q => q = a) rfl) (fun q h1 h2 z => hn1 (h2.symm.trans z))
  have hst2 := stH_F hst2 (hO.fr (A := fun q => q = a) rfl) (fun q h1 h2 z => hn2 (h2.symm.trans z))
  refine lv_iload_n hx hb dJ0_init_2_51 rfl (lv_at hl 3 rfl) ?_
  refine n_if_ne (tgt := 60) hx hb dJ0_init_2_52 (by decide) (by decide) (fun z => absurd z (by decide)) (fun _ => ?_)
  refine lv_aload_n hx hb dJ0_init_2_55 rfl (lv_at hl 0 rfl) ?_
  refine lv_null hx hb dJ0_init_2_56 ?_
  refine x_put hx hb hts hown hK hat6 rfl ok_X1 2 (by decide) q214 (Or.inl rfl) rfl rfl (Nat.le_of_ble_eq_true rfl) dJ0_init_2_57 (fun H i hat7 hO => ?_)
  have hS := hO.S (k := i) hS rfl
  have hz := hO.1.trans hz
  have hst1 := stH_F hst1 (hO.fr (A := fun q => q = a) rfl) (fun q h1 h2 z => hn1 (h2.symm.trans z))
  have hst2 := stH_F hst2 (hO.fr (A := fun q => q = a) rfl) (fun q h1 h2 z => hn2 (h2.symm.trans z))
  refine hend _ _ _ _ hS dJ0_init_2_60 ?_
  exact ⟨rfl, hat7, hz⟩
set_option maxHeartbeats 4000000 in
theorem met_J1_init (l : Launch) (D : va_G) (dA : Nat → ClassId) {H0 : Heap} {a sm : Nat} {r1 r2 : Option Nat} (hat : va_at D CL (a, .inr (1, [.null, .null, .null, .null, .null, .int 0, .int 0, .int 0])) H0) (hst1 : stH D H0 1 (va_rf r1)) (hst2 : stH D H0 2 (va_rf r2)) (hn1 : D.2 100 1 ≠ a) (hn2 : D.2 100 2 ≠ a) : Ctr l D dA yJ1_init cJ1_init 5 none (mkRm 2 80) [.ref a, .ref sm, .null, .int (nI 0), .int (nI 0)] H0 (fun q => q = a) (QV (fun H1 => va_at D CL (a, .inr (1, [.null, .null, .null, .ref sm, .null, .int 0, .int 0, .int 0])) H1 ∧ H1.size = H0.size)) := by
  refine ctr_V (by decide) (Nat.le_of_ble_eq_true rfl) ?_
  intro p e s m args below meth c ls QQ locs hx hb hml hown hts hK hend hS hl
  have hl : lv_has ls 5 [(0, .ref a), (1, .ref sm), (2, .null), (3, .int (nI 0)), (4, .int (nI 0))] := hl
  refine lv_aload_n hx hb dJ1_init_0 rfl (lv_at hl 0 rfl) ?_
  refine lv_aload_n hx hb dJ1_init_1 rfl (lv_at hl 1 rfl) ?_
  refine lv_aload_nN hx hb dJ1_init_2 rfl (lv_at hl 2 rfl) ?_
  refine lv_iload_n hx hb dJ1_init_3 rfl (lv_at hl 3 rfl) ?_
  refine lv_iload hx hb dJ1_init_4 (lv_at hl 4 rfl) ?_
  refine c_IV (rm := (mkRmC 1 50 0 0)) hx hb hml hts hown hK hl.1 hS (met_J0_init_2 l D dA hat hst1 hst2 hn1 hn2) (cwI 4 hts (lw_meth q205) rfl rfl rfl (hts _ q109) (hts _ q203) (hts _ q204) rfl (by decide +kernel) ⟨Nat.le_of_ble_eq_true rfl, Nat.le_of_ble_eq_true rfl⟩) rfl rfl (Nat.le_of_ble_eq_true rfl) dJ1_init_6 (fun _ h => h) ⟨Nat.le_refl _, Nat.le_refl _⟩ (fun H locs hq hF hS => ?_)
  refine hend _ _ _ _ hS dJ1_init_9 ?_
  exact ⟨rfl, hq⟩
set_option maxHeartbeats 4000000 in
theorem met_J2_init (l : Launch) (D : va_G) (dA : Nat → ClassId) {H0 : Heap} {a sm : Nat} {r1 r2 : Option Nat} (hat : va_at D CL (a, .inr (1, [.null, .null, .null, .null, .null, .int 0, .int 0, .int 0])) H0) (hst1 : stH D H0 1 (va_rf r1)) (hst2 : stH D H0 2 (va_rf r2)) (hn1 : D.2 100 1 ≠ a) (hn2 : D.2 100 2 ≠ a) : Ctr l D dA yJ2_init cJ2_init 5 none (mkRm 3 110) [.ref a, .ref sm, .null, .int (nI 0), .int (nI 0)] H0 (fun q => q = a) (QV (fun H1 => va_at D CL (a, .inr (1, [.null, .null, .null, .ref sm, .null, .int 0, .int 0, .int 0])) H1 ∧ H1.size = H0.size)) := by
  refine ctr_V (by decide) (Nat.le_of_ble_eq_true rfl) ?_
  intro p e s m args below meth c ls QQ locs hx hb hml hown hts hK hend hS hl
  have hl : lv_has ls 5 [(0, .ref a), (1, .ref sm), (2, .null), (3, .int (nI 0)), (4, .int (nI 0))] := hl
  refine lv_aload_n hx hb dJ2_init_0 rfl (lv_at hl 0 rfl) ?_
  refine lv_aload_n hx hb dJ2_init_1 rfl (lv_at hl 1 rfl) ?_
  refine lv_aload_nN hx hb dJ2_init_2 rfl (lv_at hl 2 rfl) ?_
  refine lv_iload_n hx hb dJ2_init_3 rfl (lv_at hl 3 rfl) ?_
  refine lv_iload hx hb dJ2_init_4 (lv_at hl 4 rfl) ?_
  refine c_IV (rm := (mkRmC 2 80 0 0)) hx hb hml hts hown hK hl.1 hS (met_J1_init l D dA hat hst1 hst2 hn1 hn2) (cwI 4 hts (lw_meth q202) rfl rfl rfl (hts _ q110) (hts _ q200) (hts _ q201) rfl (by decide +kernel) ⟨Nat.le_of_ble_eq_true rfl, Nat.le_of_ble_eq_true rfl⟩) rfl rfl (Nat.le_of_ble_eq_true rfl) dJ2_init_6 (fun _ h => h) ⟨Nat.le_refl _, Nat.le_refl _⟩ (fun H locs hq hF hS => ?_)
  refine hend _ _ _ _ hS dJ2_init_9 ?_
  exact ⟨rfl, hq⟩
set_option maxHeartbeats 4000000 in
theorem met_X1_init (l : Launch) (D : va_G) (dA : Nat → ClassId) {H0 : Heap} {a : Nat} {r1 r2 : Option Nat} (hat : va_at D CL (a, .inr (1, [.null, .null, .null, .null, .null, .int 0, .int 0, .int 0])) H0) (hst1 : stH D H0 1 (va_rf r1)) (hst2 : stH D H0 2 (va_rf r2)) (hn1 : D.2 100 1 ≠ a) (hn2 : D.2 100 2 ≠ a) : Ctr l D dA yX1_init cX1_init 1 none (mkRm 4 140) [.ref a] H0 (fun q => q = a) (QV (fun H1 => va_at D CL (a, .inr (1, [.null, .null, .null, .ref (D.2 102 0), .null, .int 0, .int 0, .int 0])) H1 ∧ H1.size = H0.size)) := by
  refine ctr_V (by decide) (Nat.le_of_ble_eq_true rfl) ?_
  intro p e s m args below meth c ls QQ locs hx hb hml hown hts hK hend hS hl
  have hl : lv_has ls 1 [(0, .ref a)] := hl
  refine lv_aload_n hx hb dX1_init_0 rfl (lv_at hl 0 rfl) ?_
  refine x_ldcS hx hb hown hK 0 rfl rfl dX1_init_1 ?_
  refine lv_null hx hb dX1_init_3 ?_
  refine lv_iconst (v := (nI 0)) hx hb dX1_init_4 (by decide) ?_
  refine lv_iconst (v := (nI 0)) hx hb dX1_init_5 (by decide) ?_
  refine c_IV (rm := (mkRmC 3 110 0 0)) hx hb hml hts hown hK hl.1 hS (met_J2_init l D dA (sm := D.2 102 0) hat hst1 hst2 hn1 hn2) (cwI 4 hts (lw_meth q199) rfl rfl rfl (hts _ q111) (hts _ q197) (hts _ q198) rfl (by decide +kernel) ⟨Nat.le_of_ble_eq_true rfl, Nat.le_of_ble_eq_true rfl⟩) rfl rfl (Nat.le_of_ble_eq_true rfl) dX1_init_6 (fun _ h => h) ⟨Nat.le_refl _, Nat.le_refl _⟩ (fun H locs hq hF hS => ?_)
  refine hend _ _ _ _ hS dX1_init_9 ?_
  exact ⟨rfl, hq⟩
set_option maxHeartbeats 4000000 in
theorem met_X3_init (l : Launch) (D : va_G) (dA : Nat → ClassId) {H0 : Heap} {a t f : Nat} (hat : va_at D CL (a, .inr (3, [.null, .null, .null, .int 0, .int 0, .int 0, .int 0])) H0) : Ctr l D dA yX3_init cX3_init 3 none (mkRm 1 60) [.ref a, .ref t, .ref f] H0 (fun q => q = a) (QV (fun H1 => va_at D CL (a, .inr (3, [.ref t, .ref f, .null, .int 0, .int 0, .int 0, .int 0])) H1 ∧ H1.size = H0.size)) := by
  have hz : H0.size = H0.size := rfl
  refine ctr_K (by decide) (Nat.le_of_ble_eq_true rfl) ?_
  intro p e s m args below meth c ls QQ locs hx hb hml hown hts hK hnm hend hS hl
  have hl : lv_has ls 3 [(0, .ref a), (1, .ref t), (2, .ref f)] := hl
  refine lv_aload_n hx hb dX3_init_0 rfl (lv_at hl 0 rfl) ?_
  refine x_obj hx hb hml hts hown hl.1 q293 q152 q153 (Nat.le_of_ble_eq_true rfl) ⟨Nat.le_of_ble_eq_true rfl, Nat.le_of_ble_eq_true rfl⟩ dX3_init_1 ?_
  refine lv_aload_n hx hb dX3_init_4 rfl (lv_at hl 0 rfl) ?_
  refine lv_aload_n hx hb dX3_init_5 rfl (lv_at hl 1 rfl) ?_
  refine x_put hx hb hts hown hK hat rfl ok_X3 0 (by decide) q294 (Or.inr ⟨rfl, hnm, rfl⟩) rfl rfl (Nat.le_of_ble_eq_true rfl) dX3_init_6 (fun H i hat1 hO => ?_)
  have hS := hO.S (k := i) hS rfl
  have hz := hO.1.trans hz
  refine lv_aload_n hx hb dX3_init_9 rfl (lv_at hl 0 rfl) ?_
  refine lv_aload_n hx hb dX3_init_10 rfl (lv_at hl 2 rfl) ?_
  refine x_put hx hb hts hown hK hat1 rfl ok_X3 1 (by decide) q295 (Or.inr ⟨rfl, hnm, rfl⟩) rfl rfl (Nat.le_of_ble_eq_true rfl) dX3_init_11 (fun H i hat2 hO => ?_)
  have hS := hO.S (k := i) hS rfl
  have hz := hO.1.trans hz
  refine hend _ _ _ _ hS dX3_init_14 ?_
  exact ⟨rfl, hat2, hz⟩
set_option maxHeartbeats 4000000 in
theorem met_X6_init (l : Launch) (D : va_G) (dA : Nat → ClassId) {H0 : Heap} {a : Nat} : Ctr l D dA yX6_init cX6_init 1 none (mkRm 1 20) [.ref a] H0 A0 (QV (fun H1 => H0 = H1)) := by
  refine ctr_V (by decide) (Nat.le_of_ble_eq_true rfl) ?_
  intro p e s m args below meth c ls QQ locs hx hb hml hown hts hK hend hS hl
  have hl : lv_has ls 1 [(0, .ref a)] := hl
  refine lv_aload_n hx hb dX6_init_0 rfl (lv_at hl 0 rfl) ?_
  refine x_obj hx hb hml hts hown hl.1 q408 q152 q153 (Nat.le_of_ble_eq_true rfl) ⟨Nat.le_of_ble_eq_true rfl, Nat.le_of_ble_eq_true rfl⟩ dX6_init_1 ?_
  refine hend _ _ _ _ hS dX6_init_4 ?_
  exact ⟨rfl, rfl⟩
set_option maxHeartbeats 4000000 in
theorem met_X10_init (l : Launch) (D : va_G) (dA : Nat → ClassId) {H0 : Heap} {a : Nat} : Ctr l D dA yX10_init cX10_init 1 none (mkRm 1 20) [.ref a] H0 A0 (QV (fun H1 => H0 = H1)) := by
  refine ctr_V (by decide) (Nat.le_of_ble_eq_true rfl) ?_
  intro p e s m args below meth c ls QQ locs hx hb hml hown hts hK hend hS hl
  have hl : lv_has ls 1 [(0, .ref a)] := hl
  refine lv_aload_n hx hb dX10_init_0 rfl (lv_at hl 0 rfl) ?_
  refine x_obj hx hb hml hts hown hl.1 q486 q152 q153 (Nat.le_of_ble_eq_true rfl) ⟨Nat.le_of_ble_eq_true rfl, Nat.le_of_ble_eq_true rfl⟩ dX10_init_1 ?_
  refine hend _ _ _ _ hS dX10_init_4 ?_
  exact ⟨rfl, rfl⟩
set_option maxHeartbeats 4000000 in
theorem met_X7_init (l : Launch) (D : va_G) (dA : Nat → ClassId) {H0 : Heap} {a : Nat} : Ctr l D dA yX7_init cX7_init 1 none (mkRm 2 45) [.ref a] H0 A0 (QV (fun H1 => H0 = H1)) := by
  refine ctr_V (by decide) (Nat.le_of_ble_eq_true rfl) ?_
  intro p e s m args below meth c ls QQ locs hx hb hml hown hts hK hend hS hl
  have hl : lv_has ls 1 [(0, .ref a)] := hl
  refine lv_aload_n hx hb dX7_init_0 rfl (lv_at hl 0 rfl) ?_
  refine c_IN (host := "PartedSide") (rm := (mkRmC 1 20 0 0)) hx hb hml hts hown hK hl.1 hS (met_X6_init l D dA ) ⟨va_cnB 0 hts (lw_meth q407) rfl rfl rfl (hK.2.1 _ q405 rfl) (hts _ q120) (by decide +kernel) ⟨Nat.le_of_ble_eq_true rfl, Nat.le_of_ble_eq_true rfl⟩, rfl, hts _ q406⟩ rfl rfl (Nat.le_of_ble_eq_true rfl) dX7_init_1 (fun _ h => h.elim) ⟨Nat.le_refl _, Nat.le_refl _⟩ (fun H locs hq hF hS => ?_)
  subst hq
  refine hend _ _ _ _ hS dX7_init_4 ?_
  exact ⟨rfl, rfl⟩
set_option maxHeartbeats 4000000 in
theorem met_X8_init (l : Launch) (D : va_G) (dA : Nat → ClassId) {H0 : Heap} {a : Nat} : Ctr l D dA yX8_init cX8_init 1 none (mkRm 2 45) [.ref a] H0 A0 (QV (fun H1 => H0 = H1)) := by
  refine ctr_V (by decide) (Nat.le_of_ble_eq_true rfl) ?_
  intro p e s m args below meth c ls QQ locs hx hb hml hown hts hK hend hS hl
  have hl : lv_has ls 1 [(0, .ref a)] := hl
  refine lv_aload_n hx hb dX8_init_0 rfl (lv_at hl 0 rfl) ?_
  refine c_IN (host := "PartedSide") (rm := (mkRmC 1 20 0 0)) hx hb hml hts hown hK hl.1 hS (met_X6_init l D dA ) ⟨va_cnB 0 hts (lw_meth q407) rfl rfl rfl (hK.2.1 _ q415 rfl) (hts _ q120) (by decide +kernel) ⟨Nat.le_of_ble_eq_true rfl, Nat.le_of_ble_eq_true rfl⟩, rfl, hts _ q406⟩ rfl rfl (Nat.le_of_ble_eq_true rfl) dX8_init_1 (fun _ h => h.elim) ⟨Nat.le_refl _, Nat.le_refl _⟩ (fun H locs hq hF hS => ?_)
  subst hq
  refine hend _ _ _ _ hS dX8_init_4 ?_
  exact ⟨rfl, rfl⟩
set_option maxHeartbeats 4000000 in
theorem met_X11_init (l : Launch) (D : va_G) (dA : Nat → ClassId) {H0 : Heap} {a : Nat} : Ctr l D dA yX11_init cX11_init 1 none (mkRm 2 45) [.ref a] H0 A0 (QV (fun H1 => H0 = H1)) := by
  refine ctr_V (by decide) (Nat.le_of_ble_eq_true rfl) ?_
  intro p e s m args below meth c ls QQ locs hx hb hml hown hts hK hend hS hl
  have hl : lv_has ls 1 [(0, .ref a)] := hl
  refine lv_aload_n hx hb dX11_init_0 rfl (lv_at hl 0 rfl) ?_
  refine c_IN (host := "PartedSide") (rm := (mkRmC 1 20 0 0)) hx hb hml hts hown hK hl.1 hS (met_X10_init l D dA ) ⟨va_cnB 0 hts (lw_meth q485) rfl rfl rfl (hK.2.1 _ q483 rfl) (hts _ q124) (by decide +kernel) ⟨Nat.le_of_ble_eq_true rfl, Nat.le_of_ble_eq_true rfl⟩, rfl, hts _ q484⟩ rfl rfl (Nat.le_of_ble_eq_true rfl) dX11_init_1 (fun _ h => h.elim) ⟨Nat.le_refl _, Nat.le_refl _⟩ (fun H locs hq hF hS => ?_)
  subst hq
  refine hend _ _ _ _ hS dX11_init_4 ?_
  exact ⟨rfl, rfl⟩
set_option maxHeartbeats 4000000 in
theorem met_X12_init (l : Launch) (D : va_G) (dA : Nat → ClassId) {H0 : Heap} {a : Nat} : Ctr l D dA yX12_init cX12_init 1 none (mkRm 2 45) [.ref a] H0 A0 (QV (fun H1 => H0 = H1)) := by
  refine ctr_V (by decide) (Nat.le_of_ble_eq_true rfl) ?_
  intro p e s m args below meth c ls QQ locs hx hb hml hown hts hK hend hS hl
  have hl : lv_has ls 1 [(0, .ref a)] := hl
  refine lv_aload_n hx hb dX12_init_0 rfl (lv_at hl 0 rfl) ?_
  refine c_IN (host := "PartedSide") (rm := (mkRmC 1 20 0 0)) hx hb hml hts hown hK hl.1 hS (met_X10_init l D dA ) ⟨va_cnB 0 hts (lw_meth q485) rfl rfl rfl (hK.2.1 _ q493 rfl) (hts _ q124) (by decide +kernel) ⟨Nat.le_of_ble_eq_true rfl, Nat.le_of_ble_eq_true rfl⟩, rfl, hts _ q484⟩ rfl rfl (Nat.le_of_ble_eq_true rfl) dX12_init_1 (fun _ h => h.elim) ⟨Nat.le_refl _, Nat.le_refl _⟩ (fun H locs hq hF hS => ?_)
  subst hq
  refine hend _ _ _ _ hS dX12_init_4 ?_
  exact ⟨rfl, rfl⟩
set_option maxHeartbeats 4000000 in
theorem met_X9_init (l : Launch) (D : va_G) (dA : Nat → ClassId) {H0 : Heap} {a : Nat} (hat : va_at D CL (a, .inr (6, [.null, .int 0])) H0) (hz : H0.size = a + 1) : Ctr l D dA yX9_init cX9_init 1 none (mkRmC 1 40 1 9) [.ref a] H0 (fun q => q = a) (QV (fun H1 => va_at D CL (a, .inr (6, [.ref (a + 1), .int 0])) H1 ∧ va_at D CL (a + 1, .inl (dA 0, 9, .inl (fun _ => 0))) H1 ∧ H1.size = a + 2)) := by
  refine ctr_K (by decide) (Nat.le_of_ble_eq_true rfl) ?_
  intro p e s m args below meth c ls QQ locs hx hb hml hown hts hK hnm hend hS hl
  have hl : lv_has ls 1 [(0, .ref a)] := hl
  refine lv_aload_n hx hb dX9_init_0 rfl (lv_at hl 0 rfl) ?_
  refine x_obj hx hb hml hts hown hl.1 q422 q152 q153 (Nat.le_of_ble_eq_true rfl) ⟨by show _ ≤ 1; omega, by show _ ≤ 40; omega⟩ dX9_init_1 ?_
  refine lv_aload_n hx hb dX9_init_4 rfl (lv_at hl 0 rfl) ?_
  refine lv_bipush (v := (nI 9)) hx hb dX9_init_5 (by decide) ?_
  refine x_newa hx hb hts hK 0 (ty := .int) rfl rfl q391 (n := 9) (by decide) (by decide) hS (by show 0 + 1 ≤ 1; omega) (by show 0 + 9 ≤ 9; omega) (a0 := (9, .inl (fun _ => 0))) rfl dX9_init_7 hz (fun H hat1 hz1 hF hS => ?_)
  have hat := hat.kept (hF.2 _ hat.lt (fun z => z))
  have hz1 : H.size = a + 2 := hz1
  refine x_put hx hb hts hown hK hat rfl ok_X9 0 (by decide) q423 (Or.inr ⟨rfl, hnm, rfl⟩) rfl rfl (Nat.le_of_ble_eq_true rfl) dX9_init_9 (fun H i hat2 hO => ?_)
  have hS := hO.S (k := i) hS rfl
  have hat1 := hat1.kept (hO.2 _ (by show ((a + 1) : Nat) ≠ a; omega))
  have hz1 := hO.1.trans hz1
  refine W.widen (k := 1) (n := 9) (by show 0 + 1 ≤ 1; omega) (by show 0 + 9 ≤ 9; omega) ?_
  refine hend _ _ _ _ hS dX9_init_12 ?_
  exact ⟨rfl, hat2, hat1, hz1⟩
set_option maxHeartbeats 4000000 in
theorem met_X5_init (l : Launch) (D : va_G) (dA : Nat → ClassId) {H0 : Heap} {b : Nat} (hat : va_at D CL (b, .inr (5, [.null, .null, .null, .null, .int 0, .int 0, .int 0, .int 0, .null, .null, .null])) H0) (hz : H0.size = b + 1) : Ctr l D dA yX5_init cX5_init 1 none (mkRmC 4 120 10 58) [.ref b] H0 (fun q => b ≤ q) (QV (fun H1 => gP D dA b dB (fun _ _ => 0) (fun _ _ => 0) (fun k j => if k = 5 then va_up (va_up (fun _ => none) 0 (some (b + 6))) 1 (some (b + 7)) j else none) H1 ∧ H1.size = b + 11)) := by
  refine ctr_K (by decide) (Nat.le_of_ble_eq_true rfl) ?_
  intro p e s m args below meth c ls QQ locs hx hb hml hown hts hK hnm hend hS hl
  have hl : lv_has ls 1 [(0, .ref b)] := hl
  refine lv_aload_n hx hb dX5_init_0 rfl (lv_at hl 0 rfl) ?_
  refine x_obj hx hb hml hts hown hl.1 q397 q152 q153 (Nat.le_of_ble_eq_true rfl) ⟨by show _ ≤ 4; omega, by show _ ≤ 120; omega⟩ dX5_init_1 ?_
  refine lv_aload_n hx hb dX5_init_4 rfl (lv_at hl 0 rfl) ?_
  refine lv_bipush (v := (nI 9)) hx hb dX5_init_5 (by decide) ?_
  refine x_newa hx hb hts hK 0 (ty := .int) rfl rfl q391 (n := 9) (by decide) (by decide) hS (by show 0 + 1 ≤ 10; omega) (by show 0 + 9 ≤ 58; omega) (a0 := (9, .inl (fun _ => 0))) rfl dX5_init_7 hz (fun H hat1 hz1 hF hS => ?_)
  have hat := hat.kept (hF.2 _ hat.lt (fun z => z))
  have hz1 : H.size = b + 2 := hz1
  refine x_put hx hb hts hown hK hat rfl ok_X5 0 (by decide) q433 (Or.inr ⟨rfl, hnm, rfl⟩) rfl rfl (Nat.le_of_ble_eq_true rfl) dX5_init_9 (fun H i hat2 hO => ?_)
  have hS := hO.S (k := i) hS (Nat.le_refl _)
  have hat1 := hat1.kept (hO.2 _ (by show ((b + 1) : Nat) ≠ b; omega))
  have hz1 := hO.1.trans hz1
  refine lv_aload_n hx hb dX5_init_12 rfl (lv_at hl 0 rfl) ?_
  refine lv_bipush (v := (nI 9)) hx hb dX5_init_13 (by decide) ?_
  refine x_newa hx hb hts hK 0 (ty := .int) rfl rfl q391 (n := 9) (by decide) (by decide) hS (by show 0 + 1 + 1 ≤ 10; omega) (by show 0 + 9 + 9 ≤ 58; omega) (a0 := (9, .inl (fun _ => 0))) rfl dX5_init_15 hz1 (fun H hat3 hz3 hF hS => ?_)
  have hat2 := hat2.kept (hF.2 _ hat2.lt (fun z => z))
  have hat1 := hat1.kept (hF.2 _ hat1.lt (fun z => z))
  have hz3 : H.size = b + 3 := hz3
  refine x_put hx hb hts hown hK hat2 rfl ok_X5 1 (by decide) q435 (Or.inr ⟨rfl, hnm, rfl⟩) rfl rfl (Nat.le_of_ble_eq_true rfl) dX5_init_17 (fun H i hat4 hO => ?_)
  have hS := hO.S (k := i) hS (Nat.le_refl _)
  have hat1 := hat1.kept (hO.2 _ (by show ((b + 1) : Nat) ≠ b; omega))
  have hat3 := hat3.kept (hO.2 _ (by show ((b + 2) : Nat) ≠ b; omega))
  have hz3 := hO.1.trans hz3
  refine lv_aload_n hx hb dX5_init_20 rfl (lv_at hl 0 rfl) ?_
  refine lv_bipush (v := (nI 9)) hx hb dX5_init_21 (by decide) ?_
  refine x_newa hx hb hts hK 0 (ty := .int) rfl rfl q391 (n := 9) (by decide) (by decide) hS (by show 0 + 1 + 1 + 1 ≤ 10; omega) (by show 0 + 9 + 9 + 9 ≤ 58; omega) (a0 := (9, .inl (fun _ => 0))) rfl dX5_init_23 hz3 (fun H hat5 hz5 hF hS => ?_)
  have hat4 := hat4.kept (hF.2 _ hat4.lt (fun z => z))
  have hat1 := hat1.kept (hF.2 _ hat1.lt (fun z => z))
  have hat3 := hat3.kept (hF.2 _ hat3.lt (fun z => z))
  have hz5 : H.size = b + 4 := hz5
  refine x_put hx hb hts hown hK hat4 rfl ok_X5 2 (by decide) q437 (Or.inr ⟨rfl, hnm, rfl⟩) rfl rfl (Nat.le_of_ble_eq_true rfl) dX5_init_25 (fun H i hat6 hO => ?_)
  have hS := hO.S (k := i) hS (Nat.le_refl _)
  have hat1 := hat1.kept (hO.2 _ (by show ((b + 1) : Nat) ≠ b; omega))
  have hat3 := hat3.kept (hO.2 _ (by show ((b + 2) : Nat) ≠ b; omega))
  have hat5 := hat5.kept (hO.2 _ (by show ((b + 3) : Nat) ≠ b; omega))
  have hz5 := hO.1.trans hz5
  refine lv_aload_n hx hb dX5_init_28 rfl (lv_at hl 0 rfl) ?_
  refine lv_bipush (v := (nI 9)) hx hb dX5_init_29 (by decide) ?_
  refine x_newa hx hb hts hK 0 (ty := .int) rfl rfl q391 (n := 9) (by decide) (by decide) hS (by show 0 + 1 + 1 + 1 + 1 ≤ 10; omega) (by show 0 + 9 + 9 + 9 + 9 ≤ 58; omega) (a0 := (9, .inl (fun _ => 0))) rfl dX5_init_31 hz5 (fun H hat7 hz7 hF hS => ?_)
  have hat6 := hat6.kept (hF.2 _ hat6.lt (fun z => z))
  have hat1 := hat1.kept (hF.2 _ hat1.lt (fun z => z))
  have hat3 := hat3.kept (hF.2 _ hat3.lt (fun z => z))
  have hat5 := hat5.kept (hF.2 _ hat5.lt (fun z => z))
  have hz7 : H.size = b + 5 := hz7
  refine x_put hx hb hts hown hK hat6 rfl ok_X5 3 (by decide) q439 (Or.inr ⟨rfl, hnm, rfl⟩) rfl rfl (Nat.le_of_ble_eq_true rfl) dX5_init_33 (fun H i hat8 hO => ?_)
  have hS := hO.S (k := i) hS (Nat.le_refl _)
  have hat1 := hat1.kept (hO.2 _ (by show ((b + 1) : Nat) ≠ b; omega))
  have hat3 := hat3.kept (hO.2 _ (by show ((b + 2) : Nat) ≠ b; omega))
  have hat5 := hat5.kept (hO.2 _ (by show ((b + 3) : Nat) ≠ b; omega))
  have hat7 := hat7.kept (hO.2 _ (by show ((b + 4) : Nat) ≠ b; omega))
  have hz7 := hO.1.trans hz7
  refine lv_aload_n hx hb dX5_init_36 rfl (lv_at hl 0 rfl) ?_
  refine lv_iconst (v := (nI 2)) hx hb dX5_init_37 (by decide) ?_
  refine x_anewa hx hb hts hown hK 7 rfl q398 q399 (n := 2) (by decide) (by decide) hS (by show 0 + 1 + 1 + 1 + 1 + 1 ≤ 10; omega) (by show 0 + 9 + 9 + 9 + 9 + 2 ≤ 58; omega) dX5_init_38 hz7 (fun H hat9 hz9 hF hS => ?_)
  have hat8 := hat8.kept (hF.2 _ hat8.lt (fun z => z))
  have hat1 := hat1.kept (hF.2 _ hat1.lt (fun z => z))
  have hat3 := hat3.kept (hF.2 _ hat3.lt (fun z => z))
  have hat5 := hat5.kept (hF.2 _ hat5.lt (fun z => z))
  have hat7 := hat7.kept (hF.2 _ hat7.lt (fun z => z))
  have hz9 : H.size = b + 6 := hz9
  refine lv_dup hx hb dX5_init_41 rfl ?_
  refine lv_iconst (v := (nI 0)) hx hb dX5_init_42 (by decide) ?_
  refine x_new hx hb hts hown hK (ci := 13) (fs := []) rfl ok_X7 q400 q401 q121 (by intro j hj; match j, hj with ) hS (by show 0 + 1 + 1 + 1 + 1 + 1 + 1 ≤ 10; omega) (by show 0 + 9 + 9 + 9 + 9 + 2 + 0 ≤ 58; omega) dX5_init_43 hz9 (fun H hat10 hz10 hF hS => ?_)
  have hat8 := hat8.kept (hF.2 _ hat8.lt (fun z => z))
  have hat1 := hat1.kept (hF.2 _ hat1.lt (fun z => z))
  have hat3 := hat3.kept (hF.2 _ hat3.lt (fun z => z))
  have hat5 := hat5.kept (hF.2 _ hat5.lt (fun z => z))
  have hat7 := hat7.kept (hF.2 _ hat7.lt (fun z => z))
  have hat9 := hat9.kept (hF.2 _ hat9.lt (fun z => z))
  have hz10 : H.size = b + 7 := hz10
  refine lv_dup hx hb dX5_init_46 rfl ?_
  refine c_IN (host := "PartedSide") (rm := (mkRmC 2 45 0 0)) hx hb hml hts hown hK hl.1 hS (met_X7_init l D dA ) ⟨va_cnB 0 hts (lw_meth q404) rfl rfl rfl (hK.2.1 _ q402 rfl) (hts _ q121) (by decide +kernel) ⟨by show 2 + 1 ≤ 4; omega, by show 8 + (1 + 11) + 45 ≤ 120; omega⟩, rfl, hts _ q403⟩ rfl rfl (Nat.le_of_ble_eq_true rfl) dX5_init_47 (fun _ h => h.elim) ⟨by show 0 + 1 + 1 + 1 + 1 + 1 + 1 ≤ 10; omega, by show 0 + 9 + 9 + 9 + 9 + 2 + 0 ≤ 58; omega⟩ (fun H locs hq hF hS => ?_)
  subst hq
  refine x_aast hx hb hK 7 hat9 rfl hat10 rfl (Or.inr q2107) (i := 0) (by decide) (by decide) dX5_init_50 (fun H k hat11 hO => ?_)
  have hS := hO.S (k := k) hS (by show b ≤ _; omega)
  have hat8 := hat8.kept (hO.2 _ (by show (b : Nat) ≠ (b + 5); omega))
  have hat1 := hat1.kept (hO.2 _ (by show ((b + 1) : Nat) ≠ (b + 5); omega))
  have hat3 := hat3.kept (hO.2 _ (by show ((b + 2) : Nat) ≠ (b + 5); omega))
  have hat5 := hat5.kept (hO.2 _ (by show ((b + 3) : Nat) ≠ (b + 5); omega))
  have hat7 := hat7.kept (hO.2 _ (by show ((b + 4) : Nat) ≠ (b + 5); omega))
  have hat10 := hat10.kept (hO.2 _ (by show ((b + 6) : Nat) ≠ (b + 5); omega))
  have hz10 := hO.1.trans hz10
  refine lv_dup hx hb dX5_init_51 rfl ?_
  refine lv_iconst (v := (nI 1)) hx hb dX5_init_52 (by decide) ?_
  refine x_new hx hb hts hown hK (ci := 14) (fs := []) rfl ok_X8 q410 q411 q122 (by intro j hj; match j, hj with ) hS (by show 0 + 1 + 1 + 1 + 1 + 1 + 1 + 1 ≤ 10; omega) (by show 0 + 9 + 9 + 9 + 9 + 2 + 0 + 0 ≤ 58; omega) dX5_init_53 hz10 (fun H hat12 hz12 hF hS => ?_)
  have hat8 := hat8.kept (hF.2 _ hat8.lt (fun z => z))
  have hat1 := hat1.kept (hF.2 _ hat1.lt (fun z => z))
  have hat3 := hat3.kept (hF.2 _ hat3.lt (fun z => z))
  have hat5 := hat5.kept (hF.2 _ hat5.lt (fun z => z))
  have hat7 := hat7.kept (hF.2 _ hat7.lt (fun z => z))
  have hat11 := hat11.kept (hF.2 _ hat11.lt (fun z => z))
  have hat10 := hat10.kept (hF.2 _ hat10.lt (fun z => z))
  have hz12 : H.size = b + 8 := hz12
  refine lv_dup hx hb dX5_init_56 rfl ?_
  refine c_IN (host := "PartedSide") (rm := (mkRmC 2 45 0 0)) hx hb hml hts hown hK hl.1 hS (met_X8_init l D dA ) ⟨va_cnB 0 hts (lw_meth q414) rfl rfl rfl (hK.2.1 _ q412 rfl) (hts _ q122) (by decide +kernel) ⟨by show 2 + 1 ≤ 4; omega, by show 8 + (1 + 11) + 45 ≤ 120; omega⟩, rfl, hts _ q413⟩ rfl rfl (Nat.le_of_ble_eq_true rfl) dX5_init_57 (fun _ h => h.elim) ⟨by show 0 + 1 + 1 + 1 + 1 + 1 + 1 + 1 ≤ 10; omega, by show 0 + 9 + 9 + 9 + 9 + 2 + 0 + 0 ≤ 58; omega⟩ (fun H locs hq hF hS => ?_)
  subst hq
  refine x_aast hx hb hK 7 hat11 rfl hat12 rfl (Or.inr q2108) (i := 1) (by decide) (by decide) dX5_init_60 (fun H k hat13 hO => ?_)
  have hS := hO.S (k := k) hS (by show b ≤ _; omega)
  have hat8 := hat8.kept (hO.2 _ (by show (b : Nat) ≠ (b + 5); omega))
  have hat1 := hat1.kept (hO.2 _ (by show ((b + 1) : Nat) ≠ (b + 5); omega))
  have hat3 := hat3.kept (hO.2 _ (by show ((b + 2) : Nat) ≠ (b + 5); omega))
  have hat5 := hat5.kept (hO.2 _ (by show ((b + 3) : Nat) ≠ (b + 5); omega))
  have hat7 := hat7.kept (hO.2 _ (by show ((b + 4) : Nat) ≠ (b + 5); omega))
  have hat10 := hat10.kept (hO.2 _ (by show ((b + 6) : Nat) ≠ (b + 5); omega))
  have hat12 := hat12.kept (hO.2 _ (by show ((b + 7) : Nat) ≠ (b + 5); omega))
  have hz12 := hO.1.trans hz12
  refine x_put hx hb hts hown hK hat8 rfl ok_X5 8 (by decide) q451 (Or.inr ⟨rfl, hnm, rfl⟩) rfl rfl (Nat.le_of_ble_eq_true rfl) dX5_init_61 (fun H i hat14 hO => ?_)
  have hS := hO.S (k := i) hS (Nat.le_refl _)
  have hat1 := hat1.kept (hO.2 _ (by show ((b + 1) : Nat) ≠ b; omega))
  have hat3 := hat3.kept (hO.2 _ (by show ((b + 2) : Nat) ≠ b; omega))
  have hat5 := hat5.kept (hO.2 _ (by show ((b + 3) : Nat) ≠ b; omega))
  have hat7 := hat7.kept (hO.2 _ (by show ((b + 4) : Nat) ≠ b; omega))
  have hat13 := hat13.kept (hO.2 _ (by show ((b + 5) : Nat) ≠ b; omega))
  have hat10 := hat10.kept (hO.2 _ (by show ((b + 6) : Nat) ≠ b; omega))
  have hat12 := hat12.kept (hO.2 _ (by show ((b + 7) : Nat) ≠ b; omega))
  have hz12 := hO.1.trans hz12
  refine lv_aload_n hx hb dX5_init_64 rfl (lv_at hl 0 rfl) ?_
  refine lv_bipush (v := (nI 9)) hx hb dX5_init_65 (by decide) ?_
  refine x_newa hx hb hts hK 0 (ty := .int) rfl rfl q391 (n := 9) (by decide) (by decide) hS (by show 0 + 1 + 1 + 1 + 1 + 1 + 1 + 1 + 1 ≤ 10; omega) (by show 0 + 9 + 9 + 9 + 9 + 2 + 0 + 0 + 9 ≤ 58; omega) (a0 := (9, .inl (fun _ => 0))) rfl dX5_init_67 hz12 (fun H hat15 hz15 hF hS => ?_)
  have hat14 := hat14.kept (hF.2 _ hat14.lt (fun z => z))
  have hat1 := hat1.kept (hF.2 _ hat1.lt (fun z => z))
  have hat3 := hat3.kept (hF.2 _ hat3.lt (fun z => z))
  have hat5 := hat5.kept (hF.2 _ hat5.lt (fun z => z))
  have hat7 := hat7.kept (hF.2 _ hat7.lt (fun z => z))
  have hat13 := hat13.kept (hF.2 _ hat13.lt (fun z => z))
  have hat10 := hat10.kept (hF.2 _ hat10.lt (fun z => z))
  have hat12 := hat12.kept (hF.2 _ hat12.lt (fun z => z))
  have hz15 : H.size = b + 9 := hz15
  refine x_put hx hb hts hown hK hat14 rfl ok_X5 9 (by decide) q452 (Or.inr ⟨rfl, hnm, rfl⟩) rfl rfl (Nat.le_of_ble_eq_true rfl) dX5_init_69 (fun H i hat16 hO => ?_)
  have hS := hO.S (k := i) hS (Nat.le_refl _)
  have hat1 := hat1.kept (hO.2 _ (by show ((b + 1) : Nat) ≠ b; omega))
  have hat3 := hat3.kept (hO.2 _ (by show ((b + 2) : Nat) ≠ b; omega))
  have hat5 := hat5.kept (hO.2 _ (by show ((b + 3) : Nat) ≠ b; omega))
  have hat7 := hat7.kept (hO.2 _ (by show ((b + 4) : Nat) ≠ b; omega))
  have hat13 := hat13.kept (hO.2 _ (by show ((b + 5) : Nat) ≠ b; omega))
  have hat10 := hat10.kept (hO.2 _ (by show ((b + 6) : Nat) ≠ b; omega))
  have hat12 := hat12.kept (hO.2 _ (by show ((b + 7) : Nat) ≠ b; omega))
  have hat15 := hat15.kept (hO.2 _ (by show ((b + 8) : Nat) ≠ b; omega))
  have hz15 := hO.1.trans hz15
  refine lv_aload_n hx hb dX5_init_72 rfl (lv_at hl 0 rfl) ?_
  refine x_new hx hb hts hown hK (ci := 6) (fs := [.null, .int 0]) rfl ok_X9 q417 q418 q123 (by intro j hj; match j, hj with | 0, _ => rfl | 1, _ => rfl) hS (by show 0 + 1 + 1 + 1 + 1 + 1 + 1 + 1 + 1 + 1 ≤ 10; omega) (by show 0 + 9 + 9 + 9 + 9 + 2 + 0 + 0 + 9 + 2 ≤ 58; omega) dX5_init_73 hz15 (fun H hat17 hz17 hF hS => ?_)
  have hat16 := hat16.kept (hF.2 _ hat16.lt (fun z => z))
  have hat1 := hat1.kept (hF.2 _ hat1.lt (fun z => z))
  have hat3 := hat3.kept (hF.2 _ hat3.lt (fun z => z))
  have hat5 := hat5.kept (hF.2 _ hat5.lt (fun z => z))
  have hat7 := hat7.kept (hF.2 _ hat7.lt (fun z => z))
  have hat13 := hat13.kept (hF.2 _ hat13.lt (fun z => z))
  have hat10 := hat10.kept (hF.2 _ hat10.lt (fun z => z))
  have hat12 := hat12.kept (hF.2 _ hat12.lt (fun z => z))
  have hat15 := hat15.kept (hF.2 _ hat15.lt (fun z => z))
  have hz17 : H.size = b + 10 := hz17
  refine lv_dup hx hb dX5_init_76 rfl ?_
  refine c_IN (host := "PartedSide") (rm := (mkRmC 1 40 1 9)) hx hb hml hts hown hK hl.1 hS (met_X9_init l D dA hat17 hz17) ⟨va_cnB 0 hts (lw_meth q421) rfl rfl rfl (hK.2.1 _ q419 rfl) (hts _ q123) (by decide +kernel) ⟨by show 1 + 1 ≤ 4; omega, by show 8 + (1 + 11) + 40 ≤ 120; omega⟩, rfl, hts _ q420⟩ rfl rfl (Nat.le_of_ble_eq_true rfl) dX5_init_77 (fun q hq => by have z : q = (b + 9) := hq; show b ≤ q; omega) ⟨by show 0 + 1 + 1 + 1 + 1 + 1 + 1 + 1 + 1 + 1 + 1 ≤ 10; omega, by show 0 + 9 + 9 + 9 + 9 + 2 + 0 + 0 + 9 + 2 + 9 ≤ 58; omega⟩ (fun H locs hq hF hS => ?_)
  obtain ⟨hat_q, hat_v, hz_q⟩ := hq
  have hat16 := hat16.kept (hF.2 _ hat16.lt (fun z => by have z : (b : Nat) = (b + 9) := z; omega))
  have hat1 := hat1.kept (hF.2 _ hat1.lt (fun z => by have z : ((b + 1) : Nat) = (b + 9) := z; omega))
  have hat3 := hat3.kept (hF.2 _ hat3.lt (fun z => by have z : ((b + 2) : Nat) = (b + 9) := z; omega))
  have hat5 := hat5.kept (hF.2 _ hat5.lt (fun z => by have z : ((b + 3) : Nat) = (b + 9) := z; omega))
  have hat7 := hat7.kept (hF.2 _ hat7.lt (fun z => by have z : ((b + 4) : Nat) = (b + 9) := z; omega))
  have hat13 := hat13.kept (hF.2 _ hat13.lt (fun z => by have z : ((b + 5) : Nat) = (b + 9) := z; omega))
  have hat10 := hat10.kept (hF.2 _ hat10.lt (fun z => by have z : ((b + 6) : Nat) = (b + 9) := z; omega))
  have hat12 := hat12.kept (hF.2 _ hat12.lt (fun z => by have z : ((b + 7) : Nat) = (b + 9) := z; omega))
  have hat15 := hat15.kept (hF.2 _ hat15.lt (fun z => by have z : ((b + 8) : Nat) = (b + 9) := z; omega))
  refine x_put hx hb hts hown hK hat16 rfl ok_X5 10 (by decide) q453 (Or.inr ⟨rfl, hnm, rfl⟩) rfl rfl (Nat.le_of_ble_eq_true rfl) dX5_init_80 (fun H i hat18 hO => ?_)
  have hS := hO.S (k := i) hS (Nat.le_refl _)
  have hat1 := hat1.kept (hO.2 _ (by show ((b + 1) : Nat) ≠ b; omega))
  have hat3 := hat3.kept (hO.2 _ (by show ((b + 2) : Nat) ≠ b; omega))
  have hat5 := hat5.kept (hO.2 _ (by show ((b + 3) : Nat) ≠ b; omega))
  have hat7 := hat7.kept (hO.2 _ (by show ((b + 4) : Nat) ≠ b; omega))
  have hat13 := hat13.kept (hO.2 _ (by show ((b + 5) : Nat) ≠ b; omega))
  have hat10 := hat10.kept (hO.2 _ (by show ((b + 6) : Nat) ≠ b; omega))
  have hat12 := hat12.kept (hO.2 _ (by show ((b + 7) : Nat) ≠ b; omega))
  have hat15 := hat15.kept (hO.2 _ (by show ((b + 8) : Nat) ≠ b; omega))
  have hat_q := hat_q.kept (hO.2 _ (by show ((b + 9) : Nat) ≠ b; omega))
  have hat_v := hat_v.kept (hO.2 _ (by show ((b + 10) : Nat) ≠ b; omega))
  have hz_q := hO.1.trans hz_q
  refine W.widen (k := 10) (n := 58) (by show 0 + 1 + 1 + 1 + 1 + 1 + 1 + 1 + 1 + 1 + 1 ≤ 10; omega) (by show 0 + 9 + 9 + 9 + 9 + 2 + 0 + 0 + 9 + 2 + 9 ≤ 58; omega) ?_
  refine hend _ _ _ _ hS dX5_init_83 ?_
  have hg : gP D dA b [] (fun _ _ => 0) (fun _ _ => 0) (fun k j => if k = 5 then va_up (va_up (fun _ => none) 0 (some (b + 6))) 1 (some (b + 7)) j else none) H := gP_nil
  have hg : gP D dA b [.inr (5, [.inl 1, .inl 2, .inl 3, .inl 4, .inr 0, .inr 0, .inr 0, .inr 0, .inl 5, .inl 8, .inl 9])] (fun _ _ => 0) (fun _ _ => 0) (fun k j => if k = 5 then va_up (va_up (fun _ => none) 0 (some (b + 6))) 1 (some (b + 7)) j else none) H := gP_snoc (ds := []) (d := .inr (5, [.inl 1, .inl 2, .inl 3, .inl 4, .inr 0, .inr 0, .inr 0, .inr 0, .inl 5, .inl 8, .inl 9])) hg hat18
  have hg : gP D dA b [.inr (5, [.inl 1, .inl 2, .inl 3, .inl 4, .inr 0, .inr 0, .inr 0, .inr 0, .inl 5, .inl 8, .inl 9]), .inl (0, 9)] (fun _ _ => 0) (fun _ _ => 0) (fun k j => if k = 5 then va_up (va_up (fun _ => none) 0 (some (b + 6))) 1 (some (b + 7)) j else none) H := gP_snoc (ds := [.inr (5, [.inl 1, .inl 2, .inl 3, .inl 4, .inr 0, .inr 0, .inr 0, .inr 0, .inl 5, .inl 8, .inl 9])]) (d := .inl (0, 9)) hg hat1
  have hg : gP D dA b [.inr (5, [.inl 1, .inl 2, .inl 3, .inl 4, .inr 0, .inr 0, .inr 0, .inr 0, .inl 5, .inl 8, .inl 9]), .inl (0, 9), .inl (0, 9)] (fun _ _ => 0) (fun _ _ => 0) (fun k j => if k = 5 then va_up (va_up (fun _ => none) 0 (some (b + 6))) 1 (some (b + 7)) j else none) H := gP_snoc (ds := [.inr (5, [.inl 1, .inl 2, .inl 3, .inl 4, .inr 0, .inr 0, .inr 0, .inr 0, .inl 5, .inl 8, .inl 9]), .inl (0, 9)]) (d := .inl (0, 9)) hg hat3
  have hg : gP D dA b [.inr (5, [.inl 1, .inl 2, .inl 3, .inl 4, .inr 0, .inr 0, .inr 0, .inr 0, .inl 5, .inl 8, .inl 9]), .inl (0, 9), .inl (0, 9), .inl (0, 9)] (fun _ _ => 0) (fun _ _ => 0) (fun k j => if k = 5 then va_up (va_up (fun _ => none) 0 (some (b + 6))) 1 (some (b + 7)) j else none) H := gP_snoc (ds := [.inr (5, [.inl 1, .inl 2, .inl 3, .inl 4, .inr 0, .inr 0, .inr 0, .inr 0, .inl 5, .inl 8, .inl 9]), .inl (0, 9), .inl (0, 9)]) (d := .inl (0, 9)) hg hat5
  have hg : gP D dA b [.inr (5, [.inl 1, .inl 2, .inl 3, .inl 4, .inr 0, .inr 0, .inr 0, .inr 0, .inl 5, .inl 8, .inl 9]), .inl (0, 9), .inl (0, 9), .inl (0, 9), .inl (0, 9)] (fun _ _ => 0) (fun _ _ => 0) (fun k j => if k = 5 then va_up (va_up (fun _ => none) 0 (some (b + 6))) 1 (some (b + 7)) j else none) H := gP_snoc (ds := [.inr (5, [.inl 1, .inl 2, .inl 3, .inl 4, .inr 0, .inr 0, .inr 0, .inr 0, .inl 5, .inl 8, .inl 9]), .inl (0, 9), .inl (0, 9), .inl (0, 9)]) (d := .inl (0, 9)) hg hat7
  have hg : gP D dA b [.inr (5, [.inl 1, .inl 2, .inl 3, .inl 4, .inr 0, .inr 0, .inr 0, .inr 0, .inl 5, .inl 8, .inl 9]), .inl (0, 9), .inl (0, 9), .inl (0, 9), .inl (0, 9), .inl (7, 2)] (fun _ _ => 0) (fun _ _ => 0) (fun k j => if k = 5 then va_up (va_up (fun _ => none) 0 (some (b + 6))) 1 (some (b + 7)) j else none) H := gP_snoc (ds := [.inr (5, [.inl 1, .inl 2, .inl 3, .inl 4, .inr 0, .inr 0, .inr 0, .inr 0, .inl 5, .inl 8, .inl 9]), .inl (0, 9), .inl (0, 9), .inl (0, 9), .inl (0, 9)]) (d := .inl (7, 2)) hg hat13
  have hg : gP D dA b [.inr (5, [.inl 1, .inl 2, .inl 3, .inl 4, .inr 0, .inr 0, .inr 0, .inr 0, .inl 5, .inl 8, .inl 9]), .inl (0, 9), .inl (0, 9), .inl (0, 9), .inl (0, 9), .inl (7, 2), .inr (13, [])] (fun _ _ => 0) (fun _ _ => 0) (fun k j => if k = 5 then va_up (va_up (fun _ => none) 0 (some (b + 6))) 1 (some (b + 7)) j else none) H := gP_snoc (ds := [.inr (5, [.inl 1, .inl 2, .inl 3, .inl 4, .inr 0, .inr 0, .inr 0, .inr 0, .inl 5, .inl 8, .inl 9]), .inl (0, 9), .inl (0, 9), .inl (0, 9), .inl (0, 9), .inl (7, 2)]) (d := .inr (13, [])) hg hat10
  have hg : gP D dA b [.inr (5, [.inl 1, .inl 2, .inl 3, .inl 4, .inr 0, .inr 0, .inr 0, .inr 0, .inl 5, .inl 8, .inl 9]), .inl (0, 9), .inl (0, 9), .inl (0, 9), .inl (0, 9), .inl (7, 2), .inr (13, []), .inr (14, [])] (fun _ _ => 0) (fun _ _ => 0) (fun k j => if k = 5 then va_up (va_up (fun _ => none) 0 (some (b + 6))) 1 (some (b + 7)) j else none) H := gP_snoc (ds := [.inr (5, [.inl 1, .inl 2, .inl 3, .inl 4, .inr 0, .inr 0, .inr 0, .inr 0, .inl 5, .inl 8, .inl 9]), .inl (0, 9), .inl (0, 9), .inl (0, 9), .inl (0, 9), .inl (7, 2), .inr (13, [])]) (d := .inr (14, [])) hg hat12
  have hg : gP D dA b [.inr (5, [.inl 1, .inl 2, .inl 3, .inl 4, .inr 0, .inr 0, .inr 0, .inr 0, .inl 5, .inl 8, .inl 9]), .inl (0, 9), .inl (0, 9), .inl (0, 9), .inl (0, 9), .inl (7, 2), .inr (13, []), .inr (14, []), .inl (0, 9)] (fun _ _ => 0) (fun _ _ => 0) (fun k j => if k = 5 then va_up (va_up (fun _ => none) 0 (some (b + 6))) 1 (some (b + 7)) j else none) H := gP_snoc (ds := [.inr (5, [.inl 1, .inl 2, .inl 3, .inl 4, .inr 0, .inr 0, .inr 0, .inr 0, .inl 5, .inl 8, .inl 9]), .inl (0, 9), .inl (0, 9), .inl (0, 9), .inl (0, 9), .inl (7, 2), .inr (13, []), .inr (14, [])]) (d := .inl (0, 9)) hg hat15
  have hg : gP D dA b [.inr (5, [.inl 1, .inl 2, .inl 3, .inl 4, .inr 0, .inr 0, .inr 0, .inr 0, .inl 5, .inl 8, .inl 9]), .inl (0, 9), .inl (0, 9), .inl (0, 9), .inl (0, 9), .inl (7, 2), .inr (13, []), .inr (14, []), .inl (0, 9), .inr (6, [.inl 10, .inr 0])] (fun _ _ => 0) (fun _ _ => 0) (fun k j => if k = 5 then va_up (va_up (fun _ => none) 0 (some (b + 6))) 1 (some (b + 7)) j else none) H := gP_snoc (ds := [.inr (5, [.inl 1, .inl 2, .inl 3, .inl 4, .inr 0, .inr 0, .inr 0, .inr 0, .inl 5, .inl 8, .inl 9]), .inl (0, 9), .inl (0, 9), .inl (0, 9), .inl (0, 9), .inl (7, 2), .inr (13, []), .inr (14, []), .inl (0, 9)]) (d := .inr (6, [.inl 10, .inr 0])) hg hat_q
  have hg : gP D dA b [.inr (5, [.inl 1, .inl 2, .inl 3, .inl 4, .inr 0, .inr 0, .inr 0, .inr 0, .inl 5, .inl 8, .inl 9]), .inl (0, 9), .inl (0, 9), .inl (0, 9), .inl (0, 9), .inl (7, 2), .inr (13, []), .inr (14, []), .inl (0, 9), .inr (6, [.inl 10, .inr 0]), .inl (0, 9)] (fun _ _ => 0) (fun _ _ => 0) (fun k j => if k = 5 then va_up (va_up (fun _ => none) 0 (some (b + 6))) 1 (some (b + 7)) j else none) H := gP_snoc (ds := [.inr (5, [.inl 1, .inl 2, .inl 3, .inl 4, .inr 0, .inr 0, .inr 0, .inr 0, .inl 5, .inl 8, .inl 9]), .inl (0, 9), .inl (0, 9), .inl (0, 9), .inl (0, 9), .inl (7, 2), .inr (13, []), .inr (14, []), .inl (0, 9), .inr (6, [.inl 10, .inr 0])]) (d := .inl (0, 9)) hg hat_v
  exact ⟨rfl, hg, hz_q⟩
