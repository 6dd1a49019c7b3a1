def prI (n : Nat) (v w : Int32) : Int32 := rng v 0 n (fun a => rng w 0 n (fun b => if a = b then nI 0 else nI 1) (nI 0)) (nI 0)
theorem pr_cases {T : Txt} {v w : Int32} (hn : xN T ≤ 9) : (∃ a b, a < xN T ∧ b < xN T ∧ a ≠ b ∧ v = nI a ∧ w = nI b ∧ prI (xN T) v w = nI 1) ∨ (prI (xN T) v w = nI 0 ∧ ∀ f hs, changeS T f hs v w = (nI 0, f, hs)) := by
  rcases bedN_cases hn v with ⟨a, _, ha, rfl, _⟩ | ⟨_, h⟩
  · rcases bedN_cases hn w with ⟨b, _, hb, rfl, _⟩ | ⟨_, h⟩
    · unfold prI changeS
      by_cases e : a = b
      · exact Or.inr ⟨by rw [rng_in (Nat.zero_le _) ha (by omega), rng_in (Nat.zero_le _) hb (by omega), if_pos e], fun f hs => by rw [rnp_in (Nat.zero_le _) ha (by omega), rnp_in (Nat.zero_le _) hb (by omega), if_pos e]⟩
      · exact Or.inl ⟨a, b, ha, hb, e, rfl, rfl, by rw [rng_in (Nat.zero_le _) ha (by omega), rng_in (Nat.zero_le _) hb (by omega), if_neg e]⟩
    · unfold prI changeS
      exact Or.inr ⟨by rw [rng_in (Nat.zero_le _) ha (by omega), h.1], fun f hs => by rw [rnp_in (Nat.zero_le _) ha (by omega), h.2]⟩
  · unfold prI changeS
    exact Or.inr ⟨h.1 _ _, fun f hs => h.2 _ _ _⟩
theorem ch_in {T : Txt} {f : Rw} {hs : List Rw} {a b : Nat} (hn : xN T ≤ 9) (ha : a < xN T) (hb : b < xN T) (e : a ≠ b) : changeS T f hs (nI a) (nI b) = (nI 1, swF a b f, phF hs f) := by
  unfold changeS
  rw [rnp_in (Nat.zero_le _) ha (by omega), rnp_in (Nat.zero_le _) hb (by omega), if_neg e]
/-- the slots -/
def hdP (V : GI) (n : Nat) (sd : Int32) (hd : Nat → Option Rw) : Prop := ∀ t, t < 3 → V 74 t = bI (hd t).isSome ∧ ∀ g, hd t = some g → bkS V (39 + 11 * t) n g sd
theorem hdP_to {V V1 : GI} {n : Nat} {sd : Int32} {hd : Nat → Option Rw} (h4 : ∀ j, V1 74 j = V 74 j) (ho : ∀ k j, 39 ≤ k → k < 72 → V1 k j = V k j) (h : hdP V n sd hd) : hdP V1 n sd hd := fun t ht => ⟨(h4 t).trans (h t ht).1, fun g hg => bkS_to (fun k j _ => ho _ j (by omega) (by omega)) ((h t ht).2 g hg)⟩
theorem isBs {i : Nat} (h : i < 3) : isB (39 + 11 * i) := by
  obtain rfl | rfl | rfl : i = 0 ∨ i = 1 ∨ i = 2 := by omega
  · exact isB39
  · exact isB50
  · exact isB61
theorem hd_hold {V V1 : GI} {n x : Nat} {sd : Int32} {hd : Nat → Option Rw} {f : Rw} (h : hdP V n sd hd) (hx : x < 3) (hf : bkS V1 (39 + 11 * x) n f sd) (ho : ∀ t, t < 3 → t ≠ x → ∀ k j, k ≤ 4 → V1 (39 + 11 * t + k) j = V (39 + 11 * t + k) j) (h1 : V1 74 x = nI 1) (h2 : ∀ j, j ≠ x → V1 74 j = V 74 j) : hdP V1 n sd (va_up hd x (some f)) := fun t ht => by
  by_cases e : t = x
  · subst e
    rw [show va_up hd t (some f) t = some f from if_pos rfl]
    exact ⟨h1, fun g hg => by cases hg; exact hf⟩
  · rw [show va_up hd x (some f) t = hd t from if_neg e]
    exact ⟨(h2 t e).trans (h t ht).1, fun g hg => bkS_to (ho t ht e) ((h t ht).2 g hg)⟩
set_option maxHeartbeats 4000000 in
theorem met_X0_isPair (l : Launch) (D : va_G) (dA : Nat → ClassId) {o : Nat} {V : GI} {L : GL} {Rf : GR} {H0 : Heap} (hG : gP D dA o dS V L Rf H0) {O : Nat → Prop} {tx : Nat} {T : Txt} (hX : txA D dA H0 O tx T) (htx : Rf 0 3 = some tx) (v1 v2 : Int32) : Ctr l D dA yX0_isPair cX0_isPair 3 (some .boolean) (mkRm 5 100) [.ref o, .int v1, .int v2] H0 A0 (QI (fun r H1 => H0 = H1 ∧ r = prI (xN T) v1 v2)) := by
  have hOA : ∀ z, O z → ¬ A0 z := fun _ _ h => h
  have hX0 := hX
  obtain ⟨fsx, hatx⟩ := txA_at hX
  have hotx := txA_o hX
  have hn9 := txA_n hX
  refine ctr_Z (by decide) (Nat.le_of_ble_eq_true rfl) ?_
  intro p e s m args below meth c ls QQ locs hx hb hml hown hts hK hend hS hl
  have hl : lv_has ls 3 [(0, .ref o), (1, .int v1), (2, .int v2)] := hl
  refine lv_aload_n hx hb dX0_isPair_0 rfl (lv_at hl 0 rfl) ?_
  refine lv_iload_n hx hb dX0_isPair_1 rfl (lv_at hl 1 rfl) ?_
  refine c_VI hx hb hml hts hown hK hl.1 hS ⟨Nat.le_refl _, Nat.le_refl _⟩ (met_X0_isBed l D dA hG (txA_S hX0 hS hOA) htx v1) (cw_X0_150 hts ⟨Nat.le_of_ble_eq_true rfl, Nat.le_of_ble_eq_true rfl⟩) (hG 0 _ rfl) rfl rfl rfl rfl (Nat.le_of_ble_eq_true rfl) dX0_isPair_2 (fun _ h => h.elim) (fun r H1 locs hq hF hS => ?_)
  obtain ⟨rfl, rfl⟩ := hq
  rcases (bedN_cases hn9 v1).symm with ⟨hz2, ho2⟩ | ⟨x1, hlo_x1, hhi_x1, rfl, hz2⟩
  · refine iv (y := nI 0) hz2 ?_
    refine n_if_eq (tgt := 25) hx hb dX0_isPair_5 (by decide) (by decide) (fun _ => ?_) (fun z => absurd z (by decide))
    refine lv_iconst (v := (nI 0)) hx hb dX0_isPair_25 (by decide) ?_
    refine hend _ _ _ _ _ hS dX0_isPair_26 (by decide) ?_
    exact ⟨_, rfl, rfl, ((ho2.1 _ _)).symm⟩
  refine iv (y := nI 1) hz2 ?_
  have hl : lv_has ls 3 [(0, .ref o), (1, .int (nI x1)), (2, .int v2)] := hl
  refine n_if_eq (tgt := 25) hx hb dX0_isPair_5 (by decide) (by decide) (fun z => absurd z (by decide)) (fun _ => ?_)
  refine lv_aload_n hx hb dX0_isPair_8 rfl (lv_at hl 0 rfl) ?_
  refine lv_iload_n hx hb dX0_isPair_9 rfl (lv_at hl 2 rfl) ?_
  refine c_VI hx hb hml hts hown hK hl.1 hS ⟨Nat.le_refl _, Nat.le_refl _⟩ (met_X0_isBed l D dA hG (txA_S hX0 hS hOA) htx v2) (cw_X0_150 hts ⟨Nat.le_of_ble_eq_true rfl, Nat.le_of_ble_eq_true rfl⟩) (hG 0 _ rfl) rfl rfl rfl rfl (Nat.le_of_ble_eq_true rfl) dX0_isPair_10 (fun _ h => h.elim) (fun r H1 locs hq hF hS => ?_)
  obtain ⟨rfl, rfl⟩ := hq
  rcases (bedN_cases hn9 v2).symm with ⟨hz10, ho10⟩ | ⟨x2, hlo_x2, hhi_x2, rfl, hz10⟩
  · refine iv (y := nI 0) hz10 ?_
    refine n_if_eq (tgt := 25) hx hb dX0_isPair_13 (by decide) (by decide) (fun _ => ?_) (fun z => absurd z (by decide))
    refine lv_iconst (v := (nI 0)) hx hb dX0_isPair_25 (by decide) ?_
    refine hend _ _ _ _ _ hS dX0_isPair_26 (by decide) ?_
    exact ⟨_, rfl, rfl, ((rng_in hlo_x1 hhi_x1 (by omega)).trans ((ho10.1 _ _))).symm⟩
  refine iv (y := nI 1) hz10 ?_
  have hl : lv_has ls 3 [(0, .ref o), (1, .int (nI x1)), (2, .int (nI x2))] := hl
  refine n_if_eq (tgt := 25) hx hb dX0_isPair_13 (by decide) (by decide) (fun z => absurd z (by decide)) (fun _ => ?_)
  refine lv_iload_n hx hb dX0_isPair_16 rfl (lv_at hl 1 rfl) ?_
  refine lv_iload_n hx hb dX0_isPair_17 rfl (lv_at hl 2 rfl) ?_
  refine n_icmp_eq (tgt := 25) hx hb dX0_isPair_18 (by decide) (by omega) (by omega) (fun c18 => ?_) (fun c18 => ?_)
  · refine lv_iconst (v := (nI 0)) hx hb dX0_isPair_25 (by decide) ?_
    refine hend _ _ _ _ _ hS dX0_isPair_26 (by decide) ?_
    exact ⟨_, rfl, rfl, ((rng_in hlo_x1 hhi_x1 (by omega)).trans ((rng_in hlo_x2 hhi_x2 (by omega)).trans ((if_pos (by omega))))).symm⟩
  refine lv_iconst (v := (nI 1)) hx hb dX0_isPair_21 (by decide) ?_
  refine lv_goto (tgt := 26) hx hb dX0_isPair_22 (by decide) ?_
  refine hend _ _ _ _ _ hS dX0_isPair_26 (by decide) ?_
  exact ⟨_, rfl, rfl, ((rng_in hlo_x1 hhi_x1 (by omega)).trans ((rng_in hlo_x2 hhi_x2 (by omega)).trans ((if_neg (fun h => c18 (by rw [h])))))).symm⟩
theorem cw_X0_203 {R : Room} {s : State} {args : Array Value} (hts : ∀ w ∈ lw_all, w.before args s = true) {f w k j : Nat} (hR : f + 1 ≤ R.frames ∧ 8 + (3 + 11) + w ≤ R.locals) : CallW R s args RX0 RX0 203 yX0_isPair cX0_isPair 3 (some .boolean) (ws_ yX0_isPair cX0_isPair 3 (some .boolean)) (mkRmC f w k j) k j 2 := cwV 2 hts (lw_V q1207 q1209 qs35 q108 q1210) rfl rfl rfl (by decide +kernel) hR
set_option maxHeartbeats 4000000 in
theorem met_X0_change (l : Launch) (D : va_G) (dA : Nat → ClassId) {o : Nat} {V : GI} {L : GL} {Rf : GR} {H0 : Heap} (hG : gP D dA o dS V L Rf H0) {O : Nat → Prop} {tx : Nat} {T : Txt} {f : Rw} (hC : clS D dA H0 O o V Rf tx T f) (hOA : ∀ z, O z → ¬ AS o z) {hs : List Rw} (hpa : paP V (xN T) (xS T) hs) (hpr : ∀ j, j < 40 → Rf 37 j = some (o + (82 + 11 * j))) (v1 v2 : Int32) : Ctr l D dA yX0_change cX0_change 3 (some .boolean) (mkRm 6 300) [.ref o, .int v1, .int v2] H0 (AS o) (QI (fun r H1 => ∃ V1, gP D dA o dS V1 L Rf H1 ∧ Eqx PAc V V1 ∧ r = (changeS T f hs v1 v2).1 ∧ bkS V1 15 (xN T) (changeS T f hs v1 v2).2.1 (xS T) ∧ paP V1 (xN T) (xS T) (changeS T f hs v1 v2).2.2)) := by
  have hC0 := hC
  obtain ⟨hX, htx, hB, hrv, hsd1, hsd2⟩ := hC
  have hX0 := hX
  have hn9 := txA_n hX
  have hp2 := two9 hn9
  have hpp := Nat.two_pow_pos (xN T)
  obtain ⟨fsx, hatx⟩ := txA_at hX
  have hotx := txA_o hX
  refine ctr_Z (by decide) (Nat.le_of_ble_eq_true rfl) ?_
  intro p e s m args below meth c ls QQ locs hx hb hml hown hts hK hend hS hl
  have hl : lv_has ls 3 [(0, .ref o), (1, .int v1), (2, .int v2)] := hl
  refine lv_aload_n hx hb dX0_change_0 rfl (lv_at hl 0 rfl) ?_
  refine lv_iload_n hx hb dX0_change_1 rfl (lv_at hl 1 rfl) ?_
  refine lv_iload_n hx hb dX0_change_2 rfl (lv_at hl 2 rfl) ?_
  refine c_VI hx hb hml hts hown hK hl.1 hS ⟨Nat.le_refl _, Nat.le_refl _⟩ (met_X0_isPair l D dA hG (txA_S hX0 hS hOA) htx v1 v2) (cw_X0_203 hts ⟨Nat.le_of_ble_eq_true rfl, Nat.le_of_ble_eq_true rfl⟩) (hG 0 _ rfl) rfl rfl rfl rfl (Nat.le_of_ble_eq_true rfl) dX0_change_3 (fun _ h => h.elim) (fun r H1 locs hq hF hS => ?_)
  obtain ⟨rfl, rfl⟩ := hq
  rcases (pr_cases (v := v1) (w := v2) (T := T) hn9).symm with ⟨hz, hch⟩ | ⟨x1, x2, hx1, hx2, hx12, rfl, rfl, hz⟩
  · refine iv (y := nI 0) hz ?_
    refine n_if_ne (tgt := 11) hx hb dX0_change_6 (by decide) (by decide) (fun z => absurd z (by decide)) (fun _ => ?_)
    refine lv_iconst (v := (nI 0)) hx hb dX0_change_9 (by decide) ?_
    refine hend _ _ _ _ _ hS dX0_change_10 (by decide) ?_
    have hans : changeS T f hs v1 v2 = (nI 0, f, hs) := (hch f hs)
    rw [hans]
    exact ⟨_, rfl, _, hG, Eqx.rf, rfl, hB, hpa⟩
  refine iv (y := nI 1) hz ?_
  have hl : lv_has ls 3 [(0, .ref o), (1, .int (nI x1)), (2, .int (nI x2))] := hl
  refine n_if_ne (tgt := 11) hx hb dX0_change_6 (by decide) (by decide) (fun _ => ?_) (fun z => absurd z (by decide))
  refine lv_aload_n hx hb dX0_change_11 rfl (lv_at hl 0 rfl) ?_
  refine c_VV hx hb hml hts hown hK hl.1 hS ⟨Nat.le_refl _, Nat.le_refl _⟩ (met_X0_keeps l D dA hG (clS_E hC0 hS hOA Eqx.rf) hOA hpa hpr) (cw_X0_197 hts ⟨Nat.le_of_ble_eq_true rfl, Nat.le_of_ble_eq_true rfl⟩) (hG 0 _ rfl) rfl rfl rfl rfl (Nat.le_of_ble_eq_true rfl) dX0_change_12 (fun _ h => h) (fun H1 locs hq hF hS => ?_)
  obtain ⟨V1, hG, hE1, hpa1⟩ := hq
  generalize hHe1 : H1 = H at hG hS ⊢
  clear hHe1 hF
  refine lv_aload_n hx hb dX0_change_15 rfl (lv_at hl 0 rfl) ?_
  refine g_get hx hb hts hown hK hG 0 rfl rfl ok_X0 7 (by decide) q529 rfl rfl dX0_change_16 ?_
  refine lv_iload_n hx hb dX0_change_19 rfl (lv_at hl 1 rfl) ?_
  refine lv_iload_n hx hb dX0_change_20 rfl (lv_at hl 2 rfl) ?_
  refine c_VV hx hb hml hts hown hK hl.1 hS ⟨Nat.le_refl _, Nat.le_refl _⟩ (met_X5_change l D dA (gP_view hG isB15) (bkS_to (fun k j hk => hE1 _ j (PKe_15 k j hk)) hB) hn9 hrv (x := x1) (y := x2) (by omega) (by omega) (by omega)) (cw_X0_207 hts ⟨Nat.le_of_ble_eq_true rfl, Nat.le_of_ble_eq_true rfl⟩) (hG 15 _ rfl) rfl rfl rfl rfl (Nat.le_of_ble_eq_true rfl) dX0_change_21 (AB_AS isB15) (fun H1 locs hq hF hS => ?_)
  obtain ⟨W2, hGv, hEv, hbn2⟩ := hq
  obtain ⟨V2, hV2⟩ : ∃ X, X = spl V1 15 W2 := ⟨_, rfl⟩
  have hGn := gP_back hG isB15 hF (fun _ h => h) hGv
  rw [← hV2] at hGn
  replace hG := hGn
  have hE2 : Eqx PT15 V1 V2 := by rw [hV2]; exact spl_eqx
  have hb2 : bkS V2 15 (xN T) (swF x1 x2 f) (xS T) := by rw [hV2]; exact bkS_spl hbn2
  clear hGn hGv hEv hbn2 hV2
  generalize hHe2 : H1 = H at hG hS ⊢
  clear hHe2 hF
  refine lv_iconst (v := (nI 1)) hx hb dX0_change_24 (by decide) ?_
  refine hend _ _ _ _ _ hS dX0_change_25 (by decide) ?_
  have hans : changeS T f hs (nI x1) (nI x2) = (nI 1, swF x1 x2 f, phF hs f) := (ch_in hn9 hx1 hx2 hx12)
  rw [hans]
  exact ⟨_, rfl, _, hG, ((hE1.mono PKe_PAc).trans (hE2.mono PT15_PAc)), rfl, hb2, (paP_to (hE2 0 5 rfl) (hE2 0 6 rfl) (fun k j hk => hE2 k j (PT15_82 k j hk)) hpa1)⟩
set_option maxHeartbeats 4000000 in
theorem met_X0_hours (l : Launch) (D : va_G) (dA : Nat → ClassId) {o : Nat} {V : GI} {L : GL} {Rf : GR} {H0 : Heap} (hG : gP D dA o dS V L Rf H0) {O : Nat → Prop} {tx : Nat} {T : Txt} {f : Rw} (hC : clS D dA H0 O o V Rf tx T f) (hOA : ∀ z, O z → ¬ AS o z) {hs : List Rw} (hpa : paP V (xN T) (xS T) hs) (hpr : ∀ j, j < 40 → Rf 37 j = some (o + (82 + 11 * j))) (v1 : Int32) : Ctr l D dA yX0_hours cX0_hours 2 (some .int) (mkRm 411 9800) [.ref o, .int v1] H0 (AS o) (QI (fun r H1 => ∃ V1, gP D dA o dS V1 L Rf H1 ∧ Eqx PAc V V1 ∧ r = (hoursS T f hs v1).1 ∧ bkS V1 15 (xN T) (hoursS T f hs v1).2.1 (xS T) ∧ paP V1 (xN T) (xS T) (hoursS T f hs v1).2.2)) := by
  have hC0 := hC
  obtain ⟨hX, htx, hB, hrv, hsd1, hsd2⟩ := hC
  have hX0 := hX
  have hn9 := txA_n hX
  have hp2 := two9 hn9
  have hpp := Nat.two_pow_pos (xN T)
  obtain ⟨fsx, hatx⟩ := txA_at hX
  have hotx := txA_o hX
  refine ctr_I (by decide) (Nat.le_of_ble_eq_true rfl) ?_
  intro p e s m args below meth c ls QQ locs hx hb hml hown hts hK hend hS hl
  have hl : lv_has ls 2 [(0, .ref o), (1, .int v1)] := hl
  refine lv_iload_n hx hb dX0_hours_0 rfl (lv_at hl 1 rfl) ?_
  refine c_SI hx hb hml hts hown hK hl.1 hS ⟨Nat.le_refl _, Nat.le_refl _⟩ (met_X0_isAhead l D dA v1) (cw_X0_215 hts ⟨Nat.le_of_ble_eq_true rfl, Nat.le_of_ble_eq_true rfl⟩) rfl rfl (Nat.le_of_ble_eq_true rfl) dX0_hours_1 (fun _ h => h.elim) (fun r H1 locs hq hF hS => ?_)
  obtain ⟨rfl, rfl⟩ := hq
  rcases (inZ_cases v1 0 48 (by decide) (by decide)).symm with ⟨hz1, ho1⟩ | ⟨x1, hlo_x1, hhi_x1, rfl, hz1⟩
  · refine iv (y := nI 0) hz1 ?_
    refine n_if_ne (tgt := 9) hx hb dX0_hours_4 (by decide) (by decide) (fun z => absurd z (by decide)) (fun _ => ?_)
    refine lv_iconst (v := (-1)) hx hb dX0_hours_7 (by decide) ?_
    refine hend _ _ _ _ _ hS dX0_hours_8 ?_
    have hans : hoursS T f hs v1 = (-1, f, hs) := (ho1.2 _ _ _)
    rw [hans]
    exact ⟨_, rfl, _, hG, Eqx.rf, rfl, hB, hpa⟩
  refine iv (y := nI 1) hz1 ?_
  have hl : lv_has ls 2 [(0, .ref o), (1, .int (nI x1))] := hl
  refine n_if_ne (tgt := 9) hx hb dX0_hours_4 (by decide) (by decide) (fun _ => ?_) (fun z => absurd z (by decide))
  refine lv_iload_n hx hb dX0_hours_9 rfl (lv_at hl 1 rfl) ?_
  refine n_if_le (tgt := 17) hx hb dX0_hours_10 (by decide) (by omega) (fun c10 => ?_) (fun c10 => ?_)
  · have hz : x1 = 0 := by omega
    refine lv_aload_n hx hb dX0_hours_17 rfl (lv_at hl 0 rfl) ?_
    refine lv_aload_n hx hb dX0_hours_18 rfl (lv_at hl 0 rfl) ?_
    refine g_get hx hb hts hown hK hG 0 rfl rfl ok_X0 7 (by decide) q529 rfl rfl dX0_hours_19 ?_
    refine lv_iload_n hx hb dX0_hours_22 rfl (lv_at hl 1 rfl) ?_
    refine lv_aload_n hx hb dX0_hours_23 rfl (lv_at hl 0 rfl) ?_
    refine g_get hx hb hts hown hK hG 0 rfl rfl ok_X0 11 (by decide) q533 rfl rfl dX0_hours_24 ?_
    refine c_VV hx hb hml hts hown hK hl.1 hS ⟨Nat.le_refl _, Nat.le_refl _⟩ (met_X0_runs l D dA hG (txA_S hX0 hS hOA) htx isB15 (fun z hz hb => hOA z hz (AB_AS isB15 z hb)) hsd1 hB hrv (ni72 hG) (fun z => by have h1 := z.1; have h2 := z.2; omega) x1 (by omega)) (cw_X0_218 hts ⟨Nat.le_of_ble_eq_true rfl, Nat.le_of_ble_eq_true rfl⟩) (hG 0 _ rfl) rfl rfl rfl rfl (Nat.le_of_ble_eq_true rfl) dX0_hours_27 (AB_AS isB15) (fun H1 locs hq hF hS => ?_)
    obtain ⟨V1, hG, hE1, hb1⟩ := hq
    generalize hHe1 : H1 = H at hG hS ⊢
    clear hHe1
    refine lv_aload_n hx hb dX0_hours_30 rfl (lv_at hl 0 rfl) ?_
    refine g_get hx hb hts hown hK hG 0 rfl rfl ok_X0 7 (by decide) q529 rfl rfl dX0_hours_31 ?_
    refine g_get (v := .int ((goF T (nI 0) (xS T) x1 f) 45)) hx hb hts hown hK hG 15 rfl rfl ok_X5 5 (by decide) q445 rfl (congrArg Value.int hb1.1.2.1) dX0_hours_34 ?_
    refine hend _ _ _ _ _ hS dX0_hours_37 ?_
    have hans : hoursS T f hs (nI x1) = (f 45, f, hs) := (rnp_in hlo_x1 hhi_x1 (by omega)).trans ((if_pos hz))
    rw [hans]
    exact ⟨_, rfl, _, hG, (hE1.mono PT15_PAc), (by rw [hz]; rfl), (by have hq := hb1; rw [hz] at hq; exact hq), (paP_to (hE1 0 5 rfl) (hE1 0 6 rfl) (fun k j hk => hE1 k j (PT15_82 k j hk)) hpa)⟩
  refine lv_aload_n hx hb dX0_hours_13 rfl (lv_at hl 0 rfl) ?_
  refine c_VV hx hb hml hts hown hK hl.1 hS ⟨Nat.le_refl _, Nat.le_refl _⟩ (met_X0_keeps l D dA hG (clS_E hC0 hS hOA Eqx.rf) hOA hpa hpr) (cw_X0_197 hts ⟨Nat.le_of_ble_eq_true rfl, Nat.le_of_ble_eq_true rfl⟩) (hG 0 _ rfl) rfl rfl rfl rfl (Nat.le_of_ble_eq_true rfl) dX0_hours_14 (fun _ h => h) (fun H1 locs hq hF hS => ?_)
  obtain ⟨V2, hG, hE2, hpa2⟩ := hq
  generalize hHe2 : H1 = H at hG hS ⊢
  clear hHe2 hF
  refine lv_aload_n hx hb dX0_hours_17 rfl (lv_at hl 0 rfl) ?_
  refine lv_aload_n hx hb dX0_hours_18 rfl (lv_at hl 0 rfl) ?_
  refine g_get hx hb hts hown hK hG 0 rfl rfl ok_X0 7 (by decide) q529 rfl rfl dX0_hours_19 ?_
  refine lv_iload_n hx hb dX0_hours_22 rfl (lv_at hl 1 rfl) ?_
  refine lv_aload_n hx hb dX0_hours_23 rfl (lv_at hl 0 rfl) ?_
  refine g_get hx hb hts hown hK hG 0 rfl rfl ok_X0 11 (by decide) q533 rfl rfl dX0_hours_24 ?_
  refine c_VV hx hb hml hts hown hK hl.1 hS ⟨Nat.le_refl _, Nat.le_refl _⟩ (met_X0_runs l D dA hG (txA_S hX0 hS hOA) htx isB15 (fun z hz hb => hOA z hz (AB_AS isB15 z hb)) hsd1 (bkS_to (fun k j hk => hE2 _ j (PKe_15 k j hk)) hB) hrv (ni72 hG) (fun z => by have h1 := z.1; have h2 := z.2; omega) x1 (by omega)) (cw_X0_218 hts ⟨Nat.le_of_ble_eq_true rfl, Nat.le_of_ble_eq_true rfl⟩) (hG 0 _ rfl) rfl rfl rfl rfl (Nat.le_of_ble_eq_true rfl) dX0_hours_27 (AB_AS isB15) (fun H1 locs hq hF hS => ?_)
  obtain ⟨V3, hG, hE3, hb3⟩ := hq
  generalize hHe3 : H1 = H at hG hS ⊢
  clear hHe3
  refine lv_aload_n hx hb dX0_hours_30 rfl (lv_at hl 0 rfl) ?_
  refine g_get hx hb hts hown hK hG 0 rfl rfl ok_X0 7 (by decide) q529 rfl rfl dX0_hours_31 ?_
  refine g_get (v := .int ((goF T (nI 0) (xS T) x1 f) 45)) hx hb hts hown hK hG 15 rfl rfl ok_X5 5 (by decide) q445 rfl (congrArg Value.int hb3.1.2.1) dX0_hours_34 ?_
  refine hend _ _ _ _ _ hS dX0_hours_37 ?_
  have hans : hoursS T f hs (nI x1) = (goF T (nI 0) (xS T) x1 f 45, goF T (nI 0) (xS T) x1 f, phF hs f) := (rnp_in hlo_x1 hhi_x1 (by omega)).trans ((if_neg (by omega)))
  rw [hans]
  exact ⟨_, rfl, _, hG, ((hE2.mono PKe_PAc).trans (hE3.mono PT15_PAc)), rfl, hb3, (paP_to (hE3 0 5 rfl) (hE3 0 6 rfl) (fun k j hk => hE3 k j (PT15_82 k j hk)) hpa2)⟩
set_option maxHeartbeats 4000000 in
theorem met_X0_undo (l : Launch) (D : va_G) (dA : Nat → ClassId) {o : Nat} {V : GI} {L : GL} {Rf : GR} {H0 : Heap} (hG : gP D dA o dS V L Rf H0) {O : Nat → Prop} {tx : Nat} {T : Txt} {f : Rw} (hC : clS D dA H0 O o V Rf tx T f) (hOA : ∀ z, O z → ¬ AS o z) {hs : List Rw} (hpa : paP V (xN T) (xS T) hs) (hpr : ∀ j, j < 40 → Rf 37 j = some (o + (82 + 11 * j)))  : Ctr l D dA yX0_undo cX0_undo 1 (some .boolean) (mkRm 3 130) [.ref o] H0 (AS o) (QI (fun r H1 => ∃ V1, gP D dA o dS V1 L Rf H1 ∧ Eqx PAc V V1 ∧ r = (undoS f hs).1 ∧ bkS V1 15 (xN T) (undoS f hs).2.1 (xS T) ∧ paP V1 (xN T) (xS T) (undoS f hs).2.2)) := by
  have hC0 := hC
  obtain ⟨hX, htx, hB, hrv, hsd1, hsd2⟩ := hC
  have hX0 := hX
  have hn9 := txA_n hX
  have hp2 := two9 hn9
  have hpp := Nat.two_pow_pos (xN T)
  obtain ⟨fsx, hatx⟩ := txA_at hX
  have hotx := txA_o hX
  have hpa0 := hpa
  obtain ⟨a, ha, hl40, h5, h6, hpb⟩ := hpa0
  refine ctr_Z (by decide) (Nat.le_of_ble_eq_true rfl) ?_
  intro p e s m args below meth c ls QQ locs hx hb hml hown hts hK hend hS hl
  have hl : lv_has ls 1 [(0, .ref o)] := hl
  refine lv_aload_n hx hb dX0_undo_0 rfl (lv_at hl 0 rfl) ?_
  refine g_get (v := .int (nI hs.length)) hx hb hts hown hK hG 0 rfl rfl ok_X0 5 (by decide) q527 rfl (congrArg Value.int h5) dX0_undo_1 ?_
  refine n_if_ne (tgt := 9) hx hb dX0_undo_4 (by decide) (by omega) (fun c4 => ?_) (fun c4 => ?_)
  · obtain ⟨g, hgl, hbg⟩ := pa_last ha hl40 (by omega) hpb
    refine lv_aload_n hx hb dX0_undo_9 rfl (lv_at hl 0 rfl) ?_
    refine lv_dup hx hb dX0_undo_10 rfl ?_
    refine g_get (v := .int (nI hs.length)) hx hb hts hown hK hG 0 rfl rfl ok_X0 5 (by decide) q527 rfl (congrArg Value.int h5) dX0_undo_11 ?_
    refine lv_iconst (v := (nI 1)) hx hb dX0_undo_14 (by decide) ?_
    refine n_isub hx hb dX0_undo_15 (by omega) ?_
    refine g_put hx hb hts hown hK hG hS 0 (AS_in 0 (by decide)) rfl rfl ok_X0 5 (by decide) q527 rfl rfl rfl rfl dX0_undo_16 (fun H locs hG hO hS => ?_)
    refine lv_aload_n hx hb dX0_undo_19 rfl (lv_at hl 0 rfl) ?_
    refine lv_aload_n hx hb dX0_undo_20 rfl (lv_at hl 0 rfl) ?_
    refine g_get (v := .int (nI a)) hx hb hts hown hK hG 0 rfl rfl ok_X0 6 (by decide) q528 rfl (congrArg Value.int h6) dX0_undo_21 ?_
    refine lv_bipush (v := (nI 40)) hx hb dX0_undo_24 (by decide) ?_
    refine n_iadd hx hb dX0_undo_26 ?_
    refine lv_iconst (v := (nI 1)) hx hb dX0_undo_27 (by decide) ?_
    refine n_isub hx hb dX0_undo_28 (by omega) ?_
    refine lv_bipush (v := (nI 40)) hx hb dX0_undo_29 (by decide) ?_
    refine n_irem hx hb dX0_undo_31 (by omega) (by omega) (by omega) ?_
    refine g_put hx hb hts hown hK hG hS 0 (AS_in 0 (by decide)) rfl rfl ok_X0 6 (by decide) q528 rfl rfl rfl rfl dX0_undo_32 (fun H locs hG hO hS => ?_)
    refine lv_aload_n hx hb dX0_undo_35 rfl (lv_at hl 0 rfl) ?_
    refine g_get hx hb hts hown hK hG 0 rfl rfl ok_X0 7 (by decide) q529 rfl rfl dX0_undo_36 ?_
    refine lv_aload_n hx hb dX0_undo_39 rfl (lv_at hl 0 rfl) ?_
    refine g_get hx hb hts hown hK hG 0 rfl rfl ok_X0 9 (by decide) q531 rfl rfl dX0_undo_40 ?_
    refine lv_aload_n hx hb dX0_undo_43 rfl (lv_at hl 0 rfl) ?_
    refine g_get (v := .int (nI (((a + 40) - 1) % 40))) hx hb hts hown hK hG 0 rfl rfl ok_X0 6 (by decide) q528 rfl rfl dX0_undo_44 ?_
    refine xn_aald hx hb hK 6 (hG 37 _ rfl) rfl (by omega) (by decide) (hpr (((a + 40) - 1) % 40) (by omega)) dX0_undo_47 ?_
    refine c_VV hx hb hml hts hown hK hl.1 hS ⟨Nat.le_refl _, Nat.le_refl _⟩ (met_X5_takes l D dA (gP_view hG isB15) (gP_view hG (isBp (i := (a + 40 - 1) % 40) (Nat.mod_lt _ (by decide)))) (by omega)) (cw_X0_193 hts ⟨Nat.le_of_ble_eq_true rfl, Nat.le_of_ble_eq_true rfl⟩) ((gP_view hG isB15) 0 _ rfl) rfl rfl rfl rfl (Nat.le_of_ble_eq_true rfl) dX0_undo_48 (fun z hz => hz.elim (AB_AS isB15 z) (AB_AS (isBp (i := (a + 40 - 1) % 40) (Nat.mod_lt _ (by decide))) z)) (fun H1 locs hq hF hS => ?_)
    obtain ⟨W1, hGv, hGc, hEv, hc9, hc4, hc5, hc6, hc7⟩ := hq
    obtain ⟨V1, hV1⟩ : ∃ X, X = spl (up2 (up2 V 0 5 (nI (hs.length - 1))) 0 6 (nI (((a + 40) - 1) % 40))) 15 W1 := ⟨_, rfl⟩
    have hGn := gP_back2 hG isB15 (isBp (i := (a + 40 - 1) % 40) (Nat.mod_lt _ (by decide))) hF hGv hGc
    rw [← hV1] at hGn
    replace hG := hGn
    have hE1 : Eqx PT15 (up2 (up2 V 0 5 (nI (hs.length - 1))) 0 6 (nI (((a + 40) - 1) % 40))) V1 := by rw [hV1]; exact spl_eqx.mono (fun k j h => h)
    have hb1 : bkS V1 15 (xN T) (g) (xS T) := by rw [hV1]; exact bkS_spl (bkM_cp hn9 (bkS_to (fun k j _ => (up2_n (fun z => by omega)).trans (up2_n (fun z => by omega))) hbg) hc9 hc4 hc5 hc6 hc7)
    clear hGn hGv hGc hEv hc9 hc4 hc5 hc6 hc7 hV1
    generalize hHe1 : H1 = H at hG hS ⊢
    clear hHe1 hF
    refine lv_iconst (v := (nI 1)) hx hb dX0_undo_51 (by decide) ?_
    refine hend _ _ _ _ _ hS dX0_undo_52 (by decide) ?_
    have hans : undoS f hs = (nI 1, g, hs.dropLast) := (by unfold undoS; rw [hgl])
    rw [hans]
    exact ⟨_, rfl, _, hG, (((Eqx.rf.up rfl).up rfl).trans (hE1.mono PT15_PAc)), rfl, hb1, (pa_undo ha hl40 (by omega) hpb (fun k j hk => (hE1 k j (PT15_82 k j hk)).trans ((up2_n (fun z => by omega)).trans (up2_n (fun z => by omega)))) (hE1 0 5 rfl) (hE1 0 6 rfl))⟩
  refine lv_iconst (v := (nI 0)) hx hb dX0_undo_7 (by decide) ?_
  refine hend _ _ _ _ _ hS dX0_undo_8 (by decide) ?_
  have hans : undoS f hs = (nI 0, f, hs) := (by unfold undoS; rw [List.length_eq_zero_iff.mp (show hs.length = 0 by omega)]; rfl)
  rw [hans]
  exact ⟨_, rfl, _, hG, Eqx.rf, rfl, hB, hpa⟩
set_option maxHeartbeats 4000000 in
theorem met_X0_hold (l : Launch) (D : va_G) (dA : Nat → ClassId) {o : Nat} {V : GI} {L : GL} {Rf : GR} {H0 : Heap} (hG : gP D dA o dS V L Rf H0) {O : Nat → Prop} {tx : Nat} {T : Txt} {f : Rw} (hC : clS D dA H0 O o V Rf tx T f) (hOA : ∀ z, O z → ¬ AS o z) {hd : Nat → Option Rw} (hh : hdP V (xN T) (xS T) hd) (hsr : ∀ j, j < 3 → Rf 38 j = some (o + (39 + 11 * j))) (v1 : Int32) : Ctr l D dA yX0_hold cX0_hold 2 (some .boolean) (mkRm 3 130) [.ref o, .int v1] H0 (AS o) (QI (fun r H1 => ∃ V1, gP D dA o dS V1 L Rf H1 ∧ Eqx PHo V V1 ∧ r = (holdS f hd v1).1 ∧ hdP V1 (xN T) (xS T) (holdS f hd v1).2)) := by
  have hC0 := hC
  obtain ⟨hX, htx, hB, hrv, hsd1, hsd2⟩ := hC
  have hX0 := hX
  have hn9 := txA_n hX
  have hp2 := two9 hn9
  have hpp := Nat.two_pow_pos (xN T)
  refine ctr_Z (by decide) (Nat.le_of_ble_eq_true rfl) ?_
  intro p e s m args below meth c ls QQ locs hx hb hml hown hts hK hend hS hl
  have hl : lv_has ls 2 [(0, .ref o), (1, .int v1)] := hl
  refine lv_iload_n hx hb dX0_hold_0 rfl (lv_at hl 1 rfl) ?_
  refine lv_iconst (v := (nI 0)) hx hb dX0_hold_1 (by decide) ?_
  refine lv_iconst (v := (nI 2)) hx hb dX0_hold_2 (by decide) ?_
  refine c_SI hx hb hml hts hown hK hl.1 hS ⟨Nat.le_refl _, Nat.le_refl _⟩ (met_X0_isIn l D dA v1 (nI 0) (nI 2)) (cw_X0_146 hts ⟨Nat.le_of_ble_eq_true rfl, Nat.le_of_ble_eq_true rfl⟩) rfl rfl (Nat.le_of_ble_eq_true rfl) dX0_hold_3 (fun _ h => h.elim) (fun r H1 locs hq hF hS => ?_)
  obtain ⟨rfl, rfl⟩ := hq
  rcases (inZ_cases v1 0 2 (by decide) (by decide)).symm with ⟨hz3, ho3⟩ | ⟨x1, hlo_x1, hhi_x1, rfl, hz3⟩
  · refine iv (y := nI 0) hz3 ?_
    refine n_if_ne (tgt := 11) hx hb dX0_hold_6 (by decide) (by decide) (fun z => absurd z (by decide)) (fun _ => ?_)
    refine lv_iconst (v := (nI 0)) hx hb dX0_hold_9 (by decide) ?_
    refine hend _ _ _ _ _ hS dX0_hold_10 (by decide) ?_
    have hans : holdS f hd v1 = (nI 0, hd) := (ho3.2 _ _ _)
    rw [hans]
    exact ⟨_, rfl, _, hG, Eqx.rf, rfl, hh⟩
  refine iv (y := nI 1) hz3 ?_
  have hl : lv_has ls 2 [(0, .ref o), (1, .int (nI x1))] := hl
  refine n_if_ne (tgt := 11) hx hb dX0_hold_6 (by decide) (by decide) (fun _ => ?_) (fun z => absurd z (by decide))
  refine lv_aload_n hx hb dX0_hold_11 rfl (lv_at hl 0 rfl) ?_
  refine g_get hx hb hts hown hK hG 0 rfl rfl ok_X0 10 (by decide) q532 rfl rfl dX0_hold_12 ?_
  refine lv_iload_n hx hb dX0_hold_15 rfl (lv_at hl 1 rfl) ?_
  refine xn_aald hx hb hK 6 (hG 38 _ rfl) rfl (by omega) (by decide) (hsr (x1) (by omega)) dX0_hold_16 ?_
  refine lv_aload_n hx hb dX0_hold_17 rfl (lv_at hl 0 rfl) ?_
  refine g_get hx hb hts hown hK hG 0 rfl rfl ok_X0 7 (by decide) q529 rfl rfl dX0_hold_18 ?_
  refine c_VV hx hb hml hts hown hK hl.1 hS ⟨Nat.le_refl _, Nat.le_refl _⟩ (met_X5_takes l D dA (gP_view hG (isBs (by omega))) (gP_view hG isB15) (by omega)) (cw_X0_193 hts ⟨Nat.le_of_ble_eq_true rfl, Nat.le_of_ble_eq_true rfl⟩) ((gP_view hG (isBs (by omega))) 0 _ rfl) rfl rfl rfl rfl (Nat.le_of_ble_eq_true rfl) dX0_hold_21 (fun z hz => hz.elim (AB_AS (isBs (by omega)) z) (AB_AS isB15 z)) (fun H1 locs hq hF hS => ?_)
  obtain ⟨W1, hGv, hGc, hEv, hc9, hc4, hc5, hc6, hc7⟩ := hq
  obtain ⟨V1, hV1⟩ : ∃ X, X = spl V (39 + 11 * x1) W1 := ⟨_, rfl⟩
  have hGn := gP_back2 hG (isBs (by omega)) isB15 hF hGv hGc
  rw [← hV1] at hGn
  replace hG := hGn
  have hE1 : Eqx PSl V V1 := by rw [hV1]; exact spl_eqx.mono (PBk_PSl (by omega))
  have hb1 : bkS V1 (39 + 11 * x1) (xN T) (f) (xS T) := by rw [hV1]; exact bkS_spl (bkM_cp hn9 hB hc9 hc4 hc5 hc6 hc7)
  have ho1 : ∀ t, t < 3 → t ≠ x1 → ∀ k j, k ≤ 4 → V1 (39 + 11 * t + k) j = V (39 + 11 * t + k) j := fun t _ hn k j hk => by rw [hV1]; exact spl_out (by omega)
  clear hGn hGv hGc hEv hc9 hc4 hc5 hc6 hc7 hV1
  generalize hHe1 : H1 = H at hG hS ⊢
  clear hHe1 hF
  refine lv_aload_n hx hb dX0_hold_24 rfl (lv_at hl 0 rfl) ?_
  refine g_get hx hb hts hown hK hG 0 rfl rfl ok_X0 13 (by decide) q535 rfl rfl dX0_hold_25 ?_
  refine lv_iload_n hx hb dX0_hold_28 rfl (lv_at hl 1 rfl) ?_
  refine lv_iconst (v := (nI 1)) hx hb dX0_hold_29 (by decide) ?_
  refine n_zast (x2 := (nI 1)) hx hb hK hG hS 74 (AS_in 74 (by decide)) rfl (by omega) (by decide) (by decide) dX0_hold_30 (fun H locs hG hO hS => ?_)
  refine lv_iconst (v := (nI 1)) hx hb dX0_hold_31 (by decide) ?_
  refine hend _ _ _ _ _ hS dX0_hold_32 (by decide) ?_
  have hans : holdS f hd (nI x1) = (nI 1, va_up hd x1 (some f)) := (rnp_in hlo_x1 hhi_x1 (by omega)).trans (rfl)
  rw [hans]
  exact ⟨_, rfl, _, hG, ((hE1.mono PSl_PHo).up rfl), rfl, hd_hold hh (by omega) (bkS_to (fun k j _ => up2_n (fun z => by omega)) hb1) (fun t h1 h2 k j hk => (up2_n (fun z => by omega)).trans (ho1 t h1 h2 k j hk)) up2_s (fun j hj => (up2_n (fun z => hj z.2)).trans (hE1 74 j rfl))⟩
set_option maxHeartbeats 4000000 in
theorem met_X0_restore (l : Launch) (D : va_G) (dA : Nat → ClassId) {o : Nat} {V : GI} {L : GL} {Rf : GR} {H0 : Heap} (hG : gP D dA o dS V L Rf H0) {O : Nat → Prop} {tx : Nat} {T : Txt} {f : Rw} (hC : clS D dA H0 O o V Rf tx T f) (hOA : ∀ z, O z → ¬ AS o z) {hs : List Rw} (hpa : paP V (xN T) (xS T) hs) (hpr : ∀ j, j < 40 → Rf 37 j = some (o + (82 + 11 * j))) {hd : Nat → Option Rw} (hh : hdP V (xN T) (xS T) hd) (hsr : ∀ j, j < 3 → Rf 38 j = some (o + (39 + 11 * j))) (v1 : Int32) : Ctr l D dA yX0_restore cX0_restore 2 (some .boolean) (mkRm 3 130) [.ref o, .int v1] H0 (AS o) (QI (fun r H1 => ∃ V1, gP D dA o dS V1 L Rf H1 ∧ Eqx PAc V V1 ∧ r = (restoreS f hs hd v1).1 ∧ bkS V1 15 (xN T) (restoreS f hs hd v1).2.1 (xS T) ∧ paP V1 (xN T) (xS T) (restoreS f hs hd v1).2.2)) := by
  have hC0 := hC
  obtain ⟨hX, htx, hB, hrv, hsd1, hsd2⟩ := hC
  have hX0 := hX
  have hn9 := txA_n hX
  have hp2 := two9 hn9
  have hpp := Nat.two_pow_pos (xN T)
  obtain ⟨fsx, hatx⟩ := txA_at hX
  have hotx := txA_o hX
  have hpa0 := hpa
  obtain ⟨a, ha, hl40, h5, h6, hpb⟩ := hpa0
  refine ctr_Z (by decide) (Nat.le_of_ble_eq_true rfl) ?_
  intro p e s m args below meth c ls QQ locs hx hb hml hown hts hK hend hS hl
  have hl : lv_has ls 2 [(0, .ref o), (1, .int v1)] := hl
  refine lv_iload_n hx hb dX0_restore_0 rfl (lv_at hl 1 rfl) ?_
  refine lv_iconst (v := (nI 0)) hx hb dX0_restore_1 (by decide) ?_
  refine lv_iconst (v := (nI 2)) hx hb dX0_restore_2 (by decide) ?_
  refine c_SI hx hb hml hts hown hK hl.1 hS ⟨Nat.le_refl _, Nat.le_refl _⟩ (met_X0_isIn l D dA v1 (nI 0) (nI 2)) (cw_X0_146 hts ⟨Nat.le_of_ble_eq_true rfl, Nat.le_of_ble_eq_true rfl⟩) rfl rfl (Nat.le_of_ble_eq_true rfl) dX0_restore_3 (fun _ h => h.elim) (fun r H1 locs hq hF hS => ?_)
  obtain ⟨rfl, rfl⟩ := hq
  rcases (inZ_cases v1 0 2 (by decide) (by decide)).symm with ⟨hz3, ho3⟩ | ⟨x1, hlo_x1, hhi_x1, rfl, hz3⟩
  · refine iv (y := nI 0) hz3 ?_
    refine n_if_eq (tgt := 18) hx hb dX0_restore_6 (by decide) (by decide) (fun _ => ?_) (fun z => absurd z (by decide))
    refine lv_iconst (v := (nI 0)) hx hb dX0_restore_18 (by decide) ?_
    refine hend _ _ _ _ _ hS dX0_restore_19 (by decide) ?_
    have hans : restoreS f hs hd v1 = (nI 0, f, hs) := (ho3.2 _ _ _)
    rw [hans]
    exact ⟨_, rfl, _, hG, Eqx.rf, rfl, hB, hpa⟩
  refine iv (y := nI 1) hz3 ?_
  have hl : lv_has ls 2 [(0, .ref o), (1, .int (nI x1))] := hl
  refine n_if_eq (tgt := 18) hx hb dX0_restore_6 (by decide) (by decide) (fun z => absurd z (by decide)) (fun _ => ?_)
  refine lv_aload_n hx hb dX0_restore_9 rfl (lv_at hl 0 rfl) ?_
  refine g_get hx hb hts hown hK hG 0 rfl rfl ok_X0 13 (by decide) q535 rfl rfl dX0_restore_10 ?_
  refine lv_iload_n hx hb dX0_restore_13 rfl (lv_at hl 1 rfl) ?_
  refine n_zald hx hb hK hG 74 rfl (by omega) (by decide) dX0_restore_14 ?_
  refine iv (y := (nI (bN (hd x1).isSome))) ((hh x1 (by omega)).1.trans (bI_N _)) ?_
  have hbl := bN_lt (hd x1).isSome
  refine n_if_ne (tgt := 20) hx hb dX0_restore_15 (by decide) (by omega) (fun c15 => ?_) (fun c15 => ?_)
  · obtain ⟨g, hg⟩ : ∃ g, hd x1 = some g := Option.isSome_iff_exists.mp (bN1 (by omega))
    have hbg := (hh x1 (by omega)).2 g hg
    refine lv_aload_n hx hb dX0_restore_20 rfl (lv_at hl 0 rfl) ?_
    refine g_get hx hb hts hown hK hG 0 rfl rfl ok_X0 7 (by decide) q529 rfl rfl dX0_restore_21 ?_
    refine lv_aload_n hx hb dX0_restore_24 rfl (lv_at hl 0 rfl) ?_
    refine g_get hx hb hts hown hK hG 0 rfl rfl ok_X0 10 (by decide) q532 rfl rfl dX0_restore_25 ?_
    refine lv_iload_n hx hb dX0_restore_28 rfl (lv_at hl 1 rfl) ?_
    refine xn_aald hx hb hK 6 (hG 38 _ rfl) rfl (by omega) (by decide) (hsr (x1) (by omega)) dX0_restore_29 ?_
    refine c_VV hx hb hml hts hown hK hl.1 hS ⟨Nat.le_refl _, Nat.le_refl _⟩ (met_X5_takes l D dA (gP_view hG isB15) (gP_view hG (isBs (by omega))) (by omega)) (cw_X0_193 hts ⟨Nat.le_of_ble_eq_true rfl, Nat.le_of_ble_eq_true rfl⟩) ((gP_view hG isB15) 0 _ rfl) rfl rfl rfl rfl (Nat.le_of_ble_eq_true rfl) dX0_restore_30 (fun z hz => hz.elim (AB_AS isB15 z) (AB_AS (isBs (by omega)) z)) (fun H1 locs hq hF hS => ?_)
    obtain ⟨W1, hGv, hGc, hEv, hc9, hc4, hc5, hc6, hc7⟩ := hq
    obtain ⟨V1, hV1⟩ : ∃ X, X = spl V 15 W1 := ⟨_, rfl⟩
    have hGn := gP_back2 hG isB15 (isBs (by omega)) hF hGv hGc
    rw [← hV1] at hGn
    replace hG := hGn
    have hE1 : Eqx PT15 V V1 := by rw [hV1]; exact spl_eqx.mono (fun k j h => h)
    have hb1 : bkS V1 15 (xN T) (g) (xS T) := by rw [hV1]; exact bkS_spl (bkM_cp hn9 hbg hc9 hc4 hc5 hc6 hc7)
    clear hGn hGv hGc hEv hc9 hc4 hc5 hc6 hc7 hV1
    generalize hHe1 : H1 = H at hG hS ⊢
    clear hHe1 hF
    refine lv_aload_n hx hb dX0_restore_33 rfl (lv_at hl 0 rfl) ?_
    refine lv_iconst (v := (nI 0)) hx hb dX0_restore_34 (by decide) ?_
    refine g_put hx hb hts hown hK hG hS 0 (AS_in 0 (by decide)) rfl rfl ok_X0 5 (by decide) q527 rfl rfl rfl rfl dX0_restore_35 (fun H locs hG hO hS => ?_)
    refine lv_iconst (v := (nI 1)) hx hb dX0_restore_38 (by decide) ?_
    refine hend _ _ _ _ _ hS dX0_restore_39 (by decide) ?_
    have hans : restoreS f hs hd (nI x1) = (nI 1, g, []) := (rnp_in hlo_x1 hhi_x1 (by omega)).trans ((by simp only [hg]))
    rw [hans]
    exact ⟨_, rfl, _, hG, ((hE1.mono PT15_PAc).up rfl), rfl, (bkS_to (fun k j hk => up2_n (fun z => by omega)) hb1), ⟨a, ha, Nat.zero_le _, rfl, (hE1 0 6 rfl).trans h6, fun i g h => by simp at h⟩⟩
  have hg : hd x1 = none := by have := bN0 (by omega : bN (hd x1).isSome = 0); simpa using this
  refine lv_iconst (v := (nI 0)) hx hb dX0_restore_18 (by decide) ?_
  refine hend _ _ _ _ _ hS dX0_restore_19 (by decide) ?_
  have hans : restoreS f hs hd (nI x1) = (nI 0, f, hs) := (rnp_in hlo_x1 hhi_x1 (by omega)).trans ((by simp only [hg]))
  rw [hans]
  exact ⟨_, rfl, _, hG, Eqx.rf, rfl, hB, hpa⟩
