theorem PSt_26 : ∀ k j, k ≤ 4 → PSt (26 + k) j = false := by intro k j h; simp only [PSt, Bool.or_eq_false_iff, beq_eq_false_iff_ne, ne_eq]; omega
theorem PSc_26 : ∀ k j, k ≤ 4 → PSc (26 + k) j = false := by intro k j h; simp only [PSc, Bool.or_eq_false_iff, beq_eq_false_iff_ne, ne_eq]; omega
theorem PSt_PT26 : ∀ k j, PT26 k j = false → PSt k j = false := by intro k j h; simp only [PSt, PT26, PBk, Bool.or_eq_false_iff, Bool.and_eq_false_iff, beq_eq_false_iff_ne, ne_eq, decide_eq_false_iff_not] at *; omega
theorem bcN_cn {hit : Nat → Bool} {x : Nat} : ∀ k, (∀ j, j < k → x.testBit j = hit j) → bcN x k = cnF hit k
  | 0, _ => rfl
  | k + 1, h => by
    have ih := bcN_cn k (fun j hj => h j (by omega))
    have hk := h k (by omega)
    rw [Nat.testBit_eq_decide_div_mod_eq] at hk
    simp only [bcN, cnF]
    rw [ih]
    have hm := Nat.mod_lt (x / 2 ^ k) (by decide : 0 < 2)
    by_cases e : x / 2 ^ k % 2 = 1
    · rw [decide_eq_true e] at hk; rw [if_pos hk.symm, e]
    · rw [decide_eq_false e] at hk; rw [if_neg (by rw [← hk]; decide)]; omega
theorem cn_cut {hit : Nat → Bool} {n : Nat} : ∀ k, n ≤ k → cnF (fun j => decide (j < n) && hit j) k = cnF hit n
  | k, h => by
    induction k with
    | zero => obtain rfl : n = 0 := by omega
              rfl
    | succ k ih =>
      by_cases e : n ≤ k
      · have : ¬ ((decide (k < n) && hit k) = true) := by rw [decide_eq_false (by omega), Bool.false_and]; decide
        rw [cnF_f this]; exact ih e
      · obtain rfl : n = k + 1 := by omega
        have key : ∀ m, m ≤ k + 1 → cnF (fun j => decide (j < k + 1) && hit j) m = cnF hit m := by
          intro m
          induction m with
          | zero => intro _; rfl
          | succ m ih2 =>
            intro hm
            have e2 : (decide (m < k + 1) && hit m) = hit m := by rw [decide_eq_true (show m < k + 1 by omega), Bool.true_and]
            simp only [cnF]
            rw [ih2 (by omega)]
            by_cases hh : hit m = true
            · rw [if_pos hh, if_pos (e2.trans hh)]
            · rw [if_neg hh, if_neg (fun z => hh (e2.symm.trans z))]
        exact key _ (Nat.le_refl _)
theorem bc_ob {hit : Nat → Bool} {n : Nat} (hn : n ≤ 9) : bc (obF hit n) = cnF hit n := by
  unfold bc
  rw [bcN_cn (hit := fun j => decide (j < n) && hit j) 9 (fun j _ => ob_tb n), cn_cut 9 hn]
theorem cbJ_s {G : Nat → Nat → Nat} {a b y : Nat} {op : Option Nat} {s : Option Nat × Nat} (h : cbJ G a b s = (op, y)) (hab : a < b) : cbJ G a (b + 1) s = if y < G a b then (some (10 * a + b), G a b) else (op, y) := by
  simp only [cbJ]
  rw [if_pos hab, h]; rfl
theorem sh_t {f : Rw} {b : Nat} (h : ¬ f (27 + b) ≤ nI 0) : shB f b = true := decide_eq_true (Int32.not_le.mp h)
theorem sh_f {f : Rw} {b : Nat} (h : f (27 + b) ≤ nI 0) : shB f b = false := decide_eq_false (Int32.not_lt.mpr h)
theorem rd_RV {T : Txt} {f : Rw} (h : RV (xN T) f) : ∀ k, RV (xN T) (rdR T f k)
  | 0 => h
  | k + 1 => hour_RV _ _ _ _
set_option maxHeartbeats 4000000 in
theorem met_X0_again (l : Launch) (D : va_G) (dA : Nat → ClassId) {o : Nat} {V : GI} {L : GL} {Rf : GR} {H0 : Heap} (hG : gP D dA o dS V L Rf H0) {O : Nat → Prop} {tx : Nat} {T : Txt} {f : Rw} (hC : clS D dA H0 O o V Rf tx T f) (hOA : ∀ z, O z → ¬ AS o z)  : Ctr l D dA yX0_again cX0_again 2 (some .int) (mkRm 410 9700) [.ref o] H0 (AS o) (QI (fun r H1 => ∃ V1, gP D dA o dS V1 L Rf H1 ∧ Eqx PQw V V1 ∧ r = againA T f)) := by
  have hC0 := hC
  obtain ⟨hX, htx, hB, hrv, hsd1, hsd2⟩ := hC
  have hX0 := hX
  have hn9 := txA_n hX
  have hp2 := two9 hn9
  have hpp := Nat.two_pow_pos (xN T)
  obtain ⟨fsx, hatx⟩ := txA_at hX
  have hotx := txA_o hX
  have hOAb : ∀ z, O z → ¬ AB (o + 26) z := fun z hz hb => hOA z hz (AB_AS isB26 z hb)
  have hrl0 := rbF_lt f (xN T)
  refine ctr_I (by decide) (Nat.le_of_ble_eq_true rfl) ?_
  intro p e s m args below meth c ls QQ locs hx hb hml hown hts hK hend hS hl
  have hl : lv_has ls 2 [(0, .ref o)] := hl
  refine lv_aload_n hx hb dX0_again_0 rfl (lv_at hl 0 rfl) ?_
  refine g_get hx hb hts hown hK hG 0 rfl rfl ok_X0 8 (by decide) q530 rfl rfl dX0_again_1 ?_
  refine lv_aload_n hx hb dX0_again_4 rfl (lv_at hl 0 rfl) ?_
  refine g_get hx hb hts hown hK hG 0 rfl rfl ok_X0 7 (by decide) q529 rfl rfl dX0_again_5 ?_
  refine c_VV hx hb hml hts hown hK hl.1 hS ⟨Nat.le_refl _, Nat.le_refl _⟩ (met_X5_takes l D dA (gP_view hG isB26) (gP_view hG isB15) (by omega)) (cw_X0_193 hts ⟨Nat.le_of_ble_eq_true rfl, Nat.le_of_ble_eq_true rfl⟩) (hG 26 _ rfl) rfl rfl rfl rfl (Nat.le_of_ble_eq_true rfl) dX0_again_8 (fun z hz => hz.elim (AB_AS isB26 z) (AB_AS isB15 z)) (fun H1 locs hq hF hS => ?_)
  obtain ⟨W1, hGv, hGc, hEv, hc9, hc4, hc5, hc6, hc7⟩ := hq
  obtain ⟨V1, hV1⟩ : ∃ X, X = spl V 26 W1 := ⟨_, rfl⟩
  have hGn := gP_back2 hG isB26 isB15 hF hGv hGc
  rw [← hV1] at hGn
  replace hG := hGn
  have hE1 : Eqx PT26 V V1 := by rw [hV1]; exact spl_eqx
  have hb1 : bkS V1 26 (xN T) (f) (xS T) := by rw [hV1]; exact bkS_spl (bkM_cp hn9 hB hc9 hc4 hc5 hc6 hc7)
  clear hGn hGv hGc hEv hc9 hc4 hc5 hc6 hc7 hV1
  generalize hHe1 : H1 = H at hG hS ⊢
  clear hHe1 hF
  refine lv_iconst (v := (nI 1)) hx hb dX0_again_11 (by decide) ?_
  refine lv_istore_n (lv' := [(1, .int (nI 1)), (0, .ref o)]) hx hb dX0_again_12 rfl hl (by decide) rfl (fun ls hl => ?_)
  have loop2 : ∀ (fu2 : Nat) (k : Nat) (u : Nat) (V2 : GI) (H : Heap) (locs : List Loc) (ls : Array Slot), u < fu2 → (k + u = 240) → (fsF (agP T f) u (k + 1) = fsF (agP T f) 240 1) → (Eqx PQw V1 V2) → (bkS V2 26 (xN T) (goF T (nI 1) (xS T) k f) (xS T)) → gP D dA o dS V2 L Rf H → va_S (AS o) H0 H locs → lv_has ls 2 [(1, .int (nI (k + 1))), (0, .ref o)] → W p l e (mkRm 410 9700) s m args below meth c H locs 0 0 QQ (F0 m 13 ls []) := by
    intro fu2
    induction fu2 with
    | zero => intro k u V2 H locs ls hfu; exact absurd hfu (Nat.not_lt_zero _)
    | succ fu2 ih2 =>
      intro k u V2 H locs ls hfu hku hR hE2 hbk hG hS hl
      refine lv_iload_n hx hb dX0_again_13 rfl (lv_at hl 0 rfl) ?_
      refine lv_sipush (v := (nI 240)) hx hb dX0_again_14 (by decide) ?_
      refine n_icmp_gt (tgt := 60) hx hb dX0_again_17 (by decide) (by omega) (by omega) (fun c17 => ?_) (fun c17 => ?_)
      · refine lv_bipush (v := (-2)) hx hb dX0_again_60 (by decide) ?_
        refine hend _ _ _ _ _ hS dX0_again_62 ?_
        exact ⟨_, rfl, _, hG, ((hE1.mono PT26_PQw).trans hE2), ((hR.symm.trans (show fsF _ u _ = -2 by obtain rfl : u = 0 := (by omega); rfl))).symm⟩
      obtain ⟨u, rfl⟩ : ∃ u1, u = u1 + 1 := ⟨u - 1, by omega⟩
      refine lv_aload_n hx hb dX0_again_20 rfl (lv_at hl 1 rfl) ?_
      refine g_get hx hb hts hown hK hG 0 rfl rfl ok_X0 8 (by decide) q530 rfl rfl dX0_again_21 ?_
      refine lv_aload_n hx hb dX0_again_24 rfl (lv_at hl 1 rfl) ?_
      refine g_get (v := .ref tx) hx hb hts hown hK hG 0 rfl rfl ok_X0 3 (by decide) q525 rfl (congrArg va_rf htx) dX0_again_25 ?_
      refine lv_aload_n hx hb dX0_again_28 rfl (lv_at hl 1 rfl) ?_
      refine g_get hx hb hts hown hK hG 0 rfl rfl ok_X0 12 (by decide) q534 rfl rfl dX0_again_29 ?_
      refine c_VV hx hb hml hts hown hK hl.1 hS ⟨Nat.le_refl _, Nat.le_refl _⟩ (met_X5_goesBy l D dA (gP_view hG isB26) (txA_S hX0 hS hOA) hOAb hsd2 hbk (go_RV hrv k) (ni73 hG) (fun z => by have h1 := z.1; have h2 := z.2; omega)) (cw_X0_211 hts ⟨Nat.le_of_ble_eq_true rfl, Nat.le_of_ble_eq_true rfl⟩) ((gP_view hG isB26) 0 _ rfl) rfl rfl rfl rfl (Nat.le_of_ble_eq_true rfl) dX0_again_32 (AB_AS isB26) (fun H1 locs hq hF hS => ?_)
      obtain ⟨W3, hGv, hEv, hbn3⟩ := hq
      obtain ⟨V3, hV3⟩ : ∃ X, X = spl V2 26 W3 := ⟨_, rfl⟩
      have hGn := gP_back hG isB26 hF (fun _ h => h) hGv
      rw [← hV3] at hGn
      replace hG := hGn
      have hE3 : Eqx PT26 V2 V3 := by rw [hV3]; exact spl_eqx
      have hb3 : bkS V3 26 (xN T) (hourF T (nI 1) (xS T) (goF T (nI 1) (xS T) k f)) (xS T) := by rw [hV3]; exact bkS_spl hbn3
      clear hGn hGv hEv hbn3 hV3
      generalize hHe3 : H1 = H at hG hS ⊢
      clear hHe3 hF
      have hb3n : bkS V3 26 (xN T) (goF T (nI 1) (xS T) (k + 1) f) (xS T) := hb3
      have hrl3 := rbF_lt (goF T (nI 1) (xS T) (k + 1) f) (xN T)
      refine lv_aload_n hx hb dX0_again_35 rfl (lv_at hl 1 rfl) ?_
      refine g_get hx hb hts hown hK hG 0 rfl rfl ok_X0 8 (by decide) q530 rfl rfl dX0_again_36 ?_
      refine g_get (v := .int (nI (rbF (goF T (nI 1) (xS T) (k + 1) f) (xN T)))) hx hb hts hown hK hG 26 rfl rfl ok_X5 4 (by decide) q442 rfl (congrArg Value.int hb3n.1.1) dX0_again_39 ?_
      refine lv_aload_n hx hb dX0_again_42 rfl (lv_at hl 1 rfl) ?_
      refine g_get hx hb hts hown hK hG 0 rfl rfl ok_X0 7 (by decide) q529 rfl rfl dX0_again_43 ?_
      refine g_get (v := .int (nI (rbF f (xN T)))) hx hb hts hown hK hG 15 rfl rfl ok_X5 4 (by decide) q442 rfl (congrArg Value.int (((hE3 15 4 rfl).trans ((hE2 15 4 rfl).trans (hE1 15 4 rfl))).trans hB.1.1)) dX0_again_46 ?_
      refine n_icmp_ne (tgt := 54) hx hb dX0_again_49 (by decide) (by omega) (by omega) (fun c49 => ?_) (fun c49 => ?_)
      · refine lv_iinc (v := (nI ((k + 1) + 1))) (lv' := [(1, .int (nI ((k + 1) + 1))), (0, .ref o)]) hx hb dX0_again_54 hl (k := 0) rfl (nI_add _ _) (by decide) rfl (fun ls hl => ?_)
        refine lv_goto (tgt := 13) hx hb dX0_again_57 (by decide) ?_
        exact ih2 (k + 1) u V3 _ _ _ (by omega) (by omega) ((fsF_f (fun z => c49 (of_decide_eq_true z))).symm.trans hR) (Eqx.trans hE2 (hE3.mono PT26_PQw)) hb3n hG hS (lv_sub hl [0, 1] rfl)
      refine lv_iload_n hx hb dX0_again_52 rfl (lv_at hl 0 rfl) ?_
      refine hend _ _ _ _ _ hS dX0_again_53 ?_
      exact ⟨_, rfl, _, hG, (((hE1.mono PT26_PQw).trans hE2).trans (hE3.mono PT26_PQw)), ((hR.symm.trans (fsF_t (decide_eq_true c49)))).symm⟩
  exact loop2 (240 + 1) 0 240 V1 _ _ _ (Nat.lt_succ_self _) rfl rfl Eqx.rf hb1 hG hS (lv_sub hl [0, 1] rfl)
set_option maxHeartbeats 4000000 in
theorem met_X0_leave (l : Launch) (D : va_G) (dA : Nat → ClassId) {o : Nat} {V : GI} {L : GL} {Rf : GR} {H0 : Heap} (hG : gP D dA o dS V L Rf H0) {O : Nat → Prop} {tx : Nat} {T : Txt} {f : Rw} (hC : clS D dA H0 O o V Rf tx T f) (hOA : ∀ z, O z → ¬ AS o z) (v1 : Int32) : Ctr l D dA yX0_leave cX0_leave 3 (some .int) (mkRm 410 9700) [.ref o, .int v1] H0 (AS o) (QI (fun r H1 => ∃ V1, gP D dA o dS V1 L Rf H1 ∧ Eqx PQw V V1 ∧ r = leaveA T f v1)) := by
  have hC0 := hC
  obtain ⟨hX, htx, hB, hrv, hsd1, hsd2⟩ := hC
  have hX0 := hX
  have hn9 := txA_n hX
  have hp2 := two9 hn9
  have hpp := Nat.two_pow_pos (xN T)
  obtain ⟨fsx, hatx⟩ := txA_at hX
  have hotx := txA_o hX
  have hOAb : ∀ z, O z → ¬ AB (o + 26) z := fun z hz hb => hOA z hz (AB_AS isB26 z hb)
  have hrl0 := rbF_lt f (xN T)
  refine ctr_I (by decide) (Nat.le_of_ble_eq_true rfl) ?_
  intro p e s m args below meth c ls QQ locs hx hb hml hown hts hK hend hS hl
  have hl : lv_has ls 3 [(0, .ref o), (1, .int v1)] := hl
  refine lv_aload_n hx hb dX0_leave_0 rfl (lv_at hl 0 rfl) ?_
  refine lv_iload_n hx hb dX0_leave_1 rfl (lv_at hl 1 rfl) ?_
  refine c_VI hx hb hml hts hown hK hl.1 hS ⟨Nat.le_refl _, Nat.le_refl _⟩ (met_X0_isBed l D dA hG (txA_S hX0 hS hOA) htx v1) (cw_X0_150 hts ⟨Nat.le_of_ble_eq_true rfl, Nat.le_of_ble_eq_true rfl⟩) (hG 0 _ rfl) rfl rfl rfl rfl (Nat.le_of_ble_eq_true rfl) dX0_leave_2 (fun _ h => h.elim) (fun r H1 locs hq hF hS => ?_)
  obtain ⟨rfl, rfl⟩ := hq
  rcases (bedN_cases hn9 v1).symm with ⟨hz2, ho2⟩ | ⟨x1, hlo_x1, hhi_x1, rfl, hz2⟩
  · refine iv (y := nI 0) hz2 ?_
    refine n_if_ne (tgt := 10) hx hb dX0_leave_5 (by decide) (by decide) (fun z => absurd z (by decide)) (fun _ => ?_)
    refine lv_iconst (v := (-1)) hx hb dX0_leave_8 (by decide) ?_
    refine hend _ _ _ _ _ hS dX0_leave_9 ?_
    exact ⟨_, rfl, _, hG, Eqx.rf, ((ho2.1 _ _)).symm⟩
  refine iv (y := nI 1) hz2 ?_
  have hl : lv_has ls 3 [(0, .ref o), (1, .int (nI x1))] := hl
  refine n_if_ne (tgt := 10) hx hb dX0_leave_5 (by decide) (by decide) (fun _ => ?_) (fun z => absurd z (by decide))
  refine lv_aload_n hx hb dX0_leave_10 rfl (lv_at hl 0 rfl) ?_
  refine g_get hx hb hts hown hK hG 0 rfl rfl ok_X0 8 (by decide) q530 rfl rfl dX0_leave_11 ?_
  refine lv_aload_n hx hb dX0_leave_14 rfl (lv_at hl 0 rfl) ?_
  refine g_get hx hb hts hown hK hG 0 rfl rfl ok_X0 7 (by decide) q529 rfl rfl dX0_leave_15 ?_
  refine c_VV hx hb hml hts hown hK hl.1 hS ⟨Nat.le_refl _, Nat.le_refl _⟩ (met_X5_takes l D dA (gP_view hG isB26) (gP_view hG isB15) (by omega)) (cw_X0_193 hts ⟨Nat.le_of_ble_eq_true rfl, Nat.le_of_ble_eq_true rfl⟩) (hG 26 _ rfl) rfl rfl rfl rfl (Nat.le_of_ble_eq_true rfl) dX0_leave_18 (fun z hz => hz.elim (AB_AS isB26 z) (AB_AS isB15 z)) (fun H1 locs hq hF hS => ?_)
  obtain ⟨W1, hGv, hGc, hEv, hc9, hc4, hc5, hc6, hc7⟩ := hq
  obtain ⟨V1, hV1⟩ : ∃ X, X = spl V 26 W1 := ⟨_, rfl⟩
  have hGn := gP_back2 hG isB26 isB15 hF hGv hGc
  rw [← hV1] at hGn
  replace hG := hGn
  have hE1 : Eqx PT26 V V1 := by rw [hV1]; exact spl_eqx
  have hb1 : bkS V1 26 (xN T) (f) (xS T) := by rw [hV1]; exact bkS_spl (bkM_cp hn9 hB hc9 hc4 hc5 hc6 hc7)
  clear hGn hGv hGc hEv hc9 hc4 hc5 hc6 hc7 hV1
  generalize hHe1 : H1 = H at hG hS ⊢
  clear hHe1 hF
  refine lv_iconst (v := (nI 1)) hx hb dX0_leave_21 (by decide) ?_
  refine lv_istore_n (lv' := [(2, .int (nI 1)), (0, .ref o), (1, .int (nI x1))]) hx hb dX0_leave_22 rfl hl (by decide) rfl (fun ls hl => ?_)
  have loop2 : ∀ (fu2 : Nat) (k : Nat) (u : Nat) (V2 : GI) (H : Heap) (locs : List Loc) (ls : Array Slot), u < fu2 → (k + u = 240) → (fsF (lvP T f x1) u (k + 1) = fsF (lvP T f x1) 240 1) → (Eqx PQw V1 V2) → (bkS V2 26 (xN T) (goF T (nI 1) (xS T) k f) (xS T)) → gP D dA o dS V2 L Rf H → va_S (AS o) H0 H locs → lv_has ls 3 [(2, .int (nI (k + 1))), (0, .ref o), (1, .int (nI x1))] → W p l e (mkRm 410 9700) s m args below meth c H locs 0 0 QQ (F0 m 23 ls []) := by
    intro fu2
    induction fu2 with
    | zero => intro k u V2 H locs ls hfu; exact absurd hfu (Nat.not_lt_zero _)
    | succ fu2 ih2 =>
      intro k u V2 H locs ls hfu hku hR hE2 hbk hG hS hl
      refine lv_iload_n hx hb dX0_leave_23 rfl (lv_at hl 0 rfl) ?_
      refine lv_sipush (v := (nI 240)) hx hb dX0_leave_24 (by decide) ?_
      refine n_icmp_gt (tgt := 90) hx hb dX0_leave_27 (by decide) (by omega) (by omega) (fun c27 => ?_) (fun c27 => ?_)
      · refine lv_bipush (v := (-2)) hx hb dX0_leave_90 (by decide) ?_
        refine hend _ _ _ _ _ hS dX0_leave_92 ?_
        exact ⟨_, rfl, _, hG, ((hE1.mono PT26_PQw).trans hE2), ((rng_in hlo_x1 hhi_x1 (by omega)).trans ((hR.symm.trans (show fsF _ u _ = -2 by obtain rfl : u = 0 := (by omega); rfl)))).symm⟩
      obtain ⟨u, rfl⟩ : ∃ u1, u = u1 + 1 := ⟨u - 1, by omega⟩
      refine lv_aload_n hx hb dX0_leave_30 rfl (lv_at hl 1 rfl) ?_
      refine g_get hx hb hts hown hK hG 0 rfl rfl ok_X0 8 (by decide) q530 rfl rfl dX0_leave_31 ?_
      refine lv_aload_n hx hb dX0_leave_34 rfl (lv_at hl 1 rfl) ?_
      refine g_get (v := .ref tx) hx hb hts hown hK hG 0 rfl rfl ok_X0 3 (by decide) q525 rfl (congrArg va_rf htx) dX0_leave_35 ?_
      refine lv_aload_n hx hb dX0_leave_38 rfl (lv_at hl 1 rfl) ?_
      refine g_get hx hb hts hown hK hG 0 rfl rfl ok_X0 12 (by decide) q534 rfl rfl dX0_leave_39 ?_
      refine c_VV hx hb hml hts hown hK hl.1 hS ⟨Nat.le_refl _, Nat.le_refl _⟩ (met_X5_goesBy l D dA (gP_view hG isB26) (txA_S hX0 hS hOA) hOAb hsd2 hbk (go_RV hrv k) (ni73 hG) (fun z => by have h1 := z.1; have h2 := z.2; omega)) (cw_X0_211 hts ⟨Nat.le_of_ble_eq_true rfl, Nat.le_of_ble_eq_true rfl⟩) ((gP_view hG isB26) 0 _ rfl) rfl rfl rfl rfl (Nat.le_of_ble_eq_true rfl) dX0_leave_42 (AB_AS isB26) (fun H1 locs hq hF hS => ?_)
      obtain ⟨W3, hGv, hEv, hbn3⟩ := hq
      obtain ⟨V3, hV3⟩ : ∃ X, X = spl V2 26 W3 := ⟨_, rfl⟩
      have hGn := gP_back hG isB26 hF (fun _ h => h) hGv
      rw [← hV3] at hGn
      replace hG := hGn
      have hE3 : Eqx PT26 V2 V3 := by rw [hV3]; exact spl_eqx
      have hb3 : bkS V3 26 (xN T) (hourF T (nI 1) (xS T) (goF T (nI 1) (xS T) k f)) (xS T) := by rw [hV3]; exact bkS_spl hbn3
      clear hGn hGv hEv hbn3 hV3
      generalize hHe3 : H1 = H at hG hS ⊢
      clear hHe3 hF
      have hb3n : bkS V3 26 (xN T) (goF T (nI 1) (xS T) (k + 1) f) (xS T) := hb3
      have hrl3 := rbF_lt (goF T (nI 1) (xS T) (k + 1) f) (xN T)
      refine lv_aload_n hx hb dX0_leave_45 rfl (lv_at hl 1 rfl) ?_
      refine g_get hx hb hts hown hK hG 0 rfl rfl ok_X0 8 (by decide) q530 rfl rfl dX0_leave_46 ?_
      refine g_get hx hb hts hown hK hG 26 rfl rfl ok_X5 1 (by decide) q436 rfl rfl dX0_leave_49 ?_
      refine lv_iload_n hx hb dX0_leave_52 rfl (lv_at hl 2 rfl) ?_
      refine n_iald hx hb hK hG 28 rfl (by omega) (by decide) dX0_leave_53 ?_
      refine iv (y := ((goF T (nI 1) (xS T) (k + 1) f) (27 + x1))) (hb3n.1.2.2.2 x1 (by omega)) ?_
      refine lv_if_le (tgt := 61) hx hb dX0_leave_54 (by decide) (fun c54 => ?_) (fun c54 => ?_)
      · have s1 := sh_f (f := goF T (nI 1) (xS T) (k + 1) f) (b := x1) c54
        refine lv_iconst (v := (nI 0)) hx hb dX0_leave_61 (by decide) ?_
        refine lv_aload_n hx hb dX0_leave_62 rfl (lv_at hl 1 rfl) ?_
        refine g_get hx hb hts hown hK hG 0 rfl rfl ok_X0 7 (by decide) q529 rfl rfl dX0_leave_63 ?_
        refine g_get hx hb hts hown hK hG 15 rfl rfl ok_X5 1 (by decide) q436 rfl rfl dX0_leave_66 ?_
        refine lv_iload_n hx hb dX0_leave_69 rfl (lv_at hl 2 rfl) ?_
        refine n_iald hx hb hK hG 17 rfl (by omega) (by decide) dX0_leave_70 ?_
        refine iv (y := (f (27 + x1))) (((hE3 17 x1 rfl).trans ((hE2 17 x1 rfl).trans (hE1 17 x1 rfl))).trans (hB.1.2.2.2 x1 (by omega))) ?_
        refine lv_if_le (tgt := 78) hx hb dX0_leave_71 (by decide) (fun c71 => ?_) (fun c71 => ?_)
        · have s2 := sh_f (f := f) (b := x1) c71
          refine lv_iconst (v := (nI 0)) hx hb dX0_leave_78 (by decide) ?_
          refine n_icmp_eq (tgt := 84) hx hb dX0_leave_79 (by decide) (by decide) (by decide) (fun _ => ?_) (fun z => absurd z (by decide))
          refine lv_iinc (v := (nI ((k + 1) + 1))) (lv' := [(2, .int (nI ((k + 1) + 1))), (0, .ref o), (1, .int (nI x1))]) hx hb dX0_leave_84 hl (k := 0) rfl (nI_add _ _) (by decide) rfl (fun ls hl => ?_)
          refine lv_goto (tgt := 23) hx hb dX0_leave_87 (by decide) ?_
          exact ih2 (k + 1) u V3 _ _ _ (by omega) (by omega) ((fsF_f (fun z => absurd (s1.trans s2.symm) (of_decide_eq_true (p := ¬ shB (goF T (nI 1) (xS T) (k + 1) f) x1 = shB f x1) z))).symm.trans hR) (Eqx.trans hE2 (hE3.mono PT26_PQw)) hb3n hG hS (lv_sub hl [0, 1, 2] rfl)
        have s2 := sh_t (f := f) (b := x1) c71
        refine lv_iconst (v := (nI 1)) hx hb dX0_leave_74 (by decide) ?_
        refine lv_goto (tgt := 79) hx hb dX0_leave_75 (by decide) ?_
        refine n_icmp_eq (tgt := 84) hx hb dX0_leave_79 (by decide) (by decide) (by decide) (fun z => absurd z (by decide)) (fun _ => ?_)
        refine lv_iload_n hx hb dX0_leave_82 rfl (lv_at hl 0 rfl) ?_
        refine hend _ _ _ _ _ hS dX0_leave_83 ?_
        exact ⟨_, rfl, _, hG, (((hE1.mono PT26_PQw).trans hE2).trans (hE3.mono PT26_PQw)), ((rng_in hlo_x1 hhi_x1 (by omega)).trans ((hR.symm.trans (fsF_t (decide_eq_true (fun z => absurd (s1.symm.trans (z.trans s2)) (by decide))))))).symm⟩
      have s1 := sh_t (f := goF T (nI 1) (xS T) (k + 1) f) (b := x1) c54
      refine lv_iconst (v := (nI 1)) hx hb dX0_leave_57 (by decide) ?_
      refine lv_goto (tgt := 62) hx hb dX0_leave_58 (by decide) ?_
      refine lv_aload_n hx hb dX0_leave_62 rfl (lv_at hl 1 rfl) ?_
      refine g_get hx hb hts hown hK hG 0 rfl rfl ok_X0 7 (by decide) q529 rfl rfl dX0_leave_63 ?_
      refine g_get hx hb hts hown hK hG 15 rfl rfl ok_X5 1 (by decide) q436 rfl rfl dX0_leave_66 ?_
      refine lv_iload_n hx hb dX0_leave_69 rfl (lv_at hl 2 rfl) ?_
      refine n_iald hx hb hK hG 17 rfl (by omega) (by decide) dX0_leave_70 ?_
      refine iv (y := (f (27 + x1))) (((hE3 17 x1 rfl).trans ((hE2 17 x1 rfl).trans (hE1 17 x1 rfl))).trans (hB.1.2.2.2 x1 (by omega))) ?_
      refine lv_if_le (tgt := 78) hx hb dX0_leave_71 (by decide) (fun c71 => ?_) (fun c71 => ?_)
      · have s2 := sh_f (f := f) (b := x1) c71
        refine lv_iconst (v := (nI 0)) hx hb dX0_leave_78 (by decide) ?_
        refine n_icmp_eq (tgt := 84) hx hb dX0_leave_79 (by decide) (by decide) (by decide) (fun z => absurd z (by decide)) (fun _ => ?_)
        refine lv_iload_n hx hb dX0_leave_82 rfl (lv_at hl 0 rfl) ?_
        refine hend _ _ _ _ _ hS dX0_leave_83 ?_
        exact ⟨_, rfl, _, hG, (((hE1.mono PT26_PQw).trans hE2).trans (hE3.mono PT26_PQw)), ((rng_in hlo_x1 hhi_x1 (by omega)).trans ((hR.symm.trans (fsF_t (decide_eq_true (fun z => absurd (s1.symm.trans (z.trans s2)) (by decide))))))).symm⟩
      have s2 := sh_t (f := f) (b := x1) c71
      refine lv_iconst (v := (nI 1)) hx hb dX0_leave_74 (by decide) ?_
      refine lv_goto (tgt := 79) hx hb dX0_leave_75 (by decide) ?_
      refine n_icmp_eq (tgt := 84) hx hb dX0_leave_79 (by decide) (by decide) (by decide) (fun _ => ?_) (fun z => absurd z (by decide))
      refine lv_iinc (v := (nI ((k + 1) + 1))) (lv' := [(2, .int (nI ((k + 1) + 1))), (0, .ref o), (1, .int (nI x1))]) hx hb dX0_leave_84 hl (k := 0) rfl (nI_add _ _) (by decide) rfl (fun ls hl => ?_)
      refine lv_goto (tgt := 23) hx hb dX0_leave_87 (by decide) ?_
      exact ih2 (k + 1) u V3 _ _ _ (by omega) (by omega) ((fsF_f (fun z => absurd (s1.trans s2.symm) (of_decide_eq_true (p := ¬ shB (goF T (nI 1) (xS T) (k + 1) f) x1 = shB f x1) z))).symm.trans hR) (Eqx.trans hE2 (hE3.mono PT26_PQw)) hb3n hG hS (lv_sub hl [0, 1, 2] rfl)
  exact loop2 (240 + 1) 0 240 V1 _ _ _ (Nat.lt_succ_self _) rfl rfl Eqx.rf hb1 hG hS (lv_sub hl [0, 1, 2] rfl)
set_option maxHeartbeats 4000000 in
theorem met_X0_shows (l : Launch) (D : va_G) (dA : Nat → ClassId) {o : Nat} {V : GI} {L : GL} {Rf : GR} {H0 : Heap} (hG : gP D dA o dS V L Rf H0) {O : Nat → Prop} {tx : Nat} {T : Txt} {f : Rw} (hC : clS D dA H0 O o V Rf tx T f) (hOA : ∀ z, O z → ¬ AS o z) (v1 : Int32) : Ctr l D dA yX0_shows cX0_shows 4 (some .int) (mkRm 410 9700) [.ref o, .int v1] H0 (AS o) (QI (fun r H1 => ∃ V1, gP D dA o dS V1 L Rf H1 ∧ Eqx PQw V V1 ∧ r = showsA T f v1)) := by
  have hC0 := hC
  obtain ⟨hX, htx, hB, hrv, hsd1, hsd2⟩ := hC
  have hX0 := hX
  have hn9 := txA_n hX
  have hp2 := two9 hn9
  have hpp := Nat.two_pow_pos (xN T)
  obtain ⟨fsx, hatx⟩ := txA_at hX
  have hotx := txA_o hX
  have hOAb : ∀ z, O z → ¬ AB (o + 26) z := fun z hz hb => hOA z hz (AB_AS isB26 z hb)
  have hrl0 := rbF_lt f (xN T)
  refine ctr_I (by decide) (Nat.le_of_ble_eq_true rfl) ?_
  intro p e s m args below meth c ls QQ locs hx hb hml hown hts hK hend hS hl
  have hl : lv_has ls 4 [(0, .ref o), (1, .int v1)] := hl
  refine lv_iload_n hx hb dX0_shows_0 rfl (lv_at hl 1 rfl) ?_
  refine c_SI hx hb hml hts hown hK hl.1 hS ⟨Nat.le_refl _, Nat.le_refl _⟩ (met_X0_isAhead l D dA v1) (cw_X0_215 hts ⟨Nat.le_of_ble_eq_true rfl, Nat.le_of_ble_eq_true rfl⟩) rfl rfl (Nat.le_of_ble_eq_true rfl) dX0_shows_1 (fun _ h => h.elim) (fun r H1 locs hq hF hS => ?_)
  obtain ⟨rfl, rfl⟩ := hq
  rcases (inZ_cases v1 0 48 (by decide) (by decide)).symm with ⟨hz1, ho1⟩ | ⟨x1, hlo_x1, hhi_x1, rfl, hz1⟩
  · refine iv (y := nI 0) hz1 ?_
    refine n_if_ne (tgt := 9) hx hb dX0_shows_4 (by decide) (by decide) (fun z => absurd z (by decide)) (fun _ => ?_)
    refine lv_iconst (v := (-1)) hx hb dX0_shows_7 (by decide) ?_
    refine hend _ _ _ _ _ hS dX0_shows_8 ?_
    exact ⟨_, rfl, _, hG, Eqx.rf, ((ho1.1 _ _)).symm⟩
  refine iv (y := nI 1) hz1 ?_
  have hl : lv_has ls 4 [(0, .ref o), (1, .int (nI x1))] := hl
  refine n_if_ne (tgt := 9) hx hb dX0_shows_4 (by decide) (by decide) (fun _ => ?_) (fun z => absurd z (by decide))
  refine lv_iconst (v := (nI 0)) hx hb dX0_shows_9 (by decide) ?_
  refine lv_istore_n (lv' := [(2, .int (nI 0)), (0, .ref o), (1, .int (nI x1))]) hx hb dX0_shows_10 rfl hl (by decide) rfl (fun ls hl => ?_)
  refine lv_aload_n hx hb dX0_shows_11 rfl (lv_at hl 1 rfl) ?_
  refine g_get hx hb hts hown hK hG 0 rfl rfl ok_X0 8 (by decide) q530 rfl rfl dX0_shows_12 ?_
  refine lv_aload_n hx hb dX0_shows_15 rfl (lv_at hl 1 rfl) ?_
  refine g_get hx hb hts hown hK hG 0 rfl rfl ok_X0 7 (by decide) q529 rfl rfl dX0_shows_16 ?_
  refine c_VV hx hb hml hts hown hK hl.1 hS ⟨Nat.le_refl _, Nat.le_refl _⟩ (met_X5_takes l D dA (gP_view hG isB26) (gP_view hG isB15) (by omega)) (cw_X0_193 hts ⟨Nat.le_of_ble_eq_true rfl, Nat.le_of_ble_eq_true rfl⟩) (hG 26 _ rfl) rfl rfl rfl rfl (Nat.le_of_ble_eq_true rfl) dX0_shows_19 (fun z hz => hz.elim (AB_AS isB26 z) (AB_AS isB15 z)) (fun H1 locs hq hF hS => ?_)
  obtain ⟨W1, hGv, hGc, hEv, hc9, hc4, hc5, hc6, hc7⟩ := hq
  obtain ⟨V1, hV1⟩ : ∃ X, X = spl V 26 W1 := ⟨_, rfl⟩
  have hGn := gP_back2 hG isB26 isB15 hF hGv hGc
  rw [← hV1] at hGn
  replace hG := hGn
  have hE1 : Eqx PT26 V V1 := by rw [hV1]; exact spl_eqx
  have hb1 : bkS V1 26 (xN T) (f) (xS T) := by rw [hV1]; exact bkS_spl (bkM_cp hn9 hB hc9 hc4 hc5 hc6 hc7)
  clear hGn hGv hGc hEv hc9 hc4 hc5 hc6 hc7 hV1
  generalize hHe1 : H1 = H at hG hS ⊢
  clear hHe1 hF
  refine lv_aload_n hx hb dX0_shows_22 rfl (lv_at hl 1 rfl) ?_
  refine lv_aload_n hx hb dX0_shows_23 rfl (lv_at hl 1 rfl) ?_
  refine g_get hx hb hts hown hK hG 0 rfl rfl ok_X0 8 (by decide) q530 rfl rfl dX0_shows_24 ?_
  refine lv_iload_n hx hb dX0_shows_27 rfl (lv_at hl 2 rfl) ?_
  refine lv_aload_n hx hb dX0_shows_28 rfl (lv_at hl 1 rfl) ?_
  refine g_get hx hb hts hown hK hG 0 rfl rfl ok_X0 12 (by decide) q534 rfl rfl dX0_shows_29 ?_
  refine c_VV hx hb hml hts hown hK hl.1 hS ⟨Nat.le_refl _, Nat.le_refl _⟩ (met_X0_runs l D dA hG (txA_S hX0 hS hOA) htx isB26 (fun z hz hb => hOA z hz (AB_AS isB26 z hb)) hsd2 hb1 hrv (ni73 hG) (fun z => by have h1 := z.1; have h2 := z.2; omega) x1 (by omega)) (cw_X0_218 hts ⟨Nat.le_of_ble_eq_true rfl, Nat.le_of_ble_eq_true rfl⟩) (hG 0 _ rfl) rfl rfl rfl rfl (Nat.le_of_ble_eq_true rfl) dX0_shows_32 (AB_AS isB26) (fun H1 locs hq hF hS => ?_)
  obtain ⟨V2, hG, hE2, hb2⟩ := hq
  generalize hHe2 : H1 = H at hG hS ⊢
  clear hHe2
  have hrl2 := rbF_lt (goF T (nI 1) (xS T) x1 (f)) (xN T)
  refine lv_iconst (v := (nI 0)) hx hb dX0_shows_35 (by decide) ?_
  refine lv_istore_n (lv' := [(3, .int (nI 0)), (2, .int (nI 0)), (0, .ref o), (1, .int (nI x1))]) hx hb dX0_shows_36 rfl hl (by decide) rfl (fun ls hl => ?_)
  have loop3 : ∀ (fu3 : Nat) (b : Nat) (u : Nat) (locs : List Loc) (ls : Array Slot), xN T - b < fu3 → (b ≤ xN T) → (cnF (shB (goF T (nI 1) (xS T) x1 f)) b = u) → va_S (AS o) H0 H locs → lv_has ls 4 [(3, .int (nI b)), (2, .int (nI u)), (0, .ref o), (1, .int (nI x1))] → W p l e (mkRm 410 9700) s m args below meth c H locs 0 0 QQ (F0 m 37 ls []) := by
    intro fu3
    induction fu3 with
    | zero => intro b u locs ls hfu; exact absurd hfu (Nat.not_lt_zero _)
    | succ fu3 ih3 =>
      intro b u locs ls hfu hbn hu hS hl
      have hul9 := cnF_le (shB (goF T (nI 1) (xS T) x1 f)) b
      refine lv_iload_n hx hb dX0_shows_37 rfl (lv_at hl 0 rfl) ?_
      refine lv_aload_n hx hb dX0_shows_38 rfl (lv_at hl 2 rfl) ?_
      refine c_VI hx hb hml hts hown hK hl.1 hS ⟨Nat.le_refl _, Nat.le_refl _⟩ (met_X0_beds l D dA hG (txA_S hX0 hS hOA) htx) (cw_X0_145 hts ⟨Nat.le_of_ble_eq_true rfl, Nat.le_of_ble_eq_true rfl⟩) (hG 0 _ rfl) rfl rfl rfl rfl (Nat.le_of_ble_eq_true rfl) dX0_shows_39 (fun _ h => h.elim) (fun r H1 locs hq hF hS => ?_)
      obtain ⟨rfl, rfl⟩ := hq
      refine n_icmp_ge (tgt := 71) hx hb dX0_shows_42 (by decide) (by omega) (by omega) (fun c42 => ?_) (fun c42 => ?_)
      · obtain rfl : b = xN T := by omega
        refine lv_iload_n hx hb dX0_shows_71 rfl (lv_at hl 1 rfl) ?_
        refine hend _ _ _ _ _ hS dX0_shows_72 ?_
        exact ⟨_, rfl, _, hG, ((hE1.mono PT26_PQw).trans (hE2.mono PT26_PQw)), ((rng_in hlo_x1 hhi_x1 (by omega)).trans ((by rw [bc_ob hn9, hu]))).symm⟩
      refine lv_iload_n hx hb dX0_shows_45 rfl (lv_at hl 1 rfl) ?_
      refine lv_aload_n hx hb dX0_shows_46 rfl (lv_at hl 2 rfl) ?_
      refine g_get hx hb hts hown hK hG 0 rfl rfl ok_X0 8 (by decide) q530 rfl rfl dX0_shows_47 ?_
      refine g_get hx hb hts hown hK hG 26 rfl rfl ok_X5 1 (by decide) q436 rfl rfl dX0_shows_50 ?_
      refine lv_iload_n hx hb dX0_shows_53 rfl (lv_at hl 0 rfl) ?_
      refine n_iald hx hb hK hG 28 rfl (by omega) (by decide) dX0_shows_54 ?_
      refine iv (y := ((goF T (nI 1) (xS T) x1 (f)) (27 + b))) (hb2.1.2.2.2 b (by omega)) ?_
      refine lv_if_le (tgt := 62) hx hb dX0_shows_55 (by decide) (fun c55 => ?_) (fun c55 => ?_)
      · refine lv_iconst (v := (nI 0)) hx hb dX0_shows_62 (by decide) ?_
        refine n_iadd hx hb dX0_shows_63 ?_
        refine lv_istore_n (lv' := [(2, .int (nI (u + 0))), (3, .int (nI b)), (0, .ref o), (1, .int (nI x1))]) hx hb dX0_shows_64 rfl hl (by decide) rfl (fun ls hl => ?_)
        refine lv_iinc (v := (nI (b + 1))) (lv' := [(3, .int (nI (b + 1))), (2, .int (nI (u + 0))), (0, .ref o), (1, .int (nI x1))]) hx hb dX0_shows_65 hl (k := 1) rfl (nI_add _ _) (by decide) rfl (fun ls hl => ?_)
        refine lv_goto (tgt := 37) hx hb dX0_shows_68 (by decide) ?_
        exact ih3 (b + 1) (u + 0) _ _ (by omega) (by omega) ((cnF_f (by rw [sh_f c55]; decide)).trans hu) hS (lv_sub hl [0, 1, 2, 3] rfl)
      refine lv_iconst (v := (nI 1)) hx hb dX0_shows_58 (by decide) ?_
      refine lv_goto (tgt := 63) hx hb dX0_shows_59 (by decide) ?_
      refine n_iadd hx hb dX0_shows_63 ?_
      refine lv_istore_n (lv' := [(2, .int (nI (u + 1))), (3, .int (nI b)), (0, .ref o), (1, .int (nI x1))]) hx hb dX0_shows_64 rfl hl (by decide) rfl (fun ls hl => ?_)
      refine lv_iinc (v := (nI (b + 1))) (lv' := [(3, .int (nI (b + 1))), (2, .int (nI (u + 1))), (0, .ref o), (1, .int (nI x1))]) hx hb dX0_shows_65 hl (k := 1) rfl (nI_add _ _) (by decide) rfl (fun ls hl => ?_)
      refine lv_goto (tgt := 37) hx hb dX0_shows_68 (by decide) ?_
      exact ih3 (b + 1) (u + 1) _ _ (by omega) (by omega) ((cnF_t (sh_t c55)).trans (by omega)) hS (lv_sub hl [0, 1, 2, 3] rfl)
  exact loop3 ((xN T - 0) + 1) 0 0 _ _ (Nat.lt_succ_self _) (Nat.zero_le _) rfl hS (lv_sub hl [0, 1, 2, 3] rfl)
set_option maxHeartbeats 4000000 in
theorem met_X0_leftIn (l : Launch) (D : va_G) (dA : Nat → ClassId) {o : Nat} {V : GI} {L : GL} {Rf : GR} {H0 : Heap} (hG : gP D dA o dS V L Rf H0) {O : Nat → Prop} {tx : Nat} {T : Txt} {f : Rw} (hC : clS D dA H0 O o V Rf tx T f) (hOA : ∀ z, O z → ¬ AS o z) {g : Rw} (hbk0 : bkS V 26 (xN T) g (xS T)) (hgv : RV (xN T) g) (q : Nat) (hq9 : q < 1000) : Ctr l D dA yX0_leftIn cX0_leftIn 4 (some .int) (mkRm 410 9700) [.ref o, .int (nI q)] H0 (AS o) (QI (fun r H1 => ∃ V1, gP D dA o dS V1 L Rf H1 ∧ Eqx PT26 V V1 ∧ r = nI (liF T (nI 1) (xS T) g q))) := by
  have hC0 := hC
  obtain ⟨hX, htx, hB, hrv, hsd1, hsd2⟩ := hC
  have hX0 := hX
  have hn9 := txA_n hX
  have hp2 := two9 hn9
  have hpp := Nat.two_pow_pos (xN T)
  obtain ⟨fsx, hatx⟩ := txA_at hX
  have hotx := txA_o hX
  have hOAb : ∀ z, O z → ¬ AB (o + 26) z := fun z hz hb => hOA z hz (AB_AS isB26 z hb)
  refine ctr_I (by decide) (Nat.le_of_ble_eq_true rfl) ?_
  intro p e s m args below meth c ls QQ locs hx hb hml hown hts hK hend hS hl
  have hl : lv_has ls 4 [(0, .ref o), (1, .int (nI q))] := hl
  refine lv_iconst (v := (nI 0)) hx hb dX0_leftIn_0 (by decide) ?_
  refine lv_istore_n (lv' := [(2, .int (nI 0)), (0, .ref o), (1, .int (nI q))]) hx hb dX0_leftIn_1 rfl hl (by decide) rfl (fun ls hl => ?_)
  refine lv_iconst (v := (nI 0)) hx hb dX0_leftIn_2 (by decide) ?_
  refine lv_istore_n (lv' := [(3, .int (nI 0)), (2, .int (nI 0)), (0, .ref o), (1, .int (nI q))]) hx hb dX0_leftIn_3 rfl hl (by decide) rfl (fun ls hl => ?_)
  have loop1 : ∀ (fu1 : Nat) (k : Nat) (y : Nat) (V1 : GI) (H : Heap) (locs : List Loc) (ls : Array Slot), q - k < fu1 → (k ≤ q) → (smF (liG T (nI 1) (xS T) g) k = y) → (Eqx PT26 V V1) → (bkS V1 26 (xN T) (goF T (nI 1) (xS T) k g) (xS T)) → gP D dA o dS V1 L Rf H → va_S (AS o) H0 H locs → lv_has ls 4 [(3, .int (nI k)), (2, .int (nI y)), (0, .ref o), (1, .int (nI q))] → W p l e (mkRm 410 9700) s m args below meth c H locs 0 0 QQ (F0 m 4 ls []) := by
    intro fu1
    induction fu1 with
    | zero => intro k y V1 H locs ls hfu; exact absurd hfu (Nat.not_lt_zero _)
    | succ fu1 ih1 =>
      intro k y V1 H locs ls hfu hkq hy hE1 hbk hG hS hl
      have hy9 := smF_le (G := liG T (nI 1) (xS T) g) (fun _ => bc9 _) k
      refine lv_iload_n hx hb dX0_leftIn_4 rfl (lv_at hl 0 rfl) ?_
      refine lv_iload_n hx hb dX0_leftIn_5 rfl (lv_at hl 3 rfl) ?_
      refine n_icmp_ge (tgt := 43) hx hb dX0_leftIn_6 (by decide) (by omega) (by omega) (fun c6 => ?_) (fun c6 => ?_)
      · refine lv_iload_n hx hb dX0_leftIn_43 rfl (lv_at hl 1 rfl) ?_
        refine hend _ _ _ _ _ hS dX0_leftIn_44 ?_
        exact ⟨_, rfl, _, hG, hE1, (by obtain rfl : k = q := (by omega); unfold liF; rw [hy])⟩
      refine lv_aload_n hx hb dX0_leftIn_9 rfl (lv_at hl 2 rfl) ?_
      refine g_get hx hb hts hown hK hG 0 rfl rfl ok_X0 8 (by decide) q530 rfl rfl dX0_leftIn_10 ?_
      refine lv_aload_n hx hb dX0_leftIn_13 rfl (lv_at hl 2 rfl) ?_
      refine g_get (v := .ref tx) hx hb hts hown hK hG 0 rfl rfl ok_X0 3 (by decide) q525 rfl (congrArg va_rf htx) dX0_leftIn_14 ?_
      refine lv_aload_n hx hb dX0_leftIn_17 rfl (lv_at hl 2 rfl) ?_
      refine g_get hx hb hts hown hK hG 0 rfl rfl ok_X0 12 (by decide) q534 rfl rfl dX0_leftIn_18 ?_
      refine c_VV hx hb hml hts hown hK hl.1 hS ⟨Nat.le_refl _, Nat.le_refl _⟩ (met_X5_goesBy l D dA (gP_view hG isB26) (txA_S hX0 hS hOA) hOAb hsd2 hbk (go_RV hgv k) (ni73 hG) (fun z => by have h1 := z.1; have h2 := z.2; omega)) (cw_X0_211 hts ⟨Nat.le_of_ble_eq_true rfl, Nat.le_of_ble_eq_true rfl⟩) ((gP_view hG isB26) 0 _ rfl) rfl rfl rfl rfl (Nat.le_of_ble_eq_true rfl) dX0_leftIn_21 (AB_AS isB26) (fun H1 locs hq hF hS => ?_)
      obtain ⟨W2, hGv, hEv, hbn2⟩ := hq
      obtain ⟨V2, hV2⟩ : ∃ X, X = spl V1 26 W2 := ⟨_, rfl⟩
      have hGn := gP_back hG isB26 hF (fun _ h => h) hGv
      rw [← hV2] at hGn
      replace hG := hGn
      have hE2 : Eqx PT26 V1 V2 := by rw [hV2]; exact spl_eqx
      have hb2 : bkS V2 26 (xN T) (hourF T (nI 1) (xS T) (goF T (nI 1) (xS T) k g)) (xS T) := by rw [hV2]; exact bkS_spl hbn2
      clear hGn hGv hEv hbn2 hV2
      generalize hHe2 : H1 = H at hG hS ⊢
      clear hHe2 hF
      have hb2n : bkS V2 26 (xN T) (goF T (nI 1) (xS T) (k + 1) g) (xS T) := hb2
      have hrl2 := rbF_lt (goF T (nI 1) (xS T) (k + 1) g) (xN T)
      refine lv_iload_n hx hb dX0_leftIn_24 rfl (lv_at hl 1 rfl) ?_
      refine lv_aload_n hx hb dX0_leftIn_25 rfl (lv_at hl 2 rfl) ?_
      refine g_get hx hb hts hown hK hG 0 rfl rfl ok_X0 8 (by decide) q530 rfl rfl dX0_leftIn_26 ?_
      refine g_get (v := .int (nI (rbF (goF T (nI 1) (xS T) (k + 1) g) (xN T)))) hx hb hts hown hK hG 26 rfl rfl ok_X5 4 (by decide) q442 rfl (congrArg Value.int hb2n.1.1) dX0_leftIn_29 ?_
      refine c_SI hx hb hml hts hown hK hl.1 hS ⟨Nat.le_refl _, Nat.le_refl _⟩ (met_J16_bitCount l D dA (Nat.lt_of_lt_of_le (rbF_lt _ _) hp2)) (cw_X0_239 hts ⟨Nat.le_of_ble_eq_true rfl, Nat.le_of_ble_eq_true rfl⟩) rfl rfl (Nat.le_of_ble_eq_true rfl) dX0_leftIn_32 (fun _ h => h.elim) (fun r H1 locs hq hF hS => ?_)
      obtain ⟨rfl, rfl⟩ := hq
      have hbc3 := bc9 (rbF (goF T (nI 1) (xS T) (k + 1) g) (xN T))
      refine n_iadd hx hb dX0_leftIn_35 ?_
      refine lv_istore_n (lv' := [(2, .int (nI (y + (bc (rbF (goF T (nI 1) (xS T) (k + 1) g) (xN T)))))), (3, .int (nI k)), (0, .ref o), (1, .int (nI q))]) hx hb dX0_leftIn_36 rfl hl (by decide) rfl (fun ls hl => ?_)
      refine lv_iinc (v := (nI (k + 1))) (lv' := [(3, .int (nI (k + 1))), (2, .int (nI (y + (bc (rbF (goF T (nI 1) (xS T) (k + 1) g) (xN T)))))), (0, .ref o), (1, .int (nI q))]) hx hb dX0_leftIn_37 hl (k := 1) rfl (nI_add _ _) (by decide) rfl (fun ls hl => ?_)
      refine lv_goto (tgt := 4) hx hb dX0_leftIn_40 (by decide) ?_
      exact ih1 (k + 1) (y + (bc (rbF (goF T (nI 1) (xS T) (k + 1) g) (xN T)))) V2 _ _ _ (by omega) (by omega) (by simp only [smF]; rw [hy]; rfl) (Eqx.trans hE1 hE2) hb2n hG hS (lv_sub hl [0, 1, 2, 3] rfl)
  exact loop1 ((q - 0) + 1) 0 0 V _ _ _ (Nat.lt_succ_self _) (Nat.zero_le _) rfl Eqx.rf hbk0 hG hS (lv_sub hl [0, 1, 2, 3] rfl)
theorem cw_X0_266 {R : Room} {s : State} {args : Array Value} (hts : ∀ w ∈ lw_all, w.before args s = true) {f w k j : Nat} (hR : f + 1 ≤ R.frames ∧ 8 + (4 + 11) + w ≤ R.locals) : CallW R s args RX0 RX0 266 yX0_leftIn cX0_leftIn 4 (some .int) (ws_ yX0_leftIn cX0_leftIn 4 (some .int)) (mkRmC f w k j) k j 1 := cwV 1 hts (lw_V q1390 q1392 qs44 q108 q1393) rfl rfl rfl (by decide +kernel) hR
theorem cw_X0_207 {R : Room} {s : State} {args : Array Value} (hts : ∀ w ∈ lw_all, w.before args s = true) {f w k j : Nat} (hR : f + 1 ≤ R.frames ∧ 8 + (3 + 11) + w ≤ R.locals) : CallW R s args RX0 RX5 207 yX5_change cX5_change 3 none (ws_ yX5_change cX5_change 3 none) (mkRmC f w k j) k j 2 := cwV 2 hts (lw_V q1211 q1212 q1213 q119 q1214) rfl rfl rfl (by decide +kernel) hR
set_option maxHeartbeats 4000000 in
theorem met_X0_changeBest (l : Launch) (D : va_G) (dA : Nat → ClassId) {o : Nat} {V : GI} {L : GL} {Rf : GR} {H0 : Heap} (hG : gP D dA o dS V L Rf H0) {O : Nat → Prop} {tx : Nat} {T : Txt} {f : Rw} (hC : clS D dA H0 O o V Rf tx T f) (hOA : ∀ z, O z → ¬ AS o z) (v1 v2 : Int32) : Ctr l D dA yX0_changeBest cX0_changeBest 8 (some .int) (mkRm 412 9900) [.ref o, .int v1, .int v2] H0 (AS o) (QI (fun r H1 => ∃ V1, gP D dA o dS V1 L Rf H1 ∧ Eqx PQw V V1 ∧ r = changeBestA T f v1 v2)) := by
  have hC0 := hC
  obtain ⟨hX, htx, hB, hrv, hsd1, hsd2⟩ := hC
  have hX0 := hX
  have hn9 := txA_n hX
  have hp2 := two9 hn9
  have hpp := Nat.two_pow_pos (xN T)
  obtain ⟨fsx, hatx⟩ := txA_at hX
  have hotx := txA_o hX
  have hOAb : ∀ z, O z → ¬ AB (o + 26) z := fun z hz hb => hOA z hz (AB_AS isB26 z hb)
  have hrl0 := rbF_lt f (xN T)
  refine ctr_I (by decide) (Nat.le_of_ble_eq_true rfl) ?_
  intro p e s m args below meth c ls QQ locs hx hb hml hown hts hK hend hS hl
  have hl : lv_has ls 8 [(0, .ref o), (1, .int v1), (2, .int v2)] := hl
  refine lv_iload_n hx hb dX0_changeBest_0 rfl (lv_at hl 1 rfl) ?_
  refine lv_iconst (v := (nI 1)) hx hb dX0_changeBest_1 (by decide) ?_
  refine lv_bipush (v := (nI 24)) hx hb dX0_changeBest_2 (by decide) ?_
  refine c_SI hx hb hml hts hown hK hl.1 hS ⟨Nat.le_refl _, Nat.le_refl _⟩ (met_X0_isIn l D dA v1 (nI 1) (nI 24)) (cw_X0_146 hts ⟨Nat.le_of_ble_eq_true rfl, Nat.le_of_ble_eq_true rfl⟩) rfl rfl (Nat.le_of_ble_eq_true rfl) dX0_changeBest_4 (fun _ h => h.elim) (fun r H1 locs hq hF hS => ?_)
  obtain ⟨rfl, rfl⟩ := hq
  rcases (inZ_cases v1 1 24 (by decide) (by decide)).symm with ⟨hz4, ho4⟩ | ⟨x1, hlo_x1, hhi_x1, rfl, hz4⟩
  · refine iv (y := nI 0) hz4 ?_
    refine n_if_eq (tgt := 19) hx hb dX0_changeBest_7 (by decide) (by decide) (fun _ => ?_) (fun z => absurd z (by decide))
    refine lv_iconst (v := (-1)) hx hb dX0_changeBest_19 (by decide) ?_
    refine hend _ _ _ _ _ hS dX0_changeBest_20 ?_
    exact ⟨_, rfl, _, hG, Eqx.rf, ((ho4.1 _ _)).symm⟩
  refine iv (y := nI 1) hz4 ?_
  have hl : lv_has ls 8 [(0, .ref o), (1, .int (nI x1)), (2, .int v2)] := hl
  refine n_if_eq (tgt := 19) hx hb dX0_changeBest_7 (by decide) (by decide) (fun z => absurd z (by decide)) (fun _ => ?_)
  refine lv_iload_n hx hb dX0_changeBest_10 rfl (lv_at hl 2 rfl) ?_
  refine lv_iconst (v := (nI 0)) hx hb dX0_changeBest_11 (by decide) ?_
  refine lv_iconst (v := (nI 1)) hx hb dX0_changeBest_12 (by decide) ?_
  refine c_SI hx hb hml hts hown hK hl.1 hS ⟨Nat.le_refl _, Nat.le_refl _⟩ (met_X0_isIn l D dA v2 (nI 0) (nI 1)) (cw_X0_146 hts ⟨Nat.le_of_ble_eq_true rfl, Nat.le_of_ble_eq_true rfl⟩) rfl rfl (Nat.le_of_ble_eq_true rfl) dX0_changeBest_13 (fun _ h => h.elim) (fun r H1 locs hq hF hS => ?_)
  obtain ⟨rfl, rfl⟩ := hq
  rcases (inZ_cases v2 0 1 (by decide) (by decide)).symm with ⟨hz13, ho13⟩ | ⟨x2, hlo_x2, hhi_x2, rfl, hz13⟩
  · refine iv (y := nI 0) hz13 ?_
    refine n_if_ne (tgt := 21) hx hb dX0_changeBest_16 (by decide) (by decide) (fun z => absurd z (by decide)) (fun _ => ?_)
    refine lv_iconst (v := (-1)) hx hb dX0_changeBest_19 (by decide) ?_
    refine hend _ _ _ _ _ hS dX0_changeBest_20 ?_
    exact ⟨_, rfl, _, hG, Eqx.rf, ((rng_in hlo_x1 hhi_x1 (by omega)).trans ((ho13.1 _ _))).symm⟩
  refine iv (y := nI 1) hz13 ?_
  have hl : lv_has ls 8 [(0, .ref o), (1, .int (nI x1)), (2, .int (nI x2))] := hl
  refine n_if_ne (tgt := 21) hx hb dX0_changeBest_16 (by decide) (by decide) (fun _ => ?_) (fun z => absurd z (by decide))
  refine lv_aload_n hx hb dX0_changeBest_21 rfl (lv_at hl 0 rfl) ?_
  refine g_get hx hb hts hown hK hG 0 rfl rfl ok_X0 8 (by decide) q530 rfl rfl dX0_changeBest_22 ?_
  refine lv_aload_n hx hb dX0_changeBest_25 rfl (lv_at hl 0 rfl) ?_
  refine g_get hx hb hts hown hK hG 0 rfl rfl ok_X0 7 (by decide) q529 rfl rfl dX0_changeBest_26 ?_
  refine c_VV hx hb hml hts hown hK hl.1 hS ⟨Nat.le_refl _, Nat.le_refl _⟩ (met_X5_takes l D dA (gP_view hG isB26) (gP_view hG isB15) (by omega)) (cw_X0_193 hts ⟨Nat.le_of_ble_eq_true rfl, Nat.le_of_ble_eq_true rfl⟩) (hG 26 _ rfl) rfl rfl rfl rfl (Nat.le_of_ble_eq_true rfl) dX0_changeBest_29 (fun z hz => hz.elim (AB_AS isB26 z) (AB_AS isB15 z)) (fun H1 locs hq hF hS => ?_)
  obtain ⟨W1, hGv, hGc, hEv, hc9, hc4, hc5, hc6, hc7⟩ := hq
  obtain ⟨V1, hV1⟩ : ∃ X, X = spl V 26 W1 := ⟨_, rfl⟩
  have hGn := gP_back2 hG isB26 isB15 hF hGv hGc
  rw [← hV1] at hGn
  replace hG := hGn
  have hE1 : Eqx PT26 V V1 := by rw [hV1]; exact spl_eqx
  have hb1 : bkS V1 26 (xN T) (f) (xS T) := by rw [hV1]; exact bkS_spl (bkM_cp hn9 hB hc9 hc4 hc5 hc6 hc7)
  clear hGn hGv hGc hEv hc9 hc4 hc5 hc6 hc7 hV1
  generalize hHe1 : H1 = H at hG hS ⊢
  clear hHe1 hF
  refine lv_bipush (v := (-2)) hx hb dX0_changeBest_32 (by decide) ?_
  refine lv_istore_n (lv' := [(3, .int (-2)), (0, .ref o), (1, .int (nI x1)), (2, .int (nI x2))]) hx hb dX0_changeBest_34 rfl hl (by decide) rfl (fun ls hl => ?_)
  refine lv_aload_n hx hb dX0_changeBest_35 rfl (lv_at hl 1 rfl) ?_
  refine lv_iload_n hx hb dX0_changeBest_36 rfl (lv_at hl 2 rfl) ?_
  refine c_VI hx hb hml hts hown hK hl.1 hS ⟨Nat.le_refl _, Nat.le_refl _⟩ (met_X0_leftIn l D dA hG (clS_E hC0 hS hOA (hE1.mono PT26_PQw)) hOA hb1 hrv x1 (by omega)) (cw_X0_266 hts ⟨Nat.le_of_ble_eq_true rfl, Nat.le_of_ble_eq_true rfl⟩) (hG 0 _ rfl) rfl rfl rfl rfl (Nat.le_of_ble_eq_true rfl) dX0_changeBest_37 (fun _ h => h) (fun r H1 locs hq hF hS => ?_)
  obtain ⟨V2, hG, hE2, hr2⟩ := hq
  generalize hHe2 : H1 = H at hG hS ⊢
  clear hHe2 hF
  subst hr2
  have hli2 := liF_le (t := T) (stl := nI 1) (lots := xS T) (f := f) x1
  refine lv_istore (lv' := [(4, .int (nI (liF T (nI 1) (xS T) (f) x1))), (3, .int (-2)), (0, .ref o), (1, .int (nI x1)), (2, .int (nI x2))]) hx hb dX0_changeBest_40 hl (by decide) rfl (fun ls hl => ?_)
  refine lv_iconst (v := (nI 0)) hx hb dX0_changeBest_42 (by decide) ?_
  refine lv_istore (lv' := [(5, .int (nI 0)), (4, .int (nI (liF T (nI 1) (xS T) (f) x1))), (3, .int (-2)), (0, .ref o), (1, .int (nI x1)), (2, .int (nI x2))]) hx hb dX0_changeBest_43 hl (by decide) rfl (fun ls hl => ?_)
  have loop3 : ∀ (fu3 : Nat) (a : Nat) (op : Option Nat) (y : Nat) (V3 : GI) (H : Heap) (locs : List Loc) (ls : Array Slot), xN T - a < fu3 → (a ≤ xN T) → (cbO (cbG T f x1) (xN T) (liF T (nI 1) (xS T) f x1) a = (op, y)) → (y ≤ 216) → (∀ i, op = some i → i < 100) → (Eqx PQw V2 V3) → gP D dA o dS V3 L Rf H → va_S (AS o) H0 H locs → lv_has ls 8 [(5, .int (nI a)), (4, .int (nI y)), (3, .int (o1 (-2) op)), (0, .ref o), (1, .int (nI x1)), (2, .int (nI x2))] → W p l e (mkRm 412 9900) s m args below meth c H locs 0 0 QQ (F0 m 45 ls []) := by
    intro fu3
    induction fu3 with
    | zero => intro a op y V3 H locs ls hfu; exact absurd hfu (Nat.not_lt_zero _)
    | succ fu3 ih3 =>
      intro a op y V3 H locs ls hfu han hs hy9 hi9 hE3 hG hS hl
      refine lv_iload hx hb dX0_changeBest_45 (lv_at hl 0 rfl) ?_
      refine lv_aload_n hx hb dX0_changeBest_47 rfl (lv_at hl 3 rfl) ?_
      refine c_VI hx hb hml hts hown hK hl.1 hS ⟨Nat.le_refl _, Nat.le_refl _⟩ (met_X0_beds l D dA hG (txA_S hX0 hS hOA) htx) (cw_X0_145 hts ⟨Nat.le_of_ble_eq_true rfl, Nat.le_of_ble_eq_true rfl⟩) (hG 0 _ rfl) rfl rfl rfl rfl (Nat.le_of_ble_eq_true rfl) dX0_changeBest_48 (fun _ h => h.elim) (fun r H1 locs hq hF hS => ?_)
      obtain ⟨rfl, rfl⟩ := hq
      refine n_icmp_ge (tgt := 133) hx hb dX0_changeBest_51 (by decide) (by omega) (by omega) (fun c51 => ?_) (fun c51 => ?_)
      · obtain rfl : a = xN T := by omega
        rcases op with _ | i
        · have hl : lv_has ls 8 [(5, .int (nI (xN T))), (4, .int (nI y)), (3, .int (-2)), (0, .ref o), (1, .int (nI x1)), (2, .int (nI x2))] := hl
          refine lv_iload_n hx hb dX0_changeBest_133 rfl (lv_at hl 2 rfl) ?_
          refine lv_if_lt (tgt := 141) hx hb dX0_changeBest_134 (by decide) (fun _ => ?_) (fun z => absurd (by decide) z)
          refine lv_iload_n hx hb dX0_changeBest_141 rfl (lv_at hl 2 rfl) ?_
          refine lv_goto (tgt := 147) hx hb dX0_changeBest_142 (by decide) ?_
          refine hend _ _ _ _ _ hS dX0_changeBest_147 ?_
          exact ⟨_, rfl, _, hG, (((hE1.mono PT26_PQw).trans (hE2.mono PT26_PQw)).trans hE3), ((rng_in hlo_x1 hhi_x1 (by omega)).trans ((rng_in hlo_x2 hhi_x2 (by omega)).trans ((by have e : (cbP T f x1).1 = none := congrArg Prod.fst hs; simp only [e])))).symm⟩
        have hl : lv_has ls 8 [(5, .int (nI (xN T))), (4, .int (nI y)), (3, .int (nI i)), (0, .ref o), (1, .int (nI x1)), (2, .int (nI x2))] := hl
        have hi99 := hi9 i rfl
        refine lv_iload_n hx hb dX0_changeBest_133 rfl (lv_at hl 2 rfl) ?_
        refine n_if_lt (tgt := 141) hx hb dX0_changeBest_134 (by decide) (by omega) ?_
        refine lv_iload_n hx hb dX0_changeBest_137 rfl (lv_at hl 5 rfl) ?_
        refine n_if_ne (tgt := 145) hx hb dX0_changeBest_138 (by decide) (by omega) (fun c138 => ?_) (fun c138 => ?_)
        · refine lv_iload hx hb dX0_changeBest_145 (lv_at hl 1 rfl) ?_
          refine hend _ _ _ _ _ hS dX0_changeBest_147 ?_
          exact ⟨_, rfl, _, hG, (((hE1.mono PT26_PQw).trans (hE2.mono PT26_PQw)).trans hE3), ((rng_in hlo_x1 hhi_x1 (by omega)).trans ((rng_in hlo_x2 hhi_x2 (by omega)).trans ((by have e : (cbP T f x1).1 = some i := congrArg Prod.fst hs; have e2 : (cbP T f x1).2 = y := congrArg Prod.snd hs; simp only [e, e2]; exact if_neg (by omega))))).symm⟩
        refine lv_iload_n hx hb dX0_changeBest_141 rfl (lv_at hl 2 rfl) ?_
        refine lv_goto (tgt := 147) hx hb dX0_changeBest_142 (by decide) ?_
        refine hend _ _ _ _ _ hS dX0_changeBest_147 ?_
        exact ⟨_, rfl, _, hG, (((hE1.mono PT26_PQw).trans (hE2.mono PT26_PQw)).trans hE3), ((rng_in hlo_x1 hhi_x1 (by omega)).trans ((rng_in hlo_x2 hhi_x2 (by omega)).trans ((by have e : (cbP T f x1).1 = some i := congrArg Prod.fst hs; have e2 : (cbP T f x1).2 = y := congrArg Prod.snd hs; simp only [e, e2]; exact if_pos (by omega))))).symm⟩
      refine lv_iload hx hb dX0_changeBest_54 (lv_at hl 0 rfl) ?_
      refine lv_iconst (v := (nI 1)) hx hb dX0_changeBest_56 (by decide) ?_
      refine n_iadd hx hb dX0_changeBest_57 ?_
      refine lv_istore (lv' := [(6, .int (nI (a + 1))), (5, .int (nI a)), (4, .int (nI y)), (3, .int (o1 (-2) op)), (0, .ref o), (1, .int (nI x1)), (2, .int (nI x2))]) hx hb dX0_changeBest_58 hl (by decide) rfl (fun ls hl => ?_)
      have loop4 : ∀ (fu4 : Nat) (b : Nat) (op : Option Nat) (y : Nat) (V4 : GI) (H : Heap) (locs : List Loc) (ls : Array Slot), xN T - b < fu4 → (a + 1 ≤ b) → (b ≤ xN T) → (cbJ (cbG T f x1) a b (cbO (cbG T f x1) (xN T) (liF T (nI 1) (xS T) f x1) a) = (op, y)) → (y ≤ 216) → (∀ i, op = some i → i < 100) → (Eqx PQw V3 V4) → gP D dA o dS V4 L Rf H → va_S (AS o) H0 H locs → lv_has ls 8 [(6, .int (nI b)), (5, .int (nI a)), (4, .int (nI y)), (3, .int (o1 (-2) op)), (0, .ref o), (1, .int (nI x1)), (2, .int (nI x2))] → W p l e (mkRm 412 9900) s m args below meth c H locs 0 0 QQ (F0 m 60 ls []) := by
        intro fu4
        induction fu4 with
        | zero => intro b op y V4 H locs ls hfu; exact absurd hfu (Nat.not_lt_zero _)
        | succ fu4 ih4 =>
          intro b op y V4 H locs ls hfu hab hbn hj hy9 hi9 hE4 hG hS hl
          refine lv_iload hx hb dX0_changeBest_60 (lv_at hl 0 rfl) ?_
          refine lv_aload_n hx hb dX0_changeBest_62 rfl (lv_at hl 4 rfl) ?_
          refine c_VI hx hb hml hts hown hK hl.1 hS ⟨Nat.le_refl _, Nat.le_refl _⟩ (met_X0_beds l D dA hG (txA_S hX0 hS hOA) htx) (cw_X0_145 hts ⟨Nat.le_of_ble_eq_true rfl, Nat.le_of_ble_eq_true rfl⟩) (hG 0 _ rfl) rfl rfl rfl rfl (Nat.le_of_ble_eq_true rfl) dX0_changeBest_63 (fun _ h => h.elim) (fun r H1 locs hq hF hS => ?_)
          obtain ⟨rfl, rfl⟩ := hq
          refine n_icmp_ge (tgt := 127) hx hb dX0_changeBest_66 (by decide) (by omega) (by omega) (fun c66 => ?_) (fun c66 => ?_)
          · have hj2 : cbO (cbG T f x1) (xN T) (liF T (nI 1) (xS T) f x1) (a + 1) = (op, y) := by
              obtain rfl : b = xN T := by omega
              exact hj
            refine lv_iinc (v := (nI (a + 1))) (lv' := [(5, .int (nI (a + 1))), (6, .int (nI b)), (4, .int (nI y)), (3, .int (o1 (-2) op)), (0, .ref o), (1, .int (nI x1)), (2, .int (nI x2))]) hx hb dX0_changeBest_127 hl (k := 1) rfl (nI_add _ _) (by decide) rfl (fun ls hl => ?_)
            refine lv_goto (tgt := 45) hx hb dX0_changeBest_130 (by decide) ?_
            exact ih3 (a + 1) op y V4 _ _ _ (by omega) (by omega) hj2 hy9 hi9 (Eqx.trans hE3 hE4) hG hS (lv_sub hl [0, 2, 3, 4, 5, 6] rfl)
          refine lv_aload_n hx hb dX0_changeBest_69 rfl (lv_at hl 4 rfl) ?_
          refine g_get hx hb hts hown hK hG 0 rfl rfl ok_X0 8 (by decide) q530 rfl rfl dX0_changeBest_70 ?_
          refine lv_aload_n hx hb dX0_changeBest_73 rfl (lv_at hl 4 rfl) ?_
          refine g_get hx hb hts hown hK hG 0 rfl rfl ok_X0 7 (by decide) q529 rfl rfl dX0_changeBest_74 ?_
          refine c_VV hx hb hml hts hown hK hl.1 hS ⟨Nat.le_refl _, Nat.le_refl _⟩ (met_X5_takes l D dA (gP_view hG isB26) (gP_view hG isB15) (by omega)) (cw_X0_193 hts ⟨Nat.le_of_ble_eq_true rfl, Nat.le_of_ble_eq_true rfl⟩) (hG 26 _ rfl) rfl rfl rfl rfl (Nat.le_of_ble_eq_true rfl) dX0_changeBest_77 (fun z hz => hz.elim (AB_AS isB26 z) (AB_AS isB15 z)) (fun H1 locs hq hF hS => ?_)
          obtain ⟨W5, hGv, hGc, hEv, hc9, hc4, hc5, hc6, hc7⟩ := hq
          obtain ⟨V5, hV5⟩ : ∃ X, X = spl V4 26 W5 := ⟨_, rfl⟩
          have hGn := gP_back2 hG isB26 isB15 hF hGv hGc
          rw [← hV5] at hGn
          replace hG := hGn
          have hE5 : Eqx PT26 V4 V5 := by rw [hV5]; exact spl_eqx
          have hb5 : bkS V5 26 (xN T) (f) (xS T) := by rw [hV5]; exact bkS_spl (bkM_cp hn9 (bkS_to (fun k j hk => (((((hE1.mono PT26_PQw).trans (hE2.mono PT26_PQw)).trans hE3).trans hE4) : Eqx PQw V _) _ j (PQw_bk k j hk)) hB) hc9 hc4 hc5 hc6 hc7)
          clear hGn hGv hGc hEv hc9 hc4 hc5 hc6 hc7 hV5
          generalize hHe5 : H1 = H at hG hS ⊢
          clear hHe5 hF
          refine lv_aload_n hx hb dX0_changeBest_80 rfl (lv_at hl 4 rfl) ?_
          refine g_get hx hb hts hown hK hG 0 rfl rfl ok_X0 8 (by decide) q530 rfl rfl dX0_changeBest_81 ?_
          refine lv_iload hx hb dX0_changeBest_84 (lv_at hl 1 rfl) ?_
          refine lv_iload hx hb dX0_changeBest_86 (lv_at hl 0 rfl) ?_
          refine c_VV hx hb hml hts hown hK hl.1 hS ⟨Nat.le_refl _, Nat.le_refl _⟩ (met_X5_change l D dA (gP_view hG isB26) hb5 hn9 hrv (x := a) (y := b) (by omega) (by omega) (by omega)) (cw_X0_207 hts ⟨Nat.le_of_ble_eq_true rfl, Nat.le_of_ble_eq_true rfl⟩) (hG 26 _ rfl) rfl rfl rfl rfl (Nat.le_of_ble_eq_true rfl) dX0_changeBest_88 (AB_AS isB26) (fun H1 locs hq hF hS => ?_)
          obtain ⟨W6, hGv, hEv, hbn6⟩ := hq
          obtain ⟨V6, hV6⟩ : ∃ X, X = spl V5 26 W6 := ⟨_, rfl⟩
          have hGn := gP_back hG isB26 hF (fun _ h => h) hGv
          rw [← hV6] at hGn
          replace hG := hGn
          have hE6 : Eqx PT26 V5 V6 := by rw [hV6]; exact spl_eqx
          have hb6 : bkS V6 26 (xN T) (swF a b f) (xS T) := by rw [hV6]; exact bkS_spl hbn6
          clear hGn hGv hEv hbn6 hV6
          generalize hHe6 : H1 = H at hG hS ⊢
          clear hHe6 hF
          refine lv_aload_n hx hb dX0_changeBest_91 rfl (lv_at hl 4 rfl) ?_
          refine lv_iload_n hx hb dX0_changeBest_92 rfl (lv_at hl 5 rfl) ?_
          refine c_VI hx hb hml hts hown hK hl.1 hS ⟨Nat.le_refl _, Nat.le_refl _⟩ (met_X0_leftIn l D dA hG (clS_E hC0 hS hOA ((((((hE1.mono PT26_PQw).trans (hE2.mono PT26_PQw)).trans hE3).trans hE4).trans (hE5.mono PT26_PQw)).trans (hE6.mono PT26_PQw))) hOA hb6 (sw_RV (by omega) (by omega) hn9 hrv) x1 (by omega)) (cw_X0_266 hts ⟨Nat.le_of_ble_eq_true rfl, Nat.le_of_ble_eq_true rfl⟩) (hG 0 _ rfl) rfl rfl rfl rfl (Nat.le_of_ble_eq_true rfl) dX0_changeBest_93 (fun _ h => h) (fun r H1 locs hq hF hS => ?_)
          obtain ⟨V7, hG, hE7, hr7⟩ := hq
          generalize hHe7 : H1 = H at hG hS ⊢
          clear hHe7 hF
          subst hr7
          have hli7 := liF_le (t := T) (stl := nI 1) (lots := xS T) (f := swF a b f) x1
          refine lv_istore (lv' := [(7, .int (nI (liF T (nI 1) (xS T) (swF a b f) x1))), (6, .int (nI b)), (5, .int (nI a)), (4, .int (nI y)), (3, .int (o1 (-2) op)), (0, .ref o), (1, .int (nI x1)), (2, .int (nI x2))]) hx hb dX0_changeBest_96 hl (by decide) rfl (fun ls hl => ?_)
          refine lv_iload hx hb dX0_changeBest_98 (lv_at hl 0 rfl) ?_
          refine lv_iload hx hb dX0_changeBest_100 (lv_at hl 3 rfl) ?_
          refine n_icmp_gt (tgt := 108) hx hb dX0_changeBest_102 (by decide) (by omega) (by omega) (fun c102 => ?_) (fun c102 => ?_)
          · have hlt : y < cbG T f x1 a b := c102
            refine lv_bipush (v := (nI 10)) hx hb dX0_changeBest_108 (by decide) ?_
            refine lv_iload hx hb dX0_changeBest_110 (lv_at hl 2 rfl) ?_
            refine n_imul hx hb dX0_changeBest_112 ?_
            refine lv_iload hx hb dX0_changeBest_113 (lv_at hl 1 rfl) ?_
            refine n_iadd hx hb dX0_changeBest_115 ?_
            refine lv_istore_n (lv' := [(3, .int (nI ((10 * a) + b))), (7, .int (nI (liF T (nI 1) (xS T) (swF a b f) x1))), (6, .int (nI b)), (5, .int (nI a)), (4, .int (nI y)), (0, .ref o), (1, .int (nI x1)), (2, .int (nI x2))]) hx hb dX0_changeBest_116 rfl hl (by decide) rfl (fun ls hl => ?_)
            refine lv_iload hx hb dX0_changeBest_117 (lv_at hl 1 rfl) ?_
            refine lv_istore (lv' := [(4, .int (nI (liF T (nI 1) (xS T) (swF a b f) x1))), (3, .int (nI ((10 * a) + b))), (7, .int (nI (liF T (nI 1) (xS T) (swF a b f) x1))), (6, .int (nI b)), (5, .int (nI a)), (0, .ref o), (1, .int (nI x1)), (2, .int (nI x2))]) hx hb dX0_changeBest_119 hl (by decide) rfl (fun ls hl => ?_)
            refine lv_iinc (v := (nI (b + 1))) (lv' := [(6, .int (nI (b + 1))), (4, .int (nI (liF T (nI 1) (xS T) (swF a b f) x1))), (3, .int (nI ((10 * a) + b))), (7, .int (nI (liF T (nI 1) (xS T) (swF a b f) x1))), (5, .int (nI a)), (0, .ref o), (1, .int (nI x1)), (2, .int (nI x2))]) hx hb dX0_changeBest_121 hl (k := 3) rfl (nI_add _ _) (by decide) rfl (fun ls hl => ?_)
            refine lv_goto (tgt := 60) hx hb dX0_changeBest_124 (by decide) ?_
            exact ih4 (b + 1) (some (10 * a + b)) (cbG T f x1 a b) V7 _ _ _ (by omega) (by omega) (by omega) ((cbJ_s hj (by omega)).trans (if_pos hlt)) (by have := liF_le (t := T) (stl := nI 1) (lots := xS T) (f := swF a b f) x1; show liF T (nI 1) (xS T) (swF a b f) x1 ≤ 216; omega) (fun _ h => by cases h; omega) (Eqx.trans (Eqx.trans (Eqx.trans hE4 (hE5.mono PT26_PQw)) (hE6.mono PT26_PQw)) (hE7.mono PT26_PQw)) hG hS (lv_sub hl [0, 4, 1, 2, 5, 6, 7] rfl)
          have hle : cbG T f x1 a b ≤ y := Nat.not_lt.mp (fun h => absurd h (Nat.not_lt.mpr c102))
          refine lv_goto (tgt := 121) hx hb dX0_changeBest_105 (by decide) ?_
          refine lv_iinc (v := (nI (b + 1))) (lv' := [(6, .int (nI (b + 1))), (7, .int (nI (liF T (nI 1) (xS T) (swF a b f) x1))), (5, .int (nI a)), (4, .int (nI y)), (3, .int (o1 (-2) op)), (0, .ref o), (1, .int (nI x1)), (2, .int (nI x2))]) hx hb dX0_changeBest_121 hl (k := 1) rfl (nI_add _ _) (by decide) rfl (fun ls hl => ?_)
          refine lv_goto (tgt := 60) hx hb dX0_changeBest_124 (by decide) ?_
          exact ih4 (b + 1) op y V7 _ _ _ (by omega) (by omega) (by omega) ((cbJ_s hj (by omega)).trans (if_neg (Nat.not_lt.mpr hle))) hy9 hi9 (Eqx.trans (Eqx.trans (Eqx.trans hE4 (hE5.mono PT26_PQw)) (hE6.mono PT26_PQw)) (hE7.mono PT26_PQw)) hG hS (lv_sub hl [0, 2, 3, 4, 5, 6, 7] rfl)
      exact loop4 ((xN T - (a + 1)) + 1) (a + 1) op y V3 _ _ _ (Nat.lt_succ_self _) (Nat.le_refl _) (by omega) ((cbJ_0 _ (Nat.le_refl _)).trans hs) hy9 hi9 Eqx.rf hG hS (lv_sub hl [0, 1, 2, 3, 4, 5, 6] rfl)
  exact loop3 ((xN T - 0) + 1) 0 none (liF T (nI 1) (xS T) f x1) V2 _ _ _ (Nat.lt_succ_self _) (Nat.zero_le _) rfl (by have := liF_le (t := T) (stl := nI 1) (lots := xS T) (f := f) x1; omega) (fun _ h => nomatch h) Eqx.rf hG hS (lv_sub hl [0, 1, 2, 3, 4, 5] rfl)
