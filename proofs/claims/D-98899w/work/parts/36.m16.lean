theorem smF_s {G : Nat → Nat} {k y : Nat} (h : smF G k = y) : smF G (k + 1) = y + G k := by simp only [smF]; rw [h]
theorem hour_1 {t : Txt} {a b : Int32} {f g : Nat → Int32} {k : Nat} (h : g = hourF t a b (goF t a b k f)) : g = goF t a b (k + 1) f := h
theorem li_cg {t : Txt} {a a' b b' : Int32} {q : Nat} {f f' : Nat → Int32} (h1 : a = a') (h2 : b = b') (h3 : f = f') : liF t a b f q = liF t a' b' f' q := by rw [h1, h2, h3]
set_option maxHeartbeats 4000000 in
theorem met_X13_leftIn (l : Launch) (D : va_G) (dA : Nat → ClassId) {o : Nat} {V : GI} {L : GL} {Rf : GR} {H0 : Heap} (hG : gP D dA o dM V L Rf H0) {lv : Nat} {t : Txt} (hX : txM V lv t) (q : Nat) (hq9 : q < 1000) : Ctr l D dA yX13_leftIn cX13_leftIn 4 (some .int) (mkRm 6 128) [.ref o, .int (nI q)] H0 (AM o) (QI (fun r H1 => ∃ V1, gP D dA o dM V1 L Rf H1 ∧ Eqx PH V V1 ∧ r = nI (liF t (V 0 50) (V 0 49) (V 31) q))) := by
  have hT := hX.1
  have hT1 := hT.1
  have hT2 := hT.2.1
  refine ctr_I (by decide) (Nat.le_of_ble_eq_true rfl) ?_
  intro p e s m args below meth c ls QQ locs hx hb hml hown hts hK hend hS hl
  have hl : lv_has ls 4 [(0, .ref o), (1, .int (nI q))] := hl
  refine lv_iconst (v := (nI 0)) hx hb dX13_leftIn_0 (by decide) ?_
  refine lv_istore_n (lv' := [(2, .int (nI 0)), (0, .ref o), (1, .int (nI q))]) hx hb dX13_leftIn_1 rfl hl (by decide) rfl (fun ls hl => ?_)
  refine lv_iconst (v := (nI 0)) hx hb dX13_leftIn_2 (by decide) ?_
  refine lv_istore_n (lv' := [(3, .int (nI 0)), (2, .int (nI 0)), (0, .ref o), (1, .int (nI q))]) hx hb dX13_leftIn_3 rfl hl (by decide) rfl (fun ls hl => ?_)
  have loop1 : ∀ (fu1 : Nat) (k : Nat) (y : Nat) (V1 : GI) (H : Heap) (locs : List Loc) (ls : Array Slot), q - k < fu1 → (k ≤ q) → (smF (liG t (V 0 50) (V 0 49) (V 31)) k = y) → (Eqx PH V V1) → (V1 31 = goF t (V 0 50) (V 0 49) k (V 31)) → gP D dA o dM V1 L Rf H → va_S (AM o) H0 H locs → lv_has ls 4 [(3, .int (nI k)), (2, .int (nI y)), (0, .ref o), (1, .int (nI q))] → W p l e (mkRm 6 128) s m args below meth c H locs 0 0 QQ (F0 m 4 ls []) := by
    intro fu1
    induction fu1 with
    | zero => intro k y V1 H locs ls hfu; exact absurd hfu (Nat.not_lt_zero _)
    | succ fu1 ih1 =>
      intro k y V1 H locs ls hfu hk hy hE1 hrw hG hS hl
      have hyl : y ≤ 9 * k := hy ▸ smF_le (fun _ => bc9 _) k
      refine lv_iload_n hx hb dX13_leftIn_4 rfl (lv_at hl 0 rfl) ?_
      refine lv_iload_n hx hb dX13_leftIn_5 rfl (lv_at hl 3 rfl) ?_
      refine n_icmp_ge (tgt := 29) hx hb dX13_leftIn_6 (by decide) (by omega) (by omega) (fun c6 => ?_) (fun c6 => ?_)
      · refine lv_iload_n hx hb dX13_leftIn_29 rfl (lv_at hl 1 rfl) ?_
        refine hend _ _ _ _ _ hS dX13_leftIn_30 ?_
        exact ⟨_, rfl, _, hG, hE1, by rw [← hy, show k = q by omega]; rfl⟩
      refine lv_aload_n hx hb dX13_leftIn_9 rfl (lv_at hl 2 rfl) ?_
      refine c_VV hx hb hml hts hown hK hl.1 hS ⟨Nat.le_refl _, Nat.le_refl _⟩ (met_X13_hourGoes l D dA hG (txM_PH hE1 hX)) (cw_X13_358 hts ⟨by decide, by decide⟩) (hG 0 _ rfl) rfl rfl rfl rfl (Nat.le_of_ble_eq_true rfl) dX13_leftIn_10 (fun _ h => h) (fun H1 locs hq hF hS => ?_)
      obtain ⟨V2, hG, hE2, hr2⟩ := hq
      generalize hHe2 : H1 = H at hG hS ⊢
      clear hHe2
      have hr2 : V2 31 = hourF t (V 0 50) (V 0 49) (goF t (V 0 50) (V 0 49) k (V 31)) := hr2.trans (hour_cg (hE1 0 50 rfl) (hE1 0 49 rfl) hrw)
      refine lv_iload_n hx hb dX13_leftIn_13 rfl (lv_at hl 1 rfl) ?_
      refine lv_aload_n hx hb dX13_leftIn_14 rfl (lv_at hl 2 rfl) ?_
      refine c_VI hx hb hml hts hown hK hl.1 hS ⟨Nat.le_refl _, Nat.le_refl _⟩ (met_X13_rowBits l D dA hG (txM_PH (hE1.trans hE2) hX) (by rw [hr2]; exact (hour_RV _ _ _ _))) (cw_X13_370 hts ⟨by decide, by decide⟩) (hG 0 _ rfl) rfl rfl rfl rfl (Nat.le_of_ble_eq_true rfl) dX13_leftIn_15 (fun _ h => h.elim) (fun r H1 locs hq hF hS => ?_)
      obtain ⟨rfl, rfl⟩ := hq
      refine iv (y := nI (rbF (hourF t (V 0 50) (V 0 49) (goF t (V 0 50) (V 0 49) k (V 31))) (xN t))) (congrArg (fun z => nI (rbF z (xN t))) (hr2)) ?_
      have hrb15 : rbF (hourF t (V 0 50) (V 0 49) (goF t (V 0 50) (V 0 49) k (V 31))) (xN t) < 512 := rb9 hT2
      refine c_SI hx hb hml hts hown hK hl.1 hS ⟨Nat.le_refl _, Nat.le_refl _⟩ (met_X13_bits l D dA (rbF (hourF t (V 0 50) (V 0 49) (goF t (V 0 50) (V 0 49) k (V 31))) (xN t)) (rb9 hT2)) (cw_X13_398 hts ⟨by decide, by decide⟩) rfl rfl (Nat.le_of_ble_eq_true rfl) dX13_leftIn_18 (fun _ h => h.elim) (fun r H1 locs hq hF hS => ?_)
      obtain ⟨rfl, rfl⟩ := hq
      have hbc18 := bc9 (rbF (hourF t (V 0 50) (V 0 49) (goF t (V 0 50) (V 0 49) k (V 31))) (xN t))
      refine n_iadd hx hb dX13_leftIn_21 ?_
      refine lv_istore_n (lv' := [(2, .int (nI (y + (bc (rbF (hourF t (V 0 50) (V 0 49) (goF t (V 0 50) (V 0 49) k (V 31))) (xN t)))))), (3, .int (nI k)), (0, .ref o), (1, .int (nI q))]) hx hb dX13_leftIn_22 rfl hl (by decide) rfl (fun ls hl => ?_)
      refine lv_iinc (v := (nI (k + 1))) (lv' := [(3, .int (nI (k + 1))), (2, .int (nI (y + (bc (rbF (hourF t (V 0 50) (V 0 49) (goF t (V 0 50) (V 0 49) k (V 31))) (xN t)))))), (0, .ref o), (1, .int (nI q))]) hx hb dX13_leftIn_23 hl (k := 1) rfl (nI_add _ _) (by decide) rfl (fun ls hl => ?_)
      refine lv_goto (tgt := 4) hx hb dX13_leftIn_26 (by decide) ?_
      have hrz3 : V2 31 = goF t (V 0 50) (V 0 49) (k + 1) (V 31) := hr2
      exact ih1 (k + 1) (y + (bc (rbF (hourF t (V 0 50) (V 0 49) (goF t (V 0 50) (V 0 49) k (V 31))) (xN t)))) V2 _ _ _ (by omega) (by omega) (smF_s hy) (Eqx.trans hE1 hE2) hrz3 hG hS (lv_sub hl [0, 1, 2, 3] rfl)
  exact loop1 ((q - 0) + 1) 0 0 V _ _ _ (Nat.lt_succ_self _) (by omega) rfl Eqx.rf rfl hG hS (lv_sub hl [0, 1, 2, 3] rfl)
set_option maxHeartbeats 4000000 in
theorem met_X13_changes (l : Launch) (D : va_G) (dA : Nat → ClassId) {o : Nat} {V : GI} {L : GL} {Rf : GR} {H0 : Heap} (hG : gP D dA o dM V L Rf H0) (a b : Nat) (ha9 : a < 9) (hb9 : b < 9) : Ctr l D dA yX13_changes cX13_changes 5 none (mkRm 0 0) [.ref o, .int (nI a), .int (nI b)] H0 (AM o) (QV (fun H1 => ∃ V1, gP D dA o dM V1 L Rf H1 ∧ Eqx PR V V1 ∧ V1 31 = swF a b (V 31))) := by
  refine ctr_V (by decide) (Nat.le_of_ble_eq_true rfl) ?_
  intro p e s m args below meth c ls QQ locs hx hb hml hown hts hK hend hS hl
  have hl : lv_has ls 5 [(0, .ref o), (1, .int (nI a)), (2, .int (nI b))] := hl
  refine lv_iconst (v := (nI 0)) hx hb dX13_changes_0 (by decide) ?_
  refine lv_istore_n (lv' := [(3, .int (nI 0)), (0, .ref o), (1, .int (nI a)), (2, .int (nI b))]) hx hb dX13_changes_1 rfl hl (by decide) rfl (fun ls hl => ?_)
  have loop1 : ∀ (fu1 : Nat) (i : Nat) (V1 : GI) (H : Heap) (locs : List Loc) (ls : Array Slot), 5 - i < fu1 → (i ≤ 5) → (Eqx PR V V1) → (∀ j, j < 48 → V1 31 j = swK a b (V 31) (i * 9) j) → gP D dA o dM V1 L Rf H → va_S (AM o) H0 H locs → lv_has ls 5 [(3, .int (nI (i * 9))), (0, .ref o), (1, .int (nI a)), (2, .int (nI b))] → W p l e (mkRm 0 0) s m args below meth c H locs 0 0 QQ (F0 m 2 ls []) := by
    intro fu1
    induction fu1 with
    | zero => intro i V1 H locs ls hfu; exact absurd hfu (Nat.not_lt_zero _)
    | succ fu1 ih1 =>
      intro i V1 H locs ls hfu hi5 hE1 hsw hG hS hl
      refine lv_iload_n hx hb dX13_changes_2 rfl (lv_at hl 0 rfl) ?_
      refine lv_bipush (v := (nI 45)) hx hb dX13_changes_3 (by decide) ?_
      refine n_icmp_ge (tgt := 50) hx hb dX13_changes_5 (by decide) (by omega) (by omega) (fun c5 => ?_) (fun c5 => ?_)
      · refine hend _ _ _ _ hS dX13_changes_50 ?_
        exact ⟨rfl, _, hG.setcell (k := 31) (f := swF a b (V 31)) rfl (fun j hj => (hsw j hj).trans (by obtain rfl : i = 5 := (by omega); unfold swK; split; rfl; unfold swF; rw [if_neg (by omega)])), Eqx.cell hE1 (fun _ => rfl), va_up_s⟩
      refine lv_aload_n hx hb dX13_changes_8 rfl (lv_at hl 1 rfl) ?_
      refine g_get hx hb hts hown hK hG 0 rfl rfl ok_X13 48 (by decide) q1519 rfl rfl dX13_changes_9 ?_
      refine lv_iload_n hx hb dX13_changes_12 rfl (lv_at hl 0 rfl) ?_
      refine lv_iload_n hx hb dX13_changes_13 rfl (lv_at hl 2 rfl) ?_
      refine n_iadd hx hb dX13_changes_14 ?_
      refine n_iald hx hb hK hG 31 rfl (by omega) (by decide) dX13_changes_15 ?_
      refine iv (y := (V 31 (i * 9 + a))) ((hsw _ (by omega)).trans (if_neg (by omega))) ?_
      refine lv_istore (lv' := [(4, .int (V 31 (i * 9 + a))), (3, .int (nI (i * 9))), (0, .ref o), (1, .int (nI a)), (2, .int (nI b))]) hx hb dX13_changes_16 hl (by decide) rfl (fun ls hl => ?_)
      refine lv_aload_n hx hb dX13_changes_18 rfl (lv_at hl 2 rfl) ?_
      refine g_get hx hb hts hown hK hG 0 rfl rfl ok_X13 48 (by decide) q1519 rfl rfl dX13_changes_19 ?_
      refine lv_iload_n hx hb dX13_changes_22 rfl (lv_at hl 1 rfl) ?_
      refine lv_iload_n hx hb dX13_changes_23 rfl (lv_at hl 3 rfl) ?_
      refine n_iadd hx hb dX13_changes_24 ?_
      refine lv_aload_n hx hb dX13_changes_25 rfl (lv_at hl 2 rfl) ?_
      refine g_get hx hb hts hown hK hG 0 rfl rfl ok_X13 48 (by decide) q1519 rfl rfl dX13_changes_26 ?_
      refine lv_iload_n hx hb dX13_changes_29 rfl (lv_at hl 1 rfl) ?_
      refine lv_iload_n hx hb dX13_changes_30 rfl (lv_at hl 4 rfl) ?_
      refine n_iadd hx hb dX13_changes_31 ?_
      refine n_iald hx hb hK hG 31 rfl (by omega) (by decide) dX13_changes_32 ?_
      refine iv (y := (V 31 (i * 9 + b))) ((hsw _ (by omega)).trans (if_neg (by omega))) ?_
      refine n_iast hx hb hK hG hS 31 (AM_in 31 (by decide)) rfl (by omega) (by decide) dX13_changes_33 (fun H locs hG hO hS => ?_)
      refine lv_aload_n hx hb dX13_changes_34 rfl (lv_at hl 2 rfl) ?_
      refine g_get hx hb hts hown hK hG 0 rfl rfl ok_X13 48 (by decide) q1519 rfl rfl dX13_changes_35 ?_
      refine lv_iload_n hx hb dX13_changes_38 rfl (lv_at hl 1 rfl) ?_
      refine lv_iload_n hx hb dX13_changes_39 rfl (lv_at hl 4 rfl) ?_
      refine n_iadd hx hb dX13_changes_40 ?_
      refine lv_iload hx hb dX13_changes_41 (lv_at hl 0 rfl) ?_
      refine n_iast hx hb hK hG hS 31 (AM_in 31 (by decide)) rfl (by omega) (by decide) dX13_changes_43 (fun H locs hG hO hS => ?_)
      refine lv_iinc (v := (nI ((i + 1) * 9))) (lv' := [(3, .int (nI ((i + 1) * 9))), (4, .int (V 31 (i * 9 + a))), (0, .ref o), (1, .int (nI a)), (2, .int (nI b))]) hx hb dX13_changes_44 hl (k := 1) rfl (by rw [show (i + 1) * 9 = i * 9 + 9 by omega]; exact nI_add _ _) (by decide) rfl (fun ls hl => ?_)
      refine lv_goto (tgt := 2) hx hb dX13_changes_47 (by decide) ?_
      have hc31_1 : (up2 V1 31 ((i * 9) + a) (V 31 (i * 9 + b))) 31 = va_up (V1 31) ((i * 9) + a) (V 31 (i * 9 + b)) := rfl
      have hc31_2 : (up2 (up2 V1 31 ((i * 9) + a) (V 31 (i * 9 + b))) 31 ((i * 9) + b) (V 31 (i * 9 + a))) 31 = va_up (va_up (V1 31) ((i * 9) + a) (V 31 (i * 9 + b))) ((i * 9) + b) (V 31 (i * 9 + a)) := congrArg (fun g => va_up g ((i * 9) + b) (V 31 (i * 9 + a))) hc31_1
      have hc31 : (up2 (up2 V1 31 ((i * 9) + a) (V 31 (i * 9 + b))) 31 ((i * 9) + b) (V 31 (i * 9 + a))) 31 = va_up (va_up (V1 31) ((i * 9) + a) (V 31 (i * 9 + b))) ((i * 9) + b) (V 31 (i * 9 + a)) := hc31_2
      exact ih1 (i + 1) (up2 (up2 V1 31 ((i * 9) + a) (V 31 (i * 9 + b))) 31 ((i * 9) + b) (V 31 (i * 9 + a))) _ _ _ (by omega) (by omega) (Eqx.up (Eqx.up hE1 rfl) rfl) (by rw [hc31]; exact sw_step ha9 hb9 (by omega) hsw) hG hS (lv_sub hl [0, 2, 3, 4] rfl)
  exact loop1 ((5 - 0) + 1) 0 V _ _ _ (Nat.lt_succ_self _) (by omega) Eqx.rf (fun j _ => (if_neg (by omega)).symm) hG hS (lv_sub hl [0, 1, 2, 3] rfl)
theorem cw_X13_428 {R : Room} {s : State} {args : Array Value} (hts : ∀ w ∈ lw_all, w.before args s = true) {f w k j : Nat} (hR : f + 1 ≤ R.frames ∧ 8 + (4 + 11) + w ≤ R.locals) : CallW R s args RX13 RX13 428 yX13_leftIn cX13_leftIn 4 (some .int) (ws_ yX13_leftIn cX13_leftIn 4 (some .int)) (mkRmC f w k j) k j 1 := cwV 1 hts (lw_V q2026 q2028 qs104 q129 q2029) rfl rfl rfl (by decide +kernel) hR
theorem cw_X13_380 {R : Room} {s : State} {args : Array Value} (hts : ∀ w ∈ lw_all, w.before args s = true) {f w k j : Nat} (hR : f + 1 ≤ R.frames ∧ 8 + (5 + 11) + w ≤ R.locals) : CallW R s args RX13 RX13 380 yX13_changes cX13_changes 5 none (ws_ yX13_changes cX13_changes 5 none) (mkRmC f w k j) k j 2 := cwV 2 hts (lw_V q1845 q1847 qs84 q129 q1848) rfl rfl rfl (by decide +kernel) hR
set_option maxHeartbeats 4000000 in
theorem met_X13_changeBest (l : Launch) (D : va_G) (dA : Nat → ClassId) {o : Nat} {V : GI} {L : GL} {Rf : GR} {H0 : Heap} (hG : gP D dA o dM V L Rf H0) {lv : Nat} {t : Txt} (hX : txM V lv t) (hrv : RV (xN t) (V 30)) (v1 v2 : Int32) : Ctr l D dA yX13_changeBest cX13_changeBest 8 (some .int) (mkRm 7 151) [.ref o, .int v1, .int v2] H0 (AM o) (QI (fun r H1 => ∃ V1, gP D dA o dM V1 L Rf H1 ∧ Eqx PW V V1 ∧ r = changeBestA t (V 30) v1 v2)) := by
  have hT := hX.1
  have hT1 := hT.1
  have hT2 := hT.2.1
  have hp2 := two9 hT2
  have hpp := Nat.two_pow_pos (xN t)
  refine ctr_I (by decide) (Nat.le_of_ble_eq_true rfl) ?_
  intro p e s m args below meth c ls QQ locs hx hb hml hown hts hK hend hS hl
  have hl : lv_has ls 8 [(0, .ref o), (1, .int v1), (2, .int v2)] := hl
  refine lv_iload_n hx hb dX13_changeBest_0 rfl (lv_at hl 1 rfl) ?_
  refine lv_iconst (v := (nI 1)) hx hb dX13_changeBest_1 (by decide) ?_
  refine lv_bipush (v := (nI 24)) hx hb dX13_changeBest_2 (by decide) ?_
  refine c_SI hx hb hml hts hown hK hl.1 hS ⟨Nat.le_refl _, Nat.le_refl _⟩ (met_X13_in l D dA v1 (nI 1) (nI 24)) (cw_X13_308 hts ⟨by decide, by decide⟩) rfl rfl (Nat.le_of_ble_eq_true rfl) dX13_changeBest_4 (fun _ h => h.elim) (fun r H1 locs hq hF hS => ?_)
  obtain ⟨rfl, rfl⟩ := hq
  rcases (inZ_cases v1 1 24 (by decide) (by decide)).symm with ⟨hz4, ho4⟩ | ⟨x1, hlo_x1, hhi_x1, rfl, hz4⟩
  · refine iv (y := nI 0) hz4 ?_
    refine n_if_eq (tgt := 19) hx hb dX13_changeBest_7 (by decide) (by decide) (fun _ => ?_) (fun z => absurd z (by decide))
    refine lv_iconst (v := (-1)) hx hb dX13_changeBest_19 (by decide) ?_
    refine hend _ _ _ _ _ hS dX13_changeBest_20 ?_
    exact ⟨_, rfl, _, hG, Eqx.rf, ((ho4.1 _ _)).symm⟩
  refine iv (y := nI 1) hz4 ?_
  have hl : lv_has ls 8 [(0, .ref o), (1, .int (nI x1)), (2, .int v2)] := hl
  refine n_if_eq (tgt := 19) hx hb dX13_changeBest_7 (by decide) (by decide) (fun z => absurd z (by decide)) (fun _ => ?_)
  refine lv_iload_n hx hb dX13_changeBest_10 rfl (lv_at hl 2 rfl) ?_
  refine lv_iconst (v := (nI 0)) hx hb dX13_changeBest_11 (by decide) ?_
  refine lv_iconst (v := (nI 1)) hx hb dX13_changeBest_12 (by decide) ?_
  refine c_SI hx hb hml hts hown hK hl.1 hS ⟨Nat.le_refl _, Nat.le_refl _⟩ (met_X13_in l D dA v2 (nI 0) (nI 1)) (cw_X13_308 hts ⟨by decide, by decide⟩) rfl rfl (Nat.le_of_ble_eq_true rfl) dX13_changeBest_13 (fun _ h => h.elim) (fun r H1 locs hq hF hS => ?_)
  obtain ⟨rfl, rfl⟩ := hq
  rcases (inZ_cases v2 0 1 (by decide) (by decide)).symm with ⟨hz13, ho13⟩ | ⟨x2, hlo_x2, hhi_x2, rfl, hz13⟩
  · refine iv (y := nI 0) hz13 ?_
    refine n_if_ne (tgt := 21) hx hb dX13_changeBest_16 (by decide) (by decide) (fun z => absurd z (by decide)) (fun _ => ?_)
    refine lv_iconst (v := (-1)) hx hb dX13_changeBest_19 (by decide) ?_
    refine hend _ _ _ _ _ hS dX13_changeBest_20 ?_
    exact ⟨_, rfl, _, hG, Eqx.rf, ((rng_in hlo_x1 hhi_x1 (by omega)).trans ((ho13.1 _ _))).symm⟩
  refine iv (y := nI 1) hz13 ?_
  have hl : lv_has ls 8 [(0, .ref o), (1, .int (nI x1)), (2, .int (nI x2))] := hl
  refine n_if_ne (tgt := 21) hx hb dX13_changeBest_16 (by decide) (by decide) (fun _ => ?_) (fun z => absurd z (by decide))
  refine lv_aload_n hx hb dX13_changeBest_21 rfl (lv_at hl 0 rfl) ?_
  refine c_VV hx hb hml hts hown hK hl.1 hS ⟨Nat.le_refl _, Nat.le_refl _⟩ (met_X13_copiesStill l D dA hG hX) (cw_X13_361 hts ⟨by decide, by decide⟩) (hG 0 _ rfl) rfl rfl rfl rfl (Nat.le_of_ble_eq_true rfl) dX13_changeBest_22 (fun _ h => h) (fun H1 locs hq hF hS => ?_)
  obtain ⟨V1, hG, hE1, hr1, hl1, hs1⟩ := hq
  generalize hHe1 : H1 = H at hG hS ⊢
  clear hHe1
  refine lv_aload_n hx hb dX13_changeBest_25 rfl (lv_at hl 0 rfl) ?_
  refine lv_iload_n hx hb dX13_changeBest_26 rfl (lv_at hl 1 rfl) ?_
  refine c_VI hx hb hml hts hown hK hl.1 hS ⟨Nat.le_refl _, Nat.le_refl _⟩ (met_X13_leftIn l D dA hG (txM_PW (hE1.mono PC_PW) hX) x1 (by omega)) (cw_X13_428 hts ⟨by decide, by decide⟩) (hG 0 _ rfl) rfl rfl rfl rfl (Nat.le_of_ble_eq_true rfl) dX13_changeBest_27 (fun _ h => h) (fun r H1 locs hq hF hS => ?_)
  obtain ⟨V2, hG, hE2, hr2⟩ := hq
  generalize hHe2 : H1 = H at hG hS ⊢
  clear hHe2
  have hr2 : r = nI (liF t (nI 1) (xS t) (V 30) x1) := hr2.trans (congrArg nI (li_cg hs1 hl1 hr1))
  subst hr2
  have hli27 : liF t (nI 1) (xS t) (V 30) x1 ≤ 9 * x1 := liF_le _
  refine lv_istore_n (lv' := [(3, .int (nI (liF t (nI 1) (xS t) (V 30) x1))), (0, .ref o), (1, .int (nI x1)), (2, .int (nI x2))]) hx hb dX13_changeBest_30 rfl hl (by decide) rfl (fun ls hl => ?_)
  refine lv_bipush (v := (-2)) hx hb dX13_changeBest_31 (by decide) ?_
  refine lv_istore (lv' := [(4, .int (-2)), (3, .int (nI (liF t (nI 1) (xS t) (V 30) x1))), (0, .ref o), (1, .int (nI x1)), (2, .int (nI x2))]) hx hb dX13_changeBest_33 hl (by decide) rfl (fun ls hl => ?_)
  refine lv_iconst (v := (nI 0)) hx hb dX13_changeBest_35 (by decide) ?_
  refine lv_istore (lv' := [(5, .int (nI 0)), (4, .int (-2)), (3, .int (nI (liF t (nI 1) (xS t) (V 30) x1))), (0, .ref o), (1, .int (nI x1)), (2, .int (nI x2))]) hx hb dX13_changeBest_36 hl (by decide) rfl (fun ls hl => ?_)
  have loop3 : ∀ (fu3 : Nat) (a : Nat) (op : Option Nat) (y : Nat) (V3 : GI) (H : Heap) (locs : List Loc) (ls : Array Slot), xN t - a < fu3 → (a ≤ xN t) → (cbO (cbG t (V 30) x1) (xN t) (liF t (nI 1) (xS t) (V 30) x1) a = (op, y)) → (∀ i, op = some i → i < 100) → (y ≤ 9 * x1) → (Eqx PW V2 V3) → gP D dA o dM V3 L Rf H → va_S (AM o) H0 H locs → lv_has ls 8 [(5, .int (nI a)), (4, .int (o1 (-2) op)), (3, .int (nI y)), (0, .ref o), (1, .int (nI x1)), (2, .int (nI x2))] → W p l e (mkRm 7 151) s m args below meth c H locs 0 0 QQ (F0 m 38 ls []) := by
    intro fu3
    induction fu3 with
    | zero => intro a op y V3 H locs ls hfu; exact absurd hfu (Nat.not_lt_zero _)
    | succ fu3 ih3 =>
      intro a op y V3 H locs ls hfu han hs hop9 hy9 hE3 hG hS hl
      refine lv_iload hx hb dX13_changeBest_38 (lv_at hl 0 rfl) ?_
      refine lv_aload_n hx hb dX13_changeBest_40 rfl (lv_at hl 3 rfl) ?_
      refine c_VI hx hb hml hts hown hK hl.1 hS ⟨Nat.le_refl _, Nat.le_refl _⟩ (met_X13_many l D dA hG (tM_to hT ((hE3 0 18 rfl).trans ((hE2 0 18 rfl).trans (hE1 0 18 rfl))) ((hE3 9 lv rfl).trans ((hE2 9 lv rfl).trans (hE1 9 lv rfl))))) (cw_X13_304 hts ⟨by decide, by decide⟩) (hG 0 _ rfl) rfl rfl rfl rfl (Nat.le_of_ble_eq_true rfl) dX13_changeBest_41 (fun _ h => h.elim) (fun r H1 locs hq hF hS => ?_)
      obtain ⟨rfl, rfl⟩ := hq
      refine n_icmp_ge (tgt := 115) hx hb dX13_changeBest_44 (by decide) (by omega) (by omega) (fun c44 => ?_) (fun c44 => ?_)
      · obtain rfl : a = xN t := by omega
        rcases op with _ | i
        · have hl : lv_has ls 8 [(5, .int (nI (xN t))), (4, .int (-2)), (3, .int (nI y)), (0, .ref o), (1, .int (nI x1)), (2, .int (nI x2))] := hl
          refine lv_iload hx hb dX13_changeBest_115 (lv_at hl 1 rfl) ?_
          refine lv_if_lt (tgt := 124) hx hb dX13_changeBest_117 (by decide) (fun _ => ?_) (fun z => absurd (by decide) z)
          refine lv_iload hx hb dX13_changeBest_124 (lv_at hl 1 rfl) ?_
          refine lv_goto (tgt := 130) hx hb dX13_changeBest_126 (by decide) ?_
          refine hend _ _ _ _ _ hS dX13_changeBest_130 ?_
          exact ⟨_, rfl, _, hG, (((hE1.mono PC_PW).trans (hE2.mono PH_PW)).trans hE3), ((rng_in hlo_x1 hhi_x1 (by omega)).trans ((rng_in hlo_x2 hhi_x2 (by omega)).trans ((by have e : cbP t (V 30) x1 = _ := hs; rw [e])))).symm⟩
        have hl : lv_has ls 8 [(5, .int (nI (xN t))), (4, .int (nI i)), (3, .int (nI y)), (0, .ref o), (1, .int (nI x1)), (2, .int (nI x2))] := hl
        have hi9 := hop9 i rfl
        refine lv_iload hx hb dX13_changeBest_115 (lv_at hl 1 rfl) ?_
        refine n_if_lt (tgt := 124) hx hb dX13_changeBest_117 (by decide) (by omega) ?_
        refine lv_iload_n hx hb dX13_changeBest_120 rfl (lv_at hl 5 rfl) ?_
        refine n_if_ne (tgt := 129) hx hb dX13_changeBest_121 (by decide) (by omega) (fun c121 => ?_) (fun c121 => ?_)
        · refine lv_iload_n hx hb dX13_changeBest_129 rfl (lv_at hl 2 rfl) ?_
          refine hend _ _ _ _ _ hS dX13_changeBest_130 ?_
          exact ⟨_, rfl, _, hG, (((hE1.mono PC_PW).trans (hE2.mono PH_PW)).trans hE3), ((rng_in hlo_x1 hhi_x1 (by omega)).trans ((rng_in hlo_x2 hhi_x2 (by omega)).trans ((by have e : cbP t (V 30) x1 = _ := hs; rw [e]; exact if_neg (by omega))))).symm⟩
        refine lv_iload hx hb dX13_changeBest_124 (lv_at hl 1 rfl) ?_
        refine lv_goto (tgt := 130) hx hb dX13_changeBest_126 (by decide) ?_
        refine hend _ _ _ _ _ hS dX13_changeBest_130 ?_
        exact ⟨_, rfl, _, hG, (((hE1.mono PC_PW).trans (hE2.mono PH_PW)).trans hE3), ((rng_in hlo_x1 hhi_x1 (by omega)).trans ((rng_in hlo_x2 hhi_x2 (by omega)).trans ((by have e : cbP t (V 30) x1 = _ := hs; rw [e]; exact if_pos c121)))).symm⟩
      refine lv_iload hx hb dX13_changeBest_47 (lv_at hl 0 rfl) ?_
      refine lv_iconst (v := (nI 1)) hx hb dX13_changeBest_49 (by decide) ?_
      refine n_iadd hx hb dX13_changeBest_50 ?_
      refine lv_istore (lv' := [(6, .int (nI (a + 1))), (5, .int (nI a)), (4, .int (o1 (-2) op)), (3, .int (nI y)), (0, .ref o), (1, .int (nI x1)), (2, .int (nI x2))]) hx hb dX13_changeBest_51 hl (by decide) rfl (fun ls hl => ?_)
      have loop4 : ∀ (fu4 : Nat) (b : Nat) (op : Option Nat) (y : Nat) (V4 : GI) (H : Heap) (locs : List Loc) (ls : Array Slot), xN t - b < fu4 → (a < b) → (b ≤ xN t) → (cbJ (cbG t (V 30) x1) a b (cbO (cbG t (V 30) x1) (xN t) (liF t (nI 1) (xS t) (V 30) x1) a) = (op, y)) → (∀ i, op = some i → i < 100) → (y ≤ 9 * x1) → (Eqx PW V3 V4) → gP D dA o dM V4 L Rf H → va_S (AM o) H0 H locs → lv_has ls 8 [(6, .int (nI b)), (5, .int (nI a)), (4, .int (o1 (-2) op)), (3, .int (nI y)), (0, .ref o), (1, .int (nI x1)), (2, .int (nI x2))] → W p l e (mkRm 7 151) s m args below meth c H locs 0 0 QQ (F0 m 53 ls []) := by
        intro fu4
        induction fu4 with
        | zero => intro b op y V4 H locs ls hfu; exact absurd hfu (Nat.not_lt_zero _)
        | succ fu4 ih4 =>
          intro b op y V4 H locs ls hfu hab hbn hs hop9 hy9 hE4 hG hS hl
          have hbest : ∀ i, some (10 * a + b) = some i → b < xN t → i < 100 := fun i h h2 => by cases h; omega
          refine lv_iload hx hb dX13_changeBest_53 (lv_at hl 0 rfl) ?_
          refine lv_aload_n hx hb dX13_changeBest_55 rfl (lv_at hl 4 rfl) ?_
          refine c_VI hx hb hml hts hown hK hl.1 hS ⟨Nat.le_refl _, Nat.le_refl _⟩ (met_X13_many l D dA hG (tM_to hT ((hE4 0 18 rfl).trans ((hE3 0 18 rfl).trans ((hE2 0 18 rfl).trans (hE1 0 18 rfl)))) ((hE4 9 lv rfl).trans ((hE3 9 lv rfl).trans ((hE2 9 lv rfl).trans (hE1 9 lv rfl)))))) (cw_X13_304 hts ⟨by decide, by decide⟩) (hG 0 _ rfl) rfl rfl rfl rfl (Nat.le_of_ble_eq_true rfl) dX13_changeBest_56 (fun _ h => h.elim) (fun r H1 locs hq hF hS => ?_)
          obtain ⟨rfl, rfl⟩ := hq
          refine n_icmp_ge (tgt := 109) hx hb dX13_changeBest_59 (by decide) (by omega) (by omega) (fun c59 => ?_) (fun c59 => ?_)
          · obtain rfl : b = xN t := by omega
            refine lv_iinc (v := (nI (a + 1))) (lv' := [(5, .int (nI (a + 1))), (6, .int (nI (xN t))), (4, .int (o1 (-2) op)), (3, .int (nI y)), (0, .ref o), (1, .int (nI x1)), (2, .int (nI x2))]) hx hb dX13_changeBest_109 hl (k := 1) rfl (nI_add _ _) (by decide) rfl (fun ls hl => ?_)
            refine lv_goto (tgt := 38) hx hb dX13_changeBest_112 (by decide) ?_
            exact ih3 (a + 1) op y V4 _ _ _ (by omega) (by omega) (by simp only [cbO]; exact hs) hop9 (by omega) (Eqx.trans hE3 hE4) hG hS (lv_sub hl [0, 2, 3, 4, 5, 6] rfl)
          have hbest : ∀ i, some (10 * a + b) = some i → i < 100 := fun i h => hbest i h c59
          refine lv_aload_n hx hb dX13_changeBest_62 rfl (lv_at hl 4 rfl) ?_
          refine c_VV hx hb hml hts hown hK hl.1 hS ⟨Nat.le_refl _, Nat.le_refl _⟩ (met_X13_copiesStill l D dA hG (txM_PW ((((hE1.mono PC_PW).trans (hE2.mono PH_PW)).trans hE3).trans hE4) hX)) (cw_X13_361 hts ⟨by decide, by decide⟩) (hG 0 _ rfl) rfl rfl rfl rfl (Nat.le_of_ble_eq_true rfl) dX13_changeBest_63 (fun _ h => h) (fun H1 locs hq hF hS => ?_)
          obtain ⟨V5, hG, hE5, hr5, hl5, hs5⟩ := hq
          generalize hHe5 : H1 = H at hG hS ⊢
          clear hHe5
          have hr5 : V5 31 = V 30 := hr5.trans (((funext (fun j => hE4 30 j rfl)).trans ((funext (fun j => hE3 30 j rfl)).trans ((funext (fun j => hE2 30 j rfl)).trans (funext (fun j => hE1 30 j rfl))))))
          refine lv_aload_n hx hb dX13_changeBest_66 rfl (lv_at hl 4 rfl) ?_
          refine lv_iload hx hb dX13_changeBest_67 (lv_at hl 1 rfl) ?_
          refine lv_iload hx hb dX13_changeBest_69 (lv_at hl 0 rfl) ?_
          refine c_VV hx hb hml hts hown hK hl.1 hS ⟨Nat.le_refl _, Nat.le_refl _⟩ (met_X13_changes l D dA hG a b (by omega) (by omega)) (cw_X13_380 hts ⟨by decide, by decide⟩) (hG 0 _ rfl) rfl rfl rfl rfl (Nat.le_of_ble_eq_true rfl) dX13_changeBest_71 (fun _ h => h) (fun H1 locs hq hF hS => ?_)
          obtain ⟨V6, hG, hE6, hr6⟩ := hq
          generalize hHe6 : H1 = H at hG hS ⊢
          clear hHe6
          rw [hr5] at hr6
          refine lv_aload_n hx hb dX13_changeBest_74 rfl (lv_at hl 4 rfl) ?_
          refine lv_iload_n hx hb dX13_changeBest_75 rfl (lv_at hl 5 rfl) ?_
          refine c_VI hx hb hml hts hown hK hl.1 hS ⟨Nat.le_refl _, Nat.le_refl _⟩ (met_X13_leftIn l D dA hG (txM_PW ((((((hE1.mono PC_PW).trans (hE2.mono PH_PW)).trans hE3).trans hE4).trans (hE5.mono PC_PW)).trans (hE6.mono PR_PW)) hX) x1 (by omega)) (cw_X13_428 hts ⟨by decide, by decide⟩) (hG 0 _ rfl) rfl rfl rfl rfl (Nat.le_of_ble_eq_true rfl) dX13_changeBest_76 (fun _ h => h) (fun r H1 locs hq hF hS => ?_)
          obtain ⟨V7, hG, hE7, hr7⟩ := hq
          generalize hHe7 : H1 = H at hG hS ⊢
          clear hHe7
          have hr7 : r = nI (liF t (nI 1) (xS t) (swF a b (V 30)) x1) := hr7.trans (congrArg nI (li_cg ((hE6 0 50 rfl).trans hs5) ((hE6 0 49 rfl).trans hl5) hr6))
          subst hr7
          have hli76 : liF t (nI 1) (xS t) (swF a b (V 30)) x1 ≤ 9 * x1 := liF_le _
          refine iv (y := nI (cbG t (V 30) x1 a b)) rfl ?_
          have hcb9 : cbG t (V 30) x1 a b ≤ 9 * x1 := liF_le _
          refine lv_istore (lv' := [(7, .int (nI (cbG t (V 30) x1 a b))), (6, .int (nI b)), (5, .int (nI a)), (4, .int (o1 (-2) op)), (3, .int (nI y)), (0, .ref o), (1, .int (nI x1)), (2, .int (nI x2))]) hx hb dX13_changeBest_79 hl (by decide) rfl (fun ls hl => ?_)
          refine lv_iload hx hb dX13_changeBest_81 (lv_at hl 0 rfl) ?_
          refine lv_iload_n hx hb dX13_changeBest_83 rfl (lv_at hl 4 rfl) ?_
          refine n_icmp_gt (tgt := 90) hx hb dX13_changeBest_84 (by decide) (by omega) (by omega) (fun c84 => ?_) (fun c84 => ?_)
          · refine lv_bipush (v := (nI 10)) hx hb dX13_changeBest_90 (by decide) ?_
            refine lv_iload hx hb dX13_changeBest_92 (lv_at hl 2 rfl) ?_
            refine n_imul hx hb dX13_changeBest_94 ?_
            refine lv_iload hx hb dX13_changeBest_95 (lv_at hl 1 rfl) ?_
            refine n_iadd hx hb dX13_changeBest_97 ?_
            refine lv_istore (lv' := [(4, .int (nI ((10 * a) + b))), (7, .int (nI (cbG t (V 30) x1 a b))), (6, .int (nI b)), (5, .int (nI a)), (3, .int (nI y)), (0, .ref o), (1, .int (nI x1)), (2, .int (nI x2))]) hx hb dX13_changeBest_98 hl (by decide) rfl (fun ls hl => ?_)
            refine lv_iload hx hb dX13_changeBest_100 (lv_at hl 1 rfl) ?_
            refine lv_istore_n (lv' := [(3, .int (nI (cbG t (V 30) x1 a b))), (4, .int (nI ((10 * a) + b))), (7, .int (nI (cbG t (V 30) x1 a b))), (6, .int (nI b)), (5, .int (nI a)), (0, .ref o), (1, .int (nI x1)), (2, .int (nI x2))]) hx hb dX13_changeBest_102 rfl hl (by decide) rfl (fun ls hl => ?_)
            refine lv_iinc (v := (nI (b + 1))) (lv' := [(6, .int (nI (b + 1))), (3, .int (nI (cbG t (V 30) x1 a b))), (4, .int (nI ((10 * a) + b))), (7, .int (nI (cbG t (V 30) x1 a b))), (5, .int (nI a)), (0, .ref o), (1, .int (nI x1)), (2, .int (nI x2))]) hx hb dX13_changeBest_103 hl (k := 3) rfl (nI_add _ _) (by decide) rfl (fun ls hl => ?_)
            refine lv_goto (tgt := 53) hx hb dX13_changeBest_106 (by decide) ?_
            exact ih4 (b + 1) (some (10 * a + b)) (cbG t (V 30) x1 a b) V7 _ _ _ (by omega) (by omega) (by omega) ((cbJ_t (by omega) hs).trans (cbU_t (by exact c84))) hbest (by omega) (Eqx.trans (Eqx.trans (Eqx.trans hE4 (hE5.mono PC_PW)) (hE6.mono PR_PW)) (hE7.mono PH_PW)) hG hS (lv_sub hl [0, 4, 2, 1, 5, 6, 7] rfl)
          refine lv_goto (tgt := 103) hx hb dX13_changeBest_87 (by decide) ?_
          refine lv_iinc (v := (nI (b + 1))) (lv' := [(6, .int (nI (b + 1))), (7, .int (nI (cbG t (V 30) x1 a b))), (5, .int (nI a)), (4, .int (o1 (-2) op)), (3, .int (nI y)), (0, .ref o), (1, .int (nI x1)), (2, .int (nI x2))]) hx hb dX13_changeBest_103 hl (k := 1) rfl (nI_add _ _) (by decide) rfl (fun ls hl => ?_)
          refine lv_goto (tgt := 53) hx hb dX13_changeBest_106 (by decide) ?_
          exact ih4 (b + 1) op y V7 _ _ _ (by omega) (by omega) (by omega) ((cbJ_t (by omega) hs).trans (cbU_f (by exact Nat.not_lt.mpr c84))) hop9 (by omega) (Eqx.trans (Eqx.trans (Eqx.trans hE4 (hE5.mono PC_PW)) (hE6.mono PR_PW)) (hE7.mono PH_PW)) hG hS (lv_sub hl [0, 2, 3, 4, 5, 6, 7] rfl)
      exact loop4 ((xN t - (a + 1)) + 1) (a + 1) op y V3 _ _ _ (Nat.lt_succ_self _) (by omega) (by omega) ((cbJ_0 _ (Nat.le_refl _)).trans hs) hop9 hy9 Eqx.rf hG hS (lv_sub hl [0, 1, 2, 3, 4, 5, 6] rfl)
  exact loop3 ((xN t - 0) + 1) 0 none (liF t (nI 1) (xS t) (V 30) x1) V2 _ _ _ (Nat.lt_succ_self _) (by omega) rfl (fun i h => by cases h) (by omega) Eqx.rf hG hS (lv_sub hl [0, 1, 2, 3, 4, 5] rfl)
set_option maxHeartbeats 4000000 in
theorem met_X13_then (l : Launch) (D : va_G) (dA : Nat → ClassId) {o : Nat} {V : GI} {L : GL} {Rf : GR} {H0 : Heap} (hG : gP D dA o dM V L Rf H0) {lv : Nat} {t : Txt} (hX : txM V lv t) (hrv : RV (xN t) (V 30)) (v1 v2 v3 : Int32) : Ctr l D dA yX13_then cX13_then 4 (some .int) (mkRm 7 150) [.ref o, .int v1, .int v2, .int v3] H0 (AM o) (QI (fun r H1 => ∃ V1, gP D dA o dM V1 L Rf H1 ∧ Eqx PW V V1 ∧ r = thenA t (V 30) v1 v2 v3)) := by
  have hT := hX.1
  have hT1 := hT.1
  have hT2 := hT.2.1
  have hp2 := two9 hT2
  have hpp := Nat.two_pow_pos (xN t)
  refine ctr_I (by decide) (Nat.le_of_ble_eq_true rfl) ?_
  intro p e s m args below meth c ls QQ locs hx hb hml hown hts hK hend hS hl
  have hl : lv_has ls 4 [(0, .ref o), (1, .int v1), (2, .int v2), (3, .int v3)] := hl
  refine lv_iload_n hx hb dX13_then_0 rfl (lv_at hl 2 rfl) ?_
  refine c_SI hx hb hml hts hown hK hl.1 hS ⟨Nat.le_refl _, Nat.le_refl _⟩ (met_X13_isLong l D dA v2) (cw_X13_383 hts ⟨by decide, by decide⟩) rfl rfl (Nat.le_of_ble_eq_true rfl) dX13_then_1 (fun _ h => h.elim) (fun r H1 locs hq hF hS => ?_)
  obtain ⟨rfl, rfl⟩ := hq
  rcases (inZ_cases v2 0 48 (by decide) (by decide)).symm with ⟨hz1, ho1⟩ | ⟨x2, hlo_x2, hhi_x2, rfl, hz1⟩
  · refine iv (y := nI 0) hz1 ?_
    refine n_if_eq (tgt := 29) hx hb dX13_then_4 (by decide) (by decide) (fun _ => ?_) (fun z => absurd z (by decide))
    refine lv_ldcw (v := (-100000)) hx hb hown (hts _ q1789) dX13_then_29 ?_
    refine hend _ _ _ _ _ hS dX13_then_32 ?_
    exact ⟨_, rfl, _, hG, Eqx.rf, ((ho1.1 _ _)).symm⟩
  refine iv (y := nI 1) hz1 ?_
  have hl : lv_has ls 4 [(0, .ref o), (1, .int v1), (2, .int (nI x2)), (3, .int v3)] := hl
  refine n_if_eq (tgt := 29) hx hb dX13_then_4 (by decide) (by decide) (fun z => absurd z (by decide)) (fun _ => ?_)
  refine lv_iload_n hx hb dX13_then_7 rfl (lv_at hl 3 rfl) ?_
  refine lv_iconst (v := (nI 0)) hx hb dX13_then_8 (by decide) ?_
  refine lv_iconst (v := (nI 2)) hx hb dX13_then_9 (by decide) ?_
  refine c_SI hx hb hml hts hown hK hl.1 hS ⟨Nat.le_refl _, Nat.le_refl _⟩ (met_X13_in l D dA v3 (nI 0) (nI 2)) (cw_X13_308 hts ⟨by decide, by decide⟩) rfl rfl (Nat.le_of_ble_eq_true rfl) dX13_then_10 (fun _ h => h.elim) (fun r H1 locs hq hF hS => ?_)
  obtain ⟨rfl, rfl⟩ := hq
  rcases (inZ_cases v3 0 2 (by decide) (by decide)).symm with ⟨hz10, ho10⟩ | ⟨x3, hlo_x3, hhi_x3, rfl, hz10⟩
  · refine iv (y := nI 0) hz10 ?_
    refine n_if_eq (tgt := 29) hx hb dX13_then_13 (by decide) (by decide) (fun _ => ?_) (fun z => absurd z (by decide))
    refine lv_ldcw (v := (-100000)) hx hb hown (hts _ q1789) dX13_then_29 ?_
    refine hend _ _ _ _ _ hS dX13_then_32 ?_
    exact ⟨_, rfl, _, hG, Eqx.rf, ((rng_in hlo_x2 hhi_x2 (by omega)).trans ((ho10.1 _ _))).symm⟩
  refine iv (y := nI 1) hz10 ?_
  have hl : lv_has ls 4 [(0, .ref o), (1, .int v1), (2, .int (nI x2)), (3, .int (nI x3))] := hl
  refine n_if_eq (tgt := 29) hx hb dX13_then_13 (by decide) (by decide) (fun z => absurd z (by decide)) (fun _ => ?_)
  refine lv_iload_n hx hb dX13_then_16 rfl (lv_at hl 3 rfl) ?_
  refine lv_iconst (v := (nI 2)) hx hb dX13_then_17 (by decide) ?_
  refine n_icmp_ge (tgt := 33) hx hb dX13_then_18 (by decide) (by omega) (by omega) (fun c18 => ?_) (fun c18 => ?_)
  · refine lv_aload_n hx hb dX13_then_33 rfl (lv_at hl 0 rfl) ?_
    refine c_VV hx hb hml hts hown hK hl.1 hS ⟨Nat.le_refl _, Nat.le_refl _⟩ (met_X13_copies l D dA hG hX) (cw_X13_321 hts ⟨by decide, by decide⟩) (hG 0 _ rfl) rfl rfl rfl rfl (Nat.le_of_ble_eq_true rfl) dX13_then_34 (fun _ h => h) (fun H1 locs hq hF hS => ?_)
    obtain ⟨V1, hG, hE1, hr1, hl1, hs1⟩ := hq
    generalize hHe1 : H1 = H at hG hS ⊢
    clear hHe1
    refine lv_aload_n hx hb dX13_then_37 rfl (lv_at hl 0 rfl) ?_
    refine lv_iload_n hx hb dX13_then_38 rfl (lv_at hl 2 rfl) ?_
    refine c_VV hx hb hml hts hown hK hl.1 hS ⟨Nat.le_refl _, Nat.le_refl _⟩ (met_X13_goes l D dA hG (txM_PW (hE1.mono PC_PW) hX) x2 (by omega)) (cw_X13_367 hts ⟨by decide, by decide⟩) (hG 0 _ rfl) rfl rfl rfl rfl (Nat.le_of_ble_eq_true rfl) dX13_then_39 (fun _ h => h) (fun H1 locs hq hF hS => ?_)
    obtain ⟨V2, hG, hE2, hr2⟩ := hq
    generalize hHe2 : H1 = H at hG hS ⊢
    clear hHe2
    have hr2 : V2 31 = goF t (nI 0) (xS t) x2 (V 30) := hr2.trans (go_cg hs1 hl1 hr1)
    refine lv_iload_n hx hb dX13_then_42 rfl (lv_at hl 3 rfl) ?_
    refine n_if_ne (tgt := 55) hx hb dX13_then_43 (by decide) (by omega) (fun c43 => ?_) (fun c43 => ?_)
    · refine lv_iload_n hx hb dX13_then_55 rfl (lv_at hl 3 rfl) ?_
      refine lv_iconst (v := (nI 1)) hx hb dX13_then_56 (by decide) ?_
      refine n_icmp_ne (tgt := 72) hx hb dX13_then_57 (by decide) (by omega) (by omega) (fun c57 => ?_) (fun c57 => ?_)
      · refine lv_aload_n hx hb dX13_then_72 rfl (lv_at hl 0 rfl) ?_
        refine c_VI hx hb hml hts hown hK hl.1 hS ⟨Nat.le_refl _, Nat.le_refl _⟩ (met_X13_rowBits l D dA hG (txM_PW ((hE1.mono PC_PW).trans (hE2.mono PH_PW)) hX) (by rw [hr2]; exact (go_RV hrv _))) (cw_X13_370 hts ⟨by decide, by decide⟩) (hG 0 _ rfl) rfl rfl rfl rfl (Nat.le_of_ble_eq_true rfl) dX13_then_73 (fun _ h => h.elim) (fun r H1 locs hq hF hS => ?_)
        obtain ⟨rfl, rfl⟩ := hq
        refine iv (y := nI (rbF (goF t (nI 0) (xS t) x2 (V 30)) (xN t))) (congrArg (fun z => nI (rbF z (xN t))) (hr2)) ?_
        have hrb73 : rbF (goF t (nI 0) (xS t) x2 (V 30)) (xN t) < 512 := rb9 hT2
        refine c_SI hx hb hml hts hown hK hl.1 hS ⟨Nat.le_refl _, Nat.le_refl _⟩ (met_X13_bits l D dA (rbF (goF t (nI 0) (xS t) x2 (V 30)) (xN t)) (rb9 hT2)) (cw_X13_398 hts ⟨by decide, by decide⟩) rfl rfl (Nat.le_of_ble_eq_true rfl) dX13_then_76 (fun _ h => h.elim) (fun r H1 locs hq hF hS => ?_)
        obtain ⟨rfl, rfl⟩ := hq
        have hbc76 := bc9 (rbF (goF t (nI 0) (xS t) x2 (V 30)) (xN t))
        refine hend _ _ _ _ _ hS dX13_then_79 ?_
        exact ⟨_, rfl, _, hG, ((hE1.mono PC_PW).trans (hE2.mono PH_PW)), ((rng_in hlo_x2 hhi_x2 (by omega)).trans ((rng_in hlo_x3 hhi_x3 (by omega)).trans (((if_pos (show x3 = 2 by omega)).trans rfl)))).symm⟩
      exfalso; omega
    exfalso; omega
  refine lv_aload_n hx hb dX13_then_21 rfl (lv_at hl 0 rfl) ?_
  refine lv_iload_n hx hb dX13_then_22 rfl (lv_at hl 1 rfl) ?_
  refine c_VI hx hb hml hts hown hK hl.1 hS ⟨Nat.le_refl _, Nat.le_refl _⟩ (met_X13_isBed l D dA hG hT v1) (cw_X13_328 hts ⟨by decide, by decide⟩) (hG 0 _ rfl) rfl rfl rfl rfl (Nat.le_of_ble_eq_true rfl) dX13_then_23 (fun _ h => h.elim) (fun r H1 locs hq hF hS => ?_)
  obtain ⟨rfl, rfl⟩ := hq
  rcases (bedN_cases hT2 v1).symm with ⟨hz23, ho23⟩ | ⟨x1, hlo_x1, hhi_x1, rfl, hz23⟩
  · refine iv (y := nI 0) hz23 ?_
    refine n_if_ne (tgt := 33) hx hb dX13_then_26 (by decide) (by decide) (fun z => absurd z (by decide)) (fun _ => ?_)
    refine lv_ldcw (v := (-100000)) hx hb hown (hts _ q1789) dX13_then_29 ?_
    refine hend _ _ _ _ _ hS dX13_then_32 ?_
    exact ⟨_, rfl, _, hG, Eqx.rf, ((rng_in hlo_x2 hhi_x2 (by omega)).trans ((rng_in hlo_x3 hhi_x3 (by omega)).trans ((if_neg (show ¬ x3 = 2 by omega)).trans ((ho23.1 _ _))))).symm⟩
  refine iv (y := nI 1) hz23 ?_
  have hl : lv_has ls 4 [(0, .ref o), (1, .int (nI x1)), (2, .int (nI x2)), (3, .int (nI x3))] := hl
  refine n_if_ne (tgt := 33) hx hb dX13_then_26 (by decide) (by decide) (fun _ => ?_) (fun z => absurd z (by decide))
  refine lv_aload_n hx hb dX13_then_33 rfl (lv_at hl 0 rfl) ?_
  refine c_VV hx hb hml hts hown hK hl.1 hS ⟨Nat.le_refl _, Nat.le_refl _⟩ (met_X13_copies l D dA hG hX) (cw_X13_321 hts ⟨by decide, by decide⟩) (hG 0 _ rfl) rfl rfl rfl rfl (Nat.le_of_ble_eq_true rfl) dX13_then_34 (fun _ h => h) (fun H1 locs hq hF hS => ?_)
  obtain ⟨V3, hG, hE3, hr3, hl3, hs3⟩ := hq
  generalize hHe3 : H1 = H at hG hS ⊢
  clear hHe3
  refine lv_aload_n hx hb dX13_then_37 rfl (lv_at hl 0 rfl) ?_
  refine lv_iload_n hx hb dX13_then_38 rfl (lv_at hl 2 rfl) ?_
  refine c_VV hx hb hml hts hown hK hl.1 hS ⟨Nat.le_refl _, Nat.le_refl _⟩ (met_X13_goes l D dA hG (txM_PW (hE3.mono PC_PW) hX) x2 (by omega)) (cw_X13_367 hts ⟨by decide, by decide⟩) (hG 0 _ rfl) rfl rfl rfl rfl (Nat.le_of_ble_eq_true rfl) dX13_then_39 (fun _ h => h) (fun H1 locs hq hF hS => ?_)
  obtain ⟨V4, hG, hE4, hr4⟩ := hq
  generalize hHe4 : H1 = H at hG hS ⊢
  clear hHe4
  have hr4 : V4 31 = goF t (nI 0) (xS t) x2 (V 30) := hr4.trans (go_cg hs3 hl3 hr3)
  refine lv_iload_n hx hb dX13_then_42 rfl (lv_at hl 3 rfl) ?_
  refine n_if_ne (tgt := 55) hx hb dX13_then_43 (by decide) (by omega) (fun c43 => ?_) (fun c43 => ?_)
  · refine lv_iload_n hx hb dX13_then_55 rfl (lv_at hl 3 rfl) ?_
    refine lv_iconst (v := (nI 1)) hx hb dX13_then_56 (by decide) ?_
    refine n_icmp_ne (tgt := 72) hx hb dX13_then_57 (by decide) (by omega) (by omega) (fun c57 => ?_) (fun c57 => ?_)
    · exfalso; omega
    refine lv_aload_n hx hb dX13_then_60 rfl (lv_at hl 0 rfl) ?_
    refine g_get hx hb hts hown hK hG 0 rfl rfl ok_X13 48 (by decide) q1519 rfl rfl dX13_then_61 ?_
    refine lv_bipush (v := (nI 27)) hx hb dX13_then_64 (by decide) ?_
    refine lv_iload_n hx hb dX13_then_66 rfl (lv_at hl 1 rfl) ?_
    refine n_iadd hx hb dX13_then_67 ?_
    refine n_iald hx hb hK hG 31 rfl (by omega) (by decide) dX13_then_68 ?_
    refine iv (y := (goF t (nI 0) (xS t) x2 (V 30) (27 + x1))) (congrFun hr4 (27 + x1)) ?_
    refine lv_goto (tgt := 79) hx hb dX13_then_69 (by decide) ?_
    refine hend _ _ _ _ _ hS dX13_then_79 ?_
    exact ⟨_, rfl, _, hG, ((hE3.mono PC_PW).trans (hE4.mono PH_PW)), ((rng_in hlo_x2 hhi_x2 (by omega)).trans ((rng_in hlo_x3 hhi_x3 (by omega)).trans (((if_neg (show ¬ x3 = 2 by omega)).trans ((rng_in hlo_x1 hhi_x1 (by omega)).trans (if_neg (show ¬ x3 = 0 by omega))))))).symm⟩
  refine lv_aload_n hx hb dX13_then_46 rfl (lv_at hl 0 rfl) ?_
  refine g_get hx hb hts hown hK hG 0 rfl rfl ok_X13 48 (by decide) q1519 rfl rfl dX13_then_47 ?_
  refine lv_iload_n hx hb dX13_then_50 rfl (lv_at hl 1 rfl) ?_
  refine n_iald hx hb hK hG 31 rfl (by omega) (by decide) dX13_then_51 ?_
  refine iv (y := (goF t (nI 0) (xS t) x2 (V 30) x1)) (congrFun hr4 x1) ?_
  refine lv_goto (tgt := 79) hx hb dX13_then_52 (by decide) ?_
  refine hend _ _ _ _ _ hS dX13_then_79 ?_
  exact ⟨_, rfl, _, hG, ((hE3.mono PC_PW).trans (hE4.mono PH_PW)), ((rng_in hlo_x2 hhi_x2 (by omega)).trans ((rng_in hlo_x3 hhi_x3 (by omega)).trans (((if_neg (show ¬ x3 = 2 by omega)).trans ((rng_in hlo_x1 hhi_x1 (by omega)).trans (if_pos c43)))))).symm⟩
set_option maxHeartbeats 4000000 in
theorem met_X13_year (l : Launch) (D : va_G) (dA : Nat → ClassId) {o : Nat} {V : GI} {L : GL} {Rf : GR} {H0 : Heap} (hG : gP D dA o dM V L Rf H0) {lv : Nat} {t : Txt} (hX : txM V lv t) (hrv : RV (xN t) (V 30)) (v1 v2 : Int32) : Ctr l D dA yX13_year cX13_year 5 (some .int) (mkRm 7 150) [.ref o, .int v1, .int v2] H0 (AM o) (QI (fun r H1 => ∃ V1, gP D dA o dM V1 L Rf H1 ∧ Eqx PW V V1 ∧ r = yearA t (V 30) v1 v2)) := by
  have hT := hX.1
  have hT1 := hT.1
  have hT2 := hT.2.1
  have hp2 := two9 hT2
  have hpp := Nat.two_pow_pos (xN t)
  refine ctr_I (by decide) (Nat.le_of_ble_eq_true rfl) ?_
  intro p e s m args below meth c ls QQ locs hx hb hml hown hts hK hend hS hl
  have hl : lv_has ls 5 [(0, .ref o), (1, .int v1), (2, .int v2)] := hl
  refine lv_iload_n hx hb dX13_year_0 rfl (lv_at hl 1 rfl) ?_
  refine c_SI hx hb hml hts hown hK hl.1 hS ⟨Nat.le_refl _, Nat.le_refl _⟩ (met_X13_isLong l D dA v1) (cw_X13_383 hts ⟨by decide, by decide⟩) rfl rfl (Nat.le_of_ble_eq_true rfl) dX13_year_1 (fun _ h => h.elim) (fun r H1 locs hq hF hS => ?_)
  obtain ⟨rfl, rfl⟩ := hq
  rcases (inZ_cases v1 0 48 (by decide) (by decide)).symm with ⟨hz1, ho1⟩ | ⟨x1, hlo_x1, hhi_x1, rfl, hz1⟩
  · refine iv (y := nI 0) hz1 ?_
    refine n_if_eq (tgt := 17) hx hb dX13_year_4 (by decide) (by decide) (fun _ => ?_) (fun z => absurd z (by decide))
    refine lv_iconst (v := (-1)) hx hb dX13_year_17 (by decide) ?_
    refine hend _ _ _ _ _ hS dX13_year_18 ?_
    exact ⟨_, rfl, _, hG, Eqx.rf, ((ho1.1 _ _)).symm⟩
  refine iv (y := nI 1) hz1 ?_
  have hl : lv_has ls 5 [(0, .ref o), (1, .int (nI x1)), (2, .int v2)] := hl
  refine n_if_eq (tgt := 17) hx hb dX13_year_4 (by decide) (by decide) (fun z => absurd z (by decide)) (fun _ => ?_)
  refine lv_iload_n hx hb dX13_year_7 rfl (lv_at hl 2 rfl) ?_
  refine lv_iconst (v := (nI 1)) hx hb dX13_year_8 (by decide) ?_
  refine lv_bipush (v := (nI 20)) hx hb dX13_year_9 (by decide) ?_
  refine c_SI hx hb hml hts hown hK hl.1 hS ⟨Nat.le_refl _, Nat.le_refl _⟩ (met_X13_in l D dA v2 (nI 1) (nI 20)) (cw_X13_308 hts ⟨by decide, by decide⟩) rfl rfl (Nat.le_of_ble_eq_true rfl) dX13_year_11 (fun _ h => h.elim) (fun r H1 locs hq hF hS => ?_)
  obtain ⟨rfl, rfl⟩ := hq
  rcases (inZ_cases v2 1 20 (by decide) (by decide)).symm with ⟨hz11, ho11⟩ | ⟨x2, hlo_x2, hhi_x2, rfl, hz11⟩
  · refine iv (y := nI 0) hz11 ?_
    refine n_if_ne (tgt := 19) hx hb dX13_year_14 (by decide) (by decide) (fun z => absurd z (by decide)) (fun _ => ?_)
    refine lv_iconst (v := (-1)) hx hb dX13_year_17 (by decide) ?_
    refine hend _ _ _ _ _ hS dX13_year_18 ?_
    exact ⟨_, rfl, _, hG, Eqx.rf, ((rng_in hlo_x1 hhi_x1 (by omega)).trans ((ho11.1 _ _))).symm⟩
  refine iv (y := nI 1) hz11 ?_
  have hl : lv_has ls 5 [(0, .ref o), (1, .int (nI x1)), (2, .int (nI x2))] := hl
  refine n_if_ne (tgt := 19) hx hb dX13_year_14 (by decide) (by decide) (fun _ => ?_) (fun z => absurd z (by decide))
  refine lv_iconst (v := (nI 0)) hx hb dX13_year_19 (by decide) ?_
  refine lv_istore_n (lv' := [(3, .int (nI 0)), (0, .ref o), (1, .int (nI x1)), (2, .int (nI x2))]) hx hb dX13_year_20 rfl hl (by decide) rfl (fun ls hl => ?_)
  refine lv_iconst (v := (nI 0)) hx hb dX13_year_21 (by decide) ?_
  refine lv_istore (lv' := [(4, .int (nI 0)), (3, .int (nI 0)), (0, .ref o), (1, .int (nI x1)), (2, .int (nI x2))]) hx hb dX13_year_22 hl (by decide) rfl (fun ls hl => ?_)
  have loop1 : ∀ (fu1 : Nat) (k : Nat) (y : Nat) (V1 : GI) (H : Heap) (locs : List Loc) (ls : Array Slot), x2 - k < fu1 → (k ≤ x2) → (cnF (yrP t (V 30) x1) k = y) → (Eqx PW V V1) → gP D dA o dM V1 L Rf H → va_S (AM o) H0 H locs → lv_has ls 5 [(4, .int (nI k)), (3, .int (nI y)), (0, .ref o), (1, .int (nI x1)), (2, .int (nI x2))] → W p l e (mkRm 7 150) s m args below meth c H locs 0 0 QQ (F0 m 24 ls []) := by
    intro fu1
    induction fu1 with
    | zero => intro k y V1 H locs ls hfu; exact absurd hfu (Nat.not_lt_zero _)
    | succ fu1 ih1 =>
      intro k y V1 H locs ls hfu hk hy hE1 hG hS hl
      have hyl : y ≤ k := hy ▸ cnF_le _ k
      refine lv_iload hx hb dX13_year_24 (lv_at hl 0 rfl) ?_
      refine lv_iload_n hx hb dX13_year_26 rfl (lv_at hl 4 rfl) ?_
      refine n_icmp_ge (tgt := 70) hx hb dX13_year_27 (by decide) (by omega) (by omega) (fun c27 => ?_) (fun c27 => ?_)
      · obtain rfl : k = x2 := by omega
        refine lv_iload_n hx hb dX13_year_70 rfl (lv_at hl 1 rfl) ?_
        refine hend _ _ _ _ _ hS dX13_year_71 ?_
        exact ⟨_, rfl, _, hG, hE1, ((rng_in hlo_x1 hhi_x1 (by omega)).trans ((rng_in hlo_x2 hhi_x2 (by omega)).trans ((show nI (cnF _ _) = nI y from congrArg nI hy)))).symm⟩
      refine lv_aload_n hx hb dX13_year_30 rfl (lv_at hl 2 rfl) ?_
      refine c_VV hx hb hml hts hown hK hl.1 hS ⟨Nat.le_refl _, Nat.le_refl _⟩ (met_X13_copies l D dA hG (txM_PW hE1 hX)) (cw_X13_321 hts ⟨by decide, by decide⟩) (hG 0 _ rfl) rfl rfl rfl rfl (Nat.le_of_ble_eq_true rfl) dX13_year_31 (fun _ h => h) (fun H1 locs hq hF hS => ?_)
      obtain ⟨V2, hG, hE2, hr2, hl2, hs2⟩ := hq
      generalize hHe2 : H1 = H at hG hS ⊢
      clear hHe2
      have hr2 : V2 31 = V 30 := hr2.trans ((funext (fun j => hE1 30 j rfl)))
      refine lv_aload_n hx hb dX13_year_34 rfl (lv_at hl 2 rfl) ?_
      refine lv_dup hx hb dX13_year_35 rfl ?_
      refine g_get (v := .int (xS t)) hx hb hts hown hK hG 0 rfl rfl ok_X13 49 (by decide) q1520 rfl (congrArg Value.int hl2) dX13_year_36 ?_
      refine lv_iload hx hb dX13_year_39 (lv_at hl 0 rfl) ?_
      refine lv_iadd hx hb dX13_year_41 ?_
      refine g_put hx hb hts hown hK hG hS 0 (AM_in 0 (by decide)) rfl rfl ok_X13 49 (by decide) q1520 rfl rfl rfl rfl dX13_year_42 (fun H locs hG hO hS => ?_)
      refine lv_aload_n hx hb dX13_year_45 rfl (lv_at hl 2 rfl) ?_
      refine lv_iload_n hx hb dX13_year_46 rfl (lv_at hl 3 rfl) ?_
      refine c_VV hx hb hml hts hown hK hl.1 hS ⟨Nat.le_refl _, Nat.le_refl _⟩ (met_X13_goes l D dA hG (txM_PW ((hE1.trans (hE2.mono PC_PW)).up rfl) hX) x1 (by omega)) (cw_X13_367 hts ⟨by decide, by decide⟩) (hG 0 _ rfl) rfl rfl rfl rfl (Nat.le_of_ble_eq_true rfl) dX13_year_47 (fun _ h => h) (fun H1 locs hq hF hS => ?_)
      obtain ⟨V3, hG, hE3, hr3⟩ := hq
      generalize hHe3 : H1 = H at hG hS ⊢
      clear hHe3
      have hr3 : V3 31 = goF t (nI 0) ((xS t) + (nI k)) x1 (V 30) := hr3.trans (go_cg hs2 rfl hr2)
      refine lv_aload_n hx hb dX13_year_50 rfl (lv_at hl 2 rfl) ?_
      refine c_VI hx hb hml hts hown hK hl.1 hS ⟨Nat.le_refl _, Nat.le_refl _⟩ (met_X13_rowBits l D dA hG (txM_PW (((hE1.trans (hE2.mono PC_PW)).up rfl).trans (hE3.mono PH_PW)) hX) (by rw [hr3]; exact (go_RV hrv _))) (cw_X13_370 hts ⟨by decide, by decide⟩) (hG 0 _ rfl) rfl rfl rfl rfl (Nat.le_of_ble_eq_true rfl) dX13_year_51 (fun _ h => h.elim) (fun r H1 locs hq hF hS => ?_)
      obtain ⟨rfl, rfl⟩ := hq
      refine iv (y := nI (rbF (goF t (nI 0) ((xS t) + (nI k)) x1 (V 30)) (xN t))) (congrArg (fun z => nI (rbF z (xN t))) (hr3)) ?_
      have hrb51 : rbF (goF t (nI 0) ((xS t) + (nI k)) x1 (V 30)) (xN t) < 512 := rb9 hT2
      refine lv_aload_n hx hb dX13_year_54 rfl (lv_at hl 2 rfl) ?_
      refine c_VI hx hb hml hts hown hK hl.1 hS ⟨Nat.le_refl _, Nat.le_refl _⟩ (met_X13_allBits l D dA hG (tM_to hT ((hE3 0 18 rfl).trans ((hE2 0 18 rfl).trans (hE1 0 18 rfl))) ((hE3 9 lv rfl).trans ((hE2 9 lv rfl).trans (hE1 9 lv rfl))))) (cw_X13_312 hts ⟨by decide, by decide⟩) (hG 0 _ rfl) rfl rfl rfl rfl (Nat.le_of_ble_eq_true rfl) dX13_year_55 (fun _ h => h.elim) (fun r H1 locs hq hF hS => ?_)
      obtain ⟨rfl, rfl⟩ := hq
      refine n_icmp_ne (tgt := 64) hx hb dX13_year_58 (by decide) (by omega) (by omega) (fun c58 => ?_) (fun c58 => ?_)
      · refine lv_iinc (v := (nI (k + 1))) (lv' := [(4, .int (nI (k + 1))), (3, .int (nI y)), (0, .ref o), (1, .int (nI x1)), (2, .int (nI x2))]) hx hb dX13_year_64 hl (k := 0) rfl (nI_add _ _) (by decide) rfl (fun ls hl => ?_)
        refine lv_goto (tgt := 24) hx hb dX13_year_67 (by decide) ?_
        exact ih1 (k + 1) y V3 _ _ _ (by omega) (by omega) ((cnF_f (P := yrP t (V 30) x1) (dcF c58)).trans hy) (Eqx.trans (Eqx.up (Eqx.trans hE1 (hE2.mono PC_PW)) rfl) (hE3.mono PH_PW)) hG hS (lv_sub hl [0, 1, 2, 3, 4] rfl)
      refine lv_iinc (v := (nI (y + 1))) (lv' := [(3, .int (nI (y + 1))), (4, .int (nI k)), (0, .ref o), (1, .int (nI x1)), (2, .int (nI x2))]) hx hb dX13_year_61 hl (k := 1) rfl (nI_add _ _) (by decide) rfl (fun ls hl => ?_)
      refine lv_iinc (v := (nI (k + 1))) (lv' := [(4, .int (nI (k + 1))), (3, .int (nI (y + 1))), (0, .ref o), (1, .int (nI x1)), (2, .int (nI x2))]) hx hb dX13_year_64 hl (k := 1) rfl (nI_add _ _) (by decide) rfl (fun ls hl => ?_)
      refine lv_goto (tgt := 24) hx hb dX13_year_67 (by decide) ?_
      exact ih1 (k + 1) (y + 1) V3 _ _ _ (by omega) (by omega) ((cnF_t (P := yrP t (V 30) x1) (dcT c58)).trans (by rw [hy])) (Eqx.trans (Eqx.up (Eqx.trans hE1 (hE2.mono PC_PW)) rfl) (hE3.mono PH_PW)) hG hS (lv_sub hl [0, 1, 2, 3, 4] rfl)
  exact loop1 ((x2 - 0) + 1) 0 0 V _ _ _ (Nat.lt_succ_self _) (by omega) rfl Eqx.rf hG hS (lv_sub hl [0, 1, 2, 3, 4] rfl)
