theorem rcc_t {f : Rw} {b u : Nat} (hu : rcF f b = u) (h : ¬ b01 (f b) = 0) : rcF f (b + 1) = u + 0 := by
  have e : f b = nI 1 := by
    by_cases e : f b = nI 1
    · exact e
    · exact absurd (show b01 (f b) = 0 from if_neg e) h
  simp only [rcF]; rw [if_pos e, hu]; rfl
theorem rcc_f {f : Rw} {b u : Nat} (hu : rcF f b = u) (h : b01 (f b) = 0) : rcF f (b + 1) = u + 1 := by
  have e : ¬ f b = nI 1 := fun e => by rw [e] at h; exact absurd h (by decide)
  simp only [rcF]; rw [if_neg e, hu]
theorem rsc_t {T : Txt} {f : Rw} {b u : Nat} (hu : rsF T f b = u) (h : ¬ b01 (f b) = 0) : rsF T f (b + 1) = u + 0 := by
  have e : f b = nI 1 := by
    by_cases e : f b = nI 1
    · exact e
    · exact absurd (show b01 (f b) = 0 from if_neg e) h
  simp only [rsF]; rw [if_pos e, hu]; rfl
theorem rsc_f {T : Txt} {f : Rw} {b u : Nat} (hu : rsF T f b = u) (h : b01 (f b) = 0) : rsF T f (b + 1) = u + coN T f b := by
  have e : ¬ f b = nI 1 := fun e => by rw [e] at h; exact absurd h (by decide)
  simp only [rsF]; rw [if_neg e, hu]
theorem bkS_sd {V V1 : GI} {kb n : Nat} {f : Rw} {sd sd1 : Int32} (hb : bkS V kb n f sd) (h7 : V1 kb 7 = sd1) (ho : ∀ k j, k ≤ 4 → ¬ (k = 0 ∧ j = 7) → V1 (kb + k) j = V (kb + k) j) : bkS V1 kb n f sd1 := by
  obtain ⟨⟨a4, a5, a1, a2⟩, a6, a7, a3, a36⟩ := hb
  exact ⟨⟨(ho 0 4 (by decide) (by decide)).trans a4, (ho 0 5 (by decide) (by decide)).trans a5, fun j hj => (ho 1 j (by decide) (by omega)).trans (a1 j hj), fun j hj => (ho 2 j (by decide) (by omega)).trans (a2 j hj)⟩, (ho 0 6 (by decide) (by decide)).trans a6, h7, fun j hj => (ho 3 j (by decide) (by omega)).trans (a3 j hj), fun j hj => (ho 4 j (by decide) (by omega)).trans (a36 j hj)⟩
theorem smF_1 {G : Nat → Nat} {b u : Nat} (hu : smF G b = u) : smF G (b + 1) = u + G b := by simp only [smF]; rw [hu]
theorem rcF_s {f : Rw} {b y u : Nat} (h : u + rcF f b = y) (x : Nat) (h2 : rcF f (b + 1) = rcF f b + x) : u + rcF f (b + 1) = y + x := by omega
theorem rc_t2 {f : Rw} {b u m : Nat} (hu : m + rcF f b = u) (h : ¬ b01 (f b) = 0) : m + rcF f (b + 1) = u + 0 := by have := rcc_t (f := f) (b := b) rfl h; omega
theorem rc_f2 {f : Rw} {b u m : Nat} (hu : m + rcF f b = u) (h : b01 (f b) = 0) : m + rcF f (b + 1) = u + 1 := by have := rcc_f (f := f) (b := b) rfl h; omega
theorem rs_t2 {T : Txt} {f : Rw} {b u m : Nat} (hu : m + rsF T f b = u) (h : ¬ b01 (f b) = 0) : m + rsF T f (b + 1) = u + 0 := by have := rsc_t (T := T) (f := f) (b := b) rfl h; omega
theorem rs_f2 {T : Txt} {f : Rw} {b u m : Nat} (hu : m + rsF T f b = u) (h : b01 (f b) = 0) : m + rsF T f (b + 1) = u + coN T f b := by have := rsc_f (T := T) (f := f) (b := b) rfl h; omega
set_option maxHeartbeats 4000000 in
theorem met_X0_then (l : Launch) (D : va_G) (dA : Nat → ClassId) {o : Nat} {V : GI} {L : GL} {Rf : GR} {H0 : Heap} (hG : gP D dA o dS V L Rf H0) {O : Nat → Prop} {tx : Nat} {T : Txt} {f : Rw} (hC : clS D dA H0 O o V Rf tx T f) (hOA : ∀ z, O z → ¬ AS o z) (v1 v2 v3 : Int32) : Ctr l D dA yX0_then cX0_then 4 (some .int) (mkRm 410 9700) [.ref o, .int v1, .int v2, .int v3] H0 (AS o) (QI (fun r H1 => ∃ V1, gP D dA o dS V1 L Rf H1 ∧ Eqx PQw V V1 ∧ r = thenA T f v1 v2 v3)) := by
  have hC0 := hC
  obtain ⟨hX, htx, hB, hrv, hsd1, hsd2⟩ := hC
  have hX0 := hX
  have hn9 := txA_n hX
  have hp2 := two9 hn9
  have hpp := Nat.two_pow_pos (xN T)
  obtain ⟨fsx, hatx⟩ := txA_at hX
  have hotx := txA_o hX
  have hOAb : ∀ z, O z → ¬ AB (o + 26) z := fun z hz hb => hOA z hz (AB_AS isB26 z hb)
  have hrl0 := rbF_lt f (xN T)
  refine ctr_I (by decide) (Nat.le_of_ble_eq_true rfl) ?_
  intro p e s m args below meth c ls QQ locs hx hb hml hown hts hK hend hS hl
  have hl : lv_has ls 4 [(0, .ref o), (1, .int v1), (2, .int v2), (3, .int v3)] := hl
  refine lv_iload_n hx hb dX0_then_0 rfl (lv_at hl 2 rfl) ?_
  refine c_SI hx hb hml hts hown hK hl.1 hS ⟨Nat.le_refl _, Nat.le_refl _⟩ (met_X0_isAhead l D dA v2) (cw_X0_215 hts ⟨Nat.le_of_ble_eq_true rfl, Nat.le_of_ble_eq_true rfl⟩) rfl rfl (Nat.le_of_ble_eq_true rfl) dX0_then_1 (fun _ h => h.elim) (fun r H1 locs hq hF hS => ?_)
  obtain ⟨rfl, rfl⟩ := hq
  rcases (inZ_cases v2 0 48 (by decide) (by decide)).symm with ⟨hz1, ho1⟩ | ⟨x2, hlo_x2, hhi_x2, rfl, hz1⟩
  · refine iv (y := nI 0) hz1 ?_
    refine n_if_eq (tgt := 29) hx hb dX0_then_4 (by decide) (by decide) (fun _ => ?_) (fun z => absurd z (by decide))
    refine lv_ldc (v := (-100000)) hx hb hown (hts _ q1118) dX0_then_29 ?_
    refine hend _ _ _ _ _ hS dX0_then_31 ?_
    exact ⟨_, rfl, _, hG, Eqx.rf, ((ho1.1 _ _)).symm⟩
  refine iv (y := nI 1) hz1 ?_
  have hl : lv_has ls 4 [(0, .ref o), (1, .int v1), (2, .int (nI x2)), (3, .int v3)] := hl
  refine n_if_eq (tgt := 29) hx hb dX0_then_4 (by decide) (by decide) (fun z => absurd z (by decide)) (fun _ => ?_)
  refine lv_iload_n hx hb dX0_then_7 rfl (lv_at hl 3 rfl) ?_
  refine lv_iconst (v := (nI 0)) hx hb dX0_then_8 (by decide) ?_
  refine lv_iconst (v := (nI 2)) hx hb dX0_then_9 (by decide) ?_
  refine c_SI hx hb hml hts hown hK hl.1 hS ⟨Nat.le_refl _, Nat.le_refl _⟩ (met_X0_isIn l D dA v3 (nI 0) (nI 2)) (cw_X0_146 hts ⟨Nat.le_of_ble_eq_true rfl, Nat.le_of_ble_eq_true rfl⟩) rfl rfl (Nat.le_of_ble_eq_true rfl) dX0_then_10 (fun _ h => h.elim) (fun r H1 locs hq hF hS => ?_)
  obtain ⟨rfl, rfl⟩ := hq
  rcases (inZ_cases v3 0 2 (by decide) (by decide)).symm with ⟨hz10, ho10⟩ | ⟨x3, hlo_x3, hhi_x3, rfl, hz10⟩
  · refine iv (y := nI 0) hz10 ?_
    refine n_if_eq (tgt := 29) hx hb dX0_then_13 (by decide) (by decide) (fun _ => ?_) (fun z => absurd z (by decide))
    refine lv_ldc (v := (-100000)) hx hb hown (hts _ q1118) dX0_then_29 ?_
    refine hend _ _ _ _ _ hS dX0_then_31 ?_
    exact ⟨_, rfl, _, hG, Eqx.rf, ((rng_in hlo_x2 hhi_x2 (by omega)).trans ((ho10.1 _ _))).symm⟩
  refine iv (y := nI 1) hz10 ?_
  have hl : lv_has ls 4 [(0, .ref o), (1, .int v1), (2, .int (nI x2)), (3, .int (nI x3))] := hl
  refine n_if_eq (tgt := 29) hx hb dX0_then_13 (by decide) (by decide) (fun z => absurd z (by decide)) (fun _ => ?_)
  refine lv_iload_n hx hb dX0_then_16 rfl (lv_at hl 3 rfl) ?_
  refine lv_iconst (v := (nI 2)) hx hb dX0_then_17 (by decide) ?_
  refine n_icmp_ge (tgt := 32) hx hb dX0_then_18 (by decide) (by omega) (by omega) (fun c18 => ?_) (fun c18 => ?_)
  · refine lv_aload_n hx hb dX0_then_32 rfl (lv_at hl 0 rfl) ?_
    refine g_get hx hb hts hown hK hG 0 rfl rfl ok_X0 8 (by decide) q530 rfl rfl dX0_then_33 ?_
    refine lv_aload_n hx hb dX0_then_36 rfl (lv_at hl 0 rfl) ?_
    refine g_get hx hb hts hown hK hG 0 rfl rfl ok_X0 7 (by decide) q529 rfl rfl dX0_then_37 ?_
    refine c_VV hx hb hml hts hown hK hl.1 hS ⟨Nat.le_refl _, Nat.le_refl _⟩ (met_X5_takes l D dA (gP_view hG isB26) (gP_view hG isB15) (by omega)) (cw_X0_193 hts ⟨Nat.le_of_ble_eq_true rfl, Nat.le_of_ble_eq_true rfl⟩) (hG 26 _ rfl) rfl rfl rfl rfl (Nat.le_of_ble_eq_true rfl) dX0_then_40 (fun z hz => hz.elim (AB_AS isB26 z) (AB_AS isB15 z)) (fun H1 locs hq hF hS => ?_)
    obtain ⟨W1, hGv, hGc, hEv, hc9, hc4, hc5, hc6, hc7⟩ := hq
    obtain ⟨V1, hV1⟩ : ∃ X, X = spl V 26 W1 := ⟨_, rfl⟩
    have hGn := gP_back2 hG isB26 isB15 hF hGv hGc
    rw [← hV1] at hGn
    replace hG := hGn
    have hE1 : Eqx PT26 V V1 := by rw [hV1]; exact spl_eqx
    have hb1 : bkS V1 26 (xN T) (f) (xS T) := by rw [hV1]; exact bkS_spl (bkM_cp hn9 hB hc9 hc4 hc5 hc6 hc7)
    clear hGn hGv hGc hEv hc9 hc4 hc5 hc6 hc7 hV1
    generalize hHe1 : H1 = H at hG hS ⊢
    clear hHe1 hF
    refine lv_aload_n hx hb dX0_then_43 rfl (lv_at hl 0 rfl) ?_
    refine lv_aload_n hx hb dX0_then_44 rfl (lv_at hl 0 rfl) ?_
    refine g_get hx hb hts hown hK hG 0 rfl rfl ok_X0 8 (by decide) q530 rfl rfl dX0_then_45 ?_
    refine lv_iload_n hx hb dX0_then_48 rfl (lv_at hl 2 rfl) ?_
    refine lv_aload_n hx hb dX0_then_49 rfl (lv_at hl 0 rfl) ?_
    refine g_get hx hb hts hown hK hG 0 rfl rfl ok_X0 11 (by decide) q533 rfl rfl dX0_then_50 ?_
    refine c_VV hx hb hml hts hown hK hl.1 hS ⟨Nat.le_refl _, Nat.le_refl _⟩ (met_X0_runs l D dA hG (txA_S hX0 hS hOA) htx isB26 (fun z hz hb => hOA z hz (AB_AS isB26 z hb)) hsd2 hb1 hrv (ni72 hG) (fun z => by have h1 := z.1; have h2 := z.2; omega) x2 (by omega)) (cw_X0_218 hts ⟨Nat.le_of_ble_eq_true rfl, Nat.le_of_ble_eq_true rfl⟩) (hG 0 _ rfl) rfl rfl rfl rfl (Nat.le_of_ble_eq_true rfl) dX0_then_53 (AB_AS isB26) (fun H1 locs hq hF hS => ?_)
    obtain ⟨V2, hG, hE2, hb2⟩ := hq
    generalize hHe2 : H1 = H at hG hS ⊢
    clear hHe2
    have hrl2 := rbF_lt (goF T (nI 0) (xS T) x2 (f)) (xN T)
    refine lv_iload_n hx hb dX0_then_56 rfl (lv_at hl 3 rfl) ?_
    refine n_if_ne (tgt := 74) hx hb dX0_then_57 (by decide) (by omega) (fun c57 => ?_) (fun c57 => ?_)
    · refine lv_iload_n hx hb dX0_then_74 rfl (lv_at hl 3 rfl) ?_
      refine lv_iconst (v := (nI 1)) hx hb dX0_then_75 (by decide) ?_
      refine n_icmp_ne (tgt := 91) hx hb dX0_then_76 (by decide) (by omega) (by omega) (fun c76 => ?_) (fun c76 => ?_)
      · refine lv_aload_n hx hb dX0_then_91 rfl (lv_at hl 0 rfl) ?_
        refine g_get hx hb hts hown hK hG 0 rfl rfl ok_X0 8 (by decide) q530 rfl rfl dX0_then_92 ?_
        refine g_get (v := .int (nI (rbF (goF T (nI 0) (xS T) x2 (f)) (xN T)))) hx hb hts hown hK hG 26 rfl rfl ok_X5 4 (by decide) q442 rfl (congrArg Value.int hb2.1.1) dX0_then_95 ?_
        refine c_SI hx hb hml hts hown hK hl.1 hS ⟨Nat.le_refl _, Nat.le_refl _⟩ (met_J16_bitCount l D dA (Nat.lt_of_lt_of_le (rbF_lt _ _) hp2)) (cw_X0_239 hts ⟨Nat.le_of_ble_eq_true rfl, Nat.le_of_ble_eq_true rfl⟩) rfl rfl (Nat.le_of_ble_eq_true rfl) dX0_then_98 (fun _ h => h.elim) (fun r H1 locs hq hF hS => ?_)
        obtain ⟨rfl, rfl⟩ := hq
        have hbc3 := bc9 (rbF (goF T (nI 0) (xS T) x2 (f)) (xN T))
        refine hend _ _ _ _ _ hS dX0_then_101 ?_
        exact ⟨_, rfl, _, hG, ((hE1.mono PT26_PQw).trans (hE2.mono PT26_PQw)), ((rng_in hlo_x2 hhi_x2 (by omega)).trans ((rng_in hlo_x3 hhi_x3 (by omega)).trans ((if_pos (by omega)).trans (rfl)))).symm⟩
      exact absurd c76 (by omega)
    exact absurd c57 (by omega)
  refine lv_aload_n hx hb dX0_then_21 rfl (lv_at hl 0 rfl) ?_
  refine lv_iload_n hx hb dX0_then_22 rfl (lv_at hl 1 rfl) ?_
  refine c_VI hx hb hml hts hown hK hl.1 hS ⟨Nat.le_refl _, Nat.le_refl _⟩ (met_X0_isBed l D dA hG (txA_S hX0 hS hOA) htx v1) (cw_X0_150 hts ⟨Nat.le_of_ble_eq_true rfl, Nat.le_of_ble_eq_true rfl⟩) (hG 0 _ rfl) rfl rfl rfl rfl (Nat.le_of_ble_eq_true rfl) dX0_then_23 (fun _ h => h.elim) (fun r H1 locs hq hF hS => ?_)
  obtain ⟨rfl, rfl⟩ := hq
  rcases (bedN_cases hn9 v1).symm with ⟨hz23, ho23⟩ | ⟨x1, hlo_x1, hhi_x1, rfl, hz23⟩
  · refine iv (y := nI 0) hz23 ?_
    refine n_if_ne (tgt := 32) hx hb dX0_then_26 (by decide) (by decide) (fun z => absurd z (by decide)) (fun _ => ?_)
    refine lv_ldc (v := (-100000)) hx hb hown (hts _ q1118) dX0_then_29 ?_
    refine hend _ _ _ _ _ hS dX0_then_31 ?_
    exact ⟨_, rfl, _, hG, Eqx.rf, ((rng_in hlo_x2 hhi_x2 (by omega)).trans ((rng_in hlo_x3 hhi_x3 (by omega)).trans ((if_neg (by omega)).trans ((ho23.1 _ _))))).symm⟩
  refine iv (y := nI 1) hz23 ?_
  have hl : lv_has ls 4 [(0, .ref o), (1, .int (nI x1)), (2, .int (nI x2)), (3, .int (nI x3))] := hl
  refine n_if_ne (tgt := 32) hx hb dX0_then_26 (by decide) (by decide) (fun _ => ?_) (fun z => absurd z (by decide))
  refine lv_aload_n hx hb dX0_then_32 rfl (lv_at hl 0 rfl) ?_
  refine g_get hx hb hts hown hK hG 0 rfl rfl ok_X0 8 (by decide) q530 rfl rfl dX0_then_33 ?_
  refine lv_aload_n hx hb dX0_then_36 rfl (lv_at hl 0 rfl) ?_
  refine g_get hx hb hts hown hK hG 0 rfl rfl ok_X0 7 (by decide) q529 rfl rfl dX0_then_37 ?_
  refine c_VV hx hb hml hts hown hK hl.1 hS ⟨Nat.le_refl _, Nat.le_refl _⟩ (met_X5_takes l D dA (gP_view hG isB26) (gP_view hG isB15) (by omega)) (cw_X0_193 hts ⟨Nat.le_of_ble_eq_true rfl, Nat.le_of_ble_eq_true rfl⟩) (hG 26 _ rfl) rfl rfl rfl rfl (Nat.le_of_ble_eq_true rfl) dX0_then_40 (fun z hz => hz.elim (AB_AS isB26 z) (AB_AS isB15 z)) (fun H1 locs hq hF hS => ?_)
  obtain ⟨W4, hGv, hGc, hEv, hc9, hc4, hc5, hc6, hc7⟩ := hq
  obtain ⟨V4, hV4⟩ : ∃ X, X = spl V 26 W4 := ⟨_, rfl⟩
  have hGn := gP_back2 hG isB26 isB15 hF hGv hGc
  rw [← hV4] at hGn
  replace hG := hGn
  have hE4 : Eqx PT26 V V4 := by rw [hV4]; exact spl_eqx
  have hb4 : bkS V4 26 (xN T) (f) (xS T) := by rw [hV4]; exact bkS_spl (bkM_cp hn9 hB hc9 hc4 hc5 hc6 hc7)
  clear hGn hGv hGc hEv hc9 hc4 hc5 hc6 hc7 hV4
  generalize hHe4 : H1 = H at hG hS ⊢
  clear hHe4 hF
  refine lv_aload_n hx hb dX0_then_43 rfl (lv_at hl 0 rfl) ?_
  refine lv_aload_n hx hb dX0_then_44 rfl (lv_at hl 0 rfl) ?_
  refine g_get hx hb hts hown hK hG 0 rfl rfl ok_X0 8 (by decide) q530 rfl rfl dX0_then_45 ?_
  refine lv_iload_n hx hb dX0_then_48 rfl (lv_at hl 2 rfl) ?_
  refine lv_aload_n hx hb dX0_then_49 rfl (lv_at hl 0 rfl) ?_
  refine g_get hx hb hts hown hK hG 0 rfl rfl ok_X0 11 (by decide) q533 rfl rfl dX0_then_50 ?_
  refine c_VV hx hb hml hts hown hK hl.1 hS ⟨Nat.le_refl _, Nat.le_refl _⟩ (met_X0_runs l D dA hG (txA_S hX0 hS hOA) htx isB26 (fun z hz hb => hOA z hz (AB_AS isB26 z hb)) hsd2 hb4 hrv (ni72 hG) (fun z => by have h1 := z.1; have h2 := z.2; omega) x2 (by omega)) (cw_X0_218 hts ⟨Nat.le_of_ble_eq_true rfl, Nat.le_of_ble_eq_true rfl⟩) (hG 0 _ rfl) rfl rfl rfl rfl (Nat.le_of_ble_eq_true rfl) dX0_then_53 (AB_AS isB26) (fun H1 locs hq hF hS => ?_)
  obtain ⟨V5, hG, hE5, hb5⟩ := hq
  generalize hHe5 : H1 = H at hG hS ⊢
  clear hHe5
  have hrl5 := rbF_lt (goF T (nI 0) (xS T) x2 (f)) (xN T)
  refine lv_iload_n hx hb dX0_then_56 rfl (lv_at hl 3 rfl) ?_
  refine n_if_ne (tgt := 74) hx hb dX0_then_57 (by decide) (by omega) (fun c57 => ?_) (fun c57 => ?_)
  · refine lv_iload_n hx hb dX0_then_74 rfl (lv_at hl 3 rfl) ?_
    refine lv_iconst (v := (nI 1)) hx hb dX0_then_75 (by decide) ?_
    refine n_icmp_ne (tgt := 91) hx hb dX0_then_76 (by decide) (by omega) (by omega) (fun c76 => ?_) (fun c76 => ?_)
    · exact absurd c76 (by omega)
    refine lv_aload_n hx hb dX0_then_79 rfl (lv_at hl 0 rfl) ?_
    refine g_get hx hb hts hown hK hG 0 rfl rfl ok_X0 8 (by decide) q530 rfl rfl dX0_then_80 ?_
    refine g_get hx hb hts hown hK hG 26 rfl rfl ok_X5 1 (by decide) q436 rfl rfl dX0_then_83 ?_
    refine lv_iload_n hx hb dX0_then_86 rfl (lv_at hl 1 rfl) ?_
    refine n_iald hx hb hK hG 28 rfl (by omega) (by decide) dX0_then_87 ?_
    refine iv (y := ((goF T (nI 0) (xS T) x2 (f)) (27 + x1))) (hb5.1.2.2.2 x1 (by omega)) ?_
    refine lv_goto (tgt := 101) hx hb dX0_then_88 (by decide) ?_
    refine hend _ _ _ _ _ hS dX0_then_101 ?_
    exact ⟨_, rfl, _, hG, ((hE4.mono PT26_PQw).trans (hE5.mono PT26_PQw)), ((rng_in hlo_x2 hhi_x2 (by omega)).trans ((rng_in hlo_x3 hhi_x3 (by omega)).trans ((if_neg (by omega)).trans ((rng_in hlo_x1 hhi_x1 (by omega)).trans ((if_neg (by omega))))))).symm⟩
  refine lv_aload_n hx hb dX0_then_60 rfl (lv_at hl 0 rfl) ?_
  refine g_get hx hb hts hown hK hG 0 rfl rfl ok_X0 8 (by decide) q530 rfl rfl dX0_then_61 ?_
  refine g_get (v := .int (nI (rbF (goF T (nI 0) (xS T) x2 (f)) (xN T)))) hx hb hts hown hK hG 26 rfl rfl ok_X5 4 (by decide) q442 rfl (congrArg Value.int hb5.1.1) dX0_then_64 ?_
  refine lv_iload_n hx hb dX0_then_67 rfl (lv_at hl 1 rfl) ?_
  refine n_ishr hx hb dX0_then_68 (by omega) (by omega) ?_
  refine lv_iconst (v := (nI 1)) hx hb dX0_then_69 (by decide) ?_
  refine n_and1 hx hb dX0_then_70 ?_
  refine lv_goto (tgt := 101) hx hb dX0_then_71 (by decide) ?_
  refine hend _ _ _ _ _ hS dX0_then_101 ?_
  exact ⟨_, rfl, _, hG, ((hE4.mono PT26_PQw).trans (hE5.mono PT26_PQw)), ((rng_in hlo_x2 hhi_x2 (by omega)).trans ((rng_in hlo_x3 hhi_x3 (by omega)).trans ((if_neg (by omega)).trans ((rng_in hlo_x1 hhi_x1 (by omega)).trans (((if_pos (by omega)).trans ((go_RV hrv x2 x1 (by omega)).trans (congrArg nI (rb_bit (by omega)).symm)))))))).symm⟩
set_option maxHeartbeats 4000000 in
theorem met_X0_year (l : Launch) (D : va_G) (dA : Nat → ClassId) {o : Nat} {V : GI} {L : GL} {Rf : GR} {H0 : Heap} (hG : gP D dA o dS V L Rf H0) {O : Nat → Prop} {tx : Nat} {T : Txt} {f : Rw} (hC : clS D dA H0 O o V Rf tx T f) (hOA : ∀ z, O z → ¬ AS o z) (v1 v2 : Int32) : Ctr l D dA yX0_year cX0_year 5 (some .int) (mkRm 410 9700) [.ref o, .int v1, .int v2] H0 (AS o) (QI (fun r H1 => ∃ V1, gP D dA o dS V1 L Rf H1 ∧ Eqx PQw V V1 ∧ r = yearA T f v1 v2)) := by
  have hC0 := hC
  obtain ⟨hX, htx, hB, hrv, hsd1, hsd2⟩ := hC
  have hX0 := hX
  have hn9 := txA_n hX
  have hp2 := two9 hn9
  have hpp := Nat.two_pow_pos (xN T)
  obtain ⟨al, ls, cd, cb, gc, lw, mc, ea, nc, xo1, xo2, xo3, xo4, xh1, xh2, xh3, xh4, xh5, xh6, hn9⟩ := hX
  have hOAb : ∀ z, O z → ¬ AB (o + 26) z := fun z hz hb => hOA z hz (AB_AS isB26 z hb)
  have hrl0 := rbF_lt f (xN T)
  refine ctr_I (by decide) (Nat.le_of_ble_eq_true rfl) ?_
  intro p e s m args below meth c ls QQ locs hx hb hml hown hts hK hend hS hl
  have hl : lv_has ls 5 [(0, .ref o), (1, .int v1), (2, .int v2)] := hl
  refine lv_iload_n hx hb dX0_year_0 rfl (lv_at hl 1 rfl) ?_
  refine c_SI hx hb hml hts hown hK hl.1 hS ⟨Nat.le_refl _, Nat.le_refl _⟩ (met_X0_isAhead l D dA v1) (cw_X0_215 hts ⟨Nat.le_of_ble_eq_true rfl, Nat.le_of_ble_eq_true rfl⟩) rfl rfl (Nat.le_of_ble_eq_true rfl) dX0_year_1 (fun _ h => h.elim) (fun r H1 locs hq hF hS => ?_)
  obtain ⟨rfl, rfl⟩ := hq
  rcases (inZ_cases v1 0 48 (by decide) (by decide)).symm with ⟨hz1, ho1⟩ | ⟨x1, hlo_x1, hhi_x1, rfl, hz1⟩
  · refine iv (y := nI 0) hz1 ?_
    refine n_if_eq (tgt := 17) hx hb dX0_year_4 (by decide) (by decide) (fun _ => ?_) (fun z => absurd z (by decide))
    refine lv_iconst (v := (-1)) hx hb dX0_year_17 (by decide) ?_
    refine hend _ _ _ _ _ hS dX0_year_18 ?_
    exact ⟨_, rfl, _, hG, Eqx.rf, ((ho1.1 _ _)).symm⟩
  refine iv (y := nI 1) hz1 ?_
  have hl : lv_has ls 5 [(0, .ref o), (1, .int (nI x1)), (2, .int v2)] := hl
  refine n_if_eq (tgt := 17) hx hb dX0_year_4 (by decide) (by decide) (fun z => absurd z (by decide)) (fun _ => ?_)
  refine lv_iload_n hx hb dX0_year_7 rfl (lv_at hl 2 rfl) ?_
  refine lv_iconst (v := (nI 1)) hx hb dX0_year_8 (by decide) ?_
  refine lv_bipush (v := (nI 20)) hx hb dX0_year_9 (by decide) ?_
  refine c_SI hx hb hml hts hown hK hl.1 hS ⟨Nat.le_refl _, Nat.le_refl _⟩ (met_X0_isIn l D dA v2 (nI 1) (nI 20)) (cw_X0_146 hts ⟨Nat.le_of_ble_eq_true rfl, Nat.le_of_ble_eq_true rfl⟩) rfl rfl (Nat.le_of_ble_eq_true rfl) dX0_year_11 (fun _ h => h.elim) (fun r H1 locs hq hF hS => ?_)
  obtain ⟨rfl, rfl⟩ := hq
  rcases (inZ_cases v2 1 20 (by decide) (by decide)).symm with ⟨hz11, ho11⟩ | ⟨x2, hlo_x2, hhi_x2, rfl, hz11⟩
  · refine iv (y := nI 0) hz11 ?_
    refine n_if_ne (tgt := 19) hx hb dX0_year_14 (by decide) (by decide) (fun z => absurd z (by decide)) (fun _ => ?_)
    refine lv_iconst (v := (-1)) hx hb dX0_year_17 (by decide) ?_
    refine hend _ _ _ _ _ hS dX0_year_18 ?_
    exact ⟨_, rfl, _, hG, Eqx.rf, ((rng_in hlo_x1 hhi_x1 (by omega)).trans ((ho11.1 _ _))).symm⟩
  refine iv (y := nI 1) hz11 ?_
  have hl : lv_has ls 5 [(0, .ref o), (1, .int (nI x1)), (2, .int (nI x2))] := hl
  refine n_if_ne (tgt := 19) hx hb dX0_year_14 (by decide) (by decide) (fun _ => ?_) (fun z => absurd z (by decide))
  refine lv_iconst (v := (nI 0)) hx hb dX0_year_19 (by decide) ?_
  refine lv_istore_n (lv' := [(3, .int (nI 0)), (0, .ref o), (1, .int (nI x1)), (2, .int (nI x2))]) hx hb dX0_year_20 rfl hl (by decide) rfl (fun ls hl => ?_)
  refine lv_iconst (v := (nI 0)) hx hb dX0_year_21 (by decide) ?_
  refine lv_istore (lv' := [(4, .int (nI 0)), (3, .int (nI 0)), (0, .ref o), (1, .int (nI x1)), (2, .int (nI x2))]) hx hb dX0_year_22 hl (by decide) rfl (fun ls hl => ?_)
  have loop1 : ∀ (fu1 : Nat) (k : Nat) (u : Nat) (V1 : GI) (H : Heap) (locs : List Loc) (ls : Array Slot), x2 - k < fu1 → (k ≤ x2) → (cnF (yrP T f x1) k = u) → (Eqx PQw V V1) → gP D dA o dS V1 L Rf H → va_S (AS o) H0 H locs → lv_has ls 5 [(4, .int (nI k)), (3, .int (nI u)), (0, .ref o), (1, .int (nI x1)), (2, .int (nI x2))] → W p l e (mkRm 410 9700) s m args below meth c H locs 0 0 QQ (F0 m 24 ls []) := by
    intro fu1
    induction fu1 with
    | zero => intro k u V1 H locs ls hfu; exact absurd hfu (Nat.not_lt_zero _)
    | succ fu1 ih1 =>
      intro k u V1 H locs ls hfu hkn hu hE1 hG hS hl
      have hul9 := cnF_le (yrP T f x1) k
      refine lv_iload hx hb dX0_year_24 (lv_at hl 0 rfl) ?_
      refine lv_iload_n hx hb dX0_year_26 rfl (lv_at hl 4 rfl) ?_
      refine n_icmp_ge (tgt := 101) hx hb dX0_year_27 (by decide) (by omega) (by omega) (fun c27 => ?_) (fun c27 => ?_)
      · refine lv_iload_n hx hb dX0_year_101 rfl (lv_at hl 1 rfl) ?_
        refine hend _ _ _ _ _ hS dX0_year_102 ?_
        exact ⟨_, rfl, _, hG, hE1, ((rng_in hlo_x1 hhi_x1 (by omega)).trans ((rng_in hlo_x2 hhi_x2 (by omega)).trans ((by obtain rfl : k = x2 := (by omega); rw [hu])))).symm⟩
      refine lv_aload_n hx hb dX0_year_30 rfl (lv_at hl 2 rfl) ?_
      refine g_get hx hb hts hown hK hG 0 rfl rfl ok_X0 8 (by decide) q530 rfl rfl dX0_year_31 ?_
      refine lv_aload_n hx hb dX0_year_34 rfl (lv_at hl 2 rfl) ?_
      refine g_get hx hb hts hown hK hG 0 rfl rfl ok_X0 7 (by decide) q529 rfl rfl dX0_year_35 ?_
      refine c_VV hx hb hml hts hown hK hl.1 hS ⟨Nat.le_refl _, Nat.le_refl _⟩ (met_X5_takes l D dA (gP_view hG isB26) (gP_view hG isB15) (by omega)) (cw_X0_193 hts ⟨Nat.le_of_ble_eq_true rfl, Nat.le_of_ble_eq_true rfl⟩) (hG 26 _ rfl) rfl rfl rfl rfl (Nat.le_of_ble_eq_true rfl) dX0_year_38 (fun z hz => hz.elim (AB_AS isB26 z) (AB_AS isB15 z)) (fun H1 locs hq hF hS => ?_)
      obtain ⟨W2, hGv, hGc, hEv, hc9, hc4, hc5, hc6, hc7⟩ := hq
      obtain ⟨V2, hV2⟩ : ∃ X, X = spl V1 26 W2 := ⟨_, rfl⟩
      have hGn := gP_back2 hG isB26 isB15 hF hGv hGc
      rw [← hV2] at hGn
      replace hG := hGn
      have hE2 : Eqx PT26 V1 V2 := by rw [hV2]; exact spl_eqx
      have hb2 : bkS V2 26 (xN T) (f) (xS T) := by rw [hV2]; exact bkS_spl (bkM_cp hn9 (bkS_to (fun k j hk => (hE1 : Eqx PQw V _) _ j (PQw_bk k j hk)) hB) hc9 hc4 hc5 hc6 hc7)
      clear hGn hGv hGc hEv hc9 hc4 hc5 hc6 hc7 hV2
      generalize hHe2 : H1 = H at hG hS ⊢
      clear hHe2 hF
      refine lv_aload_n hx hb dX0_year_41 rfl (lv_at hl 2 rfl) ?_
      refine g_get hx hb hts hown hK hG 0 rfl rfl ok_X0 8 (by decide) q530 rfl rfl dX0_year_42 ?_
      refine lv_aload_n hx hb dX0_year_45 rfl (lv_at hl 2 rfl) ?_
      refine g_get (v := .ref tx) hx hb hts hown hK hG 0 rfl rfl ok_X0 3 (by decide) q525 rfl (congrArg va_rf htx) dX0_year_46 ?_
      refine x_get hx hb hts hown hK (va_at_S xh1 hS (hOA _ xo1)) rfl ok_X4 7 (by decide) q373 rfl dX0_year_49 ?_
      refine lv_iload hx hb dX0_year_52 (lv_at hl 0 rfl) ?_
      refine lv_iadd hx hb dX0_year_54 ?_
      refine g_put hx hb hts hown hK hG hS 26 (AS_in 26 (by decide)) rfl rfl ok_X5 7 (by decide) q450 rfl rfl rfl rfl dX0_year_55 (fun H locs hG hO hS => ?_)
      have hb3 : bkS (up2 V2 26 7 ((xS T) + (nI k))) 26 (xN T) f (xS T + nI k) := bkS_sd hb2 up2_s (fun k j hk hz => up2_n (fun z => hz ⟨by omega, z.2⟩))
      refine lv_aload_n hx hb dX0_year_58 rfl (lv_at hl 2 rfl) ?_
      refine lv_aload_n hx hb dX0_year_59 rfl (lv_at hl 2 rfl) ?_
      refine g_get hx hb hts hown hK hG 0 rfl rfl ok_X0 8 (by decide) q530 rfl rfl dX0_year_60 ?_
      refine lv_iload_n hx hb dX0_year_63 rfl (lv_at hl 3 rfl) ?_
      refine lv_aload_n hx hb dX0_year_64 rfl (lv_at hl 2 rfl) ?_
      refine g_get hx hb hts hown hK hG 0 rfl rfl ok_X0 11 (by decide) q533 rfl rfl dX0_year_65 ?_
      refine c_VV hx hb hml hts hown hK hl.1 hS ⟨Nat.le_refl _, Nat.le_refl _⟩ (met_X0_runs l D dA hG (txA_S hX0 hS hOA) htx isB26 (fun z hz hb => hOA z hz (AB_AS isB26 z hb)) hsd2 hb3 hrv (ni72 hG) (fun z => by have h1 := z.1; have h2 := z.2; omega) x1 (by omega)) (cw_X0_218 hts ⟨Nat.le_of_ble_eq_true rfl, Nat.le_of_ble_eq_true rfl⟩) (hG 0 _ rfl) rfl rfl rfl rfl (Nat.le_of_ble_eq_true rfl) dX0_year_68 (AB_AS isB26) (fun H1 locs hq hF hS => ?_)
      obtain ⟨V4, hG, hE4, hb4⟩ := hq
      generalize hHe4 : H1 = H at hG hS ⊢
      clear hHe4
      have hrl4 := rbF_lt (goF T (nI 0) (xS T + nI k) x1 (f)) (xN T)
      refine lv_iload_n hx hb dX0_year_71 rfl (lv_at hl 1 rfl) ?_
      refine lv_aload_n hx hb dX0_year_72 rfl (lv_at hl 2 rfl) ?_
      refine g_get hx hb hts hown hK hG 0 rfl rfl ok_X0 8 (by decide) q530 rfl rfl dX0_year_73 ?_
      refine g_get (v := .int (nI (rbF (goF T (nI 0) (xS T + nI k) x1 (f)) (xN T)))) hx hb hts hown hK hG 26 rfl rfl ok_X5 4 (by decide) q442 rfl (congrArg Value.int hb4.1.1) dX0_year_76 ?_
      refine lv_aload_n hx hb dX0_year_79 rfl (lv_at hl 2 rfl) ?_
      refine c_VI hx hb hml hts hown hK hl.1 hS ⟨Nat.le_refl _, Nat.le_refl _⟩ (met_X0_rows l D dA hG (txA_S hX0 hS hOA) htx) (cw_X0_154 hts ⟨Nat.le_of_ble_eq_true rfl, Nat.le_of_ble_eq_true rfl⟩) (hG 0 _ rfl) rfl rfl rfl rfl (Nat.le_of_ble_eq_true rfl) dX0_year_80 (fun _ h => h.elim) (fun r H1 locs hq hF hS => ?_)
      obtain ⟨rfl, rfl⟩ := hq
      refine lv_iconst (v := (nI 1)) hx hb dX0_year_83 (by decide) ?_
      refine n_isub hx hb dX0_year_84 (by omega) ?_
      refine n_icmp_ne (tgt := 92) hx hb dX0_year_85 (by decide) (by omega) (by omega) (fun c85 => ?_) (fun c85 => ?_)
      · refine lv_iconst (v := (nI 0)) hx hb dX0_year_92 (by decide) ?_
        refine n_iadd hx hb dX0_year_93 ?_
        refine lv_istore_n (lv' := [(3, .int (nI (u + 0))), (4, .int (nI k)), (0, .ref o), (1, .int (nI x1)), (2, .int (nI x2))]) hx hb dX0_year_94 rfl hl (by decide) rfl (fun ls hl => ?_)
        refine lv_iinc (v := (nI (k + 1))) (lv' := [(4, .int (nI (k + 1))), (3, .int (nI (u + 0))), (0, .ref o), (1, .int (nI x1)), (2, .int (nI x2))]) hx hb dX0_year_95 hl (k := 1) rfl (nI_add _ _) (by decide) rfl (fun ls hl => ?_)
        refine lv_goto (tgt := 24) hx hb dX0_year_98 (by decide) ?_
        exact ih1 (k + 1) (u + 0) V4 _ _ _ (by omega) (by omega) ((cnF_f (fun z => c85 (of_decide_eq_true z))).trans hu) (Eqx.trans (Eqx.up (Eqx.trans hE1 (hE2.mono PT26_PQw)) rfl) (hE4.mono PT26_PQw)) hG hS (lv_sub hl [0, 1, 2, 3, 4] rfl)
      refine lv_iconst (v := (nI 1)) hx hb dX0_year_88 (by decide) ?_
      refine lv_goto (tgt := 93) hx hb dX0_year_89 (by decide) ?_
      refine n_iadd hx hb dX0_year_93 ?_
      refine lv_istore_n (lv' := [(3, .int (nI (u + 1))), (4, .int (nI k)), (0, .ref o), (1, .int (nI x1)), (2, .int (nI x2))]) hx hb dX0_year_94 rfl hl (by decide) rfl (fun ls hl => ?_)
      refine lv_iinc (v := (nI (k + 1))) (lv' := [(4, .int (nI (k + 1))), (3, .int (nI (u + 1))), (0, .ref o), (1, .int (nI x1)), (2, .int (nI x2))]) hx hb dX0_year_95 hl (k := 1) rfl (nI_add _ _) (by decide) rfl (fun ls hl => ?_)
      refine lv_goto (tgt := 24) hx hb dX0_year_98 (by decide) ?_
      exact ih1 (k + 1) (u + 1) V4 _ _ _ (by omega) (by omega) ((cnF_t (decide_eq_true c85)).trans (by omega)) (Eqx.trans (Eqx.up (Eqx.trans hE1 (hE2.mono PT26_PQw)) rfl) (hE4.mono PT26_PQw)) hG hS (lv_sub hl [0, 1, 2, 3, 4] rfl)
  exact loop1 ((x2 - 0) + 1) 0 0 V _ _ _ (Nat.lt_succ_self _) (Nat.zero_le _) rfl Eqx.rf hG hS (lv_sub hl [0, 1, 2, 3, 4] rfl)
theorem cw_X0_181 {R : Room} {s : State} {args : Array Value} (hts : ∀ w ∈ lw_all, w.before args s = true) {f w k j : Nat} (hR : f + 1 ≤ R.frames ∧ 8 + (3 + 11) + w ≤ R.locals) : CallW R s args RX0 RX5 181 yX5_chills cX5_chills 3 (some .int) (ws_ yX5_chills cX5_chills 3 (some .int)) (mkRmC f w k j) k j 2 := cwV 2 hts (lw_V q1170 q1171 q1172 q119 q1173) rfl rfl rfl (by decide +kernel) hR
set_option maxHeartbeats 4000000 in
theorem met_X0_coldest (l : Launch) (D : va_G) (dA : Nat → ClassId) {o : Nat} {V : GI} {L : GL} {Rf : GR} {H0 : Heap} (hG : gP D dA o dS V L Rf H0) {O : Nat → Prop} {tx : Nat} {T : Txt} {f : Rw} (hC : clS D dA H0 O o V Rf tx T f) (hOA : ∀ z, O z → ¬ AS o z) (v1 : Int32) : Ctr l D dA yX0_coldest cX0_coldest 7 (some .int) (mkRm 410 9700) [.ref o, .int v1] H0 (AS o) (QI (fun r H1 => ∃ V1, gP D dA o dS V1 L Rf H1 ∧ Eqx PQw V V1 ∧ r = coldestA T f v1)) := by
  have hC0 := hC
  obtain ⟨hX, htx, hB, hrv, hsd1, hsd2⟩ := hC
  have hX0 := hX
  have hn9 := txA_n hX
  have hp2 := two9 hn9
  have hpp := Nat.two_pow_pos (xN T)
  obtain ⟨fsx, hatx⟩ := txA_at hX
  have hotx := txA_o hX
  have hOAb : ∀ z, O z → ¬ AB (o + 26) z := fun z hz hb => hOA z hz (AB_AS isB26 z hb)
  have hrl0 := rbF_lt f (xN T)
  refine ctr_I (by decide) (Nat.le_of_ble_eq_true rfl) ?_
  intro p e s m args below meth c ls QQ locs hx hb hml hown hts hK hend hS hl
  have hl : lv_has ls 7 [(0, .ref o), (1, .int v1)] := hl
  refine lv_iload_n hx hb dX0_coldest_0 rfl (lv_at hl 1 rfl) ?_
  refine lv_iconst (v := (nI 0)) hx hb dX0_coldest_1 (by decide) ?_
  refine lv_iconst (v := (nI 1)) hx hb dX0_coldest_2 (by decide) ?_
  refine c_SI hx hb hml hts hown hK hl.1 hS ⟨Nat.le_refl _, Nat.le_refl _⟩ (met_X0_isIn l D dA v1 (nI 0) (nI 1)) (cw_X0_146 hts ⟨Nat.le_of_ble_eq_true rfl, Nat.le_of_ble_eq_true rfl⟩) rfl rfl (Nat.le_of_ble_eq_true rfl) dX0_coldest_3 (fun _ h => h.elim) (fun r H1 locs hq hF hS => ?_)
  obtain ⟨rfl, rfl⟩ := hq
  rcases (inZ_cases v1 0 1 (by decide) (by decide)).symm with ⟨hz3, ho3⟩ | ⟨x1, hlo_x1, hhi_x1, rfl, hz3⟩
  · refine iv (y := nI 0) hz3 ?_
    refine n_if_ne (tgt := 11) hx hb dX0_coldest_6 (by decide) (by decide) (fun z => absurd z (by decide)) (fun _ => ?_)
    refine lv_iconst (v := (-1)) hx hb dX0_coldest_9 (by decide) ?_
    refine hend _ _ _ _ _ hS dX0_coldest_10 ?_
    exact ⟨_, rfl, _, hG, Eqx.rf, ((ho3.1 _ _)).symm⟩
  refine iv (y := nI 1) hz3 ?_
  have hl : lv_has ls 7 [(0, .ref o), (1, .int (nI x1))] := hl
  refine n_if_ne (tgt := 11) hx hb dX0_coldest_6 (by decide) (by decide) (fun _ => ?_) (fun z => absurd z (by decide))
  refine lv_iconst (v := (nI 0)) hx hb dX0_coldest_11 (by decide) ?_
  refine lv_istore_n (lv' := [(2, .int (nI 0)), (0, .ref o), (1, .int (nI x1))]) hx hb dX0_coldest_12 rfl hl (by decide) rfl (fun ls hl => ?_)
  refine lv_iconst (v := (-1)) hx hb dX0_coldest_13 (by decide) ?_
  refine lv_istore_n (lv' := [(3, .int (-1)), (2, .int (nI 0)), (0, .ref o), (1, .int (nI x1))]) hx hb dX0_coldest_14 rfl hl (by decide) rfl (fun ls hl => ?_)
  refine lv_aload_n hx hb dX0_coldest_15 rfl (lv_at hl 2 rfl) ?_
  refine g_get hx hb hts hown hK hG 0 rfl rfl ok_X0 8 (by decide) q530 rfl rfl dX0_coldest_16 ?_
  refine lv_aload_n hx hb dX0_coldest_19 rfl (lv_at hl 2 rfl) ?_
  refine g_get hx hb hts hown hK hG 0 rfl rfl ok_X0 7 (by decide) q529 rfl rfl dX0_coldest_20 ?_
  refine c_VV hx hb hml hts hown hK hl.1 hS ⟨Nat.le_refl _, Nat.le_refl _⟩ (met_X5_takes l D dA (gP_view hG isB26) (gP_view hG isB15) (by omega)) (cw_X0_193 hts ⟨Nat.le_of_ble_eq_true rfl, Nat.le_of_ble_eq_true rfl⟩) (hG 26 _ rfl) rfl rfl rfl rfl (Nat.le_of_ble_eq_true rfl) dX0_coldest_23 (fun z hz => hz.elim (AB_AS isB26 z) (AB_AS isB15 z)) (fun H1 locs hq hF hS => ?_)
  obtain ⟨W1, hGv, hGc, hEv, hc9, hc4, hc5, hc6, hc7⟩ := hq
  obtain ⟨V1, hV1⟩ : ∃ X, X = spl V 26 W1 := ⟨_, rfl⟩
  have hGn := gP_back2 hG isB26 isB15 hF hGv hGc
  rw [← hV1] at hGn
  replace hG := hGn
  have hE1 : Eqx PT26 V V1 := by rw [hV1]; exact spl_eqx
  have hb1 : bkS V1 26 (xN T) (f) (xS T) := by rw [hV1]; exact bkS_spl (bkM_cp hn9 hB hc9 hc4 hc5 hc6 hc7)
  clear hGn hGv hGc hEv hc9 hc4 hc5 hc6 hc7 hV1
  generalize hHe1 : H1 = H at hG hS ⊢
  clear hHe1 hF
  refine lv_iconst (v := (nI 0)) hx hb dX0_coldest_26 (by decide) ?_
  refine lv_istore (lv' := [(4, .int (nI 0)), (3, .int (-1)), (2, .int (nI 0)), (0, .ref o), (1, .int (nI x1))]) hx hb dX0_coldest_27 hl (by decide) rfl (fun ls hl => ?_)
  have loop2 : ∀ (fu2 : Nat) (k : Nat) (op : Option (Nat × Nat)) (V2 : GI) (H : Heap) (locs : List Loc) (ls : Array Slot), 24 - k < fu2 → (k ≤ 24) → (mxF (cdF T f) k = op) → (Eqx PQw V1 V2) → (bkS V2 26 (xN T) (goF T (nI 1) (xS T) k f) (xS T)) → gP D dA o dS V2 L Rf H → va_S (AS o) H0 H locs → lv_has ls 7 [(4, .int (nI k)), (3, .int (oV (-1) op)), (2, .int (oI 0 op)), (0, .ref o), (1, .int (nI x1))] → W p l e (mkRm 410 9700) s m args below meth c H locs 0 0 QQ (F0 m 29 ls []) := by
    intro fu2
    induction fu2 with
    | zero => intro k op V2 H locs ls hfu; exact absurd hfu (Nat.not_lt_zero _)
    | succ fu2 ih2 =>
      intro k op V2 H locs ls hfu hk hp hE2 hbk hG hS hl
      refine lv_iload hx hb dX0_coldest_29 (lv_at hl 0 rfl) ?_
      refine lv_bipush (v := (nI 24)) hx hb dX0_coldest_31 (by decide) ?_
      refine n_icmp_ge (tgt := 108) hx hb dX0_coldest_33 (by decide) (by omega) (by omega) (fun c33 => ?_) (fun c33 => ?_)
      · rcases op with _ | ⟨i, v⟩
        · exact absurd (mxF_0 hp) (by omega)
        have hl : lv_has ls 7 [(4, .int (nI k)), (3, .int (nI v)), (2, .int (nI i)), (0, .ref o), (1, .int (nI x1))] := hl
        obtain rfl : k = 24 := by omega
        refine lv_iload_n hx hb dX0_coldest_108 rfl (lv_at hl 4 rfl) ?_
        refine n_if_ne (tgt := 116) hx hb dX0_coldest_109 (by decide) (by omega) (fun c109 => ?_) (fun c109 => ?_)
        · refine lv_iload_n hx hb dX0_coldest_116 rfl (lv_at hl 1 rfl) ?_
          refine hend _ _ _ _ _ hS dX0_coldest_117 ?_
          exact ⟨_, rfl, _, hG, ((hE1.mono PT26_PQw).trans hE2), ((rng_in hlo_x1 hhi_x1 (by omega)).trans (((if_neg (by omega)).trans (congrArg (oV 0) hp)))).symm⟩
        refine lv_iload_n hx hb dX0_coldest_112 rfl (lv_at hl 2 rfl) ?_
        refine lv_goto (tgt := 117) hx hb dX0_coldest_113 (by decide) ?_
        refine hend _ _ _ _ _ hS dX0_coldest_117 ?_
        exact ⟨_, rfl, _, hG, ((hE1.mono PT26_PQw).trans hE2), ((rng_in hlo_x1 hhi_x1 (by omega)).trans (((if_pos c109).trans (congrArg (oI 0) hp)))).symm⟩
      refine lv_iconst (v := (nI 0)) hx hb dX0_coldest_36 (by decide) ?_
      refine lv_istore (lv' := [(5, .int (nI 0)), (4, .int (nI k)), (3, .int (oV (-1) op)), (2, .int (oI 0 op)), (0, .ref o), (1, .int (nI x1))]) hx hb dX0_coldest_37 hl (by decide) rfl (fun ls hl => ?_)
      refine lv_iconst (v := (nI 0)) hx hb dX0_coldest_39 (by decide) ?_
      refine lv_istore (lv' := [(6, .int (nI 0)), (5, .int (nI 0)), (4, .int (nI k)), (3, .int (oV (-1) op)), (2, .int (oI 0 op)), (0, .ref o), (1, .int (nI x1))]) hx hb dX0_coldest_40 hl (by decide) rfl (fun ls hl => ?_)
      have loop3 : ∀ (fu3 : Nat) (b : Nat) (u : Nat) (V3 : GI) (H : Heap) (locs : List Loc) (ls : Array Slot), xN T - b < fu3 → (b ≤ xN T) → (smF (ciN T (goF T (nI 1) (xS T) k f)) b = u) → (Eqx PSt V2 V3) → (bkS V3 26 (xN T) (goF T (nI 1) (xS T) k f) (xS T)) → gP D dA o dS V3 L Rf H → va_S (AS o) H0 H locs → lv_has ls 7 [(6, .int (nI b)), (5, .int (nI u)), (4, .int (nI k)), (3, .int (oV (-1) op)), (2, .int (oI 0 op)), (0, .ref o), (1, .int (nI x1))] → W p l e (mkRm 410 9700) s m args below meth c H locs 0 0 QQ (F0 m 42 ls []) := by
        intro fu3
        induction fu3 with
        | zero => intro b u V3 H locs ls hfu; exact absurd hfu (Nat.not_lt_zero _)
        | succ fu3 ih3 =>
          intro b u V3 H locs ls hfu hbn hu hE3 hbk hG hS hl
          have hu9 := smF_le (G := ciN T (goF T (nI 1) (xS T) k f)) (fun b => (chi_n T _ b).2) b
          refine lv_iload hx hb dX0_coldest_42 (lv_at hl 0 rfl) ?_
          refine lv_aload_n hx hb dX0_coldest_44 rfl (lv_at hl 5 rfl) ?_
          refine c_VI hx hb hml hts hown hK hl.1 hS ⟨Nat.le_refl _, Nat.le_refl _⟩ (met_X0_beds l D dA hG (txA_S hX0 hS hOA) htx) (cw_X0_145 hts ⟨Nat.le_of_ble_eq_true rfl, Nat.le_of_ble_eq_true rfl⟩) (hG 0 _ rfl) rfl rfl rfl rfl (Nat.le_of_ble_eq_true rfl) dX0_coldest_45 (fun _ h => h.elim) (fun r H1 locs hq hF hS => ?_)
          obtain ⟨rfl, rfl⟩ := hq
          refine n_icmp_ge (tgt := 75) hx hb dX0_coldest_48 (by decide) (by omega) (by omega) (fun c48 => ?_) (fun c48 => ?_)
          · have hcd : u = cdF T f k := hu.symm.trans (by obtain rfl : b = xN T := (by omega); rfl)
            have hcd9 := cdF_le (t := T) (f := f) (k := k) hn9
            rcases op with _ | ⟨i, v⟩
            · have hl : lv_has ls 7 [(6, .int (nI b)), (5, .int (nI u)), (4, .int (nI k)), (3, .int (-1)), (2, .int (nI 0)), (0, .ref o), (1, .int (nI x1))] := hl
              refine lv_iload hx hb dX0_coldest_75 (lv_at hl 1 rfl) ?_
              refine lv_iload_n hx hb dX0_coldest_77 rfl (lv_at hl 3 rfl) ?_
              refine lv_icmp_le (tgt := 87) hx hb dX0_coldest_78 (by decide) (fun z => absurd z (ng_le (by decide) (by omega))) (fun _ => ?_)
              refine lv_iload hx hb dX0_coldest_81 (lv_at hl 2 rfl) ?_
              refine lv_istore_n (lv' := [(2, .int (nI k)), (6, .int (nI b)), (5, .int (nI u)), (4, .int (nI k)), (3, .int (-1)), (0, .ref o), (1, .int (nI x1))]) hx hb dX0_coldest_83 rfl hl (by decide) rfl (fun ls hl => ?_)
              refine lv_iload hx hb dX0_coldest_84 (lv_at hl 2 rfl) ?_
              refine lv_istore_n (lv' := [(3, .int (nI u)), (2, .int (nI k)), (6, .int (nI b)), (5, .int (nI u)), (4, .int (nI k)), (0, .ref o), (1, .int (nI x1))]) hx hb dX0_coldest_86 rfl hl (by decide) rfl (fun ls hl => ?_)
              refine lv_aload_n hx hb dX0_coldest_87 rfl (lv_at hl 5 rfl) ?_
              refine g_get hx hb hts hown hK hG 0 rfl rfl ok_X0 8 (by decide) q530 rfl rfl dX0_coldest_88 ?_
              refine lv_aload_n hx hb dX0_coldest_91 rfl (lv_at hl 5 rfl) ?_
              refine g_get (v := .ref tx) hx hb hts hown hK hG 0 rfl rfl ok_X0 3 (by decide) q525 rfl (congrArg va_rf htx) dX0_coldest_92 ?_
              refine lv_aload_n hx hb dX0_coldest_95 rfl (lv_at hl 5 rfl) ?_
              refine g_get hx hb hts hown hK hG 0 rfl rfl ok_X0 12 (by decide) q534 rfl rfl dX0_coldest_96 ?_
              refine c_VV hx hb hml hts hown hK hl.1 hS ⟨Nat.le_refl _, Nat.le_refl _⟩ (met_X5_goesBy l D dA (gP_view hG isB26) (txA_S hX0 hS hOA) hOAb hsd2 hbk (go_RV hrv k) (ni73 hG) (fun z => by have h1 := z.1; have h2 := z.2; omega)) (cw_X0_211 hts ⟨Nat.le_of_ble_eq_true rfl, Nat.le_of_ble_eq_true rfl⟩) ((gP_view hG isB26) 0 _ rfl) rfl rfl rfl rfl (Nat.le_of_ble_eq_true rfl) dX0_coldest_99 (AB_AS isB26) (fun H1 locs hq hF hS => ?_)
              obtain ⟨W4, hGv, hEv, hbn4⟩ := hq
              obtain ⟨V4, hV4⟩ : ∃ X, X = spl V3 26 W4 := ⟨_, rfl⟩
              have hGn := gP_back hG isB26 hF (fun _ h => h) hGv
              rw [← hV4] at hGn
              replace hG := hGn
              have hE4 : Eqx PT26 V3 V4 := by rw [hV4]; exact spl_eqx
              have hb4 : bkS V4 26 (xN T) (hourF T (nI 1) (xS T) (goF T (nI 1) (xS T) k f)) (xS T) := by rw [hV4]; exact bkS_spl hbn4
              clear hGn hGv hEv hbn4 hV4
              generalize hHe4 : H1 = H at hG hS ⊢
              clear hHe4 hF
              have hb4n : bkS V4 26 (xN T) (goF T (nI 1) (xS T) (k + 1) f) (xS T) := hb4
              have hrl4 := rbF_lt (goF T (nI 1) (xS T) (k + 1) f) (xN T)
              refine lv_iinc (v := (nI (k + 1))) (lv' := [(4, .int (nI (k + 1))), (3, .int (nI u)), (2, .int (nI k)), (6, .int (nI b)), (5, .int (nI u)), (0, .ref o), (1, .int (nI x1))]) hx hb dX0_coldest_102 hl (k := 4) rfl (nI_add _ _) (by decide) rfl (fun ls hl => ?_)
              refine lv_goto (tgt := 29) hx hb dX0_coldest_105 (by decide) ?_
              exact ih2 (k + 1) (some (k, u)) V4 _ _ _ (by omega) (by omega) (by rw [mxF_n hp, hcd]) (Eqx.trans (Eqx.trans hE2 (hE3.mono PSt_PQw)) (hE4.mono PT26_PQw)) hb4n hG hS (lv_sub hl [0, 1, 2, 5, 6] rfl)
            have hl : lv_has ls 7 [(6, .int (nI b)), (5, .int (nI u)), (4, .int (nI k)), (3, .int (nI v)), (2, .int (nI i)), (0, .ref o), (1, .int (nI x1))] := hl
            have hv9 : v ≤ 900 := (mxF_lt hp).2 ▸ cdF_le hn9
            have hi9 := (mxF_lt hp).1
            refine lv_iload hx hb dX0_coldest_75 (lv_at hl 1 rfl) ?_
            refine lv_iload_n hx hb dX0_coldest_77 rfl (lv_at hl 3 rfl) ?_
            refine n_icmp_le (tgt := 87) hx hb dX0_coldest_78 (by decide) (by omega) (by omega) (fun c78 => ?_) (fun c78 => ?_)
            · refine lv_aload_n hx hb dX0_coldest_87 rfl (lv_at hl 5 rfl) ?_
              refine g_get hx hb hts hown hK hG 0 rfl rfl ok_X0 8 (by decide) q530 rfl rfl dX0_coldest_88 ?_
              refine lv_aload_n hx hb dX0_coldest_91 rfl (lv_at hl 5 rfl) ?_
              refine g_get (v := .ref tx) hx hb hts hown hK hG 0 rfl rfl ok_X0 3 (by decide) q525 rfl (congrArg va_rf htx) dX0_coldest_92 ?_
              refine lv_aload_n hx hb dX0_coldest_95 rfl (lv_at hl 5 rfl) ?_
              refine g_get hx hb hts hown hK hG 0 rfl rfl ok_X0 12 (by decide) q534 rfl rfl dX0_coldest_96 ?_
              refine c_VV hx hb hml hts hown hK hl.1 hS ⟨Nat.le_refl _, Nat.le_refl _⟩ (met_X5_goesBy l D dA (gP_view hG isB26) (txA_S hX0 hS hOA) hOAb hsd2 hbk (go_RV hrv k) (ni73 hG) (fun z => by have h1 := z.1; have h2 := z.2; omega)) (cw_X0_211 hts ⟨Nat.le_of_ble_eq_true rfl, Nat.le_of_ble_eq_true rfl⟩) ((gP_view hG isB26) 0 _ rfl) rfl rfl rfl rfl (Nat.le_of_ble_eq_true rfl) dX0_coldest_99 (AB_AS isB26) (fun H1 locs hq hF hS => ?_)
              obtain ⟨W5, hGv, hEv, hbn5⟩ := hq
              obtain ⟨V5, hV5⟩ : ∃ X, X = spl V3 26 W5 := ⟨_, rfl⟩
              have hGn := gP_back hG isB26 hF (fun _ h => h) hGv
              rw [← hV5] at hGn
              replace hG := hGn
              have hE5 : Eqx PT26 V3 V5 := by rw [hV5]; exact spl_eqx
              have hb5 : bkS V5 26 (xN T) (hourF T (nI 1) (xS T) (goF T (nI 1) (xS T) k f)) (xS T) := by rw [hV5]; exact bkS_spl hbn5
              clear hGn hGv hEv hbn5 hV5
              generalize hHe5 : H1 = H at hG hS ⊢
              clear hHe5 hF
              have hb5n : bkS V5 26 (xN T) (goF T (nI 1) (xS T) (k + 1) f) (xS T) := hb5
              have hrl5 := rbF_lt (goF T (nI 1) (xS T) (k + 1) f) (xN T)
              refine lv_iinc (v := (nI (k + 1))) (lv' := [(4, .int (nI (k + 1))), (6, .int (nI b)), (5, .int (nI u)), (3, .int (nI v)), (2, .int (nI i)), (0, .ref o), (1, .int (nI x1))]) hx hb dX0_coldest_102 hl (k := 2) rfl (nI_add _ _) (by decide) rfl (fun ls hl => ?_)
              refine lv_goto (tgt := 29) hx hb dX0_coldest_105 (by decide) ?_
              exact ih2 (k + 1) (some (i, v)) V5 _ _ _ (by omega) (by omega) (mxF_f hp (by omega)) (Eqx.trans (Eqx.trans hE2 (hE3.mono PSt_PQw)) (hE5.mono PT26_PQw)) hb5n hG hS (lv_sub hl [0, 3, 4, 5, 6] rfl)
            refine lv_iload hx hb dX0_coldest_81 (lv_at hl 2 rfl) ?_
            refine lv_istore_n (lv' := [(2, .int (nI k)), (6, .int (nI b)), (5, .int (nI u)), (4, .int (nI k)), (3, .int (nI v)), (0, .ref o), (1, .int (nI x1))]) hx hb dX0_coldest_83 rfl hl (by decide) rfl (fun ls hl => ?_)
            refine lv_iload hx hb dX0_coldest_84 (lv_at hl 2 rfl) ?_
            refine lv_istore_n (lv' := [(3, .int (nI u)), (2, .int (nI k)), (6, .int (nI b)), (5, .int (nI u)), (4, .int (nI k)), (0, .ref o), (1, .int (nI x1))]) hx hb dX0_coldest_86 rfl hl (by decide) rfl (fun ls hl => ?_)
            refine lv_aload_n hx hb dX0_coldest_87 rfl (lv_at hl 5 rfl) ?_
            refine g_get hx hb hts hown hK hG 0 rfl rfl ok_X0 8 (by decide) q530 rfl rfl dX0_coldest_88 ?_
            refine lv_aload_n hx hb dX0_coldest_91 rfl (lv_at hl 5 rfl) ?_
            refine g_get (v := .ref tx) hx hb hts hown hK hG 0 rfl rfl ok_X0 3 (by decide) q525 rfl (congrArg va_rf htx) dX0_coldest_92 ?_
            refine lv_aload_n hx hb dX0_coldest_95 rfl (lv_at hl 5 rfl) ?_
            refine g_get hx hb hts hown hK hG 0 rfl rfl ok_X0 12 (by decide) q534 rfl rfl dX0_coldest_96 ?_
            refine c_VV hx hb hml hts hown hK hl.1 hS ⟨Nat.le_refl _, Nat.le_refl _⟩ (met_X5_goesBy l D dA (gP_view hG isB26) (txA_S hX0 hS hOA) hOAb hsd2 hbk (go_RV hrv k) (ni73 hG) (fun z => by have h1 := z.1; have h2 := z.2; omega)) (cw_X0_211 hts ⟨Nat.le_of_ble_eq_true rfl, Nat.le_of_ble_eq_true rfl⟩) ((gP_view hG isB26) 0 _ rfl) rfl rfl rfl rfl (Nat.le_of_ble_eq_true rfl) dX0_coldest_99 (AB_AS isB26) (fun H1 locs hq hF hS => ?_)
            obtain ⟨W6, hGv, hEv, hbn6⟩ := hq
            obtain ⟨V6, hV6⟩ : ∃ X, X = spl V3 26 W6 := ⟨_, rfl⟩
            have hGn := gP_back hG isB26 hF (fun _ h => h) hGv
            rw [← hV6] at hGn
            replace hG := hGn
            have hE6 : Eqx PT26 V3 V6 := by rw [hV6]; exact spl_eqx
            have hb6 : bkS V6 26 (xN T) (hourF T (nI 1) (xS T) (goF T (nI 1) (xS T) k f)) (xS T) := by rw [hV6]; exact bkS_spl hbn6
            clear hGn hGv hEv hbn6 hV6
            generalize hHe6 : H1 = H at hG hS ⊢
            clear hHe6 hF
            have hb6n : bkS V6 26 (xN T) (goF T (nI 1) (xS T) (k + 1) f) (xS T) := hb6
            have hrl6 := rbF_lt (goF T (nI 1) (xS T) (k + 1) f) (xN T)
            refine lv_iinc (v := (nI (k + 1))) (lv' := [(4, .int (nI (k + 1))), (3, .int (nI u)), (2, .int (nI k)), (6, .int (nI b)), (5, .int (nI u)), (0, .ref o), (1, .int (nI x1))]) hx hb dX0_coldest_102 hl (k := 4) rfl (nI_add _ _) (by decide) rfl (fun ls hl => ?_)
            refine lv_goto (tgt := 29) hx hb dX0_coldest_105 (by decide) ?_
            exact ih2 (k + 1) (some (k, u)) V6 _ _ _ (by omega) (by omega) (by rw [mxF_t hp (by omega), hcd]) (Eqx.trans (Eqx.trans hE2 (hE3.mono PSt_PQw)) (hE6.mono PT26_PQw)) hb6n hG hS (lv_sub hl [0, 1, 2, 5, 6] rfl)
          refine lv_iload hx hb dX0_coldest_51 (lv_at hl 1 rfl) ?_
          refine lv_aload_n hx hb dX0_coldest_53 rfl (lv_at hl 5 rfl) ?_
          refine g_get hx hb hts hown hK hG 0 rfl rfl ok_X0 8 (by decide) q530 rfl rfl dX0_coldest_54 ?_
          refine lv_aload_n hx hb dX0_coldest_57 rfl (lv_at hl 5 rfl) ?_
          refine g_get (v := .ref tx) hx hb hts hown hK hG 0 rfl rfl ok_X0 3 (by decide) q525 rfl (congrArg va_rf htx) dX0_coldest_58 ?_
          refine lv_iload hx hb dX0_coldest_61 (lv_at hl 0 rfl) ?_
          refine c_VI hx hb hml hts hown hK hl.1 hS ⟨Nat.le_refl _, Nat.le_refl _⟩ (met_X5_chills l D dA (gP_view hG isB26) (txA_S hX0 hS hOA) (fun z hz hb => hOA z hz (AB_AS isB26 z hb)) hsd2 (hbk).1 (go_RV hrv k) (by omega)) (cw_X0_181 hts ⟨Nat.le_of_ble_eq_true rfl, Nat.le_of_ble_eq_true rfl⟩) (hG 26 _ rfl) rfl rfl rfl rfl (Nat.le_of_ble_eq_true rfl) dX0_coldest_63 (AB_AS isB26) (fun r H1 locs hq hF hS => ?_)
          obtain ⟨rfl, W7, hGv, hEv⟩ := hq
          obtain ⟨V7, hV7⟩ : ∃ X, X = spl V3 26 W7 := ⟨_, rfl⟩
          have hGn := gP_back hG isB26 hF (fun _ h => h) hGv
          rw [← hV7] at hGn
          replace hG := hGn
          have hE7 : Eqx PSt V3 V7 := by rw [hV7]; exact spl_E hEv PSt_h
          clear hGn hGv hEv hV7
          generalize hHe7 : H1 = H at hG hS ⊢
          clear hHe7 hF
          refine iv (y := nI (ciN T (goF T (nI 1) (xS T) k f) b)) (chi_n T (goF T (nI 1) (xS T) k f) b).1 ?_
          have hle8 := (chi_n T (goF T (nI 1) (xS T) k f) b).2
          refine n_iadd hx hb dX0_coldest_66 ?_
          refine lv_istore (lv' := [(5, .int (nI (u + (ciN T (goF T (nI 1) (xS T) k f) b)))), (6, .int (nI b)), (4, .int (nI k)), (3, .int (oV (-1) op)), (2, .int (oI 0 op)), (0, .ref o), (1, .int (nI x1))]) hx hb dX0_coldest_67 hl (by decide) rfl (fun ls hl => ?_)
          refine lv_iinc (v := (nI (b + 1))) (lv' := [(6, .int (nI (b + 1))), (5, .int (nI (u + (ciN T (goF T (nI 1) (xS T) k f) b)))), (4, .int (nI k)), (3, .int (oV (-1) op)), (2, .int (oI 0 op)), (0, .ref o), (1, .int (nI x1))]) hx hb dX0_coldest_69 hl (k := 1) rfl (nI_add _ _) (by decide) rfl (fun ls hl => ?_)
          refine lv_goto (tgt := 42) hx hb dX0_coldest_72 (by decide) ?_
          exact ih3 (b + 1) (u + (ciN T (goF T (nI 1) (xS T) k f) b)) V7 _ _ _ (by omega) (by omega) (smF_1 hu) (Eqx.trans hE3 hE7) (bkS_to (fun k j hk => hE7 _ j (PSt_26 k j hk)) hbk) hG hS (lv_sub hl [0, 1, 2, 3, 4, 5, 6] rfl)
      exact loop3 ((xN T - 0) + 1) 0 0 V2 _ _ _ (Nat.lt_succ_self _) (Nat.zero_le _) rfl Eqx.rf hbk hG hS (lv_sub hl [0, 1, 2, 3, 4, 5, 6] rfl)
  exact loop2 ((24 - 0) + 1) 0 none V1 _ _ _ (Nat.lt_succ_self _) (by decide) rfl Eqx.rf hb1 hG hS (lv_sub hl [0, 1, 2, 3, 4] rfl)
set_option maxHeartbeats 4000000 in
theorem met_X0_round (l : Launch) (D : va_G) (dA : Nat → ClassId) {o : Nat} {V : GI} {L : GL} {Rf : GR} {H0 : Heap} (hG : gP D dA o dS V L Rf H0) {O : Nat → Prop} {tx : Nat} {T : Txt} {f : Rw} (hC : clS D dA H0 O o V Rf tx T f) (hOA : ∀ z, O z → ¬ AS o z) (v1 v2 : Int32) : Ctr l D dA yX0_round cX0_round 7 (some .int) (mkRm 410 9700) [.ref o, .int v1, .int v2] H0 (AS o) (QI (fun r H1 => ∃ V1, gP D dA o dS V1 L Rf H1 ∧ Eqx PQw V V1 ∧ r = roundA T f v1 v2)) := by
  have hC0 := hC
  obtain ⟨hX, htx, hB, hrv, hsd1, hsd2⟩ := hC
  have hX0 := hX
  have hn9 := txA_n hX
  have hp2 := two9 hn9
  have hpp := Nat.two_pow_pos (xN T)
  obtain ⟨fsx, hatx⟩ := txA_at hX
  have hotx := txA_o hX
  have hOAb : ∀ z, O z → ¬ AB (o + 26) z := fun z hz hb => hOA z hz (AB_AS isB26 z hb)
  have hrl0 := rbF_lt f (xN T)
  refine ctr_I (by decide) (Nat.le_of_ble_eq_true rfl) ?_
  intro p e s m args below meth c ls QQ locs hx hb hml hown hts hK hend hS hl
  have hl : lv_has ls 7 [(0, .ref o), (1, .int v1), (2, .int v2)] := hl
  refine lv_iload_n hx hb dX0_round_0 rfl (lv_at hl 1 rfl) ?_
  refine lv_iconst (v := (nI 1)) hx hb dX0_round_1 (by decide) ?_
  refine lv_bipush (v := (nI 48)) hx hb dX0_round_2 (by decide) ?_
  refine c_SI hx hb hml hts hown hK hl.1 hS ⟨Nat.le_refl _, Nat.le_refl _⟩ (met_X0_isIn l D dA v1 (nI 1) (nI 48)) (cw_X0_146 hts ⟨Nat.le_of_ble_eq_true rfl, Nat.le_of_ble_eq_true rfl⟩) rfl rfl (Nat.le_of_ble_eq_true rfl) dX0_round_4 (fun _ h => h.elim) (fun r H1 locs hq hF hS => ?_)
  obtain ⟨rfl, rfl⟩ := hq
  rcases (inZ_cases v1 1 48 (by decide) (by decide)).symm with ⟨hz4, ho4⟩ | ⟨x1, hlo_x1, hhi_x1, rfl, hz4⟩
  · refine iv (y := nI 0) hz4 ?_
    refine n_if_eq (tgt := 19) hx hb dX0_round_7 (by decide) (by decide) (fun _ => ?_) (fun z => absurd z (by decide))
    refine lv_iconst (v := (-1)) hx hb dX0_round_19 (by decide) ?_
    refine hend _ _ _ _ _ hS dX0_round_20 ?_
    exact ⟨_, rfl, _, hG, Eqx.rf, ((ho4.1 _ _)).symm⟩
  refine iv (y := nI 1) hz4 ?_
  have hl : lv_has ls 7 [(0, .ref o), (1, .int (nI x1)), (2, .int v2)] := hl
  refine n_if_eq (tgt := 19) hx hb dX0_round_7 (by decide) (by decide) (fun z => absurd z (by decide)) (fun _ => ?_)
  refine lv_iload_n hx hb dX0_round_10 rfl (lv_at hl 2 rfl) ?_
  refine lv_iconst (v := (nI 0)) hx hb dX0_round_11 (by decide) ?_
  refine lv_iconst (v := (nI 1)) hx hb dX0_round_12 (by decide) ?_
  refine c_SI hx hb hml hts hown hK hl.1 hS ⟨Nat.le_refl _, Nat.le_refl _⟩ (met_X0_isIn l D dA v2 (nI 0) (nI 1)) (cw_X0_146 hts ⟨Nat.le_of_ble_eq_true rfl, Nat.le_of_ble_eq_true rfl⟩) rfl rfl (Nat.le_of_ble_eq_true rfl) dX0_round_13 (fun _ h => h.elim) (fun r H1 locs hq hF hS => ?_)
  obtain ⟨rfl, rfl⟩ := hq
  rcases (inZ_cases v2 0 1 (by decide) (by decide)).symm with ⟨hz13, ho13⟩ | ⟨x2, hlo_x2, hhi_x2, rfl, hz13⟩
  · refine iv (y := nI 0) hz13 ?_
    refine n_if_ne (tgt := 21) hx hb dX0_round_16 (by decide) (by decide) (fun z => absurd z (by decide)) (fun _ => ?_)
    refine lv_iconst (v := (-1)) hx hb dX0_round_19 (by decide) ?_
    refine hend _ _ _ _ _ hS dX0_round_20 ?_
    exact ⟨_, rfl, _, hG, Eqx.rf, ((rng_in hlo_x1 hhi_x1 (by omega)).trans ((ho13.1 _ _))).symm⟩
  refine iv (y := nI 1) hz13 ?_
  have hl : lv_has ls 7 [(0, .ref o), (1, .int (nI x1)), (2, .int (nI x2))] := hl
  refine n_if_ne (tgt := 21) hx hb dX0_round_16 (by decide) (by decide) (fun _ => ?_) (fun z => absurd z (by decide))
  refine lv_iconst (v := (nI 0)) hx hb dX0_round_21 (by decide) ?_
  refine lv_istore_n (lv' := [(3, .int (nI 0)), (0, .ref o), (1, .int (nI x1)), (2, .int (nI x2))]) hx hb dX0_round_22 rfl hl (by decide) rfl (fun ls hl => ?_)
  refine lv_iconst (v := (nI 0)) hx hb dX0_round_23 (by decide) ?_
  refine lv_istore (lv' := [(4, .int (nI 0)), (3, .int (nI 0)), (0, .ref o), (1, .int (nI x1)), (2, .int (nI x2))]) hx hb dX0_round_24 hl (by decide) rfl (fun ls hl => ?_)
  refine lv_aload_n hx hb dX0_round_26 rfl (lv_at hl 2 rfl) ?_
  refine g_get hx hb hts hown hK hG 0 rfl rfl ok_X0 8 (by decide) q530 rfl rfl dX0_round_27 ?_
  refine lv_aload_n hx hb dX0_round_30 rfl (lv_at hl 2 rfl) ?_
  refine g_get hx hb hts hown hK hG 0 rfl rfl ok_X0 7 (by decide) q529 rfl rfl dX0_round_31 ?_
  refine c_VV hx hb hml hts hown hK hl.1 hS ⟨Nat.le_refl _, Nat.le_refl _⟩ (met_X5_takes l D dA (gP_view hG isB26) (gP_view hG isB15) (by omega)) (cw_X0_193 hts ⟨Nat.le_of_ble_eq_true rfl, Nat.le_of_ble_eq_true rfl⟩) (hG 26 _ rfl) rfl rfl rfl rfl (Nat.le_of_ble_eq_true rfl) dX0_round_34 (fun z hz => hz.elim (AB_AS isB26 z) (AB_AS isB15 z)) (fun H1 locs hq hF hS => ?_)
  obtain ⟨W1, hGv, hGc, hEv, hc9, hc4, hc5, hc6, hc7⟩ := hq
  obtain ⟨V1, hV1⟩ : ∃ X, X = spl V 26 W1 := ⟨_, rfl⟩
  have hGn := gP_back2 hG isB26 isB15 hF hGv hGc
  rw [← hV1] at hGn
  replace hG := hGn
  have hE1 : Eqx PT26 V V1 := by rw [hV1]; exact spl_eqx
  have hb1 : bkS V1 26 (xN T) (f) (xS T) := by rw [hV1]; exact bkS_spl (bkM_cp hn9 hB hc9 hc4 hc5 hc6 hc7)
  clear hGn hGv hGc hEv hc9 hc4 hc5 hc6 hc7 hV1
  generalize hHe1 : H1 = H at hG hS ⊢
  clear hHe1 hF
  refine lv_iconst (v := (nI 0)) hx hb dX0_round_37 (by decide) ?_
  refine lv_istore (lv' := [(5, .int (nI 0)), (4, .int (nI 0)), (3, .int (nI 0)), (0, .ref o), (1, .int (nI x1)), (2, .int (nI x2))]) hx hb dX0_round_38 hl (by decide) rfl (fun ls hl => ?_)
  have loop2 : ∀ (fu2 : Nat) (k : Nat) (u : Nat) (y : Nat) (V2 : GI) (H : Heap) (locs : List Loc) (ls : Array Slot), x1 - k < fu2 → (k ≤ x1) → (rdC T f k = u) → (rdS T f k = y) → (Eqx PQw V1 V2) → (bkS V2 26 (xN T) (rdR T f k) (xS T)) → gP D dA o dS V2 L Rf H → va_S (AS o) H0 H locs → lv_has ls 7 [(5, .int (nI k)), (4, .int (nI y)), (3, .int (nI u)), (0, .ref o), (1, .int (nI x1)), (2, .int (nI x2))] → W p l e (mkRm 410 9700) s m args below meth c H locs 0 0 QQ (F0 m 40 ls []) := by
    intro fu2
    induction fu2 with
    | zero => intro k u y V2 H locs ls hfu; exact absurd hfu (Nat.not_lt_zero _)
    | succ fu2 ih2 =>
      intro k u y V2 H locs ls hfu hk hu hq hE2 hbk hG hS hl
      have hu9 := rdC_le (t := T) (f := f) hn9 k
      have hq9 := rdS_le (t := T) (f := f) hn9 k
      refine lv_iload hx hb dX0_round_40 (lv_at hl 0 rfl) ?_
      refine lv_iload_n hx hb dX0_round_42 rfl (lv_at hl 4 rfl) ?_
      refine n_icmp_ge (tgt := 152) hx hb dX0_round_43 (by decide) (by omega) (by omega) (fun c43 => ?_) (fun c43 => ?_)
      · refine lv_iload_n hx hb dX0_round_152 rfl (lv_at hl 5 rfl) ?_
        refine n_if_ne (tgt := 160) hx hb dX0_round_153 (by decide) (by omega) (fun c153 => ?_) (fun c153 => ?_)
        · refine lv_iload hx hb dX0_round_160 (lv_at hl 1 rfl) ?_
          refine hend _ _ _ _ _ hS dX0_round_162 ?_
          exact ⟨_, rfl, _, hG, ((hE1.mono PT26_PQw).trans hE2), ((rng_in hlo_x1 hhi_x1 (by omega)).trans ((rng_in hlo_x2 hhi_x2 (by omega)).trans ((by obtain rfl : k = x1 := (by omega); exact (if_neg (by omega)).trans (by rw [hq]))))).symm⟩
        refine lv_iload_n hx hb dX0_round_156 rfl (lv_at hl 2 rfl) ?_
        refine lv_goto (tgt := 162) hx hb dX0_round_157 (by decide) ?_
        refine hend _ _ _ _ _ hS dX0_round_162 ?_
        exact ⟨_, rfl, _, hG, ((hE1.mono PT26_PQw).trans hE2), ((rng_in hlo_x1 hhi_x1 (by omega)).trans ((rng_in hlo_x2 hhi_x2 (by omega)).trans ((by obtain rfl : k = x1 := (by omega); exact (if_pos c153).trans (by rw [hu]))))).symm⟩
      refine lv_iconst (v := (nI 0)) hx hb dX0_round_46 (by decide) ?_
      refine lv_istore (lv' := [(6, .int (nI 0)), (5, .int (nI k)), (4, .int (nI y)), (3, .int (nI u)), (0, .ref o), (1, .int (nI x1)), (2, .int (nI x2))]) hx hb dX0_round_47 hl (by decide) rfl (fun ls hl => ?_)
      have loop3 : ∀ (fu3 : Nat) (b : Nat) (u : Nat) (y : Nat) (V3 : GI) (H : Heap) (locs : List Loc) (ls : Array Slot), xN T - b < fu3 → (b ≤ xN T) → (rdC T f k + rcF (rdR T f k) b = u) → (rdS T f k + rsF T (rdR T f k) b = y) → (Eqx PSt V2 V3) → (bkS V3 26 (xN T) (rdR T f k) (xS T)) → gP D dA o dS V3 L Rf H → va_S (AS o) H0 H locs → lv_has ls 7 [(6, .int (nI b)), (5, .int (nI k)), (4, .int (nI y)), (3, .int (nI u)), (0, .ref o), (1, .int (nI x1)), (2, .int (nI x2))] → W p l e (mkRm 410 9700) s m args below meth c H locs 0 0 QQ (F0 m 49 ls []) := by
        intro fu3
        induction fu3 with
        | zero => intro b u y V3 H locs ls hfu; exact absurd hfu (Nat.not_lt_zero _)
        | succ fu3 ih3 =>
          intro b u y V3 H locs ls hfu hbn hu hq hE3 hbk hG hS hl
          have hu8 := rcF_le (rdR T f k) b
          have hq8 := rsF_le T (rdR T f k) b
          have hu9 := rdC_le (t := T) (f := f) hn9 k
          have hq9 := rdS_le (t := T) (f := f) hn9 k
          refine lv_iload hx hb dX0_round_49 (lv_at hl 0 rfl) ?_
          refine lv_aload_n hx hb dX0_round_51 rfl (lv_at hl 4 rfl) ?_
          refine c_VI hx hb hml hts hown hK hl.1 hS ⟨Nat.le_refl _, Nat.le_refl _⟩ (met_X0_beds l D dA hG (txA_S hX0 hS hOA) htx) (cw_X0_145 hts ⟨Nat.le_of_ble_eq_true rfl, Nat.le_of_ble_eq_true rfl⟩) (hG 0 _ rfl) rfl rfl rfl rfl (Nat.le_of_ble_eq_true rfl) dX0_round_52 (fun _ h => h.elim) (fun r H1 locs hq hF hS => ?_)
          obtain ⟨rfl, rfl⟩ := hq
          refine n_icmp_ge (tgt := 118) hx hb dX0_round_55 (by decide) (by omega) (by omega) (fun c55 => ?_) (fun c55 => ?_)
          · obtain rfl : b = xN T := by omega
            have hR2 : rdC T f (k + 1) = u := by simp only [rdC]; exact hu
            have hS2 : rdS T f (k + 1) = y := by simp only [rdS]; exact hq
            refine lv_aload_n hx hb dX0_round_118 rfl (lv_at hl 4 rfl) ?_
            refine g_get hx hb hts hown hK hG 0 rfl rfl ok_X0 8 (by decide) q530 rfl rfl dX0_round_119 ?_
            refine lv_aload_n hx hb dX0_round_122 rfl (lv_at hl 4 rfl) ?_
            refine c_VI hx hb hml hts hown hK hl.1 hS ⟨Nat.le_refl _, Nat.le_refl _⟩ (met_X0_rows l D dA hG (txA_S hX0 hS hOA) htx) (cw_X0_154 hts ⟨Nat.le_of_ble_eq_true rfl, Nat.le_of_ble_eq_true rfl⟩) (hG 0 _ rfl) rfl rfl rfl rfl (Nat.le_of_ble_eq_true rfl) dX0_round_123 (fun _ h => h.elim) (fun r H1 locs hq hF hS => ?_)
            obtain ⟨rfl, rfl⟩ := hq
            refine lv_iconst (v := (nI 1)) hx hb dX0_round_126 (by decide) ?_
            refine n_isub hx hb dX0_round_127 (by omega) ?_
            refine g_put hx hb hts hown hK hG hS 26 (AS_in 26 (by decide)) rfl rfl ok_X5 4 (by decide) q442 rfl rfl rfl rfl dX0_round_128 (fun H locs hG hO hS => ?_)
            have hb4 : bkS (up2 V3 26 4 (nI ((2 ^ xN T) - 1))) 26 (xN T) (layF (xN T) (2 ^ xN T - 1) (rdR T f k)) (xS T) := bkS_row hn9 (by omega) hbk up2_s (fun k j hk hz => up2_n (fun z => hz ⟨by omega, z.2⟩))
            refine lv_aload_n hx hb dX0_round_131 rfl (lv_at hl 4 rfl) ?_
            refine g_get hx hb hts hown hK hG 0 rfl rfl ok_X0 8 (by decide) q530 rfl rfl dX0_round_132 ?_
            refine lv_aload_n hx hb dX0_round_135 rfl (lv_at hl 4 rfl) ?_
            refine g_get (v := .ref tx) hx hb hts hown hK hG 0 rfl rfl ok_X0 3 (by decide) q525 rfl (congrArg va_rf htx) dX0_round_136 ?_
            refine lv_aload_n hx hb dX0_round_139 rfl (lv_at hl 4 rfl) ?_
            refine g_get hx hb hts hown hK hG 0 rfl rfl ok_X0 12 (by decide) q534 rfl rfl dX0_round_140 ?_
            refine c_VV hx hb hml hts hown hK hl.1 hS ⟨Nat.le_refl _, Nat.le_refl _⟩ (met_X5_goesBy l D dA (gP_view hG isB26) (txA_S hX0 hS hOA) hOAb hsd2 hb4 lay_RV (ni73 hG) (fun z => by have h1 := z.1; have h2 := z.2; omega)) (cw_X0_211 hts ⟨Nat.le_of_ble_eq_true rfl, Nat.le_of_ble_eq_true rfl⟩) ((gP_view hG isB26) 0 _ rfl) rfl rfl rfl rfl (Nat.le_of_ble_eq_true rfl) dX0_round_143 (AB_AS isB26) (fun H1 locs hq hF hS => ?_)
            obtain ⟨W5, hGv, hEv, hbn5⟩ := hq
            obtain ⟨V5, hV5⟩ : ∃ X, X = spl (up2 V3 26 4 (nI ((2 ^ xN T) - 1))) 26 W5 := ⟨_, rfl⟩
            have hGn := gP_back hG isB26 hF (fun _ h => h) hGv
            rw [← hV5] at hGn
            replace hG := hGn
            have hE5 : Eqx PT26 (up2 V3 26 4 (nI ((2 ^ xN T) - 1))) V5 := by rw [hV5]; exact spl_eqx
            have hb5 : bkS V5 26 (xN T) (hourF T (nI 1) (xS T) (layF (xN T) (2 ^ xN T - 1) (rdR T f k))) (xS T) := by rw [hV5]; exact bkS_spl hbn5
            clear hGn hGv hEv hbn5 hV5
            generalize hHe5 : H1 = H at hG hS ⊢
            clear hHe5 hF
            have hb5n : bkS V5 26 (xN T) (rdR T f (k + 1)) (xS T) := hb5
            have hrl5 := rbF_lt (rdR T f (k + 1)) (xN T)
            refine lv_iinc (v := (nI (k + 1))) (lv' := [(5, .int (nI (k + 1))), (6, .int (nI (xN T))), (4, .int (nI y)), (3, .int (nI u)), (0, .ref o), (1, .int (nI x1)), (2, .int (nI x2))]) hx hb dX0_round_146 hl (k := 1) rfl (nI_add _ _) (by decide) rfl (fun ls hl => ?_)
            refine lv_goto (tgt := 40) hx hb dX0_round_149 (by decide) ?_
            exact ih2 (k + 1) u y V5 _ _ _ (by omega) (by omega) hR2 hS2 (Eqx.trans (Eqx.up (Eqx.trans hE2 (hE3.mono PSt_PQw)) rfl) (hE5.mono PT26_PQw)) hb5n hG hS (lv_sub hl [0, 2, 3, 4, 5, 6] rfl)
          refine lv_iload_n hx hb dX0_round_58 rfl (lv_at hl 3 rfl) ?_
          refine lv_aload_n hx hb dX0_round_59 rfl (lv_at hl 4 rfl) ?_
          refine g_get hx hb hts hown hK hG 0 rfl rfl ok_X0 8 (by decide) q530 rfl rfl dX0_round_60 ?_
          refine lv_iload hx hb dX0_round_63 (lv_at hl 0 rfl) ?_
          refine c_VI hx hb hml hts hown hK hl.1 hS ⟨Nat.le_refl _, Nat.le_refl _⟩ (met_X5_isLeft l D dA (gP_view hG isB26) (hbk).1.1 hn9 (by omega)) (cw_X0_158 hts ⟨Nat.le_of_ble_eq_true rfl, Nat.le_of_ble_eq_true rfl⟩) (hG 26 _ rfl) rfl rfl rfl rfl (Nat.le_of_ble_eq_true rfl) dX0_round_65 (fun _ h => h.elim) (fun r H1 locs hq hF hS => ?_)
          obtain ⟨rfl, rfl⟩ := hq
          have hb01_6 := b01_le ((rdR T f k) b)
          refine n_if_eq (tgt := 75) hx hb dX0_round_68 (by decide) (by omega) (fun c68 => ?_) (fun c68 => ?_)
          · refine lv_iconst (v := (nI 1)) hx hb dX0_round_75 (by decide) ?_
            refine n_iadd hx hb dX0_round_76 ?_
            refine lv_istore_n (lv' := [(3, .int (nI (u + 1))), (6, .int (nI b)), (5, .int (nI k)), (4, .int (nI y)), (0, .ref o), (1, .int (nI x1)), (2, .int (nI x2))]) hx hb dX0_round_77 rfl hl (by decide) rfl (fun ls hl => ?_)
            refine lv_iload hx hb dX0_round_78 (lv_at hl 3 rfl) ?_
            refine lv_aload_n hx hb dX0_round_80 rfl (lv_at hl 4 rfl) ?_
            refine g_get hx hb hts hown hK hG 0 rfl rfl ok_X0 8 (by decide) q530 rfl rfl dX0_round_81 ?_
            refine lv_iload hx hb dX0_round_84 (lv_at hl 1 rfl) ?_
            refine c_VI hx hb hml hts hown hK hl.1 hS ⟨Nat.le_refl _, Nat.le_refl _⟩ (met_X5_isLeft l D dA (gP_view hG isB26) (hbk).1.1 hn9 (by omega)) (cw_X0_158 hts ⟨Nat.le_of_ble_eq_true rfl, Nat.le_of_ble_eq_true rfl⟩) (hG 26 _ rfl) rfl rfl rfl rfl (Nat.le_of_ble_eq_true rfl) dX0_round_86 (fun _ h => h.elim) (fun r H1 locs hq hF hS => ?_)
            obtain ⟨rfl, rfl⟩ := hq
            have hb01_7 := b01_le ((rdR T f k) b)
            refine n_if_eq (tgt := 96) hx hb dX0_round_89 (by decide) (by omega) (fun c89 => ?_) (fun c89 => ?_)
            · refine lv_aload_n hx hb dX0_round_96 rfl (lv_at hl 4 rfl) ?_
              refine g_get hx hb hts hown hK hG 0 rfl rfl ok_X0 8 (by decide) q530 rfl rfl dX0_round_97 ?_
              refine lv_aload_n hx hb dX0_round_100 rfl (lv_at hl 4 rfl) ?_
              refine g_get (v := .ref tx) hx hb hts hown hK hG 0 rfl rfl ok_X0 3 (by decide) q525 rfl (congrArg va_rf htx) dX0_round_101 ?_
              refine lv_iload hx hb dX0_round_104 (lv_at hl 1 rfl) ?_
              refine c_VI hx hb hml hts hown hK hl.1 hS ⟨Nat.le_refl _, Nat.le_refl _⟩ (met_X5_costs l D dA (gP_view hG isB26) (txA_S hX0 hS hOA) (fun z hz hb => hOA z hz (AB_AS isB26 z hb)) hsd2 (hbk).1 (rd_RV hrv k) (by omega)) (cw_X0_184 hts ⟨Nat.le_of_ble_eq_true rfl, Nat.le_of_ble_eq_true rfl⟩) (hG 26 _ rfl) rfl rfl rfl rfl (Nat.le_of_ble_eq_true rfl) dX0_round_106 (AB_AS isB26) (fun r H1 locs hq hF hS => ?_)
              obtain ⟨rfl, W8, hGv, hEv⟩ := hq
              obtain ⟨V8, hV8⟩ : ∃ X, X = spl V3 26 W8 := ⟨_, rfl⟩
              have hGn := gP_back hG isB26 hF (fun _ h => h) hGv
              rw [← hV8] at hGn
              replace hG := hGn
              have hE8 : Eqx PSt V3 V8 := by rw [hV8]; exact spl_E hEv PSt_h
              clear hGn hGv hEv hV8
              generalize hHe8 : H1 = H at hG hS ⊢
              clear hHe8 hF
              refine iv (y := nI (coN T (rdR T f k) b)) (cos_n T (rdR T f k) b).1 ?_
              have hle9 := (cos_n T (rdR T f k) b).2
              refine n_iadd hx hb dX0_round_109 ?_
              refine lv_istore (lv' := [(4, .int (nI (y + (coN T (rdR T f k) b)))), (3, .int (nI (u + 1))), (6, .int (nI b)), (5, .int (nI k)), (0, .ref o), (1, .int (nI x1)), (2, .int (nI x2))]) hx hb dX0_round_110 hl (by decide) rfl (fun ls hl => ?_)
              refine lv_iinc (v := (nI (b + 1))) (lv' := [(6, .int (nI (b + 1))), (4, .int (nI (y + (coN T (rdR T f k) b)))), (3, .int (nI (u + 1))), (5, .int (nI k)), (0, .ref o), (1, .int (nI x1)), (2, .int (nI x2))]) hx hb dX0_round_112 hl (k := 2) rfl (nI_add _ _) (by decide) rfl (fun ls hl => ?_)
              refine lv_goto (tgt := 49) hx hb dX0_round_115 (by decide) ?_
              exact ih3 (b + 1) (u + 1) (y + (coN T (rdR T f k) b)) V8 _ _ _ (by omega) (by omega) (rc_f2 hu c68) (rs_f2 hq c68) (Eqx.trans hE3 hE8) (bkS_to (fun k j hk => hE8 _ j (PSt_26 k j hk)) hbk) hG hS (lv_sub hl [0, 3, 1, 2, 4, 5, 6] rfl)
            exact absurd c89 (by omega)
          refine lv_iconst (v := (nI 0)) hx hb dX0_round_71 (by decide) ?_
          refine lv_goto (tgt := 76) hx hb dX0_round_72 (by decide) ?_
          refine n_iadd hx hb dX0_round_76 ?_
          refine lv_istore_n (lv' := [(3, .int (nI (u + 0))), (6, .int (nI b)), (5, .int (nI k)), (4, .int (nI y)), (0, .ref o), (1, .int (nI x1)), (2, .int (nI x2))]) hx hb dX0_round_77 rfl hl (by decide) rfl (fun ls hl => ?_)
          refine lv_iload hx hb dX0_round_78 (lv_at hl 3 rfl) ?_
          refine lv_aload_n hx hb dX0_round_80 rfl (lv_at hl 4 rfl) ?_
          refine g_get hx hb hts hown hK hG 0 rfl rfl ok_X0 8 (by decide) q530 rfl rfl dX0_round_81 ?_
          refine lv_iload hx hb dX0_round_84 (lv_at hl 1 rfl) ?_
          refine c_VI hx hb hml hts hown hK hl.1 hS ⟨Nat.le_refl _, Nat.le_refl _⟩ (met_X5_isLeft l D dA (gP_view hG isB26) (hbk).1.1 hn9 (by omega)) (cw_X0_158 hts ⟨Nat.le_of_ble_eq_true rfl, Nat.le_of_ble_eq_true rfl⟩) (hG 26 _ rfl) rfl rfl rfl rfl (Nat.le_of_ble_eq_true rfl) dX0_round_86 (fun _ h => h.elim) (fun r H1 locs hq hF hS => ?_)
          obtain ⟨rfl, rfl⟩ := hq
          have hb01_10 := b01_le ((rdR T f k) b)
          refine n_if_eq (tgt := 96) hx hb dX0_round_89 (by decide) (by omega) (fun c89 => ?_) (fun c89 => ?_)
          · exact absurd c89 (by omega)
          refine lv_iconst (v := (nI 0)) hx hb dX0_round_92 (by decide) ?_
          refine lv_goto (tgt := 109) hx hb dX0_round_93 (by decide) ?_
          refine n_iadd hx hb dX0_round_109 ?_
          refine lv_istore (lv' := [(4, .int (nI (y + 0))), (3, .int (nI (u + 0))), (6, .int (nI b)), (5, .int (nI k)), (0, .ref o), (1, .int (nI x1)), (2, .int (nI x2))]) hx hb dX0_round_110 hl (by decide) rfl (fun ls hl => ?_)
          refine lv_iinc (v := (nI (b + 1))) (lv' := [(6, .int (nI (b + 1))), (4, .int (nI (y + 0))), (3, .int (nI (u + 0))), (5, .int (nI k)), (0, .ref o), (1, .int (nI x1)), (2, .int (nI x2))]) hx hb dX0_round_112 hl (k := 2) rfl (nI_add _ _) (by decide) rfl (fun ls hl => ?_)
          refine lv_goto (tgt := 49) hx hb dX0_round_115 (by decide) ?_
          exact ih3 (b + 1) (u + 0) (y + 0) V3 _ _ _ (by omega) (by omega) (rc_t2 hu (by omega)) (rs_t2 hq (by omega)) hE3 hbk hG hS (lv_sub hl [0, 3, 1, 2, 4, 5, 6] rfl)
      exact loop3 ((xN T - 0) + 1) 0 u y V2 _ _ _ (Nat.lt_succ_self _) (Nat.zero_le _) hu hq Eqx.rf hbk hG hS (lv_sub hl [0, 1, 2, 3, 4, 5, 6] rfl)
  exact loop2 ((x1 - 0) + 1) 0 0 0 V1 _ _ _ (Nat.lt_succ_self _) (Nat.zero_le _) rfl rfl Eqx.rf hb1 hG hS (lv_sub hl [0, 1, 2, 3, 4, 5] rfl)
