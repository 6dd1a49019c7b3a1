/-- what holds of every row that stands or is kept -/
def rwK (T : Txt) (f : Rw) : Prop := RV (xN T) f ∧ f 47 = f 45 - xB T ∧ ∀ b, xN T ≤ b → b < 9 → f (9 + b) = nI 0 ∧ f (27 + b) = nI 0 ∧ f (36 + b) = nI 0
theorem sumI_cut {f : Rw} {a n : Nat} (hz : ∀ b, n ≤ b → b < 9 → f (a + b) = nI 0) : ∀ k, n ≤ k → k ≤ 9 → sumI f a k = sumI f a n := by
  intro k
  induction k with
  | zero => intro h _; obtain rfl : n = 0 := by omega
            rfl
  | succ k ih =>
    intro h1 h2
    by_cases e : n ≤ k
    · simp only [sumI]
      rw [ih e (by omega), hz k e (by omega), show nI 0 = 0 from rfl, Int32.add_zero]
    · obtain rfl : n = k + 1 := by omega
      rfl
theorem not_bit {n r b : Nat} (hb : b < n) : ((2 ^ n - 1) ^^^ ((2 ^ n - 1) &&& r)) / 2 ^ b % 2 = 1 ↔ ¬ r / 2 ^ b % 2 = 1 := by
  have h1 : ((2 ^ n - 1) ^^^ ((2 ^ n - 1) &&& r)).testBit b = !r.testBit b := by
    rw [Nat.testBit_xor, Nat.testBit_and, Nat.testBit_two_pow_sub_one, decide_eq_true hb, Bool.true_and, Bool.true_xor]
  rw [Nat.testBit_eq_decide_div_mod_eq, Nat.testBit_eq_decide_div_mod_eq] at h1
  by_cases h : r / 2 ^ b % 2 = 1
  · rw [decide_eq_true h] at h1
    exact ⟨fun z => absurd (h1.symm.trans (decide_eq_true z)) (by decide), fun z => absurd h z⟩
  · rw [decide_eq_false h] at h1
    exact ⟨fun _ => h, fun _ => of_decide_eq_true h1⟩
theorem not_cost {T : Txt} {f : Rw} (hrv : RV (xN T) f) : cstF T f ((2 ^ xN T - 1) ^^^ ((2 ^ xN T - 1) &&& rbF f (xN T))) = ncF T f (xN T) := by
  have key : ∀ b, b ≤ xN T → csF (coN T f) ((2 ^ xN T - 1) ^^^ ((2 ^ xN T - 1) &&& rbF f (xN T))) b = ncF T f b := by
    intro b
    induction b with
    | zero => intro _; rfl
    | succ b ih =>
      intro hb
      have hv := hrv b (by omega)
      have h2 := b01_lt (f b)
      have hbit := not_bit (n := xN T) (r := rbF f (xN T)) (b := b) (by omega)
      rw [rb_bit (by omega)] at hbit
      rcases (show b01 (f b) = 0 ∨ b01 (f b) = 1 by omega) with e | e
      · rw [e] at hv
        rw [nc_t hv, csF_1 (ih (by omega)) (hbit.mpr (by omega))]
      · rw [e] at hv
        rw [nc_f (by rw [hv]; decide), csF_0 (ih (by omega)) (fun z => hbit.mp z e)]; rfl
  exact key _ (Nat.le_refl _)
theorem not_lt {n r : Nat} : (2 ^ n - 1) ^^^ ((2 ^ n - 1) &&& r) < 2 ^ n := by
  have hp := Nat.two_pow_pos n
  exact xr2 (by omega) (Nat.lt_of_le_of_lt Nat.and_le_left (by omega))
theorem cw_X0_173 {R : Room} {s : State} {args : Array Value} (hts : ∀ w ∈ lw_all, w.before args s = true) {f w k j : Nat} (hR : f + 1 ≤ R.frames ∧ 8 + (3 + 11) + w ≤ R.locals) : CallW R s args RX0 RX5 173 yX5_liesLeft cX5_liesLeft 3 (some .boolean) (ws_ yX5_liesLeft cX5_liesLeft 3 (some .boolean)) (mkRmC f w k j) k j 2 := cwV 2 hts (lw_V q1123 q1124 q1125 q119 q1126) rfl rfl rfl (by decide +kernel) hR
theorem cw_X0_177 {R : Room} {s : State} {args : Array Value} (hts : ∀ w ∈ lw_all, w.before args s = true) {f w k j : Nat} (hR : f + 1 ≤ R.frames ∧ 8 + (3 + 11) + w ≤ R.locals) : CallW R s args RX0 RX5 177 yX5_parts cX5_parts 3 (some .int) (ws_ yX5_parts cX5_parts 3 (some .int)) (mkRmC f w k j) k j 2 := cwV 2 hts (lw_V q1165 q1166 q1167 q119 q1168) rfl rfl rfl (by decide +kernel) hR
set_option maxHeartbeats 4000000 in
theorem met_X0_sleeper (l : Launch) (D : va_G) (dA : Nat → ClassId) {o : Nat} {V : GI} {L : GL} {Rf : GR} {H0 : Heap} (hG : gP D dA o dS V L Rf H0) {O : Nat → Prop} {tx : Nat} {T : Txt} {f : Rw} (hC : clS D dA H0 O o V Rf tx T f) (hOA : ∀ z, O z → ¬ AS o z) (v1 v2 : Int32) : Ctr l D dA yX0_sleeper cX0_sleeper 3 (some .int) (mkRm 406 9500) [.ref o, .int v1, .int v2] H0 (AS o) (QI (fun r H1 => ∃ V1, gP D dA o dS V1 L Rf H1 ∧ Eqx PQw V V1 ∧ r = sleeperA T f v1 v2)) := by
  have hC0 := hC
  obtain ⟨hX, htx, hB, hrv, hsd1, hsd2⟩ := hC
  have hX0 := hX
  have hn9 := txA_n hX
  have hp2 := two9 hn9
  have hpp := Nat.two_pow_pos (xN T)
  obtain ⟨al, ls, cd, cb, gc, lw, mc, ea, nc, xo1, xo2, xo3, xo4, xh1, xh2, xh3, xh4, xh5, xh6, hn9⟩ := hX
  refine ctr_I (by decide) (Nat.le_of_ble_eq_true rfl) ?_
  intro p e s m args below meth c ls QQ locs hx hb hml hown hts hK hend hS hl
  have hl : lv_has ls 3 [(0, .ref o), (1, .int v1), (2, .int v2)] := hl
  refine lv_aload_n hx hb dX0_sleeper_0 rfl (lv_at hl 0 rfl) ?_
  refine lv_iload_n hx hb dX0_sleeper_1 rfl (lv_at hl 1 rfl) ?_
  refine c_VI hx hb hml hts hown hK hl.1 hS ⟨Nat.le_refl _, Nat.le_refl _⟩ (met_X0_isBed l D dA hG (txA_S hX0 hS hOA) htx v1) (cw_X0_150 hts ⟨Nat.le_of_ble_eq_true rfl, Nat.le_of_ble_eq_true rfl⟩) (hG 0 _ rfl) rfl rfl rfl rfl (Nat.le_of_ble_eq_true rfl) dX0_sleeper_2 (fun _ h => h.elim) (fun r H1 locs hq hF hS => ?_)
  obtain ⟨rfl, rfl⟩ := hq
  rcases (bedN_cases hn9 v1).symm with ⟨hz2, ho2⟩ | ⟨x1, hlo_x1, hhi_x1, rfl, hz2⟩
  · refine iv (y := nI 0) hz2 ?_
    refine n_if_ne (tgt := 11) hx hb dX0_sleeper_5 (by decide) (by decide) (fun z => absurd z (by decide)) (fun _ => ?_)
    refine lv_ldc (v := (-100000)) hx hb hown (hts _ q1118) dX0_sleeper_8 ?_
    refine hend _ _ _ _ _ hS dX0_sleeper_10 ?_
    exact ⟨_, rfl, _, hG, Eqx.rf, ((ho2.1 _ _)).symm⟩
  refine iv (y := nI 1) hz2 ?_
  have hl : lv_has ls 3 [(0, .ref o), (1, .int (nI x1)), (2, .int v2)] := hl
  refine n_if_ne (tgt := 11) hx hb dX0_sleeper_5 (by decide) (by decide) (fun _ => ?_) (fun z => absurd z (by decide))
  refine lv_iload_n hx hb dX0_sleeper_11 rfl (lv_at hl 2 rfl) ?_
  rcases tsw_cases v2 10 (by decide) with ⟨hsw, ho12⟩ | ⟨kk, hkk, rfl⟩
  · refine lv_tableOut (tgt := 195) hx hb dX0_sleeper_12 (by rcases hsw with h | h; exact Or.inl h; exact Or.inr h) (by decide) ?_
    refine lv_ldc (v := (-100000)) hx hb hown (hts _ q1118) dX0_sleeper_195 ?_
    refine hend _ _ _ _ _ hS dX0_sleeper_197 ?_
    exact ⟨_, rfl, _, hG, Eqx.rf, ((rng_in hlo_x1 hhi_x1 (by omega)).trans ((ho12.1 _ _))).symm⟩
  rcases (show kk = 0 ∨ kk = 1 ∨ kk = 2 ∨ kk = 3 ∨ kk = 4 ∨ kk = 5 ∨ kk = 6 ∨ kk = 7 ∨ kk = 8 ∨ kk = 9 by omega) with rfl | rfl | rfl | rfl | rfl | rfl | rfl | rfl | rfl | rfl
  · have hl : lv_has ls 3 [(0, .ref o), (1, .int (nI x1)), (2, .int (nI 0))] := hl
    refine lv_tableIn (tgt := 68) (off := 56) hx hb dX0_sleeper_12 (by decide) (by decide) rfl (by decide) ?_
    refine lv_aload_n hx hb dX0_sleeper_68 rfl (lv_at hl 0 rfl) ?_
    refine g_get hx hb hts hown hK hG 0 rfl rfl ok_X0 7 (by decide) q529 rfl rfl dX0_sleeper_69 ?_
    refine lv_iload_n hx hb dX0_sleeper_72 rfl (lv_at hl 1 rfl) ?_
    refine c_VI hx hb hml hts hown hK hl.1 hS ⟨Nat.le_refl _, Nat.le_refl _⟩ (met_X5_isLeft l D dA (gP_view hG isB15) (hB).1.1 hn9 (by omega)) (cw_X0_158 hts ⟨Nat.le_of_ble_eq_true rfl, Nat.le_of_ble_eq_true rfl⟩) (hG 15 _ rfl) rfl rfl rfl rfl (Nat.le_of_ble_eq_true rfl) dX0_sleeper_73 (fun _ h => h.elim) (fun r H1 locs hq hF hS => ?_)
    obtain ⟨rfl, rfl⟩ := hq
    have hb01_1 := b01_le ((f) x1)
    refine n_if_eq (tgt := 83) hx hb dX0_sleeper_76 (by decide) (by omega) (fun c76 => ?_) (fun c76 => ?_)
    · refine lv_iconst (v := (nI 0)) hx hb dX0_sleeper_83 (by decide) ?_
      refine hend _ _ _ _ _ hS dX0_sleeper_84 ?_
      exact ⟨_, rfl, _, hG, Eqx.rf, ((rng_in hlo_x1 hhi_x1 (by omega)).trans ((rng_in (k := 0) (lo := 0) (hi := 10) (Nat.zero_le _) (by decide) (by decide)).trans (((hrv x1 (by omega)).trans (congrArg nI (by omega)))))).symm⟩
    refine lv_iconst (v := (nI 1)) hx hb dX0_sleeper_79 (by decide) ?_
    refine lv_goto (tgt := 84) hx hb dX0_sleeper_80 (by decide) ?_
    refine hend _ _ _ _ _ hS dX0_sleeper_84 ?_
    exact ⟨_, rfl, _, hG, Eqx.rf, ((rng_in hlo_x1 hhi_x1 (by omega)).trans ((rng_in (k := 0) (lo := 0) (hi := 10) (Nat.zero_le _) (by decide) (by decide)).trans (((hrv x1 (by omega)).trans (congrArg nI (by omega)))))).symm⟩
  · have hl : lv_has ls 3 [(0, .ref o), (1, .int (nI x1)), (2, .int (nI 1))] := hl
    refine lv_tableIn (tgt := 85) (off := 73) hx hb dX0_sleeper_12 (by decide) (by decide) rfl (by decide) ?_
    refine lv_aload_n hx hb dX0_sleeper_85 rfl (lv_at hl 0 rfl) ?_
    refine g_get hx hb hts hown hK hG 0 rfl rfl ok_X0 7 (by decide) q529 rfl rfl dX0_sleeper_86 ?_
    refine g_get hx hb hts hown hK hG 15 rfl rfl ok_X5 0 (by decide) q434 rfl rfl dX0_sleeper_89 ?_
    refine lv_iload_n hx hb dX0_sleeper_92 rfl (lv_at hl 1 rfl) ?_
    refine n_iald hx hb hK hG 16 rfl (by omega) (by decide) dX0_sleeper_93 ?_
    refine iv (y := (f (9 + x1))) (hB.1.2.2.1 x1 (by omega)) ?_
    refine hend _ _ _ _ _ hS dX0_sleeper_94 ?_
    exact ⟨_, rfl, _, hG, Eqx.rf, ((rng_in hlo_x1 hhi_x1 (by omega)).trans ((rng_in (k := 1) (lo := 0) (hi := 10) (Nat.zero_le _) (by decide) (by decide)).trans (rfl))).symm⟩
  · have hl : lv_has ls 3 [(0, .ref o), (1, .int (nI x1)), (2, .int (nI 2))] := hl
    refine lv_tableIn (tgt := 95) (off := 83) hx hb dX0_sleeper_12 (by decide) (by decide) rfl (by decide) ?_
    refine lv_aload_n hx hb dX0_sleeper_95 rfl (lv_at hl 0 rfl) ?_
    refine g_get hx hb hts hown hK hG 0 rfl rfl ok_X0 7 (by decide) q529 rfl rfl dX0_sleeper_96 ?_
    refine g_get hx hb hts hown hK hG 15 rfl rfl ok_X5 1 (by decide) q436 rfl rfl dX0_sleeper_99 ?_
    refine lv_iload_n hx hb dX0_sleeper_102 rfl (lv_at hl 1 rfl) ?_
    refine n_iald hx hb hK hG 17 rfl (by omega) (by decide) dX0_sleeper_103 ?_
    refine iv (y := (f (27 + x1))) (hB.1.2.2.2 x1 (by omega)) ?_
    refine hend _ _ _ _ _ hS dX0_sleeper_104 ?_
    exact ⟨_, rfl, _, hG, Eqx.rf, ((rng_in hlo_x1 hhi_x1 (by omega)).trans ((rng_in (k := 2) (lo := 0) (hi := 10) (Nat.zero_le _) (by decide) (by decide)).trans (rfl))).symm⟩
  · have hl : lv_has ls 3 [(0, .ref o), (1, .int (nI x1)), (2, .int (nI 3))] := hl
    refine lv_tableIn (tgt := 105) (off := 93) hx hb dX0_sleeper_12 (by decide) (by decide) rfl (by decide) ?_
    refine lv_aload_n hx hb dX0_sleeper_105 rfl (lv_at hl 0 rfl) ?_
    refine g_get (v := .ref tx) hx hb hts hown hK hG 0 rfl rfl ok_X0 3 (by decide) q525 rfl (congrArg va_rf htx) dX0_sleeper_106 ?_
    refine x_get hx hb hts hown hK (va_at_S xh1 hS (hOA _ xo1)) rfl ok_X4 2 (by decide) q359 rfl dX0_sleeper_109 ?_
    refine lv_iload_n hx hb dX0_sleeper_112 rfl (lv_at hl 1 rfl) ?_
    refine xn_iald hx hb hK (va_at_S xh5 hS (hOA _ xo4)) (by omega) (by decide) dX0_sleeper_113 ?_
    refine iv (y := xC T x1) (xh6 x1 (by omega)) ?_
    refine hend _ _ _ _ _ hS dX0_sleeper_114 ?_
    exact ⟨_, rfl, _, hG, Eqx.rf, ((rng_in hlo_x1 hhi_x1 (by omega)).trans ((rng_in (k := 3) (lo := 0) (hi := 10) (Nat.zero_le _) (by decide) (by decide)).trans (rfl))).symm⟩
  · have hl : lv_has ls 3 [(0, .ref o), (1, .int (nI x1)), (2, .int (nI 4))] := hl
    refine lv_tableIn (tgt := 115) (off := 103) hx hb dX0_sleeper_12 (by decide) (by decide) rfl (by decide) ?_
    refine lv_aload_n hx hb dX0_sleeper_115 rfl (lv_at hl 0 rfl) ?_
    refine g_get hx hb hts hown hK hG 0 rfl rfl ok_X0 7 (by decide) q529 rfl rfl dX0_sleeper_116 ?_
    refine g_get hx hb hts hown hK hG 15 rfl rfl ok_X5 2 (by decide) q438 rfl rfl dX0_sleeper_119 ?_
    refine lv_iload_n hx hb dX0_sleeper_122 rfl (lv_at hl 1 rfl) ?_
    refine n_iald hx hb hK hG 18 rfl (by omega) (by decide) dX0_sleeper_123 ?_
    refine iv (y := (f (18 + x1))) (hB.2.2.2.1 x1 (by omega)) ?_
    refine hend _ _ _ _ _ hS dX0_sleeper_124 ?_
    exact ⟨_, rfl, _, hG, Eqx.rf, ((rng_in hlo_x1 hhi_x1 (by omega)).trans ((rng_in (k := 4) (lo := 0) (hi := 10) (Nat.zero_le _) (by decide) (by decide)).trans (rfl))).symm⟩
  · have hl : lv_has ls 3 [(0, .ref o), (1, .int (nI x1)), (2, .int (nI 5))] := hl
    refine lv_tableIn (tgt := 125) (off := 113) hx hb dX0_sleeper_12 (by decide) (by decide) rfl (by decide) ?_
    refine lv_aload_n hx hb dX0_sleeper_125 rfl (lv_at hl 0 rfl) ?_
    refine g_get hx hb hts hown hK hG 0 rfl rfl ok_X0 7 (by decide) q529 rfl rfl dX0_sleeper_126 ?_
    refine lv_aload_n hx hb dX0_sleeper_129 rfl (lv_at hl 0 rfl) ?_
    refine g_get (v := .ref tx) hx hb hts hown hK hG 0 rfl rfl ok_X0 3 (by decide) q525 rfl (congrArg va_rf htx) dX0_sleeper_130 ?_
    refine lv_iload_n hx hb dX0_sleeper_133 rfl (lv_at hl 1 rfl) ?_
    refine c_VI hx hb hml hts hown hK hl.1 hS ⟨Nat.le_refl _, Nat.le_refl _⟩ (met_X5_liesLeft l D dA (gP_view hG isB15) (txA_S hX0 hS hOA) (fun z hz hb => hOA z hz (AB_AS isB15 z hb)) hsd1 (hB).1 hrv (by omega)) (cw_X0_173 hts ⟨Nat.le_of_ble_eq_true rfl, Nat.le_of_ble_eq_true rfl⟩) (hG 15 _ rfl) rfl rfl rfl rfl (Nat.le_of_ble_eq_true rfl) dX0_sleeper_134 (AB_AS isB15) (fun r H1 locs hq hF hS => ?_)
    obtain ⟨rfl, W2, hGv, hEv⟩ := hq
    obtain ⟨V2, hV2⟩ : ∃ X, X = spl V 15 W2 := ⟨_, rfl⟩
    have hGn := gP_back hG isB15 hF (fun _ h => h) hGv
    rw [← hV2] at hGn
    replace hG := hGn
    have hE2 : Eqx PSc V V2 := by rw [hV2]; exact spl_E hEv PSc_h
    clear hGn hGv hEv hV2
    generalize hHe2 : H1 = H at hG hS ⊢
    clear hHe2 hF
    refine iv (y := nI (bN (liB T f x1))) (lie_b T f x1) ?_
    have hbl := bN_lt (liB T f x1)
    refine n_if_eq (tgt := 144) hx hb dX0_sleeper_137 (by decide) (by omega) (fun c137 => ?_) (fun c137 => ?_)
    · refine lv_iconst (v := (nI 0)) hx hb dX0_sleeper_144 (by decide) ?_
      refine hend _ _ _ _ _ hS dX0_sleeper_145 ?_
      exact ⟨_, rfl, _, hG, (hE2.mono PSc_PQw), ((rng_in hlo_x1 hhi_x1 (by omega)).trans ((rng_in (k := 5) (lo := 0) (hi := 10) (Nat.zero_le _) (by decide) (by decide)).trans (((lie_b T f x1).trans (congrArg nI (by omega)))))).symm⟩
    refine lv_iconst (v := (nI 1)) hx hb dX0_sleeper_140 (by decide) ?_
    refine lv_goto (tgt := 145) hx hb dX0_sleeper_141 (by decide) ?_
    refine hend _ _ _ _ _ hS dX0_sleeper_145 ?_
    exact ⟨_, rfl, _, hG, (hE2.mono PSc_PQw), ((rng_in hlo_x1 hhi_x1 (by omega)).trans ((rng_in (k := 5) (lo := 0) (hi := 10) (Nat.zero_le _) (by decide) (by decide)).trans (((lie_b T f x1).trans (congrArg nI (by omega)))))).symm⟩
  · have hl : lv_has ls 3 [(0, .ref o), (1, .int (nI x1)), (2, .int (nI 6))] := hl
    refine lv_tableIn (tgt := 146) (off := 134) hx hb dX0_sleeper_12 (by decide) (by decide) rfl (by decide) ?_
    refine lv_aload_n hx hb dX0_sleeper_146 rfl (lv_at hl 0 rfl) ?_
    refine g_get hx hb hts hown hK hG 0 rfl rfl ok_X0 7 (by decide) q529 rfl rfl dX0_sleeper_147 ?_
    refine lv_aload_n hx hb dX0_sleeper_150 rfl (lv_at hl 0 rfl) ?_
    refine g_get (v := .ref tx) hx hb hts hown hK hG 0 rfl rfl ok_X0 3 (by decide) q525 rfl (congrArg va_rf htx) dX0_sleeper_151 ?_
    refine lv_iload_n hx hb dX0_sleeper_154 rfl (lv_at hl 1 rfl) ?_
    refine c_VI hx hb hml hts hown hK hl.1 hS ⟨Nat.le_refl _, Nat.le_refl _⟩ (met_X5_parts l D dA (gP_view hG isB15) (txA_S hX0 hS hOA) (fun z hz hb => hOA z hz (AB_AS isB15 z hb)) hsd1 (hB).1 hrv (by omega)) (cw_X0_177 hts ⟨Nat.le_of_ble_eq_true rfl, Nat.le_of_ble_eq_true rfl⟩) (hG 15 _ rfl) rfl rfl rfl rfl (Nat.le_of_ble_eq_true rfl) dX0_sleeper_155 (AB_AS isB15) (fun r H1 locs hq hF hS => ?_)
    obtain ⟨rfl, W3, hGv, hEv⟩ := hq
    obtain ⟨V3, hV3⟩ : ∃ X, X = spl V 15 W3 := ⟨_, rfl⟩
    have hGn := gP_back hG isB15 hF (fun _ h => h) hGv
    rw [← hV3] at hGn
    replace hG := hGn
    have hE3 : Eqx PSc V V3 := by rw [hV3]; exact spl_E hEv PSc_h
    clear hGn hGv hEv hV3
    generalize hHe3 : H1 = H at hG hS ⊢
    clear hHe3 hF
    refine hend _ _ _ _ _ hS dX0_sleeper_158 ?_
    exact ⟨_, rfl, _, hG, (hE3.mono PSc_PQw), ((rng_in hlo_x1 hhi_x1 (by omega)).trans ((rng_in (k := 6) (lo := 0) (hi := 10) (Nat.zero_le _) (by decide) (by decide)).trans (rfl))).symm⟩
  · have hl : lv_has ls 3 [(0, .ref o), (1, .int (nI x1)), (2, .int (nI 7))] := hl
    refine lv_tableIn (tgt := 159) (off := 147) hx hb dX0_sleeper_12 (by decide) (by decide) rfl (by decide) ?_
    refine lv_aload_n hx hb dX0_sleeper_159 rfl (lv_at hl 0 rfl) ?_
    refine g_get hx hb hts hown hK hG 0 rfl rfl ok_X0 7 (by decide) q529 rfl rfl dX0_sleeper_160 ?_
    refine lv_aload_n hx hb dX0_sleeper_163 rfl (lv_at hl 0 rfl) ?_
    refine g_get (v := .ref tx) hx hb hts hown hK hG 0 rfl rfl ok_X0 3 (by decide) q525 rfl (congrArg va_rf htx) dX0_sleeper_164 ?_
    refine lv_iload_n hx hb dX0_sleeper_167 rfl (lv_at hl 1 rfl) ?_
    refine c_VI hx hb hml hts hown hK hl.1 hS ⟨Nat.le_refl _, Nat.le_refl _⟩ (met_X5_chills l D dA (gP_view hG isB15) (txA_S hX0 hS hOA) (fun z hz hb => hOA z hz (AB_AS isB15 z hb)) hsd1 (hB).1 hrv (by omega)) (cw_X0_181 hts ⟨Nat.le_of_ble_eq_true rfl, Nat.le_of_ble_eq_true rfl⟩) (hG 15 _ rfl) rfl rfl rfl rfl (Nat.le_of_ble_eq_true rfl) dX0_sleeper_168 (AB_AS isB15) (fun r H1 locs hq hF hS => ?_)
    obtain ⟨rfl, W4, hGv, hEv⟩ := hq
    obtain ⟨V4, hV4⟩ : ∃ X, X = spl V 15 W4 := ⟨_, rfl⟩
    have hGn := gP_back hG isB15 hF (fun _ h => h) hGv
    rw [← hV4] at hGn
    replace hG := hGn
    have hE4 : Eqx PSc V V4 := by rw [hV4]; exact spl_E hEv PSc_h
    clear hGn hGv hEv hV4
    generalize hHe4 : H1 = H at hG hS ⊢
    clear hHe4 hF
    refine hend _ _ _ _ _ hS dX0_sleeper_171 ?_
    exact ⟨_, rfl, _, hG, (hE4.mono PSc_PQw), ((rng_in hlo_x1 hhi_x1 (by omega)).trans ((rng_in (k := 7) (lo := 0) (hi := 10) (Nat.zero_le _) (by decide) (by decide)).trans (rfl))).symm⟩
  · have hl : lv_has ls 3 [(0, .ref o), (1, .int (nI x1)), (2, .int (nI 8))] := hl
    refine lv_tableIn (tgt := 172) (off := 160) hx hb dX0_sleeper_12 (by decide) (by decide) rfl (by decide) ?_
    refine lv_aload_n hx hb dX0_sleeper_172 rfl (lv_at hl 0 rfl) ?_
    refine g_get hx hb hts hown hK hG 0 rfl rfl ok_X0 7 (by decide) q529 rfl rfl dX0_sleeper_173 ?_
    refine lv_aload_n hx hb dX0_sleeper_176 rfl (lv_at hl 0 rfl) ?_
    refine g_get (v := .ref tx) hx hb hts hown hK hG 0 rfl rfl ok_X0 3 (by decide) q525 rfl (congrArg va_rf htx) dX0_sleeper_177 ?_
    refine lv_iload_n hx hb dX0_sleeper_180 rfl (lv_at hl 1 rfl) ?_
    refine c_VI hx hb hml hts hown hK hl.1 hS ⟨Nat.le_refl _, Nat.le_refl _⟩ (met_X5_costs l D dA (gP_view hG isB15) (txA_S hX0 hS hOA) (fun z hz hb => hOA z hz (AB_AS isB15 z hb)) hsd1 (hB).1 hrv (by omega)) (cw_X0_184 hts ⟨Nat.le_of_ble_eq_true rfl, Nat.le_of_ble_eq_true rfl⟩) (hG 15 _ rfl) rfl rfl rfl rfl (Nat.le_of_ble_eq_true rfl) dX0_sleeper_181 (AB_AS isB15) (fun r H1 locs hq hF hS => ?_)
    obtain ⟨rfl, W5, hGv, hEv⟩ := hq
    obtain ⟨V5, hV5⟩ : ∃ X, X = spl V 15 W5 := ⟨_, rfl⟩
    have hGn := gP_back hG isB15 hF (fun _ h => h) hGv
    rw [← hV5] at hGn
    replace hG := hGn
    have hE5 : Eqx PSc V V5 := by rw [hV5]; exact spl_E hEv PSc_h
    clear hGn hGv hEv hV5
    generalize hHe5 : H1 = H at hG hS ⊢
    clear hHe5 hF
    refine hend _ _ _ _ _ hS dX0_sleeper_184 ?_
    exact ⟨_, rfl, _, hG, (hE5.mono PSc_PQw), ((rng_in hlo_x1 hhi_x1 (by omega)).trans ((rng_in (k := 8) (lo := 0) (hi := 10) (Nat.zero_le _) (by decide) (by decide)).trans (rfl))).symm⟩
  · have hl : lv_has ls 3 [(0, .ref o), (1, .int (nI x1)), (2, .int (nI 9))] := hl
    refine lv_tableIn (tgt := 185) (off := 173) hx hb dX0_sleeper_12 (by decide) (by decide) rfl (by decide) ?_
    refine lv_aload_n hx hb dX0_sleeper_185 rfl (lv_at hl 0 rfl) ?_
    refine g_get hx hb hts hown hK hG 0 rfl rfl ok_X0 7 (by decide) q529 rfl rfl dX0_sleeper_186 ?_
    refine g_get hx hb hts hown hK hG 15 rfl rfl ok_X5 3 (by decide) q440 rfl rfl dX0_sleeper_189 ?_
    refine lv_iload_n hx hb dX0_sleeper_192 rfl (lv_at hl 1 rfl) ?_
    refine n_iald hx hb hK hG 19 rfl (by omega) (by decide) dX0_sleeper_193 ?_
    refine iv (y := (f (36 + x1))) (hB.2.2.2.2 x1 (by omega)) ?_
    refine hend _ _ _ _ _ hS dX0_sleeper_194 ?_
    exact ⟨_, rfl, _, hG, Eqx.rf, ((rng_in hlo_x1 hhi_x1 (by omega)).trans ((rng_in (k := 9) (lo := 0) (hi := 10) (Nat.zero_le _) (by decide) (by decide)).trans (rfl))).symm⟩
theorem cw_X0_291 {R : Room} {s : State} {args : Array Value} (hts : ∀ w ∈ lw_all, w.before args s = true) {f w k j : Nat} (hR : f + 1 ≤ R.frames ∧ 8 + (4 + 11) + w ≤ R.locals) : CallW R s args RX0 RX5 291 yX5_next cX5_next 4 (some .int) (ws_ yX5_next cX5_next 4 (some .int)) (mkRmC f w k j) k j 1 := cwV 1 hts (lw_V q1442 q1234 q1235 q119 q1236) rfl rfl rfl (by decide +kernel) hR
set_option maxHeartbeats 4000000 in
theorem met_X0_count (l : Launch) (D : va_G) (dA : Nat → ClassId) {o : Nat} {V : GI} {L : GL} {Rf : GR} {H0 : Heap} (hG : gP D dA o dS V L Rf H0) {O : Nat → Prop} {tx : Nat} {T : Txt} {f : Rw} (hC : clS D dA H0 O o V Rf tx T f) (hOA : ∀ z, O z → ¬ AS o z) (hK0 : rwK T f) {tp : List Int32} (htp : tpP V tp) {hs : List Rw} (hpa : paP V (xN T) (xS T) hs) {tl : List Tl} (htl : tlP V tl) {hd : Nat → Option Rw} (hh : hdP V (xN T) (xS T) hd) (v1 : Int32) : Ctr l D dA yX0_count cX0_count 4 (some .int) (mkRm 407 9600) [.ref o, .int v1] H0 (AS o) (QI (fun r H1 => ∃ V1, gP D dA o dS V1 L Rf H1 ∧ Eqx PQw V V1 ∧ r = countA T f tp.length hs.length tl.length hd v1)) := by
  have hC0 := hC
  obtain ⟨hX, htx, hB, hrv, hsd1, hsd2⟩ := hC
  have hX0 := hX
  have hn9 := txA_n hX
  have hp2 := two9 hn9
  have hpp := Nat.two_pow_pos (xN T)
  obtain ⟨al, ls, cd, cb, gc, lw, mc, ea, nc, xo1, xo2, xo3, xo4, xh1, xh2, xh3, xh4, xh5, xh6, hn9⟩ := hX
  have hpa0 := hpa
  obtain ⟨a, ha, hl40, h5, h6, hpb⟩ := hpa0
  have hq1 := htp.1
  have hq3 := htl.1
  have hrl0 := rbF_lt f (xN T)
  refine ctr_I (by decide) (Nat.le_of_ble_eq_true rfl) ?_
  intro p e s m args below meth c ls QQ locs hx hb hml hown hts hK hend hS hl
  have hl : lv_has ls 4 [(0, .ref o), (1, .int v1)] := hl
  refine lv_iconst (v := (nI 0)) hx hb dX0_count_0 (by decide) ?_
  refine lv_istore_n (lv' := [(2, .int (nI 0)), (0, .ref o), (1, .int v1)]) hx hb dX0_count_1 rfl hl (by decide) rfl (fun ls hl => ?_)
  refine lv_iload_n hx hb dX0_count_2 rfl (lv_at hl 2 rfl) ?_
  rcases tsw_cases v1 17 (by decide) with ⟨hsw, ho3⟩ | ⟨kk, hkk, rfl⟩
  · refine lv_tableOut (tgt := 355) hx hb dX0_count_3 (by rcases hsw with h | h; exact Or.inl h; exact Or.inr h) (by decide) ?_
    refine lv_iconst (v := (-1)) hx hb dX0_count_355 (by decide) ?_
    refine hend _ _ _ _ _ hS dX0_count_356 ?_
    exact ⟨_, rfl, _, hG, Eqx.rf, ((ho3.1 _ _)).symm⟩
  rcases (show kk = 0 ∨ kk = 1 ∨ kk = 2 ∨ kk = 3 ∨ kk = 4 ∨ kk = 5 ∨ kk = 6 ∨ kk = 7 ∨ kk = 8 ∨ kk = 9 ∨ kk = 10 ∨ kk = 11 ∨ kk = 12 ∨ kk = 13 ∨ kk = 14 ∨ kk = 15 ∨ kk = 16 by omega) with rfl | rfl | rfl | rfl | rfl | rfl | rfl | rfl | rfl | rfl | rfl | rfl | rfl | rfl | rfl | rfl | rfl
  · have hl : lv_has ls 4 [(2, .int (nI 0)), (0, .ref o), (1, .int (nI 0))] := hl
    refine lv_tableIn (tgt := 84) (off := 81) hx hb dX0_count_3 (by decide) (by decide) rfl (by decide) ?_
    refine lv_aload_n hx hb dX0_count_84 rfl (lv_at hl 1 rfl) ?_
    refine c_VI hx hb hml hts hown hK hl.1 hS ⟨Nat.le_refl _, Nat.le_refl _⟩ (met_X0_beds l D dA hG (txA_S hX0 hS hOA) htx) (cw_X0_145 hts ⟨Nat.le_of_ble_eq_true rfl, Nat.le_of_ble_eq_true rfl⟩) (hG 0 _ rfl) rfl rfl rfl rfl (Nat.le_of_ble_eq_true rfl) dX0_count_85 (fun _ h => h.elim) (fun r H1 locs hq hF hS => ?_)
    obtain ⟨rfl, rfl⟩ := hq
    refine hend _ _ _ _ _ hS dX0_count_88 ?_
    exact ⟨_, rfl, _, hG, Eqx.rf, ((rng_in (k := 0) (lo := 0) (hi := 17) (Nat.zero_le _) (by decide) (by decide)).trans ((show cuT T f tp.length hs.length tl.length hd 0 = (nI (xN T)) from rfl))).symm⟩
  · have hl : lv_has ls 4 [(2, .int (nI 0)), (0, .ref o), (1, .int (nI 1))] := hl
    refine lv_tableIn (tgt := 89) (off := 86) hx hb dX0_count_3 (by decide) (by decide) rfl (by decide) ?_
    refine lv_aload_n hx hb dX0_count_89 rfl (lv_at hl 1 rfl) ?_
    refine g_get hx hb hts hown hK hG 0 rfl rfl ok_X0 7 (by decide) q529 rfl rfl dX0_count_90 ?_
    refine g_get (v := .int (f 45)) hx hb hts hown hK hG 15 rfl rfl ok_X5 5 (by decide) q445 rfl (congrArg Value.int hB.1.2.1) dX0_count_93 ?_
    refine hend _ _ _ _ _ hS dX0_count_96 ?_
    exact ⟨_, rfl, _, hG, Eqx.rf, ((rng_in (k := 1) (lo := 0) (hi := 17) (Nat.zero_le _) (by decide) (by decide)).trans ((show cuT T f tp.length hs.length tl.length hd 1 = (f 45) from rfl))).symm⟩
  · have hl : lv_has ls 4 [(2, .int (nI 0)), (0, .ref o), (1, .int (nI 2))] := hl
    refine lv_tableIn (tgt := 97) (off := 94) hx hb dX0_count_3 (by decide) (by decide) rfl (by decide) ?_
    refine lv_aload_n hx hb dX0_count_97 rfl (lv_at hl 1 rfl) ?_
    refine g_get hx hb hts hown hK hG 0 rfl rfl ok_X0 7 (by decide) q529 rfl rfl dX0_count_98 ?_
    refine g_get (v := .int (f 45)) hx hb hts hown hK hG 15 rfl rfl ok_X5 5 (by decide) q445 rfl (congrArg Value.int hB.1.2.1) dX0_count_101 ?_
    refine lv_bipush (v := (nI 24)) hx hb dX0_count_104 (by decide) ?_
    refine lv_irem hx hb dX0_count_106 (by decide) ?_
    refine hend _ _ _ _ _ hS dX0_count_107 ?_
    exact ⟨_, rfl, _, hG, Eqx.rf, ((rng_in (k := 2) (lo := 0) (hi := 17) (Nat.zero_le _) (by decide) (by decide)).trans ((show cuT T f tp.length hs.length tl.length hd 2 = ((f 45) - (f 45) / (nI 24) * (nI 24)) from rfl))).symm⟩
  · have hl : lv_has ls 4 [(2, .int (nI 0)), (0, .ref o), (1, .int (nI 3))] := hl
    refine lv_tableIn (tgt := 108) (off := 105) hx hb dX0_count_3 (by decide) (by decide) rfl (by decide) ?_
    refine lv_aload_n hx hb dX0_count_108 rfl (lv_at hl 1 rfl) ?_
    refine g_get hx hb hts hown hK hG 0 rfl rfl ok_X0 7 (by decide) q529 rfl rfl dX0_count_109 ?_
    refine g_get (v := .int (nI (rbF f (xN T)))) hx hb hts hown hK hG 15 rfl rfl ok_X5 4 (by decide) q442 rfl (congrArg Value.int hB.1.1) dX0_count_112 ?_
    refine hend _ _ _ _ _ hS dX0_count_115 ?_
    exact ⟨_, rfl, _, hG, Eqx.rf, ((rng_in (k := 3) (lo := 0) (hi := 17) (Nat.zero_le _) (by decide) (by decide)).trans ((show cuT T f tp.length hs.length tl.length hd 3 = (nI (rbF f (xN T))) from rfl))).symm⟩
  · have hl : lv_has ls 4 [(2, .int (nI 0)), (0, .ref o), (1, .int (nI 4))] := hl
    refine lv_tableIn (tgt := 116) (off := 113) hx hb dX0_count_3 (by decide) (by decide) rfl (by decide) ?_
    refine lv_aload_n hx hb dX0_count_116 rfl (lv_at hl 1 rfl) ?_
    refine g_get hx hb hts hown hK hG 0 rfl rfl ok_X0 7 (by decide) q529 rfl rfl dX0_count_117 ?_
    refine g_get (v := .int (nI (rbF f (xN T)))) hx hb hts hown hK hG 15 rfl rfl ok_X5 4 (by decide) q442 rfl (congrArg Value.int hB.1.1) dX0_count_120 ?_
    refine c_SI hx hb hml hts hown hK hl.1 hS ⟨Nat.le_refl _, Nat.le_refl _⟩ (met_J16_bitCount l D dA (Nat.lt_of_lt_of_le (rbF_lt _ _) hp2)) (cw_X0_239 hts ⟨Nat.le_of_ble_eq_true rfl, Nat.le_of_ble_eq_true rfl⟩) rfl rfl (Nat.le_of_ble_eq_true rfl) dX0_count_123 (fun _ h => h.elim) (fun r H1 locs hq hF hS => ?_)
    obtain ⟨rfl, rfl⟩ := hq
    have hbc1 := bc9 (rbF f (xN T))
    refine hend _ _ _ _ _ hS dX0_count_126 ?_
    exact ⟨_, rfl, _, hG, Eqx.rf, ((rng_in (k := 4) (lo := 0) (hi := 17) (Nat.zero_le _) (by decide) (by decide)).trans ((show cuT T f tp.length hs.length tl.length hd 4 = (nI (bc (rbF f (xN T)))) from rfl))).symm⟩
  · have hl : lv_has ls 4 [(2, .int (nI 0)), (0, .ref o), (1, .int (nI 5))] := hl
    refine lv_tableIn (tgt := 127) (off := 124) hx hb dX0_count_3 (by decide) (by decide) rfl (by decide) ?_
    refine lv_iconst (v := (nI 0)) hx hb dX0_count_127 (by decide) ?_
    refine lv_istore_n (lv' := [(3, .int (nI 0)), (2, .int (nI 0)), (0, .ref o), (1, .int (nI 5))]) hx hb dX0_count_128 rfl hl (by decide) rfl (fun ls hl => ?_)
    have loop2 : ∀ (fu2 : Nat) (b : Nat) (y : Nat) (locs : List Loc) (ls : Array Slot), xN T - b < fu2 → (b ≤ xN T) → (obF (shB f) b = y) → va_S (AS o) H0 H0 locs → lv_has ls 4 [(3, .int (nI b)), (2, .int (nI y)), (0, .ref o), (1, .int (nI 5))] → W p l e (mkRm 407 9600) s m args below meth c H0 locs 0 0 QQ (F0 m 129 ls []) := by
      intro fu2
      induction fu2 with
      | zero => intro b y locs ls hfu; exact absurd hfu (Nat.not_lt_zero _)
      | succ fu2 ih2 =>
        intro b y locs ls hfu hbn hy hS hl
        refine lv_iload_n hx hb dX0_count_129 rfl (lv_at hl 0 rfl) ?_
        refine lv_aload_n hx hb dX0_count_130 rfl (lv_at hl 2 rfl) ?_
        refine c_VI hx hb hml hts hown hK hl.1 hS ⟨Nat.le_refl _, Nat.le_refl _⟩ (met_X0_beds l D dA hG (txA_S hX0 hS hOA) htx) (cw_X0_145 hts ⟨Nat.le_of_ble_eq_true rfl, Nat.le_of_ble_eq_true rfl⟩) (hG 0 _ rfl) rfl rfl rfl rfl (Nat.le_of_ble_eq_true rfl) dX0_count_131 (fun _ h => h.elim) (fun r H1 locs hq hF hS => ?_)
        obtain ⟨rfl, rfl⟩ := hq
        refine n_icmp_ge (tgt := 165) hx hb dX0_count_134 (by decide) (by omega) (by omega) (fun c134 => ?_) (fun c134 => ?_)
        · refine lv_iload_n hx hb dX0_count_165 rfl (lv_at hl 1 rfl) ?_
          refine hend _ _ _ _ _ hS dX0_count_166 ?_
          exact ⟨_, rfl, _, hG, Eqx.rf, ((rng_in (k := 5) (lo := 0) (hi := 17) (Nat.zero_le _) (by decide) (by decide)).trans ((show cuT T f tp.length hs.length tl.length hd 5 = (nI y) from congrArg nI (by obtain rfl : b = xN T := (by omega); exact hy)))).symm⟩
        refine lv_iload_n hx hb dX0_count_137 rfl (lv_at hl 1 rfl) ?_
        refine lv_aload_n hx hb dX0_count_138 rfl (lv_at hl 2 rfl) ?_
        refine g_get hx hb hts hown hK hG 0 rfl rfl ok_X0 7 (by decide) q529 rfl rfl dX0_count_139 ?_
        refine g_get hx hb hts hown hK hG 15 rfl rfl ok_X5 1 (by decide) q436 rfl rfl dX0_count_142 ?_
        refine lv_iload_n hx hb dX0_count_145 rfl (lv_at hl 0 rfl) ?_
        refine n_iald hx hb hK hG 17 rfl (by omega) (by decide) dX0_count_146 ?_
        refine iv (y := (f (27 + b))) (hB.1.2.2.2 b (by omega)) ?_
        refine lv_if_le (tgt := 156) hx hb dX0_count_147 (by decide) (fun c147 => ?_) (fun c147 => ?_)
        · refine lv_iconst (v := (nI 0)) hx hb dX0_count_156 (by decide) ?_
          refine n_ior hx hb dX0_count_157 ?_
          refine lv_istore_n (lv' := [(2, .int (nI (y ||| 0))), (3, .int (nI b)), (0, .ref o), (1, .int (nI 5))]) hx hb dX0_count_158 rfl hl (by decide) rfl (fun ls hl => ?_)
          refine lv_iinc (v := (nI (b + 1))) (lv' := [(3, .int (nI (b + 1))), (2, .int (nI (y ||| 0))), (0, .ref o), (1, .int (nI 5))]) hx hb dX0_count_159 hl (k := 1) rfl (nI_add _ _) (by decide) rfl (fun ls hl => ?_)
          refine lv_goto (tgt := 129) hx hb dX0_count_162 (by decide) ?_
          exact ih2 (b + 1) (y ||| 0) _ _ (by omega) (by omega) (ob_f (by rw [sh_f c147]; decide) hy) hS (lv_sub hl [0, 1, 2, 3] rfl)
        refine lv_iconst (v := (nI 1)) hx hb dX0_count_150 (by decide) ?_
        refine lv_iload_n hx hb dX0_count_151 rfl (lv_at hl 0 rfl) ?_
        refine n_ishl hx hb dX0_count_152 (by omega) ?_
        refine lv_goto (tgt := 157) hx hb dX0_count_153 (by decide) ?_
        refine n_ior hx hb dX0_count_157 ?_
        refine lv_istore_n (lv' := [(2, .int (nI (y ||| (1 * 2 ^ b)))), (3, .int (nI b)), (0, .ref o), (1, .int (nI 5))]) hx hb dX0_count_158 rfl hl (by decide) rfl (fun ls hl => ?_)
        refine lv_iinc (v := (nI (b + 1))) (lv' := [(3, .int (nI (b + 1))), (2, .int (nI (y ||| (1 * 2 ^ b)))), (0, .ref o), (1, .int (nI 5))]) hx hb dX0_count_159 hl (k := 1) rfl (nI_add _ _) (by decide) rfl (fun ls hl => ?_)
        refine lv_goto (tgt := 129) hx hb dX0_count_162 (by decide) ?_
        exact ih2 (b + 1) (y ||| (1 * 2 ^ b)) _ _ (by omega) (by omega) (ob_t (sh_t c147) hy) hS (lv_sub hl [0, 1, 2, 3] rfl)
    exact loop2 ((xN T - 0) + 1) 0 0 _ _ (Nat.lt_succ_self _) (Nat.zero_le _) rfl hS (lv_sub hl [0, 1, 2, 3] rfl)
  · have hl : lv_has ls 4 [(2, .int (nI 0)), (0, .ref o), (1, .int (nI 6))] := hl
    refine lv_tableIn (tgt := 167) (off := 164) hx hb dX0_count_3 (by decide) (by decide) rfl (by decide) ?_
    refine lv_aload_n hx hb dX0_count_167 rfl (lv_at hl 1 rfl) ?_
    refine g_get hx hb hts hown hK hG 0 rfl rfl ok_X0 7 (by decide) q529 rfl rfl dX0_count_168 ?_
    refine lv_aload_n hx hb dX0_count_171 rfl (lv_at hl 1 rfl) ?_
    refine g_get (v := .ref tx) hx hb hts hown hK hG 0 rfl rfl ok_X0 3 (by decide) q525 rfl (congrArg va_rf htx) dX0_count_172 ?_
    refine c_VI hx hb hml hts hown hK hl.1 hS ⟨Nat.le_refl _, Nat.le_refl _⟩ (met_X5_next l D dA (gP_view hG isB15) (txA_S hX0 hS hOA) (fun z hz hb => hOA z hz (AB_AS isB15 z hb)) hsd1 (hB).1 hrv ) (cw_X0_291 hts ⟨Nat.le_of_ble_eq_true rfl, Nat.le_of_ble_eq_true rfl⟩) (hG 15 _ rfl) rfl rfl rfl rfl (Nat.le_of_ble_eq_true rfl) dX0_count_175 (AB_AS isB15) (fun r H1 locs hq hF hS => ?_)
    obtain ⟨rfl, W3, hGv, hEv⟩ := hq
    obtain ⟨V3, hV3⟩ : ∃ X, X = spl V 15 W3 := ⟨_, rfl⟩
    have hGn := gP_back hG isB15 hF (fun _ h => h) hGv
    rw [← hV3] at hGn
    replace hG := hGn
    have hE3 : Eqx PSc V V3 := by rw [hV3]; exact spl_E hEv PSc_h
    clear hGn hGv hEv hV3
    generalize hHe3 : H1 = H at hG hS ⊢
    clear hHe3 hF
    refine hend _ _ _ _ _ hS dX0_count_178 ?_
    exact ⟨_, rfl, _, hG, (hE3.mono PSc_PQw), ((rng_in (k := 6) (lo := 0) (hi := 17) (Nat.zero_le _) (by decide) (by decide)).trans ((show cuT T f tp.length hs.length tl.length hd 6 = (nI (obF (liB T f) (xN T))) from rfl))).symm⟩
  · have hl : lv_has ls 4 [(2, .int (nI 0)), (0, .ref o), (1, .int (nI 7))] := hl
    refine lv_tableIn (tgt := 179) (off := 176) hx hb dX0_count_3 (by decide) (by decide) rfl (by decide) ?_
    refine lv_aload_n hx hb dX0_count_179 rfl (lv_at hl 1 rfl) ?_
    refine g_get hx hb hts hown hK hG 0 rfl rfl ok_X0 1 (by decide) q523 rfl rfl dX0_count_180 ?_
    refine g_get (v := .int (nI tp.length)) hx hb hts hown hK hG 2 rfl rfl ok_X2 2 (by decide) q261 rfl (congrArg Value.int htp.2.1) dX0_count_183 ?_
    refine hend _ _ _ _ _ hS dX0_count_186 ?_
    exact ⟨_, rfl, _, hG, Eqx.rf, ((rng_in (k := 7) (lo := 0) (hi := 17) (Nat.zero_le _) (by decide) (by decide)).trans ((show cuT T f tp.length hs.length tl.length hd 7 = (nI tp.length) from rfl))).symm⟩
  · have hl : lv_has ls 4 [(2, .int (nI 0)), (0, .ref o), (1, .int (nI 8))] := hl
    refine lv_tableIn (tgt := 187) (off := 184) hx hb dX0_count_3 (by decide) (by decide) rfl (by decide) ?_
    refine lv_aload_n hx hb dX0_count_187 rfl (lv_at hl 1 rfl) ?_
    refine g_get (v := .int (nI hs.length)) hx hb hts hown hK hG 0 rfl rfl ok_X0 5 (by decide) q527 rfl (congrArg Value.int h5) dX0_count_188 ?_
    refine hend _ _ _ _ _ hS dX0_count_191 ?_
    exact ⟨_, rfl, _, hG, Eqx.rf, ((rng_in (k := 8) (lo := 0) (hi := 17) (Nat.zero_le _) (by decide) (by decide)).trans ((show cuT T f tp.length hs.length tl.length hd 8 = (nI hs.length) from rfl))).symm⟩
  · have hl : lv_has ls 4 [(2, .int (nI 0)), (0, .ref o), (1, .int (nI 9))] := hl
    refine lv_tableIn (tgt := 192) (off := 189) hx hb dX0_count_3 (by decide) (by decide) rfl (by decide) ?_
    refine lv_aload_n hx hb dX0_count_192 rfl (lv_at hl 1 rfl) ?_
    refine g_get (v := .int (nI tl.length)) hx hb hts hown hK hG 0 rfl rfl ok_X0 15 (by decide) q537 rfl (congrArg Value.int htl.2.1) dX0_count_193 ?_
    refine hend _ _ _ _ _ hS dX0_count_196 ?_
    exact ⟨_, rfl, _, hG, Eqx.rf, ((rng_in (k := 9) (lo := 0) (hi := 17) (Nat.zero_le _) (by decide) (by decide)).trans ((show cuT T f tp.length hs.length tl.length hd 9 = (nI tl.length) from rfl))).symm⟩
  · have hl : lv_has ls 4 [(2, .int (nI 0)), (0, .ref o), (1, .int (nI 10))] := hl
    refine lv_tableIn (tgt := 197) (off := 194) hx hb dX0_count_3 (by decide) (by decide) rfl (by decide) ?_
    refine lv_aload_n hx hb dX0_count_197 rfl (lv_at hl 1 rfl) ?_
    have hh0 := (hh 0 (by decide)).1
    rcases hs0 : (hd 0).isSome with _ | _
    · rw [hs0] at hh0
      refine g_get hx hb hts hown hK hG 0 rfl rfl ok_X0 13 (by decide) q535 rfl rfl dX0_count_198 ?_
      refine lv_iconst (v := (nI 0)) hx hb dX0_count_201 (by decide) ?_
      refine n_zald hx hb hK hG 74 rfl (by omega) (by decide) dX0_count_202 ?_
      refine iv (y := (nI 0)) hh0 ?_
      refine n_if_eq (tgt := 210) hx hb dX0_count_203 (by decide) (by decide) (fun _ => ?_) (fun z => absurd z (by decide))
      refine lv_iconst (v := (nI 0)) hx hb dX0_count_210 (by decide) ?_
      refine lv_aload_n hx hb dX0_count_211 rfl (lv_at hl 1 rfl) ?_
      have hh1 := (hh 1 (by decide)).1
      rcases hs1 : (hd 1).isSome with _ | _
      · rw [hs1] at hh1
        refine g_get hx hb hts hown hK hG 0 rfl rfl ok_X0 13 (by decide) q535 rfl rfl dX0_count_212 ?_
        refine lv_iconst (v := (nI 1)) hx hb dX0_count_215 (by decide) ?_
        refine n_zald hx hb hK hG 74 rfl (by omega) (by decide) dX0_count_216 ?_
        refine iv (y := (nI 0)) hh1 ?_
        refine n_if_eq (tgt := 224) hx hb dX0_count_217 (by decide) (by decide) (fun _ => ?_) (fun z => absurd z (by decide))
        refine lv_iconst (v := (nI 0)) hx hb dX0_count_224 (by decide) ?_
        refine n_iadd hx hb dX0_count_225 ?_
        refine lv_aload_n hx hb dX0_count_226 rfl (lv_at hl 1 rfl) ?_
        have hh2 := (hh 2 (by decide)).1
        rcases hs2 : (hd 2).isSome with _ | _
        · rw [hs2] at hh2
          refine g_get hx hb hts hown hK hG 0 rfl rfl ok_X0 13 (by decide) q535 rfl rfl dX0_count_227 ?_
          refine lv_iconst (v := (nI 2)) hx hb dX0_count_230 (by decide) ?_
          refine n_zald hx hb hK hG 74 rfl (by omega) (by decide) dX0_count_231 ?_
          refine iv (y := (nI 0)) hh2 ?_
          refine n_if_eq (tgt := 239) hx hb dX0_count_232 (by decide) (by decide) (fun _ => ?_) (fun z => absurd z (by decide))
          refine lv_iconst (v := (nI 0)) hx hb dX0_count_239 (by decide) ?_
          refine n_iadd hx hb dX0_count_240 ?_
          refine hend _ _ _ _ _ hS dX0_count_241 ?_
          exact ⟨_, rfl, _, hG, Eqx.rf, ((rng_in (k := 10) (lo := 0) (hi := 17) (Nat.zero_le _) (by decide) (by decide)).trans ((show cuT T f tp.length hs.length tl.length hd 10 = (nI 0) from congrArg nI (by unfold heN; rw [hs0, hs1, hs2]; rfl)))).symm⟩
        rw [hs2] at hh2
        refine g_get hx hb hts hown hK hG 0 rfl rfl ok_X0 13 (by decide) q535 rfl rfl dX0_count_227 ?_
        refine lv_iconst (v := (nI 2)) hx hb dX0_count_230 (by decide) ?_
        refine n_zald hx hb hK hG 74 rfl (by omega) (by decide) dX0_count_231 ?_
        refine iv (y := (nI 1)) hh2 ?_
        refine n_if_eq (tgt := 239) hx hb dX0_count_232 (by decide) (by decide) (fun z => absurd z (by decide)) (fun _ => ?_)
        refine lv_iconst (v := (nI 1)) hx hb dX0_count_235 (by decide) ?_
        refine lv_goto (tgt := 240) hx hb dX0_count_236 (by decide) ?_
        refine n_iadd hx hb dX0_count_240 ?_
        refine hend _ _ _ _ _ hS dX0_count_241 ?_
        exact ⟨_, rfl, _, hG, Eqx.rf, ((rng_in (k := 10) (lo := 0) (hi := 17) (Nat.zero_le _) (by decide) (by decide)).trans ((show cuT T f tp.length hs.length tl.length hd 10 = (nI 1) from congrArg nI (by unfold heN; rw [hs0, hs1, hs2]; rfl)))).symm⟩
      rw [hs1] at hh1
      refine g_get hx hb hts hown hK hG 0 rfl rfl ok_X0 13 (by decide) q535 rfl rfl dX0_count_212 ?_
      refine lv_iconst (v := (nI 1)) hx hb dX0_count_215 (by decide) ?_
      refine n_zald hx hb hK hG 74 rfl (by omega) (by decide) dX0_count_216 ?_
      refine iv (y := (nI 1)) hh1 ?_
      refine n_if_eq (tgt := 224) hx hb dX0_count_217 (by decide) (by decide) (fun z => absurd z (by decide)) (fun _ => ?_)
      refine lv_iconst (v := (nI 1)) hx hb dX0_count_220 (by decide) ?_
      refine lv_goto (tgt := 225) hx hb dX0_count_221 (by decide) ?_
      refine n_iadd hx hb dX0_count_225 ?_
      refine lv_aload_n hx hb dX0_count_226 rfl (lv_at hl 1 rfl) ?_
      have hh2 := (hh 2 (by decide)).1
      rcases hs2 : (hd 2).isSome with _ | _
      · rw [hs2] at hh2
        refine g_get hx hb hts hown hK hG 0 rfl rfl ok_X0 13 (by decide) q535 rfl rfl dX0_count_227 ?_
        refine lv_iconst (v := (nI 2)) hx hb dX0_count_230 (by decide) ?_
        refine n_zald hx hb hK hG 74 rfl (by omega) (by decide) dX0_count_231 ?_
        refine iv (y := (nI 0)) hh2 ?_
        refine n_if_eq (tgt := 239) hx hb dX0_count_232 (by decide) (by decide) (fun _ => ?_) (fun z => absurd z (by decide))
        refine lv_iconst (v := (nI 0)) hx hb dX0_count_239 (by decide) ?_
        refine n_iadd hx hb dX0_count_240 ?_
        refine hend _ _ _ _ _ hS dX0_count_241 ?_
        exact ⟨_, rfl, _, hG, Eqx.rf, ((rng_in (k := 10) (lo := 0) (hi := 17) (Nat.zero_le _) (by decide) (by decide)).trans ((show cuT T f tp.length hs.length tl.length hd 10 = (nI 1) from congrArg nI (by unfold heN; rw [hs0, hs1, hs2]; rfl)))).symm⟩
      rw [hs2] at hh2
      refine g_get hx hb hts hown hK hG 0 rfl rfl ok_X0 13 (by decide) q535 rfl rfl dX0_count_227 ?_
      refine lv_iconst (v := (nI 2)) hx hb dX0_count_230 (by decide) ?_
      refine n_zald hx hb hK hG 74 rfl (by omega) (by decide) dX0_count_231 ?_
      refine iv (y := (nI 1)) hh2 ?_
      refine n_if_eq (tgt := 239) hx hb dX0_count_232 (by decide) (by decide) (fun z => absurd z (by decide)) (fun _ => ?_)
      refine lv_iconst (v := (nI 1)) hx hb dX0_count_235 (by decide) ?_
      refine lv_goto (tgt := 240) hx hb dX0_count_236 (by decide) ?_
      refine n_iadd hx hb dX0_count_240 ?_
      refine hend _ _ _ _ _ hS dX0_count_241 ?_
      exact ⟨_, rfl, _, hG, Eqx.rf, ((rng_in (k := 10) (lo := 0) (hi := 17) (Nat.zero_le _) (by decide) (by decide)).trans ((show cuT T f tp.length hs.length tl.length hd 10 = (nI 2) from congrArg nI (by unfold heN; rw [hs0, hs1, hs2]; rfl)))).symm⟩
    rw [hs0] at hh0
    refine g_get hx hb hts hown hK hG 0 rfl rfl ok_X0 13 (by decide) q535 rfl rfl dX0_count_198 ?_
    refine lv_iconst (v := (nI 0)) hx hb dX0_count_201 (by decide) ?_
    refine n_zald hx hb hK hG 74 rfl (by omega) (by decide) dX0_count_202 ?_
    refine iv (y := (nI 1)) hh0 ?_
    refine n_if_eq (tgt := 210) hx hb dX0_count_203 (by decide) (by decide) (fun z => absurd z (by decide)) (fun _ => ?_)
    refine lv_iconst (v := (nI 1)) hx hb dX0_count_206 (by decide) ?_
    refine lv_goto (tgt := 211) hx hb dX0_count_207 (by decide) ?_
    refine lv_aload_n hx hb dX0_count_211 rfl (lv_at hl 1 rfl) ?_
    have hh1 := (hh 1 (by decide)).1
    rcases hs1 : (hd 1).isSome with _ | _
    · rw [hs1] at hh1
      refine g_get hx hb hts hown hK hG 0 rfl rfl ok_X0 13 (by decide) q535 rfl rfl dX0_count_212 ?_
      refine lv_iconst (v := (nI 1)) hx hb dX0_count_215 (by decide) ?_
      refine n_zald hx hb hK hG 74 rfl (by omega) (by decide) dX0_count_216 ?_
      refine iv (y := (nI 0)) hh1 ?_
      refine n_if_eq (tgt := 224) hx hb dX0_count_217 (by decide) (by decide) (fun _ => ?_) (fun z => absurd z (by decide))
      refine lv_iconst (v := (nI 0)) hx hb dX0_count_224 (by decide) ?_
      refine n_iadd hx hb dX0_count_225 ?_
      refine lv_aload_n hx hb dX0_count_226 rfl (lv_at hl 1 rfl) ?_
      have hh2 := (hh 2 (by decide)).1
      rcases hs2 : (hd 2).isSome with _ | _
      · rw [hs2] at hh2
        refine g_get hx hb hts hown hK hG 0 rfl rfl ok_X0 13 (by decide) q535 rfl rfl dX0_count_227 ?_
        refine lv_iconst (v := (nI 2)) hx hb dX0_count_230 (by decide) ?_
        refine n_zald hx hb hK hG 74 rfl (by omega) (by decide) dX0_count_231 ?_
        refine iv (y := (nI 0)) hh2 ?_
        refine n_if_eq (tgt := 239) hx hb dX0_count_232 (by decide) (by decide) (fun _ => ?_) (fun z => absurd z (by decide))
        refine lv_iconst (v := (nI 0)) hx hb dX0_count_239 (by decide) ?_
        refine n_iadd hx hb dX0_count_240 ?_
        refine hend _ _ _ _ _ hS dX0_count_241 ?_
        exact ⟨_, rfl, _, hG, Eqx.rf, ((rng_in (k := 10) (lo := 0) (hi := 17) (Nat.zero_le _) (by decide) (by decide)).trans ((show cuT T f tp.length hs.length tl.length hd 10 = (nI 1) from congrArg nI (by unfold heN; rw [hs0, hs1, hs2]; rfl)))).symm⟩
      rw [hs2] at hh2
      refine g_get hx hb hts hown hK hG 0 rfl rfl ok_X0 13 (by decide) q535 rfl rfl dX0_count_227 ?_
      refine lv_iconst (v := (nI 2)) hx hb dX0_count_230 (by decide) ?_
      refine n_zald hx hb hK hG 74 rfl (by omega) (by decide) dX0_count_231 ?_
      refine iv (y := (nI 1)) hh2 ?_
      refine n_if_eq (tgt := 239) hx hb dX0_count_232 (by decide) (by decide) (fun z => absurd z (by decide)) (fun _ => ?_)
      refine lv_iconst (v := (nI 1)) hx hb dX0_count_235 (by decide) ?_
      refine lv_goto (tgt := 240) hx hb dX0_count_236 (by decide) ?_
      refine n_iadd hx hb dX0_count_240 ?_
      refine hend _ _ _ _ _ hS dX0_count_241 ?_
      exact ⟨_, rfl, _, hG, Eqx.rf, ((rng_in (k := 10) (lo := 0) (hi := 17) (Nat.zero_le _) (by decide) (by decide)).trans ((show cuT T f tp.length hs.length tl.length hd 10 = (nI 2) from congrArg nI (by unfold heN; rw [hs0, hs1, hs2]; rfl)))).symm⟩
    rw [hs1] at hh1
    refine g_get hx hb hts hown hK hG 0 rfl rfl ok_X0 13 (by decide) q535 rfl rfl dX0_count_212 ?_
    refine lv_iconst (v := (nI 1)) hx hb dX0_count_215 (by decide) ?_
    refine n_zald hx hb hK hG 74 rfl (by omega) (by decide) dX0_count_216 ?_
    refine iv (y := (nI 1)) hh1 ?_
    refine n_if_eq (tgt := 224) hx hb dX0_count_217 (by decide) (by decide) (fun z => absurd z (by decide)) (fun _ => ?_)
    refine lv_iconst (v := (nI 1)) hx hb dX0_count_220 (by decide) ?_
    refine lv_goto (tgt := 225) hx hb dX0_count_221 (by decide) ?_
    refine n_iadd hx hb dX0_count_225 ?_
    refine lv_aload_n hx hb dX0_count_226 rfl (lv_at hl 1 rfl) ?_
    have hh2 := (hh 2 (by decide)).1
    rcases hs2 : (hd 2).isSome with _ | _
    · rw [hs2] at hh2
      refine g_get hx hb hts hown hK hG 0 rfl rfl ok_X0 13 (by decide) q535 rfl rfl dX0_count_227 ?_
      refine lv_iconst (v := (nI 2)) hx hb dX0_count_230 (by decide) ?_
      refine n_zald hx hb hK hG 74 rfl (by omega) (by decide) dX0_count_231 ?_
      refine iv (y := (nI 0)) hh2 ?_
      refine n_if_eq (tgt := 239) hx hb dX0_count_232 (by decide) (by decide) (fun _ => ?_) (fun z => absurd z (by decide))
      refine lv_iconst (v := (nI 0)) hx hb dX0_count_239 (by decide) ?_
      refine n_iadd hx hb dX0_count_240 ?_
      refine hend _ _ _ _ _ hS dX0_count_241 ?_
      exact ⟨_, rfl, _, hG, Eqx.rf, ((rng_in (k := 10) (lo := 0) (hi := 17) (Nat.zero_le _) (by decide) (by decide)).trans ((show cuT T f tp.length hs.length tl.length hd 10 = (nI 2) from congrArg nI (by unfold heN; rw [hs0, hs1, hs2]; rfl)))).symm⟩
    rw [hs2] at hh2
    refine g_get hx hb hts hown hK hG 0 rfl rfl ok_X0 13 (by decide) q535 rfl rfl dX0_count_227 ?_
    refine lv_iconst (v := (nI 2)) hx hb dX0_count_230 (by decide) ?_
    refine n_zald hx hb hK hG 74 rfl (by omega) (by decide) dX0_count_231 ?_
    refine iv (y := (nI 1)) hh2 ?_
    refine n_if_eq (tgt := 239) hx hb dX0_count_232 (by decide) (by decide) (fun z => absurd z (by decide)) (fun _ => ?_)
    refine lv_iconst (v := (nI 1)) hx hb dX0_count_235 (by decide) ?_
    refine lv_goto (tgt := 240) hx hb dX0_count_236 (by decide) ?_
    refine n_iadd hx hb dX0_count_240 ?_
    refine hend _ _ _ _ _ hS dX0_count_241 ?_
    exact ⟨_, rfl, _, hG, Eqx.rf, ((rng_in (k := 10) (lo := 0) (hi := 17) (Nat.zero_le _) (by decide) (by decide)).trans ((show cuT T f tp.length hs.length tl.length hd 10 = (nI 3) from congrArg nI (by unfold heN; rw [hs0, hs1, hs2]; rfl)))).symm⟩
  · have hl : lv_has ls 4 [(2, .int (nI 0)), (0, .ref o), (1, .int (nI 11))] := hl
    refine lv_tableIn (tgt := 242) (off := 239) hx hb dX0_count_3 (by decide) (by decide) rfl (by decide) ?_
    refine lv_aload_n hx hb dX0_count_242 rfl (lv_at hl 1 rfl) ?_
    refine g_get hx hb hts hown hK hG 0 rfl rfl ok_X0 7 (by decide) q529 rfl rfl dX0_count_243 ?_
    refine g_get (v := .int (f 46)) hx hb hts hown hK hG 15 rfl rfl ok_X5 6 (by decide) q447 rfl (congrArg Value.int hB.2.1) dX0_count_246 ?_
    refine hend _ _ _ _ _ hS dX0_count_249 ?_
    exact ⟨_, rfl, _, hG, Eqx.rf, ((rng_in (k := 11) (lo := 0) (hi := 17) (Nat.zero_le _) (by decide) (by decide)).trans ((show cuT T f tp.length hs.length tl.length hd 11 = (f 46) from rfl))).symm⟩
  · have hl : lv_has ls 4 [(2, .int (nI 0)), (0, .ref o), (1, .int (nI 12))] := hl
    refine lv_tableIn (tgt := 250) (off := 247) hx hb dX0_count_3 (by decide) (by decide) rfl (by decide) ?_
    refine lv_aload_n hx hb dX0_count_250 rfl (lv_at hl 1 rfl) ?_
    refine lv_aload_n hx hb dX0_count_251 rfl (lv_at hl 1 rfl) ?_
    refine c_VI hx hb hml hts hown hK hl.1 hS ⟨Nat.le_refl _, Nat.le_refl _⟩ (met_X0_rows l D dA hG (txA_S hX0 hS hOA) htx) (cw_X0_154 hts ⟨Nat.le_of_ble_eq_true rfl, Nat.le_of_ble_eq_true rfl⟩) (hG 0 _ rfl) rfl rfl rfl rfl (Nat.le_of_ble_eq_true rfl) dX0_count_252 (fun _ h => h.elim) (fun r H1 locs hq hF hS => ?_)
    obtain ⟨rfl, rfl⟩ := hq
    refine lv_iconst (v := (nI 1)) hx hb dX0_count_255 (by decide) ?_
    refine n_isub hx hb dX0_count_256 (by omega) ?_
    refine lv_aload_n hx hb dX0_count_257 rfl (lv_at hl 1 rfl) ?_
    refine g_get hx hb hts hown hK hG 0 rfl rfl ok_X0 7 (by decide) q529 rfl rfl dX0_count_258 ?_
    refine g_get (v := .int (nI (rbF f (xN T)))) hx hb hts hown hK hG 15 rfl rfl ok_X5 4 (by decide) q442 rfl (congrArg Value.int hB.1.1) dX0_count_261 ?_
    refine lv_iconst (v := (-1)) hx hb dX0_count_264 (by decide) ?_
    refine lv_ixor hx hb dX0_count_265 ?_
    refine iv (y := ((nI (rbF f (xN T))) ^^^ (-1))) rfl ?_
    refine lv_iand hx hb dX0_count_266 ?_
    refine iv (y := (nI ((2 ^ xN T - 1) ^^^ ((2 ^ xN T - 1) &&& rbF f (xN T))))) (nI_andnot _ _) ?_
    refine c_VI hx hb hml hts hown hK hl.1 hS ⟨Nat.le_refl _, Nat.le_refl _⟩ (met_X0_costsOf l D dA hG (clS_E hC0 hS hOA Eqx.rf) hOA ((2 ^ xN T - 1) ^^^ ((2 ^ xN T - 1) &&& rbF f (xN T))) not_lt) (cw_X0_235 hts ⟨Nat.le_of_ble_eq_true rfl, Nat.le_of_ble_eq_true rfl⟩) (hG 0 _ rfl) rfl rfl rfl rfl (Nat.le_of_ble_eq_true rfl) dX0_count_267 (fun _ h => h) (fun r H1 locs hq hF hS => ?_)
    obtain ⟨V4, hG, hE4, hr4⟩ := hq
    generalize hHe4 : H1 = H at hG hS ⊢
    clear hHe4 hF
    subst hr4
    have hcs4 := cstF_le (t := T) (f := f) (x := ((2 ^ xN T - 1) ^^^ ((2 ^ xN T - 1) &&& rbF f (xN T)))) hn9
    refine hend _ _ _ _ _ hS dX0_count_270 ?_
    exact ⟨_, rfl, _, hG, (hE4.mono PSc_PQw), ((rng_in (k := 12) (lo := 0) (hi := 17) (Nat.zero_le _) (by decide) (by decide)).trans ((show cuT T f tp.length hs.length tl.length hd 12 = (nI (cstF T f ((2 ^ xN T - 1) ^^^ ((2 ^ xN T - 1) &&& rbF f (xN T))))) from congrArg nI (not_cost hrv).symm))).symm⟩
  · have hl : lv_has ls 4 [(2, .int (nI 0)), (0, .ref o), (1, .int (nI 13))] := hl
    refine lv_tableIn (tgt := 271) (off := 268) hx hb dX0_count_3 (by decide) (by decide) rfl (by decide) ?_
    refine lv_aload_n hx hb dX0_count_271 rfl (lv_at hl 1 rfl) ?_
    refine g_get (v := .ref tx) hx hb hts hown hK hG 0 rfl rfl ok_X0 3 (by decide) q525 rfl (congrArg va_rf htx) dX0_count_272 ?_
    refine x_get hx hb hts hown hK (va_at_S xh1 hS (hOA _ xo1)) rfl ok_X4 5 (by decide) q367 rfl dX0_count_275 ?_
    refine hend _ _ _ _ _ hS dX0_count_278 ?_
    exact ⟨_, rfl, _, hG, Eqx.rf, ((rng_in (k := 13) (lo := 0) (hi := 17) (Nat.zero_le _) (by decide) (by decide)).trans ((show cuT T f tp.length hs.length tl.length hd 13 = (xR T) from rfl))).symm⟩
  · have hl : lv_has ls 4 [(2, .int (nI 0)), (0, .ref o), (1, .int (nI 14))] := hl
    refine lv_tableIn (tgt := 279) (off := 276) hx hb dX0_count_3 (by decide) (by decide) rfl (by decide) ?_
    refine lv_iconst (v := (nI 0)) hx hb dX0_count_279 (by decide) ?_
    refine lv_istore_n (lv' := [(3, .int (nI 0)), (2, .int (nI 0)), (0, .ref o), (1, .int (nI 14))]) hx hb dX0_count_280 rfl hl (by decide) rfl (fun ls hl => ?_)
    have loop5 : ∀ (fu5 : Nat) (b : Nat) (locs : List Loc) (ls : Array Slot), xN T - b < fu5 → (b ≤ xN T) → va_S (AS o) H0 H0 locs → lv_has ls 4 [(3, .int (nI b)), (2, .int (sumI f 36 b)), (0, .ref o), (1, .int (nI 14))] → W p l e (mkRm 407 9600) s m args below meth c H0 locs 0 0 QQ (F0 m 281 ls []) := by
      intro fu5
      induction fu5 with
      | zero => intro b locs ls hfu; exact absurd hfu (Nat.not_lt_zero _)
      | succ fu5 ih5 =>
        intro b locs ls hfu hbn hS hl
        refine lv_iload_n hx hb dX0_count_281 rfl (lv_at hl 0 rfl) ?_
        refine lv_aload_n hx hb dX0_count_282 rfl (lv_at hl 2 rfl) ?_
        refine c_VI hx hb hml hts hown hK hl.1 hS ⟨Nat.le_refl _, Nat.le_refl _⟩ (met_X0_beds l D dA hG (txA_S hX0 hS hOA) htx) (cw_X0_145 hts ⟨Nat.le_of_ble_eq_true rfl, Nat.le_of_ble_eq_true rfl⟩) (hG 0 _ rfl) rfl rfl rfl rfl (Nat.le_of_ble_eq_true rfl) dX0_count_283 (fun _ h => h.elim) (fun r H1 locs hq hF hS => ?_)
        obtain ⟨rfl, rfl⟩ := hq
        refine n_icmp_ge (tgt := 307) hx hb dX0_count_286 (by decide) (by omega) (by omega) (fun c286 => ?_) (fun c286 => ?_)
        · refine lv_iload_n hx hb dX0_count_307 rfl (lv_at hl 1 rfl) ?_
          refine hend _ _ _ _ _ hS dX0_count_308 ?_
          exact ⟨_, rfl, _, hG, Eqx.rf, ((rng_in (k := 14) (lo := 0) (hi := 17) (Nat.zero_le _) (by decide) (by decide)).trans ((show cuT T f tp.length hs.length tl.length hd 14 = (sumI f 36 b) from (by obtain rfl : b = xN T := (by omega); exact sumI_cut (fun b h1 h2 => (hK0.2.2 b h1 h2).2.2) 9 hn9 (Nat.le_refl _))))).symm⟩
        refine lv_iload_n hx hb dX0_count_289 rfl (lv_at hl 1 rfl) ?_
        refine lv_aload_n hx hb dX0_count_290 rfl (lv_at hl 2 rfl) ?_
        refine g_get hx hb hts hown hK hG 0 rfl rfl ok_X0 7 (by decide) q529 rfl rfl dX0_count_291 ?_
        refine g_get hx hb hts hown hK hG 15 rfl rfl ok_X5 3 (by decide) q440 rfl rfl dX0_count_294 ?_
        refine lv_iload_n hx hb dX0_count_297 rfl (lv_at hl 0 rfl) ?_
        refine n_iald hx hb hK hG 19 rfl (by omega) (by decide) dX0_count_298 ?_
        refine iv (y := (f (36 + b))) (hB.2.2.2.2 b (by omega)) ?_
        refine lv_iadd hx hb dX0_count_299 ?_
        refine lv_istore_n (lv' := [(2, .int ((sumI f 36 b) + (f (36 + b)))), (3, .int (nI b)), (0, .ref o), (1, .int (nI 14))]) hx hb dX0_count_300 rfl hl (by decide) rfl (fun ls hl => ?_)
        refine lv_iinc (v := (nI (b + 1))) (lv' := [(3, .int (nI (b + 1))), (2, .int ((sumI f 36 b) + (f (36 + b)))), (0, .ref o), (1, .int (nI 14))]) hx hb dX0_count_301 hl (k := 1) rfl (nI_add _ _) (by decide) rfl (fun ls hl => ?_)
        refine lv_goto (tgt := 281) hx hb dX0_count_304 (by decide) ?_
        exact ih5 (b + 1) _ _ (by omega) (by omega) hS (lv_sub hl [0, 1, 2, 3] rfl)
    exact loop5 ((xN T - 0) + 1) 0 _ _ (Nat.lt_succ_self _) (Nat.zero_le _) hS (lv_sub hl [0, 1, 2, 3] rfl)
  · have hl : lv_has ls 4 [(2, .int (nI 0)), (0, .ref o), (1, .int (nI 15))] := hl
    refine lv_tableIn (tgt := 309) (off := 306) hx hb dX0_count_3 (by decide) (by decide) rfl (by decide) ?_
    refine lv_aload_n hx hb dX0_count_309 rfl (lv_at hl 1 rfl) ?_
    refine g_get hx hb hts hown hK hG 0 rfl rfl ok_X0 7 (by decide) q529 rfl rfl dX0_count_310 ?_
    refine g_get (v := .int (f 45)) hx hb hts hown hK hG 15 rfl rfl ok_X5 5 (by decide) q445 rfl (congrArg Value.int hB.1.2.1) dX0_count_313 ?_
    refine lv_aload_n hx hb dX0_count_316 rfl (lv_at hl 1 rfl) ?_
    refine g_get (v := .ref tx) hx hb hts hown hK hG 0 rfl rfl ok_X0 3 (by decide) q525 rfl (congrArg va_rf htx) dX0_count_317 ?_
    refine x_get hx hb hts hown hK (va_at_S xh1 hS (hOA _ xo1)) rfl ok_X4 6 (by decide) q370 rfl dX0_count_320 ?_
    refine lv_isub hx hb dX0_count_323 ?_
    refine hend _ _ _ _ _ hS dX0_count_324 ?_
    exact ⟨_, rfl, _, hG, Eqx.rf, ((rng_in (k := 15) (lo := 0) (hi := 17) (Nat.zero_le _) (by decide) (by decide)).trans ((show cuT T f tp.length hs.length tl.length hd 15 = ((f 45) - (xB T)) from hK0.2.1))).symm⟩
  · have hl : lv_has ls 4 [(2, .int (nI 0)), (0, .ref o), (1, .int (nI 16))] := hl
    refine lv_tableIn (tgt := 325) (off := 322) hx hb dX0_count_3 (by decide) (by decide) rfl (by decide) ?_
    refine lv_iconst (v := (nI 0)) hx hb dX0_count_325 (by decide) ?_
    refine lv_istore_n (lv' := [(3, .int (nI 0)), (2, .int (nI 0)), (0, .ref o), (1, .int (nI 16))]) hx hb dX0_count_326 rfl hl (by decide) rfl (fun ls hl => ?_)
    have loop6 : ∀ (fu6 : Nat) (b : Nat) (locs : List Loc) (ls : Array Slot), xN T - b < fu6 → (b ≤ xN T) → va_S (AS o) H0 H0 locs → lv_has ls 4 [(3, .int (nI b)), (2, .int (sumI f 9 b)), (0, .ref o), (1, .int (nI 16))] → W p l e (mkRm 407 9600) s m args below meth c H0 locs 0 0 QQ (F0 m 327 ls []) := by
      intro fu6
      induction fu6 with
      | zero => intro b locs ls hfu; exact absurd hfu (Nat.not_lt_zero _)
      | succ fu6 ih6 =>
        intro b locs ls hfu hbn hS hl
        refine lv_iload_n hx hb dX0_count_327 rfl (lv_at hl 0 rfl) ?_
        refine lv_aload_n hx hb dX0_count_328 rfl (lv_at hl 2 rfl) ?_
        refine c_VI hx hb hml hts hown hK hl.1 hS ⟨Nat.le_refl _, Nat.le_refl _⟩ (met_X0_beds l D dA hG (txA_S hX0 hS hOA) htx) (cw_X0_145 hts ⟨Nat.le_of_ble_eq_true rfl, Nat.le_of_ble_eq_true rfl⟩) (hG 0 _ rfl) rfl rfl rfl rfl (Nat.le_of_ble_eq_true rfl) dX0_count_329 (fun _ h => h.elim) (fun r H1 locs hq hF hS => ?_)
        obtain ⟨rfl, rfl⟩ := hq
        refine n_icmp_ge (tgt := 353) hx hb dX0_count_332 (by decide) (by omega) (by omega) (fun c332 => ?_) (fun c332 => ?_)
        · refine lv_iload_n hx hb dX0_count_353 rfl (lv_at hl 1 rfl) ?_
          refine hend _ _ _ _ _ hS dX0_count_354 ?_
          exact ⟨_, rfl, _, hG, Eqx.rf, ((rng_in (k := 16) (lo := 0) (hi := 17) (Nat.zero_le _) (by decide) (by decide)).trans ((show cuT T f tp.length hs.length tl.length hd 16 = (sumI f 9 b) from (by obtain rfl : b = xN T := (by omega); exact sumI_cut (fun b h1 h2 => (hK0.2.2 b h1 h2).1) 9 hn9 (Nat.le_refl _))))).symm⟩
        refine lv_iload_n hx hb dX0_count_335 rfl (lv_at hl 1 rfl) ?_
        refine lv_aload_n hx hb dX0_count_336 rfl (lv_at hl 2 rfl) ?_
        refine g_get hx hb hts hown hK hG 0 rfl rfl ok_X0 7 (by decide) q529 rfl rfl dX0_count_337 ?_
        refine g_get hx hb hts hown hK hG 15 rfl rfl ok_X5 0 (by decide) q434 rfl rfl dX0_count_340 ?_
        refine lv_iload_n hx hb dX0_count_343 rfl (lv_at hl 0 rfl) ?_
        refine n_iald hx hb hK hG 16 rfl (by omega) (by decide) dX0_count_344 ?_
        refine iv (y := (f (9 + b))) (hB.1.2.2.1 b (by omega)) ?_
        refine lv_iadd hx hb dX0_count_345 ?_
        refine lv_istore_n (lv' := [(2, .int ((sumI f 9 b) + (f (9 + b)))), (3, .int (nI b)), (0, .ref o), (1, .int (nI 16))]) hx hb dX0_count_346 rfl hl (by decide) rfl (fun ls hl => ?_)
        refine lv_iinc (v := (nI (b + 1))) (lv' := [(3, .int (nI (b + 1))), (2, .int ((sumI f 9 b) + (f (9 + b)))), (0, .ref o), (1, .int (nI 16))]) hx hb dX0_count_347 hl (k := 1) rfl (nI_add _ _) (by decide) rfl (fun ls hl => ?_)
        refine lv_goto (tgt := 327) hx hb dX0_count_350 (by decide) ?_
        exact ih6 (b + 1) _ _ (by omega) (by omega) hS (lv_sub hl [0, 1, 2, 3] rfl)
    exact loop6 ((xN T - 0) + 1) 0 _ _ (Nat.lt_succ_self _) (Nat.zero_le _) hS (lv_sub hl [0, 1, 2, 3] rfl)
