/-! two change beds -/
theorem sw_row {x y j K n : Nat} {g f : Nat → Int32} (hK : K % 9 = 0) (hK4 : K < 45) (hx : x < n) (hy : y < n) (hn : n ≤ 9) (hj : j < n) (hxy : x ≠ y) (h : ∀ i, i < n → g i = f (K + i)) : va_up (va_up g x (g y)) y (g x) j = swF x y f (K + j) := by
  unfold swF
  rw [if_pos (by omega), show (K + j) % 9 = j by omega, show (K + j) / 9 * 9 = K by omega]
  by_cases h1 : j = y
  · subst h1
    rw [va_up_s2, if_neg (by omega), if_pos rfl]
    exact h x hx
  · rw [va_up_n h1]
    by_cases h2 : j = x
    · subst h2
      rw [va_up_s2, if_pos rfl]
      exact h y hy
    · rw [va_up_n h2, if_neg h2, if_neg h1]
      exact h j hj
theorem sw_9 {x y j : Nat} {f : Rw} (hj : j < 9) (hx : x < 9) (hy : y < 9) : swF x y f j = if j = x then f y else if j = y then f x else f j := by
  unfold swF
  rw [if_pos (by omega), show j % 9 = j by omega, show j / 9 * 9 = 0 by omega, Nat.zero_add, Nat.zero_add]
theorem sw_rb_f {n x y : Nat} {f : Rw} (hn : n ≤ 9) (hx : x < n) (hy : y < n) (h : b01 (f x) = b01 (f y)) : rbF f n = rbF (swF x y f) n := by
  apply Nat.eq_of_testBit_eq
  intro j
  rw [rb_tb, rb_tb]
  by_cases hj : j < n
  · rw [sw_9 (by omega) (by omega) (by omega)]
    by_cases h1 : j = x
    · subst h1; rw [if_pos rfl, h]
    · rw [if_neg h1]
      by_cases h2 : j = y
      · subst h2; rw [if_pos rfl, h]
      · rw [if_neg h2]
  · rw [decide_eq_false hj]; rfl
theorem sw_rb_t {n x y : Nat} {f : Rw} (hn : n ≤ 9) (hx : x < n) (hy : y < n) (hxy : x ≠ y) (h : ¬ b01 (f x) = b01 (f y)) : rbF f n ^^^ (1 * 2 ^ x ||| 1 * 2 ^ y) = rbF (swF x y f) n := by
  have a1 := b01_lt (f x)
  have a2 := b01_lt (f y)
  apply Nat.eq_of_testBit_eq
  intro j
  rw [Nat.testBit_xor, Nat.testBit_or, Nat.one_mul, Nat.one_mul, Nat.testBit_two_pow, Nat.testBit_two_pow, rb_tb, rb_tb]
  by_cases hj : j < n
  · rw [sw_9 (by omega) (by omega) (by omega)]
    by_cases h1 : j = x
    · subst h1
      rw [if_pos rfl, decide_eq_true hj, decide_eq_false (show ¬ y = j by omega)]
      rcases (show b01 (f j) = 0 ∧ b01 (f y) = 1 ∨ b01 (f j) = 1 ∧ b01 (f y) = 0 by omega) with ⟨e1, e2⟩ | ⟨e1, e2⟩ <;> rw [e1, e2] <;> simp
    · rw [if_neg h1]
      by_cases h2 : j = y
      · subst h2
        rw [if_pos rfl, decide_eq_true hj, decide_eq_false (show ¬ x = j by omega)]
        rcases (show b01 (f x) = 0 ∧ b01 (f j) = 1 ∨ b01 (f x) = 1 ∧ b01 (f j) = 0 by omega) with ⟨e1, e2⟩ | ⟨e1, e2⟩ <;> rw [e1, e2] <;> simp
      · rw [if_neg h2, decide_eq_false (show ¬ x = j by omega), decide_eq_false (show ¬ y = j by omega)]
        simp
  · rw [decide_eq_false hj, decide_eq_false (show ¬ x = j by omega), decide_eq_false (show ¬ y = j by omega)]
    rfl
theorem up_v {V : GI} {c i : Nat} {x : Int32} {g : Nat → Int32} (h : ∀ j, j < 9 → V c j = g j) : ∀ j, j < 9 → up2 V c i x c j = va_up g i x j := fun j hj => by
  unfold up2 va_up
  rw [if_pos rfl]
  split
  · rfl
  · exact h j hj
theorem rl_none {T : Txt} {f : Rw} {k c : Nat} (h : xL T 0 = none) : bN (rlB T f k c) = if c % 2 = 1 then 1 else 0 := by
  unfold rlB
  rw [h]
  show bN (decide (0 < nI (c % 2))) = _
  rcases (show c % 2 = 0 ∨ c % 2 = 1 by omega) with e | e <;> rw [e] <;> decide
def unB (T : Txt) (f : Rw) (k : Nat) : Bool := decide (¬ bhI (xN T) (xR T) k = -1 ∧ ¬ b01 (lfI f (bhI (xN T) (xR T) k)) = b01 (f k))
theorem cw_X5_153 {R : Room} {s : State} {args : Array Value} (hts : ∀ w ∈ lw_all, w.before args s = true) {f w k j : Nat} (hR : f + 1 ≤ R.frames ∧ 8 + (4 + 11) + w ≤ R.locals) : CallB R s args RX5 153 yX5_swaps cX5_swaps 4 none (ws_ yX5_swaps cX5_swaps 4 none) (mkRmC f w k j) k j 3 ∧ (Cond.static yX5_swaps).before args s = true := va_cwS 3 hts (lw_S q1215 q1216 q119 q1217) rfl rfl rfl (by decide +kernel) hR
set_option maxHeartbeats 4000000 in
theorem met_X5_change (l : Launch) (D : va_G) (dA : Nat → ClassId) {b : Nat} {V : GI} {L : GL} {Rf : GR} {H0 : Heap} (hG : gP D dA b dB V L Rf H0) {n : Nat} {f : Rw} {sd : Int32} (hbM : bkM V n f sd) (hn9 : n ≤ 9) (hrv : RV n f) {x y : Nat} (hx9 : x < n) (hy9 : y < n) (hxy : x ≠ y) : Ctr l D dA yX5_change cX5_change 3 none (mkRm 1 60) [.ref b, .int (nI x), .int (nI y)] H0 (AB b) (QV (fun H1 => ∃ V1, gP D dA b dB V1 L Rf H1 ∧ Eqx PCh V V1 ∧ bkM V1 n (swF x y f) sd)) := by
  obtain ⟨⟨h4, h5, h1, h2⟩, h6, h7, h3, h36⟩ := hbM
  have hb2x := b01_lt (f x)
  have hb2y := b01_lt (f y)
  refine ctr_V (by decide) (Nat.le_of_ble_eq_true rfl) ?_
  intro p e s m args below meth c ls QQ locs hx hb hml hown hts hK hend hS hl
  have hl : lv_has ls 3 [(0, .ref b), (1, .int (nI x)), (2, .int (nI y))] := hl
  refine lv_aload_n hx hb dX5_change_0 rfl (lv_at hl 0 rfl) ?_
  refine g_get hx hb hts hown hK hG 0 rfl rfl ok_X5 0 (by decide) q433 rfl rfl dX5_change_1 ?_
  refine lv_iload_n hx hb dX5_change_4 rfl (lv_at hl 1 rfl) ?_
  refine lv_iload_n hx hb dX5_change_5 rfl (lv_at hl 2 rfl) ?_
  refine c_SV hx hb hml hts hown hK hl.1 hS ⟨Nat.le_refl _, Nat.le_refl _⟩ (met_X5_swaps l D dA (hG 1 _ rfl) (x := x) (y := y) (by omega) (by omega)) (cw_X5_153 hts ⟨Nat.le_of_ble_eq_true rfl, Nat.le_of_ble_eq_true rfl⟩) rfl rfl (Nat.le_of_ble_eq_true rfl) dX5_change_6 (fun z hz => by rw [hz]; exact AB_in 1 (by decide)) (fun H1 locs hq hF hS => ?_)
  have hGn := gP_arr hG (k := 1) rfl hF (fun i hi hk z => by have hi2 : i < 11 := hi; omega) hq
  obtain ⟨V1, hV1⟩ : ∃ W, W = va_up V 1 (va_up (va_up (V 1) x (V 1 y)) y (V 1 x)) := ⟨_, rfl⟩
  rw [← hV1] at hGn
  replace hG := hGn
  have hE1 : Eqx PK1 V V1 := by rw [hV1]; exact eqx_arr PK_ne1
  have hc1 : V1 1 = va_up (va_up (V 1) x (V 1 y)) y (V 1 x) := by rw [hV1, va_up_s]
  clear hGn hV1
  generalize hHe1 : H1 = H at hG hS ⊢
  clear hHe1 hF hq
  refine lv_aload_n hx hb dX5_change_9 rfl (lv_at hl 0 rfl) ?_
  refine g_get hx hb hts hown hK hG 0 rfl rfl ok_X5 1 (by decide) q435 rfl rfl dX5_change_10 ?_
  refine lv_iload_n hx hb dX5_change_13 rfl (lv_at hl 1 rfl) ?_
  refine lv_iload_n hx hb dX5_change_14 rfl (lv_at hl 2 rfl) ?_
  refine c_SV hx hb hml hts hown hK hl.1 hS ⟨Nat.le_refl _, Nat.le_refl _⟩ (met_X5_swaps l D dA (hG 2 _ rfl) (x := x) (y := y) (by omega) (by omega)) (cw_X5_153 hts ⟨Nat.le_of_ble_eq_true rfl, Nat.le_of_ble_eq_true rfl⟩) rfl rfl (Nat.le_of_ble_eq_true rfl) dX5_change_15 (fun z hz => by rw [hz]; exact AB_in 2 (by decide)) (fun H1 locs hq hF hS => ?_)
  have hGn := gP_arr hG (k := 2) rfl hF (fun i hi hk z => by have hi2 : i < 11 := hi; omega) hq
  obtain ⟨V2, hV2⟩ : ∃ W, W = va_up V1 2 (va_up (va_up (V1 2) x (V1 2 y)) y (V1 2 x)) := ⟨_, rfl⟩
  rw [← hV2] at hGn
  replace hG := hGn
  have hE2 : Eqx PK2 V1 V2 := by rw [hV2]; exact eqx_arr PK_ne2
  have hc2 : V2 2 = va_up (va_up (V1 2) x (V1 2 y)) y (V1 2 x) := by rw [hV2, va_up_s]
  clear hGn hV2
  generalize hHe2 : H1 = H at hG hS ⊢
  clear hHe2 hF hq
  refine lv_aload_n hx hb dX5_change_18 rfl (lv_at hl 0 rfl) ?_
  refine g_get hx hb hts hown hK hG 0 rfl rfl ok_X5 2 (by decide) q437 rfl rfl dX5_change_19 ?_
  refine lv_iload_n hx hb dX5_change_22 rfl (lv_at hl 1 rfl) ?_
  refine lv_iload_n hx hb dX5_change_23 rfl (lv_at hl 2 rfl) ?_
  refine c_SV hx hb hml hts hown hK hl.1 hS ⟨Nat.le_refl _, Nat.le_refl _⟩ (met_X5_swaps l D dA (hG 3 _ rfl) (x := x) (y := y) (by omega) (by omega)) (cw_X5_153 hts ⟨Nat.le_of_ble_eq_true rfl, Nat.le_of_ble_eq_true rfl⟩) rfl rfl (Nat.le_of_ble_eq_true rfl) dX5_change_24 (fun z hz => by rw [hz]; exact AB_in 3 (by decide)) (fun H1 locs hq hF hS => ?_)
  have hGn := gP_arr hG (k := 3) rfl hF (fun i hi hk z => by have hi2 : i < 11 := hi; omega) hq
  obtain ⟨V3, hV3⟩ : ∃ W, W = va_up V2 3 (va_up (va_up (V2 3) x (V2 3 y)) y (V2 3 x)) := ⟨_, rfl⟩
  rw [← hV3] at hGn
  replace hG := hGn
  have hE3 : Eqx PK3 V2 V3 := by rw [hV3]; exact eqx_arr PK_ne3
  have hc3 : V3 3 = va_up (va_up (V2 3) x (V2 3 y)) y (V2 3 x) := by rw [hV3, va_up_s]
  clear hGn hV3
  generalize hHe3 : H1 = H at hG hS ⊢
  clear hHe3 hF hq
  refine lv_aload_n hx hb dX5_change_27 rfl (lv_at hl 0 rfl) ?_
  refine g_get hx hb hts hown hK hG 0 rfl rfl ok_X5 3 (by decide) q439 rfl rfl dX5_change_28 ?_
  refine lv_iload_n hx hb dX5_change_31 rfl (lv_at hl 1 rfl) ?_
  refine lv_iload_n hx hb dX5_change_32 rfl (lv_at hl 2 rfl) ?_
  refine c_SV hx hb hml hts hown hK hl.1 hS ⟨Nat.le_refl _, Nat.le_refl _⟩ (met_X5_swaps l D dA (hG 4 _ rfl) (x := x) (y := y) (by omega) (by omega)) (cw_X5_153 hts ⟨Nat.le_of_ble_eq_true rfl, Nat.le_of_ble_eq_true rfl⟩) rfl rfl (Nat.le_of_ble_eq_true rfl) dX5_change_33 (fun z hz => by rw [hz]; exact AB_in 4 (by decide)) (fun H1 locs hq hF hS => ?_)
  have hGn := gP_arr hG (k := 4) rfl hF (fun i hi hk z => by have hi2 : i < 11 := hi; omega) hq
  obtain ⟨V4, hV4⟩ : ∃ W, W = va_up V3 4 (va_up (va_up (V3 4) x (V3 4 y)) y (V3 4 x)) := ⟨_, rfl⟩
  rw [← hV4] at hGn
  replace hG := hGn
  have hE4 : Eqx PK4 V3 V4 := by rw [hV4]; exact eqx_arr PK_ne4
  have hc4 : V4 4 = va_up (va_up (V3 4) x (V3 4 y)) y (V3 4 x) := by rw [hV4, va_up_s]
  clear hGn hV4
  generalize hHe4 : H1 = H at hG hS ⊢
  clear hHe4 hF hq
  refine lv_aload_n hx hb dX5_change_36 rfl (lv_at hl 0 rfl) ?_
  refine lv_iload_n hx hb dX5_change_37 rfl (lv_at hl 1 rfl) ?_
  refine c_VI hx hb hml hts hown hK hl.1 hS ⟨Nat.le_refl _, Nat.le_refl _⟩ (met_X5_isLeft l D dA hG (Eq.trans (Eq.trans (hE4 0 4 rfl) (Eq.trans (hE3 0 4 rfl) (Eq.trans (hE2 0 4 rfl) (hE1 0 4 rfl)))) h4) hn9 (by omega)) (cw_X5_123 hts ⟨Nat.le_of_ble_eq_true rfl, Nat.le_of_ble_eq_true rfl⟩) (hG 0 _ rfl) rfl rfl rfl rfl (Nat.le_of_ble_eq_true rfl) dX5_change_38 (fun _ h => h.elim) (fun r H1 locs hq hF hS => ?_)
  obtain ⟨rfl, rfl⟩ := hq
  have hb2_38 := b01_lt (f x)
  refine lv_aload_n hx hb dX5_change_41 rfl (lv_at hl 0 rfl) ?_
  refine lv_iload_n hx hb dX5_change_42 rfl (lv_at hl 2 rfl) ?_
  refine c_VI hx hb hml hts hown hK hl.1 hS ⟨Nat.le_refl _, Nat.le_refl _⟩ (met_X5_isLeft l D dA hG (Eq.trans (Eq.trans (hE4 0 4 rfl) (Eq.trans (hE3 0 4 rfl) (Eq.trans (hE2 0 4 rfl) (hE1 0 4 rfl)))) h4) hn9 (by omega)) (cw_X5_123 hts ⟨Nat.le_of_ble_eq_true rfl, Nat.le_of_ble_eq_true rfl⟩) (hG 0 _ rfl) rfl rfl rfl rfl (Nat.le_of_ble_eq_true rfl) dX5_change_43 (fun _ h => h.elim) (fun r H1 locs hq hF hS => ?_)
  obtain ⟨rfl, rfl⟩ := hq
  have hb2_43 := b01_lt (f y)
  refine n_icmp_eq (tgt := 65) hx hb dX5_change_46 (by decide) (by omega) (by omega) (fun c46 => ?_) (fun c46 => ?_)
  · refine hend _ _ _ _ hS dX5_change_65 ?_
    exact ⟨rfl, _, hG, ((((hE1.mono PK1_PCh).trans (hE2.mono PK2_PCh)).trans (hE3.mono PK3_PCh)).trans (hE4.mono PK4_PCh)), ⟨⟨Eq.trans (Eq.trans (hE4 0 4 rfl) (Eq.trans (hE3 0 4 rfl) (Eq.trans (hE2 0 4 rfl) (hE1 0 4 rfl)))) (h4.trans (congrArg nI (sw_rb_f hn9 hx9 hy9 c46))), Eq.trans (Eq.trans (hE4 0 5 rfl) (Eq.trans (hE3 0 5 rfl) (Eq.trans (hE2 0 5 rfl) (hE1 0 5 rfl)))) (h5.trans ((show swF x y f 45 = f 45 from if_neg (by decide))).symm), fun j hj => Eq.trans (Eq.trans (hE4 1 j rfl) (Eq.trans (hE3 1 j rfl) (hE2 1 j rfl))) ((congrFun hc1 j).trans (sw_row (K := 9) (n := 9) (by decide) (by decide) (by omega) (by omega) (by omega) (by omega) hxy (fun i hi => Eq.trans rfl (h1 i hi)))), fun j hj => Eq.trans (Eq.trans (hE4 2 j rfl) (hE3 2 j rfl)) ((congrFun hc2 j).trans (sw_row (K := 27) (n := 9) (by decide) (by decide) (by omega) (by omega) (by omega) (by omega) hxy (fun i hi => Eq.trans (hE1 2 i rfl) (h2 i hi))))⟩, Eq.trans (Eq.trans (hE4 0 6 rfl) (Eq.trans (hE3 0 6 rfl) (Eq.trans (hE2 0 6 rfl) (hE1 0 6 rfl)))) (h6.trans ((show swF x y f 46 = f 46 from if_neg (by decide))).symm), Eq.trans (Eq.trans (hE4 0 7 rfl) (Eq.trans (hE3 0 7 rfl) (Eq.trans (hE2 0 7 rfl) (hE1 0 7 rfl)))) h7, fun j hj => Eq.trans (hE4 3 j rfl) ((congrFun hc3 j).trans (sw_row (K := 18) (n := n) (by decide) (by decide) (by omega) (by omega) (by omega) (by omega) hxy (fun i hi => Eq.trans (Eq.trans (hE2 3 i rfl) (hE1 3 i rfl)) (h3 i hi)))), fun j hj => Eq.trans rfl ((congrFun hc4 j).trans (sw_row (K := 36) (n := 9) (by decide) (by decide) (by omega) (by omega) (by omega) (by omega) hxy (fun i hi => Eq.trans (Eq.trans (hE3 4 i rfl) (Eq.trans (hE2 4 i rfl) (hE1 4 i rfl))) (h36 i hi))))⟩⟩
  refine lv_aload_n hx hb dX5_change_49 rfl (lv_at hl 0 rfl) ?_
  refine lv_dup hx hb dX5_change_50 rfl ?_
  refine g_get (v := .int (nI (rbF f n))) hx hb hts hown hK hG 0 rfl rfl ok_X5 4 (by decide) q441 rfl (congrArg Value.int (((hE4 0 4 rfl).trans ((hE3 0 4 rfl).trans ((hE2 0 4 rfl).trans (hE1 0 4 rfl)))).trans h4)) dX5_change_51 ?_
  refine lv_iconst (v := (nI 1)) hx hb dX5_change_54 (by decide) ?_
  refine lv_iload_n hx hb dX5_change_55 rfl (lv_at hl 1 rfl) ?_
  refine n_ishl hx hb dX5_change_56 (by omega) ?_
  refine lv_iconst (v := (nI 1)) hx hb dX5_change_57 (by decide) ?_
  refine lv_iload_n hx hb dX5_change_58 rfl (lv_at hl 2 rfl) ?_
  refine n_ishl hx hb dX5_change_59 (by omega) ?_
  refine n_ior hx hb dX5_change_60 ?_
  refine n_ixor hx hb dX5_change_61 ?_
  refine g_put hx hb hts hown hK hG hS 0 (AB_in 0 (by decide)) rfl rfl ok_X5 4 (by decide) q441 rfl rfl rfl rfl dX5_change_62 (fun H locs hG hO hS => ?_)
  refine hend _ _ _ _ hS dX5_change_65 ?_
  exact ⟨rfl, _, hG, (((((hE1.mono PK1_PCh).trans (hE2.mono PK2_PCh)).trans (hE3.mono PK3_PCh)).trans (hE4.mono PK4_PCh)).up rfl), ⟨⟨Eq.trans (show _ = _ from rfl) (congrArg nI (sw_rb_t hn9 hx9 hy9 hxy c46)), Eq.trans (Eq.trans (hE4 0 5 rfl) (Eq.trans (hE3 0 5 rfl) (Eq.trans (hE2 0 5 rfl) (hE1 0 5 rfl)))) (h5.trans ((show swF x y f 45 = f 45 from if_neg (by decide))).symm), fun j hj => Eq.trans (Eq.trans (hE4 1 j rfl) (Eq.trans (hE3 1 j rfl) (hE2 1 j rfl))) ((congrFun hc1 j).trans (sw_row (K := 9) (n := 9) (by decide) (by decide) (by omega) (by omega) (by omega) (by omega) hxy (fun i hi => Eq.trans rfl (h1 i hi)))), fun j hj => Eq.trans (Eq.trans (hE4 2 j rfl) (hE3 2 j rfl)) ((congrFun hc2 j).trans (sw_row (K := 27) (n := 9) (by decide) (by decide) (by omega) (by omega) (by omega) (by omega) hxy (fun i hi => Eq.trans (hE1 2 i rfl) (h2 i hi))))⟩, Eq.trans (Eq.trans (hE4 0 6 rfl) (Eq.trans (hE3 0 6 rfl) (Eq.trans (hE2 0 6 rfl) (hE1 0 6 rfl)))) (h6.trans ((show swF x y f 46 = f 46 from if_neg (by decide))).symm), Eq.trans (Eq.trans (hE4 0 7 rfl) (Eq.trans (hE3 0 7 rfl) (Eq.trans (hE2 0 7 rfl) (hE1 0 7 rfl)))) h7, fun j hj => Eq.trans (hE4 3 j rfl) ((congrFun hc3 j).trans (sw_row (K := 18) (n := n) (by decide) (by decide) (by omega) (by omega) (by omega) (by omega) hxy (fun i hi => Eq.trans (Eq.trans (hE2 3 i rfl) (hE1 3 i rfl)) (h3 i hi)))), fun j hj => Eq.trans rfl ((congrFun hc4 j).trans (sw_row (K := 36) (n := 9) (by decide) (by decide) (by omega) (by omega) (by omega) (by omega) hxy (fun i hi => Eq.trans (Eq.trans (hE3 4 i rfl) (Eq.trans (hE2 4 i rfl) (hE1 4 i rfl))) (h36 i hi))))⟩⟩
set_option maxHeartbeats 4000000 in
theorem met_X5_liesIn (l : Launch) (D : va_G) (dA : Nat → ClassId) {b : Nat} {V : GI} {L : GL} {Rf : GR} {H0 : Heap} (hG : gP D dA b dB V L Rf H0) {O : Nat → Prop} {tx : Nat} {T : Txt} (hX : txA D dA H0 O tx T) (hOA : ∀ z, O z → ¬ AB b z) (hsd : sdB Rf b) {f : Rw} (hbk : bkA V (xN T) f) (hrv : RV (xN T) f) {k cs : Nat} (hk : k < xN T) (hcs : cs < 8) : Ctr l D dA yX5_liesIn cX5_liesIn 6 (some .boolean) (mkRm 403 9300) [.ref b, .ref tx, .int (nI k), .int (nI (cs % 2)), .int (nI (cs / 2 ^ 1 % 2)), .int (nI (cs / 2 ^ 2))] H0 (AB b) (QI (fun r H1 => r = nI (bN (rlB T f k cs)) ∧ ∃ V1, gP D dA b dB V1 L Rf H1 ∧ Eqx PAs V V1)) := by
  have hX0 := hX
  obtain ⟨al, ls, cd, cb, gc, lw, mc, ea, nc, xo1, xo2, xo3, xo4, xh1, xh2, xh3, xh4, xh5, xh6, hn9⟩ := hX
  refine ctr_Z (by decide) (Nat.le_of_ble_eq_true rfl) ?_
  intro p e s m args below meth c ls QQ locs hx hb hml hown hts hK hend hS hl
  have hl : lv_has ls 6 [(0, .ref b), (1, .ref tx), (2, .int (nI k)), (3, .int (nI (cs % 2))), (4, .int (nI (cs / 2 ^ 1 % 2))), (5, .int (nI (cs / 2 ^ 2)))] := hl
  rcases lwB_c (xh4 0 (by decide)) with ⟨hl0, hw0⟩ | ⟨a0, w0, hl0, hw0, hLw⟩
  · refine lv_aload_n hx hb dX5_liesIn_0 rfl (lv_at hl 1 rfl) ?_
    refine x_get hx hb hts hown hK (va_at_S xh1 hS (hOA _ xo1)) rfl ok_X4 1 (by decide) q354 rfl dX5_liesIn_1 ?_
    refine lv_iconst (v := (nI 0)) hx hb dX5_liesIn_4 (by decide) ?_
    refine xn_aald hx hb hK 8 (va_at_S xh3 hS (hOA _ xo3)) rfl (by decide) (by decide) hl0 dX5_liesIn_5 ?_
    refine lv_ifnonnullN hx hb dX5_liesIn_6 ?_
    refine lv_iload_n hx hb dX5_liesIn_9 rfl (lv_at hl 3 rfl) ?_
    refine lv_iconst (v := (nI 1)) hx hb dX5_liesIn_10 (by decide) ?_
    refine n_icmp_ne (tgt := 18) hx hb dX5_liesIn_11 (by decide) (by omega) (by omega) (fun c11 => ?_) (fun c11 => ?_)
    · refine lv_iconst (v := (nI 0)) hx hb dX5_liesIn_18 (by decide) ?_
      refine hend _ _ _ _ _ hS dX5_liesIn_19 (by decide) ?_
      exact ⟨_, rfl, by rw [rl_none hw0, if_neg (by omega)], _, hG, Eqx.rf⟩
    refine lv_iconst (v := (nI 1)) hx hb dX5_liesIn_14 (by decide) ?_
    refine lv_goto (tgt := 19) hx hb dX5_liesIn_15 (by decide) ?_
    refine hend _ _ _ _ _ hS dX5_liesIn_19 (by decide) ?_
    exact ⟨_, rfl, by rw [rl_none hw0, if_pos (by omega)], _, hG, Eqx.rf⟩
  obtain ⟨hOa0, fsL, hLat⟩ := lwA_at hLw
  refine lv_aload_n hx hb dX5_liesIn_0 rfl (lv_at hl 1 rfl) ?_
  refine x_get hx hb hts hown hK (va_at_S xh1 hS (hOA _ xo1)) rfl ok_X4 1 (by decide) q354 rfl dX5_liesIn_1 ?_
  refine lv_iconst (v := (nI 0)) hx hb dX5_liesIn_4 (by decide) ?_
  refine xn_aald hx hb hK 8 (va_at_S xh3 hS (hOA _ xo3)) rfl (by decide) (by decide) hl0 dX5_liesIn_5 ?_
  refine lv_ifnonnull (tgt := 20) hx hb dX5_liesIn_6 (by decide) ?_
  refine lv_aload_n hx hb dX5_liesIn_20 rfl (lv_at hl 0 rfl) ?_
  refine lv_aload_n hx hb dX5_liesIn_21 rfl (lv_at hl 1 rfl) ?_
  refine lv_iload_n hx hb dX5_liesIn_22 rfl (lv_at hl 2 rfl) ?_
  refine c_VR hx hb hml hts hown hK hl.1 hS ⟨Nat.le_refl _, Nat.le_refl _⟩ (met_X5_asks l D dA hG (txA_S hX0 hS hOA) hOA hsd hbk hrv hk) (cw_X5_114 hts ⟨Nat.le_of_ble_eq_true rfl, Nat.le_of_ble_eq_true rfl⟩) (hG 0 _ rfl) rfl rfl rfl rfl (Nat.le_of_ble_eq_true rfl) dX5_liesIn_23 (fun _ h => h) (fun r H1 locs hq hF hS => ?_)
  obtain ⟨rfl, V1, hG, hE1, hv1⟩ := hq
  generalize hHe1 : H1 = H at hG hS ⊢
  clear hHe1
  refine lv_pop hx hb dX5_liesIn_26 rfl ?_
  refine lv_aload_n hx hb dX5_liesIn_27 rfl (lv_at hl 0 rfl) ?_
  refine g_get hx hb hts hown hK hG 0 rfl rfl ok_X5 10 (by decide) q453 rfl rfl dX5_liesIn_28 ?_
  refine g_get hx hb hts hown hK hG 9 rfl rfl ok_X9 0 (by decide) q425 rfl rfl dX5_liesIn_31 ?_
  refine lv_iconst (v := (nI 0)) hx hb dX5_liesIn_34 (by decide) ?_
  refine lv_iload_n hx hb dX5_liesIn_35 rfl (lv_at hl 3 rfl) ?_
  refine n_iast hx hb hK hG hS 10 (AB_in 10 (by decide)) rfl (by omega) (by decide) dX5_liesIn_36 (fun H locs hG hO hS => ?_)
  refine lv_aload_n hx hb dX5_liesIn_37 rfl (lv_at hl 0 rfl) ?_
  refine g_get hx hb hts hown hK hG 0 rfl rfl ok_X5 10 (by decide) q453 rfl rfl dX5_liesIn_38 ?_
  refine g_get hx hb hts hown hK hG 9 rfl rfl ok_X9 0 (by decide) q425 rfl rfl dX5_liesIn_41 ?_
  refine lv_iconst (v := (nI 1)) hx hb dX5_liesIn_44 (by decide) ?_
  refine lv_iload hx hb dX5_liesIn_45 (lv_at hl 4 rfl) ?_
  refine n_iast hx hb hK hG hS 10 (AB_in 10 (by decide)) rfl (by omega) (by decide) dX5_liesIn_47 (fun H locs hG hO hS => ?_)
  refine lv_aload_n hx hb dX5_liesIn_48 rfl (lv_at hl 0 rfl) ?_
  refine g_get hx hb hts hown hK hG 0 rfl rfl ok_X5 10 (by decide) q453 rfl rfl dX5_liesIn_49 ?_
  refine g_get hx hb hts hown hK hG 9 rfl rfl ok_X9 0 (by decide) q425 rfl rfl dX5_liesIn_52 ?_
  refine lv_iconst (v := (nI 2)) hx hb dX5_liesIn_55 (by decide) ?_
  refine lv_iload hx hb dX5_liesIn_56 (lv_at hl 5 rfl) ?_
  refine n_iast hx hb hK hG hS 10 (AB_in 10 (by decide)) rfl (by omega) (by decide) dX5_liesIn_58 (fun H locs hG hO hS => ?_)
  refine lv_aload_n hx hb dX5_liesIn_59 rfl (lv_at hl 1 rfl) ?_
  refine x_get hx hb hts hown hK (va_at_S xh1 hS (hOA _ xo1)) rfl ok_X4 1 (by decide) q354 rfl dX5_liesIn_60 ?_
  refine lv_iconst (v := (nI 0)) hx hb dX5_liesIn_63 (by decide) ?_
  refine xn_aald hx hb hK 8 (va_at_S xh3 hS (hOA _ xo3)) rfl (by decide) (by decide) hl0 dX5_liesIn_64 ?_
  refine lv_aload_n hx hb dX5_liesIn_65 rfl (lv_at hl 0 rfl) ?_
  refine g_get hx hb hts hown hK hG 0 rfl rfl ok_X5 10 (by decide) q453 rfl rfl dX5_liesIn_66 ?_
  refine c_VI hx hb hml hts hown hK hl.1 hS ⟨Nat.le_refl _, Nat.le_refl _⟩ (met_X14_of l D dA (lwA_S hLw hS hOA) (fun z => hOA _ z (AB_in 9 (by decide))) (asA_of (vars := rlV T f k cs) hG (up_v (up_v (up_v hv1))))) (cw_X5_118 hts ⟨Nat.le_of_ble_eq_true rfl, Nat.le_of_ble_eq_true rfl⟩) (va_at_S hLat hS (hOA _ hOa0)) rfl rfl rfl rfl (Nat.le_of_ble_eq_true rfl) dX5_liesIn_69 (fun _ h => h ▸ AB_in 9 (by decide)) (fun r H1 locs hq hF hS => ?_)
  obtain ⟨rfl, nt2, has2⟩ := hq
  have hG := gP_asked hG hF has2
  generalize hHe2 : H1 = H at hG hS ⊢
  clear hHe2
  refine lv_if_le (tgt := 79) hx hb dX5_liesIn_72 (by decide) (fun c72 => ?_) (fun c72 => ?_)
  · refine lv_iconst (v := (nI 0)) hx hb dX5_liesIn_79 (by decide) ?_
    refine hend _ _ _ _ _ hS dX5_liesIn_80 (by decide) ?_
    exact ⟨_, rfl, by unfold rlB; rw [hw0]; rw [show decide (0 < lwO (rlV T f k cs) (nI (cs % 2)) (some w0)) = false from decide_eq_false (fun z => Int32.not_le.mpr (mx0_pos.mpr z) c72)]; rfl, _, hG, (((((hE1.mono PAk_PAs).up rfl).up rfl).up rfl).up rfl)⟩
  refine lv_iconst (v := (nI 1)) hx hb dX5_liesIn_75 (by decide) ?_
  refine lv_goto (tgt := 80) hx hb dX5_liesIn_76 (by decide) ?_
  refine hend _ _ _ _ _ hS dX5_liesIn_80 (by decide) ?_
  exact ⟨_, rfl, by unfold rlB; rw [hw0]; rw [show decide (0 < lwO (rlV T f k cs) (nI (cs % 2)) (some w0)) = true from decide_eq_true (mx0_pos.mp (Int32.not_le.mp c72))]; rfl, _, hG, (((((hE1.mono PAk_PAs).up rfl).up rfl).up rfl).up rfl)⟩
set_option maxHeartbeats 4000000 in
theorem met_X5_areUnlike (l : Launch) (D : va_G) (dA : Nat → ClassId) {b : Nat} {V : GI} {L : GL} {Rf : GR} {H0 : Heap} (hG : gP D dA b dB V L Rf H0) {O : Nat → Prop} {tx : Nat} {T : Txt} (hX : txA D dA H0 O tx T) (hsd : sdB Rf b) {f : Rw} (hbk : bkA V (xN T) f) (hrv : RV (xN T) f) {k : Nat} (hk : k < xN T) : Ctr l D dA yX5_areUnlike cX5_areUnlike 4 (some .boolean) (mkRm 3 66) [.ref b, .ref tx, .int (nI k)] H0 A0 (QI (fun r H1 => H0 = H1 ∧ r = nI (bN (unB T f k)))) := by
  have hOA : ∀ z, O z → ¬ A0 z := fun _ _ h => h
  have hX0 := hX
  obtain ⟨al, ls, cd, cb, gc, lw, mc, ea, nc, xo1, xo2, xo3, xo4, xh1, xh2, xh3, xh4, xh5, xh6, hn9⟩ := hX
  have hb2k := b01_lt (f k)
  refine ctr_Z (by decide) (Nat.le_of_ble_eq_true rfl) ?_
  intro p e s m args below meth c ls QQ locs hx hb hml hown hts hK hend hS hl
  have hl : lv_has ls 4 [(0, .ref b), (1, .ref tx), (2, .int (nI k))] := hl
  refine lv_aload_n hx hb dX5_areUnlike_0 rfl (lv_at hl 0 rfl) ?_
  refine g_get hx hb hts hown hK hG 0 rfl rfl ok_X5 8 (by decide) q451 rfl rfl dX5_areUnlike_1 ?_
  refine lv_iconst (v := (nI 1)) hx hb dX5_areUnlike_4 (by decide) ?_
  refine xn_aald hx hb hK 7 (hG 5 _ rfl) rfl (by decide) (by decide) hsd.2 dX5_areUnlike_5 ?_
  refine lv_aload_n hx hb dX5_areUnlike_6 rfl (lv_at hl 1 rfl) ?_
  refine lv_iload_n hx hb dX5_areUnlike_7 rfl (lv_at hl 2 rfl) ?_
  refine c_UI hx hb hml hts hown hK hl.1 hS ⟨Nat.le_refl _, Nat.le_refl _⟩ (met_X8_of l D dA (txA_S hX0 hS hOA) (bb := b + 7) hk) (va_cwA 2 hts (lw_U q1132 q1134 q1139 q1140 q122 q1141) rfl rfl rfl (hK.2.1 _ q1133 rfl) (by decide +kernel) ⟨Nat.le_of_ble_eq_true rfl, Nat.le_of_ble_eq_true rfl⟩) (hG 7 _ rfl) rfl rfl rfl rfl (Nat.le_of_ble_eq_true rfl) dX5_areUnlike_8 (fun _ h => h.elim) (fun r H1 locs hq hF hS => ?_)
  obtain ⟨rfl, rfl⟩ := hq
  refine lv_istore_n (lv' := [(3, .int (bhI (xN T) (xR T) k)), (0, .ref b), (1, .ref tx), (2, .int (nI k))]) hx hb dX5_areUnlike_11 rfl hl (by decide) rfl (fun ls hl => ?_)
  rcases bh_sd (n := xN T) (rg := xR T) hk with ho | ⟨z, hz, ho⟩
  · rw [ho] at hl
    refine lv_iload_n hx hb dX5_areUnlike_12 rfl (lv_at hl 0 rfl) ?_
    refine lv_iconst (v := (-1)) hx hb dX5_areUnlike_13 (by decide) ?_
    refine lv_icmp_eq (tgt := 34) hx hb dX5_areUnlike_14 (by decide) (fun _ => ?_) (fun z => absurd (by decide) z)
    refine lv_iconst (v := (nI 0)) hx hb dX5_areUnlike_34 (by decide) ?_
    refine hend _ _ _ _ _ hS dX5_areUnlike_35 (by decide) ?_
    exact ⟨_, rfl, rfl, by unfold unB; rw [decide_eq_false (fun z => z.1 ho)]; rfl⟩
  rw [ho] at hl
  have hb2z := b01_lt (f z)
  refine lv_iload_n hx hb dX5_areUnlike_12 rfl (lv_at hl 0 rfl) ?_
  refine lv_iconst (v := (-1)) hx hb dX5_areUnlike_13 (by decide) ?_
  refine lv_icmp_eq (tgt := 34) hx hb dX5_areUnlike_14 (by decide) (fun z => absurd z (ng_eq (by decide) (by omega))) (fun _ => ?_)
  refine lv_aload_n hx hb dX5_areUnlike_17 rfl (lv_at hl 1 rfl) ?_
  refine lv_iload_n hx hb dX5_areUnlike_18 rfl (lv_at hl 0 rfl) ?_
  refine c_VI hx hb hml hts hown hK hl.1 hS ⟨Nat.le_refl _, Nat.le_refl _⟩ (met_X5_isLeft l D dA hG hbk.1 hn9 (by omega)) (cw_X5_123 hts ⟨Nat.le_of_ble_eq_true rfl, Nat.le_of_ble_eq_true rfl⟩) (hG 0 _ rfl) rfl rfl rfl rfl (Nat.le_of_ble_eq_true rfl) dX5_areUnlike_19 (fun _ h => h.elim) (fun r H1 locs hq hF hS => ?_)
  obtain ⟨rfl, rfl⟩ := hq
  have hb2_19 := b01_lt (f z)
  refine lv_aload_n hx hb dX5_areUnlike_22 rfl (lv_at hl 1 rfl) ?_
  refine lv_iload_n hx hb dX5_areUnlike_23 rfl (lv_at hl 3 rfl) ?_
  refine c_VI hx hb hml hts hown hK hl.1 hS ⟨Nat.le_refl _, Nat.le_refl _⟩ (met_X5_isLeft l D dA hG hbk.1 hn9 (by omega)) (cw_X5_123 hts ⟨Nat.le_of_ble_eq_true rfl, Nat.le_of_ble_eq_true rfl⟩) (hG 0 _ rfl) rfl rfl rfl rfl (Nat.le_of_ble_eq_true rfl) dX5_areUnlike_24 (fun _ h => h.elim) (fun r H1 locs hq hF hS => ?_)
  obtain ⟨rfl, rfl⟩ := hq
  have hb2_24 := b01_lt (f k)
  refine n_icmp_eq (tgt := 34) hx hb dX5_areUnlike_27 (by decide) (by omega) (by omega) (fun c27 => ?_) (fun c27 => ?_)
  · refine lv_iconst (v := (nI 0)) hx hb dX5_areUnlike_34 (by decide) ?_
    refine hend _ _ _ _ _ hS dX5_areUnlike_35 (by decide) ?_
    exact ⟨_, rfl, rfl, by unfold unB; rw [ho, lfI_n (by omega), decide_eq_false (fun q => q.2 c27)]; rfl⟩
  refine lv_iconst (v := (nI 1)) hx hb dX5_areUnlike_30 (by decide) ?_
  refine lv_goto (tgt := 35) hx hb dX5_areUnlike_31 (by decide) ?_
  refine hend _ _ _ _ _ hS dX5_areUnlike_35 (by decide) ?_
  exact ⟨_, rfl, rfl, by unfold unB; rw [ho, lfI_n (by omega), decide_eq_true ⟨ng_ne (by decide) (by omega), c27⟩]; rfl⟩
