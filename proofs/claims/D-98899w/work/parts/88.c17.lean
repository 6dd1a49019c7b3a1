def PPa (k _ : Nat) : Bool := decide (82 ≤ k)
def PSl (k _ : Nat) : Bool := decide (39 ≤ k) && decide (k < 72)
def PKe (k j : Nat) : Bool := decide (82 ≤ k) || (k == 0 && (j == 5 || j == 6))
def PHo (k _ : Nat) : Bool := (decide (39 ≤ k) && decide (k < 72)) || k == 74
def PAc (k j : Nat) : Bool := (decide (15 ≤ k) && decide (k < 37)) || decide (82 ≤ k) || (k == 0 && (j == 5 || j == 6))
theorem PPa_PKe : ∀ k j, PKe k j = false → PPa k j = false := by intro k j h; simp only [PPa, PKe, PT15, PT26, PBk, Bool.or_eq_false_iff, Bool.and_eq_false_iff, beq_eq_false_iff_ne, ne_eq, decide_eq_false_iff_not] at *; omega
theorem PSl_PHo : ∀ k j, PHo k j = false → PSl k j = false := by intro k j h; simp only [PSl, PHo, PT15, PT26, PBk, Bool.or_eq_false_iff, Bool.and_eq_false_iff, beq_eq_false_iff_ne, ne_eq, decide_eq_false_iff_not] at *; omega
theorem PKe_PAc : ∀ k j, PAc k j = false → PKe k j = false := by intro k j h; simp only [PKe, PAc, PT15, PT26, PBk, Bool.or_eq_false_iff, Bool.and_eq_false_iff, beq_eq_false_iff_ne, ne_eq, decide_eq_false_iff_not] at *; omega
theorem PPa_PAc : ∀ k j, PAc k j = false → PPa k j = false := by intro k j h; simp only [PPa, PAc, PT15, PT26, PBk, Bool.or_eq_false_iff, Bool.and_eq_false_iff, beq_eq_false_iff_ne, ne_eq, decide_eq_false_iff_not] at *; omega
theorem PT15_PAc : ∀ k j, PAc k j = false → PT15 k j = false := by intro k j h; simp only [PT15, PAc, PT15, PT26, PBk, Bool.or_eq_false_iff, Bool.and_eq_false_iff, beq_eq_false_iff_ne, ne_eq, decide_eq_false_iff_not] at *; omega
theorem PT26_PAc : ∀ k j, PAc k j = false → PT26 k j = false := by intro k j h; simp only [PT26, PAc, PT15, PT26, PBk, Bool.or_eq_false_iff, Bool.and_eq_false_iff, beq_eq_false_iff_ne, ne_eq, decide_eq_false_iff_not] at *; omega
theorem PKe_15 : ∀ k j, k ≤ 4 → PKe (15 + k) j = false := by intro k j h; simp only [PKe, Bool.or_eq_false_iff, Bool.and_eq_false_iff, beq_eq_false_iff_ne, ne_eq, decide_eq_false_iff_not]; omega
theorem PPa_15 : ∀ k j, k ≤ 4 → PPa (15 + k) j = false := by intro k j h; simp only [PPa, Bool.or_eq_false_iff, Bool.and_eq_false_iff, beq_eq_false_iff_ne, ne_eq, decide_eq_false_iff_not]; omega
theorem PHo_15 : ∀ k j, k ≤ 4 → PHo (15 + k) j = false := by intro k j h; simp only [PHo, Bool.or_eq_false_iff, Bool.and_eq_false_iff, beq_eq_false_iff_ne, ne_eq, decide_eq_false_iff_not]; omega
theorem PSl_15 : ∀ k j, k ≤ 4 → PSl (15 + k) j = false := by intro k j h; simp only [PSl, Bool.or_eq_false_iff, Bool.and_eq_false_iff, beq_eq_false_iff_ne, ne_eq, decide_eq_false_iff_not]; omega

theorem PBk_PPa {kb : Nat} (h : 82 ≤ kb) : ∀ k j, PPa k j = false → PBk kb k j = false := by intro k j h2; simp only [PPa, PBk, Bool.and_eq_false_iff, decide_eq_false_iff_not] at *; omega
theorem PBk_PSl {kb : Nat} (h : 39 ≤ kb ∧ kb + 11 ≤ 72) : ∀ k j, PSl k j = false → PBk kb k j = false := by intro k j h2; simp only [PSl, PBk, Bool.and_eq_false_iff, decide_eq_false_iff_not] at *; omega
/-- the rows kept -/
def paP (V : GI) (n : Nat) (sd : Int32) (hs : List Rw) : Prop := ∃ a, a < 40 ∧ hs.length ≤ 40 ∧ V 0 5 = nI hs.length ∧ V 0 6 = nI a ∧ ∀ i g, hs[i]? = some g → bkS V (82 + 11 * ((a + 40 - hs.length + i) % 40)) n g sd
theorem paP_to {V V1 : GI} {n : Nat} {sd : Int32} {hs : List Rw} (h5 : V1 0 5 = V 0 5) (h6 : V1 0 6 = V 0 6) (ho : ∀ k j, 82 ≤ k → V1 k j = V k j) (h : paP V n sd hs) : paP V1 n sd hs := by
  obtain ⟨a, ha, hl, e5, e6, hb⟩ := h
  exact ⟨a, ha, hl, h5.trans e5, h6.trans e6, fun i g hi => bkS_to (fun k j _ => ho _ j (by omega)) (hb i g hi)⟩
theorem pa_keep {V V1 : GI} {n a : Nat} {sd : Int32} {hs : List Rw} {f : Rw} (ha : a < 40) (hl : hs.length ≤ 40) (hb : ∀ i g, hs[i]? = some g → bkS V (82 + 11 * ((a + 40 - hs.length + i) % 40)) n g sd) (hf : bkS V1 (82 + 11 * a) n f sd) (ho : ∀ t, t < 40 → t ≠ a → ∀ k j, k ≤ 4 → V1 (82 + 11 * t + k) j = V (82 + 11 * t + k) j) (h5 : V1 0 5 = nI (if hs.length + 1 < 40 then hs.length + 1 else 40)) (h6 : V1 0 6 = nI ((a + 1) % 40)) : paP V1 n sd (phF hs f) := by
  by_cases h40 : hs.length = 40
  · have e : phF hs f = hs.drop 1 ++ [f] := by unfold phF; rw [if_pos h40]
    have el : (phF hs f).length = 40 := by rw [e]; simp; omega
    refine ⟨(a + 1) % 40, Nat.mod_lt _ (by decide), by omega, by rw [h5, el, if_neg (by omega)], h6, fun i g hi => ?_⟩
    rw [el]
    rw [e] at hi
    by_cases hi9 : i < 39
    · rw [List.getElem?_append_left (by simp; omega), List.getElem?_drop] at hi
      have hq := hb (1 + i) g hi
      rw [show ((a + 1) % 40 + 40 - 40 + i) % 40 = (a + 40 - hs.length + (1 + i)) % 40 by omega]
      exact bkS_to (fun k j hk => ho _ (Nat.mod_lt _ (by decide)) (by omega) k j hk) hq
    · rw [List.getElem?_append_right (by simp; omega)] at hi
      have h0 := (List.getElem?_eq_some_iff.mp hi).1
      have hi0 : i = 39 := by simp at h0; omega
      subst hi0
      rw [show 39 - (hs.drop 1).length = 0 by simp; omega] at hi
      cases hi
      rw [show ((a + 1) % 40 + 40 - 40 + 39) % 40 = a by omega]
      exact hf
  · have e : phF hs f = hs ++ [f] := by unfold phF; rw [if_neg h40]
    have el : (phF hs f).length = hs.length + 1 := by rw [e]; simp
    refine ⟨(a + 1) % 40, Nat.mod_lt _ (by decide), by omega, ?_, h6, fun i g hi => ?_⟩
    · rw [h5, el]; congr 1; split <;> omega
    rw [el]
    rw [e] at hi
    by_cases hi9 : i < hs.length
    · rw [List.getElem?_append_left hi9] at hi
      have hq := hb i g hi
      rw [show ((a + 1) % 40 + 40 - (hs.length + 1) + i) % 40 = (a + 40 - hs.length + i) % 40 by omega]
      exact bkS_to (fun k j hk => ho _ (Nat.mod_lt _ (by decide)) (by omega) k j hk) hq
    · rw [List.getElem?_append_right (by omega)] at hi
      have h0 := (List.getElem?_eq_some_iff.mp hi).1
      have hi0 : i = hs.length := by simp at h0; omega
      subst hi0
      rw [Nat.sub_self] at hi
      cases hi
      rw [show ((a + 1) % 40 + 40 - (hs.length + 1) + hs.length) % 40 = a by omega]
      exact hf
theorem pa_undo {V V1 : GI} {n a : Nat} {sd : Int32} {hs : List Rw} (ha : a < 40) (hl : hs.length ≤ 40) (h0 : 0 < hs.length) (hb : ∀ i g, hs[i]? = some g → bkS V (82 + 11 * ((a + 40 - hs.length + i) % 40)) n g sd) (ho : ∀ k j, 82 ≤ k → V1 k j = V k j) (h5 : V1 0 5 = nI (hs.length - 1)) (h6 : V1 0 6 = nI ((a + 40 - 1) % 40)) : paP V1 n sd hs.dropLast := by
  refine ⟨(a + 40 - 1) % 40, Nat.mod_lt _ (by decide), by simp; omega, by rw [h5]; simp, h6, fun i g hi => ?_⟩
  have hi1 : i < hs.length - 1 := by have := (List.getElem?_eq_some_iff.mp hi).1; simp at this; omega
  rw [List.getElem?_dropLast, if_pos hi1] at hi
  have hq := hb i g hi
  rw [show ((a + 40 - 1) % 40 + 40 - hs.dropLast.length + i) % 40 = (a + 40 - hs.length + i) % 40 by simp; omega]
  exact bkS_to (fun k j _ => ho _ j (by omega)) hq
theorem pa_last {V : GI} {n a : Nat} {sd : Int32} {hs : List Rw} (ha : a < 40) (hl : hs.length ≤ 40) (h0 : 0 < hs.length) (hb : ∀ i g, hs[i]? = some g → bkS V (82 + 11 * ((a + 40 - hs.length + i) % 40)) n g sd) : ∃ g, hs.getLast? = some g ∧ bkS V (82 + 11 * ((a + 40 - 1) % 40)) n g sd := by
  obtain ⟨g, hg⟩ : ∃ g, hs[hs.length - 1]? = some g := ⟨_, List.getElem?_eq_getElem (by omega)⟩
  have hq := hb _ g hg
  rw [show (a + 40 - hs.length + (hs.length - 1)) % 40 = (a + 40 - 1) % 40 by omega] at hq
  exact ⟨g, by rw [List.getLast?_eq_getElem?]; exact hg, hq⟩
/-- the row changes where it stands -/
theorem bkS_row2 {V V1 : GI} {kb n x : Nat} {f g : Rw} {sd : Int32} (hn : n ≤ 9) (hg : ∀ j, n ≤ j → g j = f j) (hx : rbF g n = x) (hb : bkS V kb n f sd) (h4 : V1 kb 4 = nI x) (ho : ∀ k j, k ≤ 4 → ¬ (k = 0 ∧ j = 4) → V1 (kb + k) j = V (kb + k) j) : bkS V1 kb n g sd := by
  obtain ⟨⟨a4, a5, a1, a2⟩, a6, a7, a3, a36⟩ := hb
  exact ⟨⟨h4.trans (congrArg nI hx.symm), (ho 0 5 (by decide) (by decide)).trans (a5.trans (hg 45 (by omega)).symm), fun j hj => (ho 1 j (by decide) (by omega)).trans ((a1 j hj).trans (hg _ (by omega)).symm), fun j hj => (ho 2 j (by decide) (by omega)).trans ((a2 j hj).trans (hg _ (by omega)).symm)⟩, (ho 0 6 (by decide) (by decide)).trans (a6.trans (hg 46 (by omega)).symm), (ho 0 7 (by decide) (by decide)).trans a7, fun j hj => (ho 3 j (by decide) (by omega)).trans ((a3 j hj).trans (hg _ (by omega)).symm), fun j hj => (ho 4 j (by decide) (by omega)).trans ((a36 j hj).trans (hg _ (by omega)).symm)⟩
theorem b01_not {n j : Nat} {f : Rw} (hrv : RV n f) (hj : j < n) : decide (b01 (nI 1 - f j) = 1) = !decide (b01 (f j) = 1) := by
  have e := hrv j hj
  have h2 := b01_lt (f j)
  rcases (show b01 (f j) = 0 ∨ b01 (f j) = 1 by omega) with h | h
  · rw [h] at e; rw [e]; decide
  · rw [h] at e; rw [e]; decide
theorem tn_rb {n b : Nat} {f : Rw} (hn : n ≤ 9) (hrv : RV n f) (hb : b < n) : rbF (tnF b f) n = rbF f n ^^^ 1 * 2 ^ b := by
  apply Nat.eq_of_testBit_eq
  intro j
  rw [Nat.testBit_xor, rb_tb, rb_tb, Nat.one_mul, Nat.testBit_two_pow]
  by_cases hj : j < n
  · by_cases e : b = j
    · subst e
      have e1 : tnF b f b = nI 1 - f b := by unfold tnF; rw [va_up_n (by omega), va_up_s2]
      rw [e1, b01_not hrv hb, decide_eq_true hj]
      simp
    · have e1 : tnF b f j = f j := by unfold tnF; rw [va_up_n (by omega), va_up_n (by omega)]
      rw [e1, decide_eq_false e, Bool.xor_false]
  · rw [decide_eq_false hj, decide_eq_false (show ¬ b = j by omega)]; rfl
theorem wh_rb {n : Nat} {f : Rw} (hrv : RV n f) : rbF (whF n f) n = rbF f n ^^^ (2 ^ n - 1) := by
  apply Nat.eq_of_testBit_eq
  intro j
  rw [Nat.testBit_xor, rb_tb, rb_tb, Nat.testBit_two_pow_sub_one]
  by_cases hj : j < n
  · have e1 : whF n f j = nI 1 - f j := if_pos hj
    rw [e1, b01_not hrv hj, decide_eq_true hj]
    simp
  · rw [decide_eq_false hj]; rfl
theorem bk_turn {V V1 : GI} {kb n b : Nat} {f : Rw} {sd : Int32} (hn : n ≤ 9) (hrv : RV n f) (hb9 : b < n) (hb : bkS V kb n f sd) (h4 : V1 kb 4 = nI (rbF f n ^^^ 1 * 2 ^ b)) (h36 : V1 (kb + 4) b = f (36 + b) + nI 1) (ho : ∀ k j, k ≤ 4 → ¬ (k = 0 ∧ j = 4) → ¬ (k = 4 ∧ j = b) → V1 (kb + k) j = V (kb + k) j) : bkS V1 kb n (tnF b f) sd := by
  obtain ⟨⟨a4, a5, a1, a2⟩, a6, a7, a3, a36⟩ := hb
  have hg : ∀ j, n ≤ j → j ≠ 36 + b → tnF b f j = f j := fun j h1 h2 => by unfold tnF; rw [va_up_n (by omega), va_up_n (by omega)]
  have hs : tnF b f (36 + b) = f (36 + b) + nI 1 := by unfold tnF; rw [va_up_s2]
  refine ⟨⟨h4.trans (congrArg nI (tn_rb hn hrv hb9).symm), (ho 0 5 (by decide) (by decide) (by omega)).trans (a5.trans (hg 45 (by omega) (by omega)).symm), fun j hj => (ho 1 j (by decide) (by omega) (by omega)).trans ((a1 j hj).trans (hg _ (by omega) (by omega)).symm), fun j hj => (ho 2 j (by decide) (by omega) (by omega)).trans ((a2 j hj).trans (hg _ (by omega) (by omega)).symm)⟩, (ho 0 6 (by decide) (by decide) (by omega)).trans (a6.trans (hg 46 (by omega) (by omega)).symm), (ho 0 7 (by decide) (by decide) (by omega)).trans a7, fun j hj => (ho 3 j (by decide) (by omega) (by omega)).trans ((a3 j hj).trans (hg _ (by omega) (by omega)).symm), fun j hj => ?_⟩
  by_cases e : j = b
  · subst e; exact h36.trans hs.symm
  · exact (ho 4 j (by decide) (by omega) (by omega)).trans ((a36 j hj).trans (hg _ (by omega) (by omega)).symm)
theorem PT15_82 : ∀ k j, 82 ≤ k → PT15 k j = false := by intro k j h; simp only [PT15, PBk, Bool.and_eq_false_iff, decide_eq_false_iff_not]; omega
set_option maxHeartbeats 4000000 in
theorem met_X0_keeps (l : Launch) (D : va_G) (dA : Nat → ClassId) {o : Nat} {V : GI} {L : GL} {Rf : GR} {H0 : Heap} (hG : gP D dA o dS V L Rf H0) {O : Nat → Prop} {tx : Nat} {T : Txt} {f : Rw} (hC : clS D dA H0 O o V Rf tx T f) (hOA : ∀ z, O z → ¬ AS o z) {hs : List Rw} (hpa : paP V (xN T) (xS T) hs) (hpr : ∀ j, j < 40 → Rf 37 j = some (o + (82 + 11 * j))) : Ctr l D dA yX0_keeps cX0_keeps 1 none (mkRm 4 200) [.ref o] H0 (AS o) (QV (fun H1 => ∃ V1, gP D dA o dS V1 L Rf H1 ∧ Eqx PKe V V1 ∧ paP V1 (xN T) (xS T) (phF hs f))) := by
  have hC0 := hC
  obtain ⟨hX, htx, hB, hrv, hsd1, hsd2⟩ := hC
  have hX0 := hX
  have hn9 := txA_n hX
  have hp2 := two9 hn9
  have hpp := Nat.two_pow_pos (xN T)
  obtain ⟨a, ha, hl40, h5, h6, hpb⟩ := hpa
  refine ctr_V (by decide) (Nat.le_of_ble_eq_true rfl) ?_
  intro p e s m args below meth c ls QQ locs hx hb hml hown hts hK hend hS hl
  have hl : lv_has ls 1 [(0, .ref o)] := hl
  refine lv_aload_n hx hb dX0_keeps_0 rfl (lv_at hl 0 rfl) ?_
  refine g_get hx hb hts hown hK hG 0 rfl rfl ok_X0 9 (by decide) q531 rfl rfl dX0_keeps_1 ?_
  refine lv_aload_n hx hb dX0_keeps_4 rfl (lv_at hl 0 rfl) ?_
  refine g_get (v := .int (nI a)) hx hb hts hown hK hG 0 rfl rfl ok_X0 6 (by decide) q528 rfl (congrArg Value.int h6) dX0_keeps_5 ?_
  refine xn_aald hx hb hK 6 (hG 37 _ rfl) rfl (by omega) (by decide) (hpr (a) (by omega)) dX0_keeps_8 ?_
  refine lv_aload_n hx hb dX0_keeps_9 rfl (lv_at hl 0 rfl) ?_
  refine g_get hx hb hts hown hK hG 0 rfl rfl ok_X0 7 (by decide) q529 rfl rfl dX0_keeps_10 ?_
  refine c_VV hx hb hml hts hown hK hl.1 hS ⟨Nat.le_refl _, Nat.le_refl _⟩ (met_X5_takes l D dA (gP_view hG (isBp ha)) (gP_view hG isB15) (by omega)) (cw_X0_193 hts ⟨Nat.le_of_ble_eq_true rfl, Nat.le_of_ble_eq_true rfl⟩) ((gP_view hG (isBp ha)) 0 _ rfl) rfl rfl rfl rfl (Nat.le_of_ble_eq_true rfl) dX0_keeps_13 (fun z hz => hz.elim (AB_AS (isBp ha) z) (AB_AS isB15 z)) (fun H1 locs hq hF hS => ?_)
  obtain ⟨W1, hGv, hGc, hEv, hc9, hc4, hc5, hc6, hc7⟩ := hq
  obtain ⟨V1, hV1⟩ : ∃ X, X = spl V (82 + 11 * a) W1 := ⟨_, rfl⟩
  have hGn := gP_back2 hG (isBp ha) isB15 hF hGv hGc
  rw [← hV1] at hGn
  replace hG := hGn
  have hE1 : Eqx PPa V V1 := by rw [hV1]; exact spl_eqx.mono (PBk_PPa (by omega))
  have hb1 : bkS V1 (82 + 11 * a) (xN T) (f) (xS T) := by rw [hV1]; exact bkS_spl (bkM_cp hn9 hB hc9 hc4 hc5 hc6 hc7)
  have ho1 : ∀ t, t < 40 → t ≠ a → ∀ k j, k ≤ 4 → V1 (82 + 11 * t + k) j = V (82 + 11 * t + k) j := fun t _ hn k j hk => by rw [hV1]; exact spl_out (by omega)
  clear hGn hGv hGc hEv hc9 hc4 hc5 hc6 hc7 hV1
  generalize hHe1 : H1 = H at hG hS ⊢
  clear hHe1 hF
  refine lv_aload_n hx hb dX0_keeps_16 rfl (lv_at hl 0 rfl) ?_
  refine lv_aload_n hx hb dX0_keeps_17 rfl (lv_at hl 0 rfl) ?_
  refine g_get (v := .int (nI a)) hx hb hts hown hK hG 0 rfl rfl ok_X0 6 (by decide) q528 rfl (congrArg Value.int ((hE1 0 6 rfl).trans h6)) dX0_keeps_18 ?_
  refine lv_iconst (v := (nI 1)) hx hb dX0_keeps_21 (by decide) ?_
  refine n_iadd hx hb dX0_keeps_22 ?_
  refine lv_bipush (v := (nI 40)) hx hb dX0_keeps_23 (by decide) ?_
  refine n_irem hx hb dX0_keeps_25 (by omega) (by omega) (by omega) ?_
  refine g_put hx hb hts hown hK hG hS 0 (AS_in 0 (by decide)) rfl rfl ok_X0 6 (by decide) q528 rfl rfl rfl rfl dX0_keeps_26 (fun H locs hG hO hS => ?_)
  refine lv_aload_n hx hb dX0_keeps_29 rfl (lv_at hl 0 rfl) ?_
  refine lv_bipush (v := (nI 40)) hx hb dX0_keeps_30 (by decide) ?_
  refine lv_aload_n hx hb dX0_keeps_32 rfl (lv_at hl 0 rfl) ?_
  refine g_get (v := .int (nI hs.length)) hx hb hts hown hK hG 0 rfl rfl ok_X0 5 (by decide) q527 rfl (congrArg Value.int ((hE1 0 5 rfl).trans h5)) dX0_keeps_33 ?_
  refine lv_iconst (v := (nI 1)) hx hb dX0_keeps_36 (by decide) ?_
  refine n_iadd hx hb dX0_keeps_37 ?_
  refine va_mmin hx hb (hml.trans hl.1.symm) hown (hts _ q1194) (hts _ q908) (hts _ q142) (hts _ q909) (Nat.le_of_ble_eq_true rfl) (Nat.le_of_ble_eq_true rfl) (Nat.le_refl _) (Nat.le_refl _) dX0_keeps_38 ?_
  refine iv (y := nI (if hs.length + 1 < 40 then hs.length + 1 else 40)) (mn_n (by omega) (by omega)) ?_
  refine g_put hx hb hts hown hK hG hS 0 (AS_in 0 (by decide)) rfl rfl ok_X0 5 (by decide) q527 rfl rfl rfl rfl dX0_keeps_41 (fun H locs hG hO hS => ?_)
  refine hend _ _ _ _ hS dX0_keeps_44 ?_
  exact ⟨rfl, _, hG, (((hE1.mono PPa_PKe).up rfl).up rfl), pa_keep ha hl40 hpb (bkS_to (fun k j _ => (up2_n (fun z => by omega)).trans (up2_n (fun z => by omega))) hb1) (fun t h1 h2 k j hk => ((up2_n (fun z => by omega)).trans (up2_n (fun z => by omega))).trans (ho1 t h1 h2 k j hk)) rfl rfl⟩
theorem cw_X0_197 {R : Room} {s : State} {args : Array Value} (hts : ∀ w ∈ lw_all, w.before args s = true) {f w k j : Nat} (hR : f + 1 ≤ R.frames ∧ 8 + (1 + 11) + w ≤ R.locals) : CallW R s args RX0 RX0 197 yX0_keeps cX0_keeps 1 none (ws_ yX0_keeps cX0_keeps 1 none) (mkRmC f w k j) k j 0 := cwV 0 hts (lw_V q1182 q1184 qs33 q108 q1185) rfl rfl rfl (by decide +kernel) hR
set_option maxHeartbeats 4000000 in
theorem met_X0_turn (l : Launch) (D : va_G) (dA : Nat → ClassId) {o : Nat} {V : GI} {L : GL} {Rf : GR} {H0 : Heap} (hG : gP D dA o dS V L Rf H0) {O : Nat → Prop} {tx : Nat} {T : Txt} {f : Rw} (hC : clS D dA H0 O o V Rf tx T f) (hOA : ∀ z, O z → ¬ AS o z) {hs : List Rw} (hpa : paP V (xN T) (xS T) hs) (hpr : ∀ j, j < 40 → Rf 37 j = some (o + (82 + 11 * j))) (v1 : Int32) : Ctr l D dA yX0_turn cX0_turn 2 (some .boolean) (mkRm 5 260) [.ref o, .int v1] H0 (AS o) (QI (fun r H1 => ∃ V1, gP D dA o dS V1 L Rf H1 ∧ Eqx PAc V V1 ∧ r = (turnS T f hs v1).1 ∧ bkS V1 15 (xN T) (turnS T f hs v1).2.1 (xS T) ∧ paP V1 (xN T) (xS T) (turnS T f hs v1).2.2)) := by
  have hC0 := hC
  obtain ⟨hX, htx, hB, hrv, hsd1, hsd2⟩ := hC
  have hX0 := hX
  have hn9 := txA_n hX
  have hp2 := two9 hn9
  have hpp := Nat.two_pow_pos (xN T)
  obtain ⟨fsx, hatx⟩ := txA_at hX
  have hotx := txA_o hX
  refine ctr_Z (by decide) (Nat.le_of_ble_eq_true rfl) ?_
  intro p e s m args below meth c ls QQ locs hx hb hml hown hts hK hend hS hl
  have hl : lv_has ls 2 [(0, .ref o), (1, .int v1)] := hl
  refine lv_aload_n hx hb dX0_turn_0 rfl (lv_at hl 0 rfl) ?_
  refine lv_iload_n hx hb dX0_turn_1 rfl (lv_at hl 1 rfl) ?_
  refine c_VI hx hb hml hts hown hK hl.1 hS ⟨Nat.le_refl _, Nat.le_refl _⟩ (met_X0_isBed l D dA hG (txA_S hX0 hS hOA) htx v1) (cw_X0_150 hts ⟨Nat.le_of_ble_eq_true rfl, Nat.le_of_ble_eq_true rfl⟩) (hG 0 _ rfl) rfl rfl rfl rfl (Nat.le_of_ble_eq_true rfl) dX0_turn_2 (fun _ h => h.elim) (fun r H1 locs hq hF hS => ?_)
  obtain ⟨rfl, rfl⟩ := hq
  rcases (bedN_cases hn9 v1).symm with ⟨hz2, ho2⟩ | ⟨x1, hlo_x1, hhi_x1, rfl, hz2⟩
  · refine iv (y := nI 0) hz2 ?_
    refine n_if_ne (tgt := 10) hx hb dX0_turn_5 (by decide) (by decide) (fun z => absurd z (by decide)) (fun _ => ?_)
    refine lv_iconst (v := (nI 0)) hx hb dX0_turn_8 (by decide) ?_
    refine hend _ _ _ _ _ hS dX0_turn_9 (by decide) ?_
    have hans : turnS T f hs v1 = (nI 0, f, hs) := (ho2.2 _ _ _).trans (rfl)
    rw [hans]
    exact ⟨_, rfl, _, hG, Eqx.rf, rfl, hB, hpa⟩
  refine iv (y := nI 1) hz2 ?_
  have hl : lv_has ls 2 [(0, .ref o), (1, .int (nI x1))] := hl
  refine n_if_ne (tgt := 10) hx hb dX0_turn_5 (by decide) (by decide) (fun _ => ?_) (fun z => absurd z (by decide))
  refine lv_aload_n hx hb dX0_turn_10 rfl (lv_at hl 0 rfl) ?_
  refine c_VV hx hb hml hts hown hK hl.1 hS ⟨Nat.le_refl _, Nat.le_refl _⟩ (met_X0_keeps l D dA hG (clS_E hC0 hS hOA Eqx.rf) hOA hpa hpr) (cw_X0_197 hts ⟨Nat.le_of_ble_eq_true rfl, Nat.le_of_ble_eq_true rfl⟩) (hG 0 _ rfl) rfl rfl rfl rfl (Nat.le_of_ble_eq_true rfl) dX0_turn_11 (fun _ h => h) (fun H1 locs hq hF hS => ?_)
  obtain ⟨V1, hG, hE1, hpa1⟩ := hq
  generalize hHe1 : H1 = H at hG hS ⊢
  clear hHe1 hF
  refine lv_aload_n hx hb dX0_turn_14 rfl (lv_at hl 0 rfl) ?_
  refine g_get hx hb hts hown hK hG 0 rfl rfl ok_X0 7 (by decide) q529 rfl rfl dX0_turn_15 ?_
  refine lv_dup hx hb dX0_turn_18 rfl ?_
  refine g_get (v := .int (nI (rbF f (xN T)))) hx hb hts hown hK hG 15 rfl rfl ok_X5 4 (by decide) q442 rfl (congrArg Value.int ((hE1 15 4 rfl).trans hB.1.1)) dX0_turn_19 ?_
  refine lv_iconst (v := (nI 1)) hx hb dX0_turn_22 (by decide) ?_
  refine lv_iload_n hx hb dX0_turn_23 rfl (lv_at hl 1 rfl) ?_
  refine n_ishl hx hb dX0_turn_24 (by omega) ?_
  refine n_ixor hx hb dX0_turn_25 ?_
  refine g_put hx hb hts hown hK hG hS 15 (AS_in 15 (by decide)) rfl rfl ok_X5 4 (by decide) q442 rfl rfl rfl rfl dX0_turn_26 (fun H locs hG hO hS => ?_)
  refine lv_aload_n hx hb dX0_turn_29 rfl (lv_at hl 0 rfl) ?_
  refine g_get hx hb hts hown hK hG 0 rfl rfl ok_X0 7 (by decide) q529 rfl rfl dX0_turn_30 ?_
  refine g_get hx hb hts hown hK hG 15 rfl rfl ok_X5 3 (by decide) q440 rfl rfl dX0_turn_33 ?_
  refine lv_iload_n hx hb dX0_turn_36 rfl (lv_at hl 1 rfl) ?_
  refine lv_dup2_11 hx hb dX0_turn_37 rfl rfl ?_
  refine n_iald hx hb hK hG 19 rfl (by omega) (by decide) dX0_turn_38 ?_
  refine iv (y := (f (36 + x1))) ((hE1 19 x1 rfl).trans (hB.2.2.2.2 x1 (by omega))) ?_
  refine lv_iconst (v := (nI 1)) hx hb dX0_turn_39 (by decide) ?_
  refine lv_iadd hx hb dX0_turn_40 ?_
  refine n_iast hx hb hK hG hS 19 (AS_in 19 (by decide)) rfl (by omega) (by decide) dX0_turn_41 (fun H locs hG hO hS => ?_)
  refine lv_iconst (v := (nI 1)) hx hb dX0_turn_42 (by decide) ?_
  refine hend _ _ _ _ _ hS dX0_turn_43 (by decide) ?_
  have hans : turnS T f hs (nI x1) = (nI 1, tnF x1 f, phF hs f) := (rnp_in hlo_x1 hhi_x1 (by omega)).trans (rfl)
  rw [hans]
  exact ⟨_, rfl, _, hG, (((hE1.mono PKe_PAc).up rfl).up rfl), rfl, (bk_turn hn9 hrv (by omega) (bkS_to (fun k j hk => hE1 _ j (PKe_15 k j hk)) hB) rfl up2_s (fun k j hk h1 h2 => (up2_n (fun z => by omega)).trans (up2_n (fun z => by omega)))), (paP_to (V := up2 V1 15 4 (nI ((rbF f (xN T)) ^^^ (1 * 2 ^ x1)))) (V1 := up2 (up2 V1 15 4 (nI ((rbF f (xN T)) ^^^ (1 * 2 ^ x1)))) 19 x1 ((f (36 + x1)) + (nI 1))) rfl rfl (fun k j hk => up2_n (fun z => by omega)) (paP_to (V := V1) (V1 := up2 V1 15 4 (nI ((rbF f (xN T)) ^^^ (1 * 2 ^ x1)))) rfl rfl (fun k j hk => up2_n (fun z => by omega)) hpa1))⟩
set_option maxHeartbeats 4000000 in
theorem met_X0_whistle (l : Launch) (D : va_G) (dA : Nat → ClassId) {o : Nat} {V : GI} {L : GL} {Rf : GR} {H0 : Heap} (hG : gP D dA o dS V L Rf H0) {O : Nat → Prop} {tx : Nat} {T : Txt} {f : Rw} (hC : clS D dA H0 O o V Rf tx T f) (hOA : ∀ z, O z → ¬ AS o z) {hs : List Rw} (hpa : paP V (xN T) (xS T) hs) (hpr : ∀ j, j < 40 → Rf 37 j = some (o + (82 + 11 * j)))  : Ctr l D dA yX0_whistle cX0_whistle 1 (some .boolean) (mkRm 5 260) [.ref o] H0 (AS o) (QI (fun r H1 => ∃ V1, gP D dA o dS V1 L Rf H1 ∧ Eqx PAc V V1 ∧ r = (whistleS T f hs).1 ∧ bkS V1 15 (xN T) (whistleS T f hs).2.1 (xS T) ∧ paP V1 (xN T) (xS T) (whistleS T f hs).2.2)) := by
  have hC0 := hC
  obtain ⟨hX, htx, hB, hrv, hsd1, hsd2⟩ := hC
  have hX0 := hX
  have hn9 := txA_n hX
  have hp2 := two9 hn9
  have hpp := Nat.two_pow_pos (xN T)
  obtain ⟨fsx, hatx⟩ := txA_at hX
  have hotx := txA_o hX
  refine ctr_Z (by decide) (Nat.le_of_ble_eq_true rfl) ?_
  intro p e s m args below meth c ls QQ locs hx hb hml hown hts hK hend hS hl
  have hl : lv_has ls 1 [(0, .ref o)] := hl
  refine lv_aload_n hx hb dX0_whistle_0 rfl (lv_at hl 0 rfl) ?_
  refine c_VI hx hb hml hts hown hK hl.1 hS ⟨Nat.le_refl _, Nat.le_refl _⟩ (met_X0_beds l D dA hG (txA_S hX0 hS hOA) htx) (cw_X0_145 hts ⟨Nat.le_of_ble_eq_true rfl, Nat.le_of_ble_eq_true rfl⟩) (hG 0 _ rfl) rfl rfl rfl rfl (Nat.le_of_ble_eq_true rfl) dX0_whistle_1 (fun _ h => h.elim) (fun r H1 locs hq hF hS => ?_)
  obtain ⟨rfl, rfl⟩ := hq
  refine n_if_ne (tgt := 9) hx hb dX0_whistle_4 (by decide) (by omega) (fun c4 => ?_) (fun c4 => ?_)
  · refine lv_aload_n hx hb dX0_whistle_9 rfl (lv_at hl 0 rfl) ?_
    refine c_VV hx hb hml hts hown hK hl.1 hS ⟨Nat.le_refl _, Nat.le_refl _⟩ (met_X0_keeps l D dA hG (clS_E hC0 hS hOA Eqx.rf) hOA hpa hpr) (cw_X0_197 hts ⟨Nat.le_of_ble_eq_true rfl, Nat.le_of_ble_eq_true rfl⟩) (hG 0 _ rfl) rfl rfl rfl rfl (Nat.le_of_ble_eq_true rfl) dX0_whistle_10 (fun _ h => h) (fun H1 locs hq hF hS => ?_)
    obtain ⟨V1, hG, hE1, hpa1⟩ := hq
    generalize hHe1 : H1 = H at hG hS ⊢
    clear hHe1 hF
    refine lv_aload_n hx hb dX0_whistle_13 rfl (lv_at hl 0 rfl) ?_
    refine g_get hx hb hts hown hK hG 0 rfl rfl ok_X0 7 (by decide) q529 rfl rfl dX0_whistle_14 ?_
    refine lv_dup hx hb dX0_whistle_17 rfl ?_
    refine g_get (v := .int (nI (rbF f (xN T)))) hx hb hts hown hK hG 15 rfl rfl ok_X5 4 (by decide) q442 rfl (congrArg Value.int ((hE1 15 4 rfl).trans hB.1.1)) dX0_whistle_18 ?_
    refine lv_aload_n hx hb dX0_whistle_21 rfl (lv_at hl 0 rfl) ?_
    refine c_VI hx hb hml hts hown hK hl.1 hS ⟨Nat.le_refl _, Nat.le_refl _⟩ (met_X0_rows l D dA hG (txA_S hX0 hS hOA) htx) (cw_X0_154 hts ⟨Nat.le_of_ble_eq_true rfl, Nat.le_of_ble_eq_true rfl⟩) (hG 0 _ rfl) rfl rfl rfl rfl (Nat.le_of_ble_eq_true rfl) dX0_whistle_22 (fun _ h => h.elim) (fun r H1 locs hq hF hS => ?_)
    obtain ⟨rfl, rfl⟩ := hq
    refine lv_iconst (v := (nI 1)) hx hb dX0_whistle_25 (by decide) ?_
    refine n_isub hx hb dX0_whistle_26 (by omega) ?_
    refine n_ixor hx hb dX0_whistle_27 ?_
    refine g_put hx hb hts hown hK hG hS 15 (AS_in 15 (by decide)) rfl rfl ok_X5 4 (by decide) q442 rfl rfl rfl rfl dX0_whistle_28 (fun H locs hG hO hS => ?_)
    refine lv_iconst (v := (nI 1)) hx hb dX0_whistle_31 (by decide) ?_
    refine hend _ _ _ _ _ hS dX0_whistle_32 (by decide) ?_
    have hans : whistleS T f hs = (nI 1, whF (xN T) f, phF hs f) := (if_neg (by omega))
    rw [hans]
    exact ⟨_, rfl, _, hG, ((hE1.mono PKe_PAc).up rfl), rfl, (bkS_row2 hn9 (fun j hj => if_neg (by omega)) (wh_rb hrv) (bkS_to (fun k j hk => hE1 _ j (PKe_15 k j hk)) hB) rfl (fun k j hk hz => up2_n (fun z => by omega))), (paP_to (V := V1) (V1 := up2 V1 15 4 (nI ((rbF f (xN T)) ^^^ ((2 ^ xN T) - 1)))) rfl rfl (fun k j hk => up2_n (fun z => by omega)) hpa1)⟩
  refine lv_iconst (v := (nI 0)) hx hb dX0_whistle_7 (by decide) ?_
  refine hend _ _ _ _ _ hS dX0_whistle_8 (by decide) ?_
  have hans : whistleS T f hs = (nI 0, f, hs) := (if_pos (by omega))
  rw [hans]
  exact ⟨_, rfl, _, hG, Eqx.rf, rfl, hB, hpa⟩
