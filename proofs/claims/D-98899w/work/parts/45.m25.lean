def EqL (P : Nat → Nat → Bool) (V V' : GL) : Prop := ∀ k j, P k j = false → V' k j = V k j
theorem EqL.rf {P : Nat → Nat → Bool} {V : GL} : EqL P V V := fun _ _ _ => rfl
theorem EqL.trans {P : Nat → Nat → Bool} {V V1 V2 : GL} (h : EqL P V V1) (h2 : EqL P V1 V2) : EqL P V V2 := fun k j hp => (h2 k j hp).trans (h k j hp)
theorem EqL.up {P : Nat → Nat → Bool} {V V1 : GL} {k j : Nat} {x : Int64} (h : EqL P V V1) (hp : P k j = true) : EqL P V (up2 V1 k j x) := fun k' j' q => by
  rw [up2_n (fun z => by rw [z.1, z.2] at q; rw [q] at hp; cases hp)]
  exact h k' j' q
def P6 (k _ : Nat) : Bool := k == 6
theorem sgK_o {c : Nat} (h1 : c ≠ 60) (h2 : c ≠ 47) (h3 : c ≠ 42) (h4 : c ≠ 45) (h5 : c ≠ 43) (h6 : c ≠ 59) (h7 : c ≠ 61) (h8 : c ≠ 40) (h9 : c ≠ 41) : sgK c = 3 := by
  unfold sgK
  rw [if_neg h1, if_neg h2, if_neg h3, if_neg h4, if_neg h5, if_neg h6, if_neg h7, if_neg h8, if_neg h9]
theorem skp_0 {ch : Nat → Nat} {sz i : Nat} (h : ¬ isW (ch i) = true) : skp ch sz i = i := by
  unfold skp
  cases sz - i with
  | zero => rfl
  | succ u => simp only [skF]; rw [if_neg h]
theorem skp_1 {ch : Nat → Nat} {sz i : Nat} (hi : i < sz) (h : isW (ch i) = true) : skp ch sz i = skp ch sz (i + 1) := by
  unfold skp
  rw [show sz - i = (sz - (i + 1)) + 1 by omega]
  simp only [skF]; rw [if_pos h]
theorem skp_e {ch : Nat → Nat} {sz i : Nat} (hi : sz ≤ i) : skp ch sz i = i := by
  unfold skp
  rw [show sz - i = 0 by omega]; rfl
theorem rnN_1 {p : Nat → Bool} {ch : Nat → Nat} {sz i : Nat} (hi : i < sz) (h : p (ch i) = true) : rnN p ch (sz - i) i = rnN p ch (sz - (i + 1)) (i + 1) + 1 := by
  rw [show sz - i = (sz - (i + 1)) + 1 by omega]
  simp only [rnN]; rw [if_pos h]
theorem rnN_0 {p : Nat → Bool} {ch : Nat → Nat} {u i : Nat} (h : ¬ p (ch i) = true) : rnN p ch u i = 0 := by
  cases u with
  | zero => rfl
  | succ u => simp only [rnN]; rw [if_neg h]
theorem bN1 {b : Bool} (h : ¬ bN b = 0) : b = true := by cases b; exact absurd rfl h; rfl
theorem bN0 {b : Bool} (h : bN b = 0) : ¬ b = true := by cases b; decide; exact absurd h (by decide)
/-- the first k tokens stand in the model's arrays -/
def tkM (V : GI) (L : GL) (ch : Nat → Nat) (sz k : Nat) : Prop := ∀ j, j < k → V 3 j = nI (kdF ch sz j) ∧ V 4 j = nI (plF ch sz j) ∧ V 5 j = nI (vlF ch sz j) ∧ L 6 j = lN (nmF ch sz j)
theorem tkM_add {V : GI} {L : GL} {ch : Nat → Nat} {sz k : Nat} {a b c x : Int32} {n : Int64} (h : tkM V L ch sz k) (h1 : a = nI (kdF ch sz k)) (h2 : b = nI (plF ch sz k)) (h3 : c = nI (vlF ch sz k)) (h4 : n = lN (nmF ch sz k)) : tkM (up2 (up2 (up2 (up2 V 3 k a) 4 k b) 5 k c) 0 10 x) (up2 L 6 k n) ch sz (k + 1) := fun j hj => by
  by_cases e : j = k
  · subst e
    exact ⟨(show up2 V 3 j a 3 j = _ from up2_s).trans h1, (show up2 (up2 V 3 j a) 4 j b 4 j = _ from up2_s).trans h2, (show up2 (up2 (up2 V 3 j a) 4 j b) 5 j c 5 j = _ from up2_s).trans h3, up2_s.trans h4⟩
  · obtain ⟨g1, g2, g3, g4⟩ := h j (by omega)
    exact ⟨(show up2 V 3 k a 3 j = V 3 j from up2_n (fun z => e z.2)).trans g1, (show up2 (up2 V 3 k a) 4 k b 4 j = _ from (up2_n (fun z => e z.2)).trans rfl).trans g2, (show up2 (up2 (up2 V 3 k a) 4 k b) 5 k c 5 j = _ from (up2_n (fun z => e z.2)).trans rfl).trans g3, (up2_n (fun z => e z.2)).trans g4⟩
theorem tk_lx {ch : Nat → Nat} {sz i k : Nat} (hs : skp ch sz i = plF ch sz k) (hi : i < sz) (hw : ¬ isW (ch i) = true) : plF ch sz k = i ∧ tkF ch sz k = lxF ch sz i ∧ psF ch sz (k + 1) = i + (lxF ch sz i).2.2.2 := by
  rw [skp_0 hw] at hs
  have h1 : plF ch sz k = i := hs.symm
  refine ⟨h1, by unfold tkF; rw [h1, if_neg (by omega)], ?_⟩
  show skp ch sz (psF ch sz k) + (lxF ch sz (skp ch sz (psF ch sz k))).2.2.2 = _
  rw [show skp ch sz (psF ch sz k) = i from h1]
theorem tk_end {ch : Nat → Nat} {sz i k : Nat} (hs : skp ch sz i = plF ch sz k) (hi : sz ≤ i) (hi2 : i ≤ sz) : plF ch sz k = sz ∧ tkF ch sz k = (0, 0, 0, 0) := by
  rw [skp_e hi] at hs
  exact ⟨by omega, by unfold tkF; rw [if_pos (by omega)]⟩
theorem kwF_pos (x : Nat) : ∀ k, kwF x k ≠ 0 ∧ kwF x k < 20 + k + 1
  | 0 => ⟨by simp [kwF], by simp [kwF]⟩
  | k + 1 => by have := kwF_pos x k; simp only [kwF]; split <;> omega
theorem sgK_pos (c : Nat) : sgK c ≠ 0 ∧ sgK c < 20 := by unfold sgK; (repeat' split) <;> omega
theorem kyN_lt : ∀ k, k < 21 → kyN k < 2 ^ 62 := by decide
theorem apN_lt {x c m : Nat} (hx : x < m) (hc : c < 256) (hm : 160 ≤ m) : apN x c < 28 * m := by unfold apN; split <;> omega
theorem nmN_lt (ch : Nat → Nat) (i : Nat) (h : ∀ i, ch i < 256) : ∀ n, n ≤ 8 → nmN ch i n < 160 * 28 ^ n
  | 0, _ => by simp [nmN]
  | n + 1, hn => by
    simp only [nmN]
    rw [if_pos (by omega), Nat.pow_succ]
    have h1 := nmN_lt ch i h n (by omega)
    have h2 : 160 ≤ 160 * 28 ^ n := Nat.le_mul_of_pos_right _ (Nat.pow_pos (by decide))
    have := apN_lt h1 (h (i + n)) h2
    rw [show 160 * (28 ^ n * 28) = 28 * (160 * 28 ^ n) by rw [Nat.mul_comm (28 ^ n), ← Nat.mul_assoc, ← Nat.mul_assoc]]
    exact this
theorem nmN_9 (ch : Nat → Nat) (i : Nat) : ∀ n, nmN ch i (8 + n) = nmN ch i 8
  | 0 => rfl
  | n + 1 => by rw [show 8 + (n + 1) = (8 + n) + 1 by omega, nmN, if_neg (by omega)]; exact nmN_9 ch i n
theorem nm63 (ch : Nat → Nat) (i n : Nat) (h : ∀ i, ch i < 256) : nmN ch i n < 2 ^ 62 := by
  by_cases hn : n ≤ 8
  · exact Nat.lt_of_lt_of_le (nmN_lt ch i h n hn) (Nat.le_trans (Nat.mul_le_mul_left 160 (Nat.pow_le_pow_right (by decide) hn)) (by decide))
  · rw [show n = 8 + (n - 8) by omega, nmN_9]
    exact Nat.lt_of_lt_of_le (nmN_lt ch i h 8 (Nat.le_refl _)) (by decide)
theorem dgN_lt (ch : Nat → Nat) (i : Nat) (h : ∀ i, ch i < 256) : ∀ n, dgN ch i n < 1000 * 11 ^ (min n 4)
  | 0 => by simp [dgN]
  | n + 1 => by
    have h1 := dgN_lt ch i h n
    have h2 := h (i + n)
    simp only [dgN]
    by_cases hn : n < 4
    · rw [if_pos hn, Nat.min_eq_left (by omega), Nat.pow_succ]
      rw [Nat.min_eq_left (by omega)] at h1
      have h3 : 0 < 11 ^ n := Nat.pow_pos (by decide)
      omega
    · rw [if_neg hn, Nat.min_eq_right (by omega)]
      rw [Nat.min_eq_right (by omega)] at h1
      exact h1
theorem dg24 (ch : Nat → Nat) (i n : Nat) (h : ∀ i, ch i < 256) : dgN ch i n < 2 ^ 24 := Nat.lt_of_lt_of_le (dgN_lt ch i h n) (Nat.le_trans (Nat.mul_le_mul_left 1000 (Nat.pow_le_pow_right (by decide) (Nat.min_le_right n 4))) (by decide))
theorem cmp0 {a b : Nat} (ha : a < 2 ^ 63) (hb : b < 2 ^ 63) : (lg_cmp (lN a) (lN b) = 0) ↔ a = b := by
  have e := pk_lEQ ha hb
  unfold lg_cmp
  by_cases h1 : lN a > lN b
  · rw [if_pos h1]
    exact ⟨fun h => absurd h (by decide), fun h => by subst h; exact (Int64.lt_irrefl h1).elim⟩
  · rw [if_neg h1]
    by_cases h2 : lN a = lN b
    · rw [if_pos h2]; exact ⟨fun _ => e.mp h2, fun _ => rfl⟩
    · rw [if_neg h2]; exact ⟨fun h => absurd h (by decide), fun h => absurd (e.mpr h) h2⟩
theorem cw_X13_185 {R : Room} {s : State} {args : Array Value} (hts : ∀ w ∈ lw_all, w.before args s = true) {f w k j : Nat} (hR : f + 1 ≤ R.frames ∧ 8 + (6 + 11) + w ≤ R.locals) : CallW R s args RX13 RX13 185 yX13_token cX13_token 6 none (ws_ yX13_token cX13_token 6 none) (mkRmC f w k j) k j 4 := cwV 4 hts (lw_V q1692 q1694 qs54 q129 q1695) rfl rfl rfl (by decide +kernel) hR
set_option maxHeartbeats 4000000 in
theorem met_X13_sign (l : Launch) (D : va_G) (dA : Nat → ClassId) {o : Nat} {V : GI} {L : GL} {Rf : GR} {H0 : Heap} (hG : gP D dA o dM V L Rf H0) (k : Nat) (hk : k < 403) (hV : V 0 10 = nI k) (i : Int32) (c0 : Nat) (hc9 : c0 < 256) (d : Int32) : Ctr l D dA yX13_sign cX13_sign 5 (some .int) (mkRm 1 25) [.ref o, .int i, .int (nI c0), .int d] H0 (AM o) (QI (fun r H1 => r = nI 1 ∧ ∃ V1 L1, gP D dA o dM V1 L1 Rf H1 ∧ V1 = up2 (up2 (up2 (up2 V 3 k (nI (sgK c0))) 4 k i) 5 k (nI 0)) 0 10 (nI (k + 1)) ∧ L1 = up2 L 6 k 0)) := by
  refine ctr_I (by decide) (Nat.le_of_ble_eq_true rfl) ?_
  intro p e s m args below meth c ls QQ locs hx hb hml hown hts hK hend hS hl
  have hl : lv_has ls 5 [(0, .ref o), (1, .int i), (2, .int (nI c0)), (3, .int d)] := hl
  rcases (show c0 = 59 ∨ c0 = 61 ∨ c0 = 40 ∨ c0 = 41 ∨ c0 = 43 ∨ c0 = 45 ∨ c0 = 42 ∨ c0 = 47 ∨ c0 = 60 ∨ (c0 ≠ 60 ∧ c0 ≠ 47 ∧ c0 ≠ 42 ∧ c0 ≠ 45 ∧ c0 ≠ 43 ∧ c0 ≠ 59 ∧ c0 ≠ 61 ∧ c0 ≠ 40 ∧ c0 ≠ 41) by omega) with rfl | rfl | rfl | rfl | rfl | rfl | rfl | rfl | rfl | ⟨n60, n47, n42, n45, n43, n59, n61, n40, n41⟩
  · have hl : lv_has ls 5 [(0, .ref o), (1, .int i), (2, .int (nI 59)), (3, .int d)] := hl
    refine lv_iload_n hx hb dX13_sign_0 rfl (lv_at hl 2 rfl) ?_
    refine lv_bipush (v := (nI 59)) hx hb dX13_sign_1 (by decide) ?_
    refine n_icmp_ne (tgt := 10) hx hb dX13_sign_3 (by decide) (by decide) (by decide) (fun z => absurd z (by decide)) (fun _ => ?_)
    refine lv_iconst (v := (nI 4)) hx hb dX13_sign_6 (by decide) ?_
    refine lv_goto (tgt := 43) hx hb dX13_sign_7 (by decide) ?_
    refine lv_istore (lv' := [(4, .int (nI 4)), (0, .ref o), (1, .int i), (2, .int (nI 59)), (3, .int d)]) hx hb dX13_sign_43 hl (by decide) rfl (fun ls hl => ?_)
    refine lv_iload_n hx hb dX13_sign_45 rfl (lv_at hl 3 rfl) ?_
    refine lv_bipush (v := (nI 43)) hx hb dX13_sign_46 (by decide) ?_
    refine n_icmp_ne (tgt := 55) hx hb dX13_sign_48 (by decide) (by decide) (by decide) (fun _ => ?_) (fun z => absurd z (by decide))
    refine lv_iload_n hx hb dX13_sign_55 rfl (lv_at hl 3 rfl) ?_
    refine lv_bipush (v := (nI 45)) hx hb dX13_sign_56 (by decide) ?_
    refine n_icmp_ne (tgt := 65) hx hb dX13_sign_58 (by decide) (by decide) (by decide) (fun _ => ?_) (fun z => absurd z (by decide))
    refine lv_iload_n hx hb dX13_sign_65 rfl (lv_at hl 3 rfl) ?_
    refine lv_bipush (v := (nI 42)) hx hb dX13_sign_66 (by decide) ?_
    refine n_icmp_ne (tgt := 75) hx hb dX13_sign_68 (by decide) (by decide) (by decide) (fun _ => ?_) (fun z => absurd z (by decide))
    refine lv_iload_n hx hb dX13_sign_75 rfl (lv_at hl 3 rfl) ?_
    refine lv_bipush (v := (nI 47)) hx hb dX13_sign_76 (by decide) ?_
    refine n_icmp_ne (tgt := 85) hx hb dX13_sign_78 (by decide) (by decide) (by decide) (fun _ => ?_) (fun z => absurd z (by decide))
    refine lv_iload_n hx hb dX13_sign_85 rfl (lv_at hl 3 rfl) ?_
    refine lv_bipush (v := (nI 60)) hx hb dX13_sign_86 (by decide) ?_
    refine n_icmp_ne (tgt := 95) hx hb dX13_sign_88 (by decide) (by decide) (by decide) (fun _ => ?_) (fun z => absurd z (by decide))
    refine lv_aload_n hx hb dX13_sign_95 rfl (lv_at hl 1 rfl) ?_
    refine lv_iload hx hb dX13_sign_96 (lv_at hl 0 rfl) ?_
    refine lv_iload_n hx hb dX13_sign_98 rfl (lv_at hl 2 rfl) ?_
    refine lv_iconst (v := (nI 0)) hx hb dX13_sign_99 (by decide) ?_
    refine lv_lconst (v := 0) hx hb dX13_sign_100 (by decide) ?_
    refine c_VV hx hb hml hts hown hK hl.1 hS ⟨Nat.le_refl _, Nat.le_refl _⟩ (met_X13_token l D dA hG k (by omega) hV (nI 4) i (nI 0) 0) (cw_X13_185 hts ⟨by decide, by decide⟩) (hG 0 _ rfl) rfl rfl rfl rfl (Nat.le_of_ble_eq_true rfl) dX13_sign_101 (fun _ h => h) (fun H1 locs hq hF hS => ?_)
    obtain ⟨V1, L1, hG, rfl, rfl⟩ := hq
    generalize hHe1 : H1 = H at hG hS ⊢
    clear hHe1
    refine lv_iconst (v := (nI 1)) hx hb dX13_sign_104 (by decide) ?_
    refine hend _ _ _ _ _ hS dX13_sign_105 ?_
    exact ⟨_, rfl, rfl, _, _, hG, rfl, rfl⟩
  · have hl : lv_has ls 5 [(0, .ref o), (1, .int i), (2, .int (nI 61)), (3, .int d)] := hl
    refine lv_iload_n hx hb dX13_sign_0 rfl (lv_at hl 2 rfl) ?_
    refine lv_bipush (v := (nI 59)) hx hb dX13_sign_1 (by decide) ?_
    refine n_icmp_ne (tgt := 10) hx hb dX13_sign_3 (by decide) (by decide) (by decide) (fun _ => ?_) (fun z => absurd z (by decide))
    refine lv_iload_n hx hb dX13_sign_10 rfl (lv_at hl 2 rfl) ?_
    refine lv_bipush (v := (nI 61)) hx hb dX13_sign_11 (by decide) ?_
    refine n_icmp_ne (tgt := 20) hx hb dX13_sign_13 (by decide) (by decide) (by decide) (fun z => absurd z (by decide)) (fun _ => ?_)
    refine lv_iconst (v := (nI 5)) hx hb dX13_sign_16 (by decide) ?_
    refine lv_goto (tgt := 43) hx hb dX13_sign_17 (by decide) ?_
    refine lv_istore (lv' := [(4, .int (nI 5)), (0, .ref o), (1, .int i), (2, .int (nI 61)), (3, .int d)]) hx hb dX13_sign_43 hl (by decide) rfl (fun ls hl => ?_)
    refine lv_iload_n hx hb dX13_sign_45 rfl (lv_at hl 3 rfl) ?_
    refine lv_bipush (v := (nI 43)) hx hb dX13_sign_46 (by decide) ?_
    refine n_icmp_ne (tgt := 55) hx hb dX13_sign_48 (by decide) (by decide) (by decide) (fun _ => ?_) (fun z => absurd z (by decide))
    refine lv_iload_n hx hb dX13_sign_55 rfl (lv_at hl 3 rfl) ?_
    refine lv_bipush (v := (nI 45)) hx hb dX13_sign_56 (by decide) ?_
    refine n_icmp_ne (tgt := 65) hx hb dX13_sign_58 (by decide) (by decide) (by decide) (fun _ => ?_) (fun z => absurd z (by decide))
    refine lv_iload_n hx hb dX13_sign_65 rfl (lv_at hl 3 rfl) ?_
    refine lv_bipush (v := (nI 42)) hx hb dX13_sign_66 (by decide) ?_
    refine n_icmp_ne (tgt := 75) hx hb dX13_sign_68 (by decide) (by decide) (by decide) (fun _ => ?_) (fun z => absurd z (by decide))
    refine lv_iload_n hx hb dX13_sign_75 rfl (lv_at hl 3 rfl) ?_
    refine lv_bipush (v := (nI 47)) hx hb dX13_sign_76 (by decide) ?_
    refine n_icmp_ne (tgt := 85) hx hb dX13_sign_78 (by decide) (by decide) (by decide) (fun _ => ?_) (fun z => absurd z (by decide))
    refine lv_iload_n hx hb dX13_sign_85 rfl (lv_at hl 3 rfl) ?_
    refine lv_bipush (v := (nI 60)) hx hb dX13_sign_86 (by decide) ?_
    refine n_icmp_ne (tgt := 95) hx hb dX13_sign_88 (by decide) (by decide) (by decide) (fun _ => ?_) (fun z => absurd z (by decide))
    refine lv_aload_n hx hb dX13_sign_95 rfl (lv_at hl 1 rfl) ?_
    refine lv_iload hx hb dX13_sign_96 (lv_at hl 0 rfl) ?_
    refine lv_iload_n hx hb dX13_sign_98 rfl (lv_at hl 2 rfl) ?_
    refine lv_iconst (v := (nI 0)) hx hb dX13_sign_99 (by decide) ?_
    refine lv_lconst (v := 0) hx hb dX13_sign_100 (by decide) ?_
    refine c_VV hx hb hml hts hown hK hl.1 hS ⟨Nat.le_refl _, Nat.le_refl _⟩ (met_X13_token l D dA hG k (by omega) hV (nI 5) i (nI 0) 0) (cw_X13_185 hts ⟨by decide, by decide⟩) (hG 0 _ rfl) rfl rfl rfl rfl (Nat.le_of_ble_eq_true rfl) dX13_sign_101 (fun _ h => h) (fun H1 locs hq hF hS => ?_)
    obtain ⟨V1, L1, hG, rfl, rfl⟩ := hq
    generalize hHe2 : H1 = H at hG hS ⊢
    clear hHe2
    refine lv_iconst (v := (nI 1)) hx hb dX13_sign_104 (by decide) ?_
    refine hend _ _ _ _ _ hS dX13_sign_105 ?_
    exact ⟨_, rfl, rfl, _, _, hG, rfl, rfl⟩
  · have hl : lv_has ls 5 [(0, .ref o), (1, .int i), (2, .int (nI 40)), (3, .int d)] := hl
    refine lv_iload_n hx hb dX13_sign_0 rfl (lv_at hl 2 rfl) ?_
    refine lv_bipush (v := (nI 59)) hx hb dX13_sign_1 (by decide) ?_
    refine n_icmp_ne (tgt := 10) hx hb dX13_sign_3 (by decide) (by decide) (by decide) (fun _ => ?_) (fun z => absurd z (by decide))
    refine lv_iload_n hx hb dX13_sign_10 rfl (lv_at hl 2 rfl) ?_
    refine lv_bipush (v := (nI 61)) hx hb dX13_sign_11 (by decide) ?_
    refine n_icmp_ne (tgt := 20) hx hb dX13_sign_13 (by decide) (by decide) (by decide) (fun _ => ?_) (fun z => absurd z (by decide))
    refine lv_iload_n hx hb dX13_sign_20 rfl (lv_at hl 2 rfl) ?_
    refine lv_bipush (v := (nI 40)) hx hb dX13_sign_21 (by decide) ?_
    refine n_icmp_ne (tgt := 31) hx hb dX13_sign_23 (by decide) (by decide) (by decide) (fun z => absurd z (by decide)) (fun _ => ?_)
    refine lv_bipush (v := (nI 6)) hx hb dX13_sign_26 (by decide) ?_
    refine lv_goto (tgt := 43) hx hb dX13_sign_28 (by decide) ?_
    refine lv_istore (lv' := [(4, .int (nI 6)), (0, .ref o), (1, .int i), (2, .int (nI 40)), (3, .int d)]) hx hb dX13_sign_43 hl (by decide) rfl (fun ls hl => ?_)
    refine lv_iload_n hx hb dX13_sign_45 rfl (lv_at hl 3 rfl) ?_
    refine lv_bipush (v := (nI 43)) hx hb dX13_sign_46 (by decide) ?_
    refine n_icmp_ne (tgt := 55) hx hb dX13_sign_48 (by decide) (by decide) (by decide) (fun _ => ?_) (fun z => absurd z (by decide))
    refine lv_iload_n hx hb dX13_sign_55 rfl (lv_at hl 3 rfl) ?_
    refine lv_bipush (v := (nI 45)) hx hb dX13_sign_56 (by decide) ?_
    refine n_icmp_ne (tgt := 65) hx hb dX13_sign_58 (by decide) (by decide) (by decide) (fun _ => ?_) (fun z => absurd z (by decide))
    refine lv_iload_n hx hb dX13_sign_65 rfl (lv_at hl 3 rfl) ?_
    refine lv_bipush (v := (nI 42)) hx hb dX13_sign_66 (by decide) ?_
    refine n_icmp_ne (tgt := 75) hx hb dX13_sign_68 (by decide) (by decide) (by decide) (fun _ => ?_) (fun z => absurd z (by decide))
    refine lv_iload_n hx hb dX13_sign_75 rfl (lv_at hl 3 rfl) ?_
    refine lv_bipush (v := (nI 47)) hx hb dX13_sign_76 (by decide) ?_
    refine n_icmp_ne (tgt := 85) hx hb dX13_sign_78 (by decide) (by decide) (by decide) (fun _ => ?_) (fun z => absurd z (by decide))
    refine lv_iload_n hx hb dX13_sign_85 rfl (lv_at hl 3 rfl) ?_
    refine lv_bipush (v := (nI 60)) hx hb dX13_sign_86 (by decide) ?_
    refine n_icmp_ne (tgt := 95) hx hb dX13_sign_88 (by decide) (by decide) (by decide) (fun _ => ?_) (fun z => absurd z (by decide))
    refine lv_aload_n hx hb dX13_sign_95 rfl (lv_at hl 1 rfl) ?_
    refine lv_iload hx hb dX13_sign_96 (lv_at hl 0 rfl) ?_
    refine lv_iload_n hx hb dX13_sign_98 rfl (lv_at hl 2 rfl) ?_
    refine lv_iconst (v := (nI 0)) hx hb dX13_sign_99 (by decide) ?_
    refine lv_lconst (v := 0) hx hb dX13_sign_100 (by decide) ?_
    refine c_VV hx hb hml hts hown hK hl.1 hS ⟨Nat.le_refl _, Nat.le_refl _⟩ (met_X13_token l D dA hG k (by omega) hV (nI 6) i (nI 0) 0) (cw_X13_185 hts ⟨by decide, by decide⟩) (hG 0 _ rfl) rfl rfl rfl rfl (Nat.le_of_ble_eq_true rfl) dX13_sign_101 (fun _ h => h) (fun H1 locs hq hF hS => ?_)
    obtain ⟨V1, L1, hG, rfl, rfl⟩ := hq
    generalize hHe3 : H1 = H at hG hS ⊢
    clear hHe3
    refine lv_iconst (v := (nI 1)) hx hb dX13_sign_104 (by decide) ?_
    refine hend _ _ _ _ _ hS dX13_sign_105 ?_
    exact ⟨_, rfl, rfl, _, _, hG, rfl, rfl⟩
  · have hl : lv_has ls 5 [(0, .ref o), (1, .int i), (2, .int (nI 41)), (3, .int d)] := hl
    refine lv_iload_n hx hb dX13_sign_0 rfl (lv_at hl 2 rfl) ?_
    refine lv_bipush (v := (nI 59)) hx hb dX13_sign_1 (by decide) ?_
    refine n_icmp_ne (tgt := 10) hx hb dX13_sign_3 (by decide) (by decide) (by decide) (fun _ => ?_) (fun z => absurd z (by decide))
    refine lv_iload_n hx hb dX13_sign_10 rfl (lv_at hl 2 rfl) ?_
    refine lv_bipush (v := (nI 61)) hx hb dX13_sign_11 (by decide) ?_
    refine n_icmp_ne (tgt := 20) hx hb dX13_sign_13 (by decide) (by decide) (by decide) (fun _ => ?_) (fun z => absurd z (by decide))
    refine lv_iload_n hx hb dX13_sign_20 rfl (lv_at hl 2 rfl) ?_
    refine lv_bipush (v := (nI 40)) hx hb dX13_sign_21 (by decide) ?_
    refine n_icmp_ne (tgt := 31) hx hb dX13_sign_23 (by decide) (by decide) (by decide) (fun _ => ?_) (fun z => absurd z (by decide))
    refine lv_iload_n hx hb dX13_sign_31 rfl (lv_at hl 2 rfl) ?_
    refine lv_bipush (v := (nI 41)) hx hb dX13_sign_32 (by decide) ?_
    refine n_icmp_ne (tgt := 42) hx hb dX13_sign_34 (by decide) (by decide) (by decide) (fun z => absurd z (by decide)) (fun _ => ?_)
    refine lv_bipush (v := (nI 7)) hx hb dX13_sign_37 (by decide) ?_
    refine lv_goto (tgt := 43) hx hb dX13_sign_39 (by decide) ?_
    refine lv_istore (lv' := [(4, .int (nI 7)), (0, .ref o), (1, .int i), (2, .int (nI 41)), (3, .int d)]) hx hb dX13_sign_43 hl (by decide) rfl (fun ls hl => ?_)
    refine lv_iload_n hx hb dX13_sign_45 rfl (lv_at hl 3 rfl) ?_
    refine lv_bipush (v := (nI 43)) hx hb dX13_sign_46 (by decide) ?_
    refine n_icmp_ne (tgt := 55) hx hb dX13_sign_48 (by decide) (by decide) (by decide) (fun _ => ?_) (fun z => absurd z (by decide))
    refine lv_iload_n hx hb dX13_sign_55 rfl (lv_at hl 3 rfl) ?_
    refine lv_bipush (v := (nI 45)) hx hb dX13_sign_56 (by decide) ?_
    refine n_icmp_ne (tgt := 65) hx hb dX13_sign_58 (by decide) (by decide) (by decide) (fun _ => ?_) (fun z => absurd z (by decide))
    refine lv_iload_n hx hb dX13_sign_65 rfl (lv_at hl 3 rfl) ?_
    refine lv_bipush (v := (nI 42)) hx hb dX13_sign_66 (by decide) ?_
    refine n_icmp_ne (tgt := 75) hx hb dX13_sign_68 (by decide) (by decide) (by decide) (fun _ => ?_) (fun z => absurd z (by decide))
    refine lv_iload_n hx hb dX13_sign_75 rfl (lv_at hl 3 rfl) ?_
    refine lv_bipush (v := (nI 47)) hx hb dX13_sign_76 (by decide) ?_
    refine n_icmp_ne (tgt := 85) hx hb dX13_sign_78 (by decide) (by decide) (by decide) (fun _ => ?_) (fun z => absurd z (by decide))
    refine lv_iload_n hx hb dX13_sign_85 rfl (lv_at hl 3 rfl) ?_
    refine lv_bipush (v := (nI 60)) hx hb dX13_sign_86 (by decide) ?_
    refine n_icmp_ne (tgt := 95) hx hb dX13_sign_88 (by decide) (by decide) (by decide) (fun _ => ?_) (fun z => absurd z (by decide))
    refine lv_aload_n hx hb dX13_sign_95 rfl (lv_at hl 1 rfl) ?_
    refine lv_iload hx hb dX13_sign_96 (lv_at hl 0 rfl) ?_
    refine lv_iload_n hx hb dX13_sign_98 rfl (lv_at hl 2 rfl) ?_
    refine lv_iconst (v := (nI 0)) hx hb dX13_sign_99 (by decide) ?_
    refine lv_lconst (v := 0) hx hb dX13_sign_100 (by decide) ?_
    refine c_VV hx hb hml hts hown hK hl.1 hS ⟨Nat.le_refl _, Nat.le_refl _⟩ (met_X13_token l D dA hG k (by omega) hV (nI 7) i (nI 0) 0) (cw_X13_185 hts ⟨by decide, by decide⟩) (hG 0 _ rfl) rfl rfl rfl rfl (Nat.le_of_ble_eq_true rfl) dX13_sign_101 (fun _ h => h) (fun H1 locs hq hF hS => ?_)
    obtain ⟨V1, L1, hG, rfl, rfl⟩ := hq
    generalize hHe4 : H1 = H at hG hS ⊢
    clear hHe4
    refine lv_iconst (v := (nI 1)) hx hb dX13_sign_104 (by decide) ?_
    refine hend _ _ _ _ _ hS dX13_sign_105 ?_
    exact ⟨_, rfl, rfl, _, _, hG, rfl, rfl⟩
  · have hl : lv_has ls 5 [(0, .ref o), (1, .int i), (2, .int (nI 43)), (3, .int d)] := hl
    refine lv_iload_n hx hb dX13_sign_0 rfl (lv_at hl 2 rfl) ?_
    refine lv_bipush (v := (nI 59)) hx hb dX13_sign_1 (by decide) ?_
    refine n_icmp_ne (tgt := 10) hx hb dX13_sign_3 (by decide) (by decide) (by decide) (fun _ => ?_) (fun z => absurd z (by decide))
    refine lv_iload_n hx hb dX13_sign_10 rfl (lv_at hl 2 rfl) ?_
    refine lv_bipush (v := (nI 61)) hx hb dX13_sign_11 (by decide) ?_
    refine n_icmp_ne (tgt := 20) hx hb dX13_sign_13 (by decide) (by decide) (by decide) (fun _ => ?_) (fun z => absurd z (by decide))
    refine lv_iload_n hx hb dX13_sign_20 rfl (lv_at hl 2 rfl) ?_
    refine lv_bipush (v := (nI 40)) hx hb dX13_sign_21 (by decide) ?_
    refine n_icmp_ne (tgt := 31) hx hb dX13_sign_23 (by decide) (by decide) (by decide) (fun _ => ?_) (fun z => absurd z (by decide))
    refine lv_iload_n hx hb dX13_sign_31 rfl (lv_at hl 2 rfl) ?_
    refine lv_bipush (v := (nI 41)) hx hb dX13_sign_32 (by decide) ?_
    refine n_icmp_ne (tgt := 42) hx hb dX13_sign_34 (by decide) (by decide) (by decide) (fun _ => ?_) (fun z => absurd z (by decide))
    refine lv_iconst (v := (nI 3)) hx hb dX13_sign_42 (by decide) ?_
    refine lv_istore (lv' := [(4, .int (nI 3)), (0, .ref o), (1, .int i), (2, .int (nI 43)), (3, .int d)]) hx hb dX13_sign_43 hl (by decide) rfl (fun ls hl => ?_)
    refine lv_iload_n hx hb dX13_sign_45 rfl (lv_at hl 3 rfl) ?_
    refine lv_bipush (v := (nI 43)) hx hb dX13_sign_46 (by decide) ?_
    refine n_icmp_ne (tgt := 55) hx hb dX13_sign_48 (by decide) (by decide) (by decide) (fun z => absurd z (by decide)) (fun _ => ?_)
    refine lv_bipush (v := (nI 8)) hx hb dX13_sign_51 (by decide) ?_
    refine lv_istore (lv' := [(4, .int (nI 8)), (0, .ref o), (1, .int i), (2, .int (nI 43)), (3, .int d)]) hx hb dX13_sign_53 hl (by decide) rfl (fun ls hl => ?_)
    refine lv_iload_n hx hb dX13_sign_55 rfl (lv_at hl 3 rfl) ?_
    refine lv_bipush (v := (nI 45)) hx hb dX13_sign_56 (by decide) ?_
    refine n_icmp_ne (tgt := 65) hx hb dX13_sign_58 (by decide) (by decide) (by decide) (fun _ => ?_) (fun z => absurd z (by decide))
    refine lv_iload_n hx hb dX13_sign_65 rfl (lv_at hl 3 rfl) ?_
    refine lv_bipush (v := (nI 42)) hx hb dX13_sign_66 (by decide) ?_
    refine n_icmp_ne (tgt := 75) hx hb dX13_sign_68 (by decide) (by decide) (by decide) (fun _ => ?_) (fun z => absurd z (by decide))
    refine lv_iload_n hx hb dX13_sign_75 rfl (lv_at hl 3 rfl) ?_
    refine lv_bipush (v := (nI 47)) hx hb dX13_sign_76 (by decide) ?_
    refine n_icmp_ne (tgt := 85) hx hb dX13_sign_78 (by decide) (by decide) (by decide) (fun _ => ?_) (fun z => absurd z (by decide))
    refine lv_iload_n hx hb dX13_sign_85 rfl (lv_at hl 3 rfl) ?_
    refine lv_bipush (v := (nI 60)) hx hb dX13_sign_86 (by decide) ?_
    refine n_icmp_ne (tgt := 95) hx hb dX13_sign_88 (by decide) (by decide) (by decide) (fun _ => ?_) (fun z => absurd z (by decide))
    refine lv_aload_n hx hb dX13_sign_95 rfl (lv_at hl 1 rfl) ?_
    refine lv_iload hx hb dX13_sign_96 (lv_at hl 0 rfl) ?_
    refine lv_iload_n hx hb dX13_sign_98 rfl (lv_at hl 2 rfl) ?_
    refine lv_iconst (v := (nI 0)) hx hb dX13_sign_99 (by decide) ?_
    refine lv_lconst (v := 0) hx hb dX13_sign_100 (by decide) ?_
    refine c_VV hx hb hml hts hown hK hl.1 hS ⟨Nat.le_refl _, Nat.le_refl _⟩ (met_X13_token l D dA hG k (by omega) hV (nI 8) i (nI 0) 0) (cw_X13_185 hts ⟨by decide, by decide⟩) (hG 0 _ rfl) rfl rfl rfl rfl (Nat.le_of_ble_eq_true rfl) dX13_sign_101 (fun _ h => h) (fun H1 locs hq hF hS => ?_)
    obtain ⟨V1, L1, hG, rfl, rfl⟩ := hq
    generalize hHe5 : H1 = H at hG hS ⊢
    clear hHe5
    refine lv_iconst (v := (nI 1)) hx hb dX13_sign_104 (by decide) ?_
    refine hend _ _ _ _ _ hS dX13_sign_105 ?_
    exact ⟨_, rfl, rfl, _, _, hG, rfl, rfl⟩
  · have hl : lv_has ls 5 [(0, .ref o), (1, .int i), (2, .int (nI 45)), (3, .int d)] := hl
    refine lv_iload_n hx hb dX13_sign_0 rfl (lv_at hl 2 rfl) ?_
    refine lv_bipush (v := (nI 59)) hx hb dX13_sign_1 (by decide) ?_
    refine n_icmp_ne (tgt := 10) hx hb dX13_sign_3 (by decide) (by decide) (by decide) (fun _ => ?_) (fun z => absurd z (by decide))
    refine lv_iload_n hx hb dX13_sign_10 rfl (lv_at hl 2 rfl) ?_
    refine lv_bipush (v := (nI 61)) hx hb dX13_sign_11 (by decide) ?_
    refine n_icmp_ne (tgt := 20) hx hb dX13_sign_13 (by decide) (by decide) (by decide) (fun _ => ?_) (fun z => absurd z (by decide))
    refine lv_iload_n hx hb dX13_sign_20 rfl (lv_at hl 2 rfl) ?_
    refine lv_bipush (v := (nI 40)) hx hb dX13_sign_21 (by decide) ?_
    refine n_icmp_ne (tgt := 31) hx hb dX13_sign_23 (by decide) (by decide) (by decide) (fun _ => ?_) (fun z => absurd z (by decide))
    refine lv_iload_n hx hb dX13_sign_31 rfl (lv_at hl 2 rfl) ?_
    refine lv_bipush (v := (nI 41)) hx hb dX13_sign_32 (by decide) ?_
    refine n_icmp_ne (tgt := 42) hx hb dX13_sign_34 (by decide) (by decide) (by decide) (fun _ => ?_) (fun z => absurd z (by decide))
    refine lv_iconst (v := (nI 3)) hx hb dX13_sign_42 (by decide) ?_
    refine lv_istore (lv' := [(4, .int (nI 3)), (0, .ref o), (1, .int i), (2, .int (nI 45)), (3, .int d)]) hx hb dX13_sign_43 hl (by decide) rfl (fun ls hl => ?_)
    refine lv_iload_n hx hb dX13_sign_45 rfl (lv_at hl 3 rfl) ?_
    refine lv_bipush (v := (nI 43)) hx hb dX13_sign_46 (by decide) ?_
    refine n_icmp_ne (tgt := 55) hx hb dX13_sign_48 (by decide) (by decide) (by decide) (fun _ => ?_) (fun z => absurd z (by decide))
    refine lv_iload_n hx hb dX13_sign_55 rfl (lv_at hl 3 rfl) ?_
    refine lv_bipush (v := (nI 45)) hx hb dX13_sign_56 (by decide) ?_
    refine n_icmp_ne (tgt := 65) hx hb dX13_sign_58 (by decide) (by decide) (by decide) (fun z => absurd z (by decide)) (fun _ => ?_)
    refine lv_bipush (v := (nI 9)) hx hb dX13_sign_61 (by decide) ?_
    refine lv_istore (lv' := [(4, .int (nI 9)), (0, .ref o), (1, .int i), (2, .int (nI 45)), (3, .int d)]) hx hb dX13_sign_63 hl (by decide) rfl (fun ls hl => ?_)
    refine lv_iload_n hx hb dX13_sign_65 rfl (lv_at hl 3 rfl) ?_
    refine lv_bipush (v := (nI 42)) hx hb dX13_sign_66 (by decide) ?_
    refine n_icmp_ne (tgt := 75) hx hb dX13_sign_68 (by decide) (by decide) (by decide) (fun _ => ?_) (fun z => absurd z (by decide))
    refine lv_iload_n hx hb dX13_sign_75 rfl (lv_at hl 3 rfl) ?_
    refine lv_bipush (v := (nI 47)) hx hb dX13_sign_76 (by decide) ?_
    refine n_icmp_ne (tgt := 85) hx hb dX13_sign_78 (by decide) (by decide) (by decide) (fun _ => ?_) (fun z => absurd z (by decide))
    refine lv_iload_n hx hb dX13_sign_85 rfl (lv_at hl 3 rfl) ?_
    refine lv_bipush (v := (nI 60)) hx hb dX13_sign_86 (by decide) ?_
    refine n_icmp_ne (tgt := 95) hx hb dX13_sign_88 (by decide) (by decide) (by decide) (fun _ => ?_) (fun z => absurd z (by decide))
    refine lv_aload_n hx hb dX13_sign_95 rfl (lv_at hl 1 rfl) ?_
    refine lv_iload hx hb dX13_sign_96 (lv_at hl 0 rfl) ?_
    refine lv_iload_n hx hb dX13_sign_98 rfl (lv_at hl 2 rfl) ?_
    refine lv_iconst (v := (nI 0)) hx hb dX13_sign_99 (by decide) ?_
    refine lv_lconst (v := 0) hx hb dX13_sign_100 (by decide) ?_
    refine c_VV hx hb hml hts hown hK hl.1 hS ⟨Nat.le_refl _, Nat.le_refl _⟩ (met_X13_token l D dA hG k (by omega) hV (nI 9) i (nI 0) 0) (cw_X13_185 hts ⟨by decide, by decide⟩) (hG 0 _ rfl) rfl rfl rfl rfl (Nat.le_of_ble_eq_true rfl) dX13_sign_101 (fun _ h => h) (fun H1 locs hq hF hS => ?_)
    obtain ⟨V1, L1, hG, rfl, rfl⟩ := hq
    generalize hHe6 : H1 = H at hG hS ⊢
    clear hHe6
    refine lv_iconst (v := (nI 1)) hx hb dX13_sign_104 (by decide) ?_
    refine hend _ _ _ _ _ hS dX13_sign_105 ?_
    exact ⟨_, rfl, rfl, _, _, hG, rfl, rfl⟩
  · have hl : lv_has ls 5 [(0, .ref o), (1, .int i), (2, .int (nI 42)), (3, .int d)] := hl
    refine lv_iload_n hx hb dX13_sign_0 rfl (lv_at hl 2 rfl) ?_
    refine lv_bipush (v := (nI 59)) hx hb dX13_sign_1 (by decide) ?_
    refine n_icmp_ne (tgt := 10) hx hb dX13_sign_3 (by decide) (by decide) (by decide) (fun _ => ?_) (fun z => absurd z (by decide))
    refine lv_iload_n hx hb dX13_sign_10 rfl (lv_at hl 2 rfl) ?_
    refine lv_bipush (v := (nI 61)) hx hb dX13_sign_11 (by decide) ?_
    refine n_icmp_ne (tgt := 20) hx hb dX13_sign_13 (by decide) (by decide) (by decide) (fun _ => ?_) (fun z => absurd z (by decide))
    refine lv_iload_n hx hb dX13_sign_20 rfl (lv_at hl 2 rfl) ?_
    refine lv_bipush (v := (nI 40)) hx hb dX13_sign_21 (by decide) ?_
    refine n_icmp_ne (tgt := 31) hx hb dX13_sign_23 (by decide) (by decide) (by decide) (fun _ => ?_) (fun z => absurd z (by decide))
    refine lv_iload_n hx hb dX13_sign_31 rfl (lv_at hl 2 rfl) ?_
    refine lv_bipush (v := (nI 41)) hx hb dX13_sign_32 (by decide) ?_
    refine n_icmp_ne (tgt := 42) hx hb dX13_sign_34 (by decide) (by decide) (by decide) (fun _ => ?_) (fun z => absurd z (by decide))
    refine lv_iconst (v := (nI 3)) hx hb dX13_sign_42 (by decide) ?_
    refine lv_istore (lv' := [(4, .int (nI 3)), (0, .ref o), (1, .int i), (2, .int (nI 42)), (3, .int d)]) hx hb dX13_sign_43 hl (by decide) rfl (fun ls hl => ?_)
    refine lv_iload_n hx hb dX13_sign_45 rfl (lv_at hl 3 rfl) ?_
    refine lv_bipush (v := (nI 43)) hx hb dX13_sign_46 (by decide) ?_
    refine n_icmp_ne (tgt := 55) hx hb dX13_sign_48 (by decide) (by decide) (by decide) (fun _ => ?_) (fun z => absurd z (by decide))
    refine lv_iload_n hx hb dX13_sign_55 rfl (lv_at hl 3 rfl) ?_
    refine lv_bipush (v := (nI 45)) hx hb dX13_sign_56 (by decide) ?_
    refine n_icmp_ne (tgt := 65) hx hb dX13_sign_58 (by decide) (by decide) (by decide) (fun _ => ?_) (fun z => absurd z (by decide))
    refine lv_iload_n hx hb dX13_sign_65 rfl (lv_at hl 3 rfl) ?_
    refine lv_bipush (v := (nI 42)) hx hb dX13_sign_66 (by decide) ?_
    refine n_icmp_ne (tgt := 75) hx hb dX13_sign_68 (by decide) (by decide) (by decide) (fun z => absurd z (by decide)) (fun _ => ?_)
    refine lv_bipush (v := (nI 10)) hx hb dX13_sign_71 (by decide) ?_
    refine lv_istore (lv' := [(4, .int (nI 10)), (0, .ref o), (1, .int i), (2, .int (nI 42)), (3, .int d)]) hx hb dX13_sign_73 hl (by decide) rfl (fun ls hl => ?_)
    refine lv_iload_n hx hb dX13_sign_75 rfl (lv_at hl 3 rfl) ?_
    refine lv_bipush (v := (nI 47)) hx hb dX13_sign_76 (by decide) ?_
    refine n_icmp_ne (tgt := 85) hx hb dX13_sign_78 (by decide) (by decide) (by decide) (fun _ => ?_) (fun z => absurd z (by decide))
    refine lv_iload_n hx hb dX13_sign_85 rfl (lv_at hl 3 rfl) ?_
    refine lv_bipush (v := (nI 60)) hx hb dX13_sign_86 (by decide) ?_
    refine n_icmp_ne (tgt := 95) hx hb dX13_sign_88 (by decide) (by decide) (by decide) (fun _ => ?_) (fun z => absurd z (by decide))
    refine lv_aload_n hx hb dX13_sign_95 rfl (lv_at hl 1 rfl) ?_
    refine lv_iload hx hb dX13_sign_96 (lv_at hl 0 rfl) ?_
    refine lv_iload_n hx hb dX13_sign_98 rfl (lv_at hl 2 rfl) ?_
    refine lv_iconst (v := (nI 0)) hx hb dX13_sign_99 (by decide) ?_
    refine lv_lconst (v := 0) hx hb dX13_sign_100 (by decide) ?_
    refine c_VV hx hb hml hts hown hK hl.1 hS ⟨Nat.le_refl _, Nat.le_refl _⟩ (met_X13_token l D dA hG k (by omega) hV (nI 10) i (nI 0) 0) (cw_X13_185 hts ⟨by decide, by decide⟩) (hG 0 _ rfl) rfl rfl rfl rfl (Nat.le_of_ble_eq_true rfl) dX13_sign_101 (fun _ h => h) (fun H1 locs hq hF hS => ?_)
    obtain ⟨V1, L1, hG, rfl, rfl⟩ := hq
    generalize hHe7 : H1 = H at hG hS ⊢
    clear hHe7
    refine lv_iconst (v := (nI 1)) hx hb dX13_sign_104 (by decide) ?_
    refine hend _ _ _ _ _ hS dX13_sign_105 ?_
    exact ⟨_, rfl, rfl, _, _, hG, rfl, rfl⟩
  · have hl : lv_has ls 5 [(0, .ref o), (1, .int i), (2, .int (nI 47)), (3, .int d)] := hl
    refine lv_iload_n hx hb dX13_sign_0 rfl (lv_at hl 2 rfl) ?_
    refine lv_bipush (v := (nI 59)) hx hb dX13_sign_1 (by decide) ?_
    refine n_icmp_ne (tgt := 10) hx hb dX13_sign_3 (by decide) (by decide) (by decide) (fun _ => ?_) (fun z => absurd z (by decide))
    refine lv_iload_n hx hb dX13_sign_10 rfl (lv_at hl 2 rfl) ?_
    refine lv_bipush (v := (nI 61)) hx hb dX13_sign_11 (by decide) ?_
    refine n_icmp_ne (tgt := 20) hx hb dX13_sign_13 (by decide) (by decide) (by decide) (fun _ => ?_) (fun z => absurd z (by decide))
    refine lv_iload_n hx hb dX13_sign_20 rfl (lv_at hl 2 rfl) ?_
    refine lv_bipush (v := (nI 40)) hx hb dX13_sign_21 (by decide) ?_
    refine n_icmp_ne (tgt := 31) hx hb dX13_sign_23 (by decide) (by decide) (by decide) (fun _ => ?_) (fun z => absurd z (by decide))
    refine lv_iload_n hx hb dX13_sign_31 rfl (lv_at hl 2 rfl) ?_
    refine lv_bipush (v := (nI 41)) hx hb dX13_sign_32 (by decide) ?_
    refine n_icmp_ne (tgt := 42) hx hb dX13_sign_34 (by decide) (by decide) (by decide) (fun _ => ?_) (fun z => absurd z (by decide))
    refine lv_iconst (v := (nI 3)) hx hb dX13_sign_42 (by decide) ?_
    refine lv_istore (lv' := [(4, .int (nI 3)), (0, .ref o), (1, .int i), (2, .int (nI 47)), (3, .int d)]) hx hb dX13_sign_43 hl (by decide) rfl (fun ls hl => ?_)
    refine lv_iload_n hx hb dX13_sign_45 rfl (lv_at hl 3 rfl) ?_
    refine lv_bipush (v := (nI 43)) hx hb dX13_sign_46 (by decide) ?_
    refine n_icmp_ne (tgt := 55) hx hb dX13_sign_48 (by decide) (by decide) (by decide) (fun _ => ?_) (fun z => absurd z (by decide))
    refine lv_iload_n hx hb dX13_sign_55 rfl (lv_at hl 3 rfl) ?_
    refine lv_bipush (v := (nI 45)) hx hb dX13_sign_56 (by decide) ?_
    refine n_icmp_ne (tgt := 65) hx hb dX13_sign_58 (by decide) (by decide) (by decide) (fun _ => ?_) (fun z => absurd z (by decide))
    refine lv_iload_n hx hb dX13_sign_65 rfl (lv_at hl 3 rfl) ?_
    refine lv_bipush (v := (nI 42)) hx hb dX13_sign_66 (by decide) ?_
    refine n_icmp_ne (tgt := 75) hx hb dX13_sign_68 (by decide) (by decide) (by decide) (fun _ => ?_) (fun z => absurd z (by decide))
    refine lv_iload_n hx hb dX13_sign_75 rfl (lv_at hl 3 rfl) ?_
    refine lv_bipush (v := (nI 47)) hx hb dX13_sign_76 (by decide) ?_
    refine n_icmp_ne (tgt := 85) hx hb dX13_sign_78 (by decide) (by decide) (by decide) (fun z => absurd z (by decide)) (fun _ => ?_)
    refine lv_bipush (v := (nI 15)) hx hb dX13_sign_81 (by decide) ?_
    refine lv_istore (lv' := [(4, .int (nI 15)), (0, .ref o), (1, .int i), (2, .int (nI 47)), (3, .int d)]) hx hb dX13_sign_83 hl (by decide) rfl (fun ls hl => ?_)
    refine lv_iload_n hx hb dX13_sign_85 rfl (lv_at hl 3 rfl) ?_
    refine lv_bipush (v := (nI 60)) hx hb dX13_sign_86 (by decide) ?_
    refine n_icmp_ne (tgt := 95) hx hb dX13_sign_88 (by decide) (by decide) (by decide) (fun _ => ?_) (fun z => absurd z (by decide))
    refine lv_aload_n hx hb dX13_sign_95 rfl (lv_at hl 1 rfl) ?_
    refine lv_iload hx hb dX13_sign_96 (lv_at hl 0 rfl) ?_
    refine lv_iload_n hx hb dX13_sign_98 rfl (lv_at hl 2 rfl) ?_
    refine lv_iconst (v := (nI 0)) hx hb dX13_sign_99 (by decide) ?_
    refine lv_lconst (v := 0) hx hb dX13_sign_100 (by decide) ?_
    refine c_VV hx hb hml hts hown hK hl.1 hS ⟨Nat.le_refl _, Nat.le_refl _⟩ (met_X13_token l D dA hG k (by omega) hV (nI 15) i (nI 0) 0) (cw_X13_185 hts ⟨by decide, by decide⟩) (hG 0 _ rfl) rfl rfl rfl rfl (Nat.le_of_ble_eq_true rfl) dX13_sign_101 (fun _ h => h) (fun H1 locs hq hF hS => ?_)
    obtain ⟨V1, L1, hG, rfl, rfl⟩ := hq
    generalize hHe8 : H1 = H at hG hS ⊢
    clear hHe8
    refine lv_iconst (v := (nI 1)) hx hb dX13_sign_104 (by decide) ?_
    refine hend _ _ _ _ _ hS dX13_sign_105 ?_
    exact ⟨_, rfl, rfl, _, _, hG, rfl, rfl⟩
  · have hl : lv_has ls 5 [(0, .ref o), (1, .int i), (2, .int (nI 60)), (3, .int d)] := hl
    refine lv_iload_n hx hb dX13_sign_0 rfl (lv_at hl 2 rfl) ?_
    refine lv_bipush (v := (nI 59)) hx hb dX13_sign_1 (by decide) ?_
    refine n_icmp_ne (tgt := 10) hx hb dX13_sign_3 (by decide) (by decide) (by decide) (fun _ => ?_) (fun z => absurd z (by decide))
    refine lv_iload_n hx hb dX13_sign_10 rfl (lv_at hl 2 rfl) ?_
    refine lv_bipush (v := (nI 61)) hx hb dX13_sign_11 (by decide) ?_
    refine n_icmp_ne (tgt := 20) hx hb dX13_sign_13 (by decide) (by decide) (by decide) (fun _ => ?_) (fun z => absurd z (by decide))
    refine lv_iload_n hx hb dX13_sign_20 rfl (lv_at hl 2 rfl) ?_
    refine lv_bipush (v := (nI 40)) hx hb dX13_sign_21 (by decide) ?_
    refine n_icmp_ne (tgt := 31) hx hb dX13_sign_23 (by decide) (by decide) (by decide) (fun _ => ?_) (fun z => absurd z (by decide))
    refine lv_iload_n hx hb dX13_sign_31 rfl (lv_at hl 2 rfl) ?_
    refine lv_bipush (v := (nI 41)) hx hb dX13_sign_32 (by decide) ?_
    refine n_icmp_ne (tgt := 42) hx hb dX13_sign_34 (by decide) (by decide) (by decide) (fun _ => ?_) (fun z => absurd z (by decide))
    refine lv_iconst (v := (nI 3)) hx hb dX13_sign_42 (by decide) ?_
    refine lv_istore (lv' := [(4, .int (nI 3)), (0, .ref o), (1, .int i), (2, .int (nI 60)), (3, .int d)]) hx hb dX13_sign_43 hl (by decide) rfl (fun ls hl => ?_)
    refine lv_iload_n hx hb dX13_sign_45 rfl (lv_at hl 3 rfl) ?_
    refine lv_bipush (v := (nI 43)) hx hb dX13_sign_46 (by decide) ?_
    refine n_icmp_ne (tgt := 55) hx hb dX13_sign_48 (by decide) (by decide) (by decide) (fun _ => ?_) (fun z => absurd z (by decide))
    refine lv_iload_n hx hb dX13_sign_55 rfl (lv_at hl 3 rfl) ?_
    refine lv_bipush (v := (nI 45)) hx hb dX13_sign_56 (by decide) ?_
    refine n_icmp_ne (tgt := 65) hx hb dX13_sign_58 (by decide) (by decide) (by decide) (fun _ => ?_) (fun z => absurd z (by decide))
    refine lv_iload_n hx hb dX13_sign_65 rfl (lv_at hl 3 rfl) ?_
    refine lv_bipush (v := (nI 42)) hx hb dX13_sign_66 (by decide) ?_
    refine n_icmp_ne (tgt := 75) hx hb dX13_sign_68 (by decide) (by decide) (by decide) (fun _ => ?_) (fun z => absurd z (by decide))
    refine lv_iload_n hx hb dX13_sign_75 rfl (lv_at hl 3 rfl) ?_
    refine lv_bipush (v := (nI 47)) hx hb dX13_sign_76 (by decide) ?_
    refine n_icmp_ne (tgt := 85) hx hb dX13_sign_78 (by decide) (by decide) (by decide) (fun _ => ?_) (fun z => absurd z (by decide))
    refine lv_iload_n hx hb dX13_sign_85 rfl (lv_at hl 3 rfl) ?_
    refine lv_bipush (v := (nI 60)) hx hb dX13_sign_86 (by decide) ?_
    refine n_icmp_ne (tgt := 95) hx hb dX13_sign_88 (by decide) (by decide) (by decide) (fun z => absurd z (by decide)) (fun _ => ?_)
    refine lv_bipush (v := (nI 13)) hx hb dX13_sign_91 (by decide) ?_
    refine lv_istore (lv' := [(4, .int (nI 13)), (0, .ref o), (1, .int i), (2, .int (nI 60)), (3, .int d)]) hx hb dX13_sign_93 hl (by decide) rfl (fun ls hl => ?_)
    refine lv_aload_n hx hb dX13_sign_95 rfl (lv_at hl 1 rfl) ?_
    refine lv_iload hx hb dX13_sign_96 (lv_at hl 0 rfl) ?_
    refine lv_iload_n hx hb dX13_sign_98 rfl (lv_at hl 2 rfl) ?_
    refine lv_iconst (v := (nI 0)) hx hb dX13_sign_99 (by decide) ?_
    refine lv_lconst (v := 0) hx hb dX13_sign_100 (by decide) ?_
    refine c_VV hx hb hml hts hown hK hl.1 hS ⟨Nat.le_refl _, Nat.le_refl _⟩ (met_X13_token l D dA hG k (by omega) hV (nI 13) i (nI 0) 0) (cw_X13_185 hts ⟨by decide, by decide⟩) (hG 0 _ rfl) rfl rfl rfl rfl (Nat.le_of_ble_eq_true rfl) dX13_sign_101 (fun _ h => h) (fun H1 locs hq hF hS => ?_)
    obtain ⟨V1, L1, hG, rfl, rfl⟩ := hq
    generalize hHe9 : H1 = H at hG hS ⊢
    clear hHe9
    refine lv_iconst (v := (nI 1)) hx hb dX13_sign_104 (by decide) ?_
    refine hend _ _ _ _ _ hS dX13_sign_105 ?_
    exact ⟨_, rfl, rfl, _, _, hG, rfl, rfl⟩
  refine lv_iload_n hx hb dX13_sign_0 rfl (lv_at hl 2 rfl) ?_
  refine lv_bipush (v := (nI 59)) hx hb dX13_sign_1 (by decide) ?_
  refine n_icmp_ne (tgt := 10) hx hb dX13_sign_3 (by decide) (by omega) (by omega) (fun _ => ?_) (fun z => absurd z n59)
  refine lv_iload_n hx hb dX13_sign_10 rfl (lv_at hl 2 rfl) ?_
  refine lv_bipush (v := (nI 61)) hx hb dX13_sign_11 (by decide) ?_
  refine n_icmp_ne (tgt := 20) hx hb dX13_sign_13 (by decide) (by omega) (by omega) (fun _ => ?_) (fun z => absurd z n61)
  refine lv_iload_n hx hb dX13_sign_20 rfl (lv_at hl 2 rfl) ?_
  refine lv_bipush (v := (nI 40)) hx hb dX13_sign_21 (by decide) ?_
  refine n_icmp_ne (tgt := 31) hx hb dX13_sign_23 (by decide) (by omega) (by omega) (fun _ => ?_) (fun z => absurd z n40)
  refine lv_iload_n hx hb dX13_sign_31 rfl (lv_at hl 2 rfl) ?_
  refine lv_bipush (v := (nI 41)) hx hb dX13_sign_32 (by decide) ?_
  refine n_icmp_ne (tgt := 42) hx hb dX13_sign_34 (by decide) (by omega) (by omega) (fun _ => ?_) (fun z => absurd z n41)
  refine lv_iconst (v := (nI 3)) hx hb dX13_sign_42 (by decide) ?_
  refine lv_istore (lv' := [(4, .int (nI 3)), (0, .ref o), (1, .int i), (2, .int (nI c0)), (3, .int d)]) hx hb dX13_sign_43 hl (by decide) rfl (fun ls hl => ?_)
  refine lv_iload_n hx hb dX13_sign_45 rfl (lv_at hl 3 rfl) ?_
  refine lv_bipush (v := (nI 43)) hx hb dX13_sign_46 (by decide) ?_
  refine n_icmp_ne (tgt := 55) hx hb dX13_sign_48 (by decide) (by omega) (by omega) (fun _ => ?_) (fun z => absurd z n43)
  refine lv_iload_n hx hb dX13_sign_55 rfl (lv_at hl 3 rfl) ?_
  refine lv_bipush (v := (nI 45)) hx hb dX13_sign_56 (by decide) ?_
  refine n_icmp_ne (tgt := 65) hx hb dX13_sign_58 (by decide) (by omega) (by omega) (fun _ => ?_) (fun z => absurd z n45)
  refine lv_iload_n hx hb dX13_sign_65 rfl (lv_at hl 3 rfl) ?_
  refine lv_bipush (v := (nI 42)) hx hb dX13_sign_66 (by decide) ?_
  refine n_icmp_ne (tgt := 75) hx hb dX13_sign_68 (by decide) (by omega) (by omega) (fun _ => ?_) (fun z => absurd z n42)
  refine lv_iload_n hx hb dX13_sign_75 rfl (lv_at hl 3 rfl) ?_
  refine lv_bipush (v := (nI 47)) hx hb dX13_sign_76 (by decide) ?_
  refine n_icmp_ne (tgt := 85) hx hb dX13_sign_78 (by decide) (by omega) (by omega) (fun _ => ?_) (fun z => absurd z n47)
  refine lv_iload_n hx hb dX13_sign_85 rfl (lv_at hl 3 rfl) ?_
  refine lv_bipush (v := (nI 60)) hx hb dX13_sign_86 (by decide) ?_
  refine n_icmp_ne (tgt := 95) hx hb dX13_sign_88 (by decide) (by omega) (by omega) (fun _ => ?_) (fun z => absurd z n60)
  refine lv_aload_n hx hb dX13_sign_95 rfl (lv_at hl 1 rfl) ?_
  refine lv_iload hx hb dX13_sign_96 (lv_at hl 0 rfl) ?_
  refine lv_iload_n hx hb dX13_sign_98 rfl (lv_at hl 2 rfl) ?_
  refine lv_iconst (v := (nI 0)) hx hb dX13_sign_99 (by decide) ?_
  refine lv_lconst (v := 0) hx hb dX13_sign_100 (by decide) ?_
  refine c_VV hx hb hml hts hown hK hl.1 hS ⟨Nat.le_refl _, Nat.le_refl _⟩ (met_X13_token l D dA hG k (by omega) hV (nI 3) i (nI 0) 0) (cw_X13_185 hts ⟨by decide, by decide⟩) (hG 0 _ rfl) rfl rfl rfl rfl (Nat.le_of_ble_eq_true rfl) dX13_sign_101 (fun _ h => h) (fun H1 locs hq hF hS => ?_)
  obtain ⟨V1, L1, hG, rfl, rfl⟩ := hq
  generalize hHe10 : H1 = H at hG hS ⊢
  clear hHe10
  refine lv_iconst (v := (nI 1)) hx hb dX13_sign_104 (by decide) ?_
  refine hend _ _ _ _ _ hS dX13_sign_105 ?_
  exact ⟨_, rfl, rfl, _, _, hG, by rw [sgK_o n60 n47 n42 n45 n43 n59 n61 n40 n41], rfl⟩
theorem cw_X13_181 {R : Room} {s : State} {args : Array Value} (hts : ∀ w ∈ lw_all, w.before args s = true) {f w k j : Nat} (hR : f + 1 ≤ R.frames ∧ 8 + (2 + 11) + w ≤ R.locals) : CallW R s args RX13 RX13 181 yX13_byteAt cX13_byteAt 2 (some .int) (ws_ yX13_byteAt cX13_byteAt 2 (some .int)) (mkRmC f w k j) k j 1 := cwV 1 hts (lw_V q1688 q1690 qs53 q129 q1691) rfl rfl rfl (by decide +kernel) hR
theorem cw_X13_189 {R : Room} {s : State} {args : Array Value} (hts : ∀ w ∈ lw_all, w.before args s = true) {f w k j : Nat} (hR : f + 1 ≤ R.frames ∧ 8 + (1 + 11) + w ≤ R.locals) : CallB R s args RX13 189 yX13_isLetter cX13_isLetter 1 (some .boolean) (ws_ yX13_isLetter cX13_isLetter 1 (some .boolean)) (mkRmC f w k j) k j 1 ∧ (Cond.static yX13_isLetter).before args s = true := va_cwS 1 hts (lw_S q1696 q1697 q129 q1698) rfl rfl rfl (by decide +kernel) hR
theorem cw_X13_193 {R : Room} {s : State} {args : Array Value} (hts : ∀ w ∈ lw_all, w.before args s = true) {f w k j : Nat} (hR : f + 1 ≤ R.frames ∧ 8 + (1 + 11) + w ≤ R.locals) : CallB R s args RX13 193 yX13_isDigit cX13_isDigit 1 (some .boolean) (ws_ yX13_isDigit cX13_isDigit 1 (some .boolean)) (mkRmC f w k j) k j 1 ∧ (Cond.static yX13_isDigit).before args s = true := va_cwS 1 hts (lw_S q1699 q1700 q129 q1701) rfl rfl rfl (by decide +kernel) hR
theorem cw_X13_196 {R : Room} {s : State} {args : Array Value} (hts : ∀ w ∈ lw_all, w.before args s = true) {f w k j : Nat} (hR : f + 1 ≤ R.frames ∧ 8 + (5 + 11) + w ≤ R.locals) : CallW R s args RX13 RX13 196 yX13_sign cX13_sign 5 (some .int) (ws_ yX13_sign cX13_sign 5 (some .int)) (mkRmC f w k j) k j 3 := cwV 3 hts (lw_V q1702 q1704 qs55 q129 q1705) rfl rfl rfl (by decide +kernel) hR
set_option maxHeartbeats 4000000 in
theorem met_X13_cut (l : Launch) (D : va_G) (dA : Nat → ClassId) {o : Nat} {V : GI} {L : GL} {Rf : GR} {H0 : Heap} (hG : gP D dA o dM V L Rf H0) (tp : List Int32) (htp9 : tp.length ≤ 2000) (hsz : V 0 4 = nI tp.length) (htx : ∀ (i : Nat) (x : Int32), tp[i]? = some x → V 2 i = x) (hky : ∀ k, k < 21 → L 7 k = lN (kyN k)) : Ctr l D dA yX13_cut cX13_cut 8 none (mkRm 2 49) [.ref o] H0 (AM o) (QV (fun H1 => ∃ V1 L1 m, gP D dA o dM V1 L1 Rf H1 ∧ Eqx PTk V V1 ∧ EqL P6 L L1 ∧ m ≤ 401 ∧ V1 0 10 = nI m ∧ tkM V1 L1 (chT tp) tp.length m ∧ (∀ j, j + 1 < m → kdF (chT tp) tp.length j ≠ 0) ∧ ((m = 401 ∧ kdF (chT tp) tp.length 400 ≠ 0) ∨ (kdF (chT tp) tp.length (m - 1) = 0 ∧ 0 < m)))) := by
  refine ctr_V (by decide) (Nat.le_of_ble_eq_true rfl) ?_
  intro p e s m args below meth c ls QQ locs hx hb hml hown hts hK hend hS hl
  have hl : lv_has ls 8 [(0, .ref o)] := hl
  refine lv_aload_n hx hb dX13_cut_0 rfl (lv_at hl 0 rfl) ?_
  refine lv_iconst (v := (nI 0)) hx hb dX13_cut_1 (by decide) ?_
  refine g_put hx hb hts hown hK hG hS 0 (AM_in 0 (by decide)) rfl rfl ok_X13 10 (by decide) q1481 rfl rfl rfl rfl dX13_cut_2 (fun H locs hG hO hS => ?_)
  refine lv_iconst (v := (nI 0)) hx hb dX13_cut_5 (by decide) ?_
  refine lv_istore_n (lv' := [(1, .int (nI 0)), (0, .ref o)]) hx hb dX13_cut_6 rfl hl (by decide) rfl (fun ls hl => ?_)
  have loop1 : ∀ (fu1 : Nat) (i : Nat) (k : Nat) (V1 : GI) (L1 : GL) (H : Heap) (locs : List Loc) (ls : Array Slot), tp.length + 1 - i < fu1 → (skp (chT tp) tp.length i = plF (chT tp) tp.length k) → (i ≤ tp.length) → (k ≤ 401) → (∀ j, j < k → kdF (chT tp) tp.length j ≠ 0) → (Eqx PTk (up2 V 0 10 (nI 0)) V1) → (EqL P6 L L1) → (V1 0 10 = nI k) → (tkM V1 L1 (chT tp) tp.length k) → gP D dA o dM V1 L1 Rf H → va_S (AM o) H0 H locs → lv_has ls 8 [(1, .int (nI i)), (0, .ref o)] → W p l e (mkRm 2 49) s m args below meth c H locs 0 0 QQ (F0 m 7 ls []) := by
    intro fu1
    induction fu1 with
    | zero => intro i k V1 L1 H locs ls hfu; exact absurd hfu (Nat.not_lt_zero _)
    | succ fu1 ih1 =>
      intro i k V1 L1 H locs ls hfu hsk hi hk hne hE1 hE1L h10 htk hG hS hl
      refine lv_aload_n hx hb dX13_cut_7 rfl (lv_at hl 1 rfl) ?_
      refine g_get (v := .int (nI k)) hx hb hts hown hK hG 0 rfl rfl ok_X13 10 (by decide) q1481 rfl (congrArg Value.int h10) dX13_cut_8 ?_
      refine lv_sipush (v := (nI 400)) hx hb dX13_cut_11 (by decide) ?_
      refine n_icmp_gt (tgt := 294) hx hb dX13_cut_14 (by decide) (by omega) (by omega) (fun c14 => ?_) (fun c14 => ?_)
      · refine hend _ _ _ _ hS dX13_cut_294 ?_
        obtain rfl : k = 401 := by omega
        exact ⟨rfl, _, _, 401, hG, ((Eqx.rf.up rfl).trans hE1), hE1L, Nat.le_refl _, h10, htk, fun j hj => hne j (by omega), Or.inl ⟨rfl, hne 400 (by omega)⟩⟩
      refine lv_aload_n hx hb dX13_cut_17 rfl (lv_at hl 1 rfl) ?_
      refine lv_iload_n hx hb dX13_cut_18 rfl (lv_at hl 0 rfl) ?_
      refine c_VI hx hb hml hts hown hK hl.1 hS ⟨Nat.le_refl _, Nat.le_refl _⟩ (met_X13_byteAt l D dA hG tp htp9 ((hE1 0 4 rfl).trans hsz) (by rw [(funext (fun j => hE1 2 j rfl))]; exact htx) i (by omega)) (cw_X13_181 hts ⟨by decide, by decide⟩) (hG 0 _ rfl) rfl rfl rfl rfl (Nat.le_of_ble_eq_true rfl) dX13_cut_19 (fun _ h => h.elim) (fun r H1 locs hq hF hS => ?_)
      obtain ⟨rfl, rfl⟩ := hq
      have hch19 := chT_lt tp i
      refine lv_istore_n (lv' := [(2, .int (nI (chT tp i))), (1, .int (nI i)), (0, .ref o)]) hx hb dX13_cut_22 rfl hl (by decide) rfl (fun ls hl => ?_)
      refine lv_iload_n hx hb dX13_cut_23 rfl (lv_at hl 1 rfl) ?_
      refine lv_aload_n hx hb dX13_cut_24 rfl (lv_at hl 2 rfl) ?_
      refine g_get (v := .int (nI tp.length)) hx hb hts hown hK hG 0 rfl rfl ok_X13 4 (by decide) q1475 rfl (congrArg Value.int ((hE1 0 4 rfl).trans hsz)) dX13_cut_25 ?_
      refine n_icmp_lt (tgt := 43) hx hb dX13_cut_28 (by decide) (by omega) (by omega) (fun c28 => ?_) (fun c28 => ?_)
      · refine lv_iload_n hx hb dX13_cut_43 rfl (lv_at hl 0 rfl) ?_
        refine lv_bipush (v := (nI 9)) hx hb dX13_cut_44 (by decide) ?_
        refine n_icmp_eq (tgt := 67) hx hb dX13_cut_46 (by decide) (by omega) (by omega) (fun c46 => ?_) (fun c46 => ?_)
        · refine lv_iinc (v := (nI (i + 1))) (lv' := [(1, .int (nI (i + 1))), (2, .int (nI (chT tp i))), (0, .ref o)]) hx hb dX13_cut_67 hl (k := 1) rfl (nI_add _ _) (by decide) rfl (fun ls hl => ?_)
          refine lv_goto (tgt := 291) hx hb dX13_cut_70 (by decide) ?_
          refine lv_goto (tgt := 7) hx hb dX13_cut_291 (by decide) ?_
          have hw : isW (chT tp i) = true := by unfold isW; simp only [Bool.or_eq_true, decide_eq_true_eq]; omega
          exact ih1 (i + 1) k V1 L1 _ _ _ (by omega) ((skp_1 (by omega) hw).symm.trans hsk) (by omega) (by omega) hne hE1 hE1L h10 htk hG hS (lv_sub hl [0, 2] rfl)
        refine lv_iload_n hx hb dX13_cut_49 rfl (lv_at hl 0 rfl) ?_
        refine lv_bipush (v := (nI 10)) hx hb dX13_cut_50 (by decide) ?_
        refine n_icmp_eq (tgt := 67) hx hb dX13_cut_52 (by decide) (by omega) (by omega) (fun c52 => ?_) (fun c52 => ?_)
        · refine lv_iinc (v := (nI (i + 1))) (lv' := [(1, .int (nI (i + 1))), (2, .int (nI (chT tp i))), (0, .ref o)]) hx hb dX13_cut_67 hl (k := 1) rfl (nI_add _ _) (by decide) rfl (fun ls hl => ?_)
          refine lv_goto (tgt := 291) hx hb dX13_cut_70 (by decide) ?_
          refine lv_goto (tgt := 7) hx hb dX13_cut_291 (by decide) ?_
          have hw : isW (chT tp i) = true := by unfold isW; simp only [Bool.or_eq_true, decide_eq_true_eq]; omega
          exact ih1 (i + 1) k V1 L1 _ _ _ (by omega) ((skp_1 (by omega) hw).symm.trans hsk) (by omega) (by omega) hne hE1 hE1L h10 htk hG hS (lv_sub hl [0, 2] rfl)
        refine lv_iload_n hx hb dX13_cut_55 rfl (lv_at hl 0 rfl) ?_
        refine lv_bipush (v := (nI 13)) hx hb dX13_cut_56 (by decide) ?_
        refine n_icmp_eq (tgt := 67) hx hb dX13_cut_58 (by decide) (by omega) (by omega) (fun c58 => ?_) (fun c58 => ?_)
        · refine lv_iinc (v := (nI (i + 1))) (lv' := [(1, .int (nI (i + 1))), (2, .int (nI (chT tp i))), (0, .ref o)]) hx hb dX13_cut_67 hl (k := 1) rfl (nI_add _ _) (by decide) rfl (fun ls hl => ?_)
          refine lv_goto (tgt := 291) hx hb dX13_cut_70 (by decide) ?_
          refine lv_goto (tgt := 7) hx hb dX13_cut_291 (by decide) ?_
          have hw : isW (chT tp i) = true := by unfold isW; simp only [Bool.or_eq_true, decide_eq_true_eq]; omega
          exact ih1 (i + 1) k V1 L1 _ _ _ (by omega) ((skp_1 (by omega) hw).symm.trans hsk) (by omega) (by omega) hne hE1 hE1L h10 htk hG hS (lv_sub hl [0, 2] rfl)
        refine lv_iload_n hx hb dX13_cut_61 rfl (lv_at hl 0 rfl) ?_
        refine lv_bipush (v := (nI 32)) hx hb dX13_cut_62 (by decide) ?_
        refine n_icmp_ne (tgt := 73) hx hb dX13_cut_64 (by decide) (by omega) (by omega) (fun c64 => ?_) (fun c64 => ?_)
        · refine lv_iload_n hx hb dX13_cut_73 rfl (lv_at hl 0 rfl) ?_
          refine c_SI hx hb hml hts hown hK hl.1 hS ⟨Nat.le_refl _, Nat.le_refl _⟩ (met_X13_isLetter l D dA (nI (chT tp i))) (cw_X13_189 hts ⟨by decide, by decide⟩) rfl rfl (Nat.le_of_ble_eq_true rfl) dX13_cut_74 (fun _ h => h.elim) (fun r H1 locs hq hF hS => ?_)
          obtain ⟨rfl, rfl⟩ := hq
          refine iv (y := nI (bN (isL (chT tp i)))) (inZ_nat (by omega) (by decide) (by decide)) ?_
          have hbb74 := bN_lt (isL (chT tp i))
          refine n_if_eq (tgt := 196) hx hb dX13_cut_77 (by decide) (by omega) (fun c77 => ?_) (fun c77 => ?_)
          · have hnl : ¬ isL (chT tp i) = true := bN0 c77
            refine lv_iload_n hx hb dX13_cut_196 rfl (lv_at hl 0 rfl) ?_
            refine c_SI hx hb hml hts hown hK hl.1 hS ⟨Nat.le_refl _, Nat.le_refl _⟩ (met_X13_isDigit l D dA (nI (chT tp i))) (cw_X13_193 hts ⟨by decide, by decide⟩) rfl rfl (Nat.le_of_ble_eq_true rfl) dX13_cut_197 (fun _ h => h.elim) (fun r H1 locs hq hF hS => ?_)
            obtain ⟨rfl, rfl⟩ := hq
            refine iv (y := nI (bN (isD (chT tp i)))) (inZ_nat (by omega) (by decide) (by decide)) ?_
            have hbb197 := bN_lt (isD (chT tp i))
            refine n_if_eq (tgt := 275) hx hb dX13_cut_200 (by decide) (by omega) (fun c200 => ?_) (fun c200 => ?_)
            · have hnd : ¬ isD (chT tp i) = true := bN0 c200
              refine lv_iload_n hx hb dX13_cut_275 rfl (lv_at hl 1 rfl) ?_
              refine lv_aload_n hx hb dX13_cut_276 rfl (lv_at hl 2 rfl) ?_
              refine lv_iload_n hx hb dX13_cut_277 rfl (lv_at hl 1 rfl) ?_
              refine lv_iload_n hx hb dX13_cut_278 rfl (lv_at hl 0 rfl) ?_
              refine lv_aload_n hx hb dX13_cut_279 rfl (lv_at hl 2 rfl) ?_
              refine lv_iload_n hx hb dX13_cut_280 rfl (lv_at hl 1 rfl) ?_
              refine lv_iconst (v := (nI 1)) hx hb dX13_cut_281 (by decide) ?_
              refine n_iadd hx hb dX13_cut_282 ?_
              refine c_VI hx hb hml hts hown hK hl.1 hS ⟨Nat.le_refl _, Nat.le_refl _⟩ (met_X13_byteAt l D dA hG tp htp9 ((hE1 0 4 rfl).trans hsz) (by rw [(funext (fun j => hE1 2 j rfl))]; exact htx) (i + 1) (by omega)) (cw_X13_181 hts ⟨by decide, by decide⟩) (hG 0 _ rfl) rfl rfl rfl rfl (Nat.le_of_ble_eq_true rfl) dX13_cut_283 (fun _ h => h.elim) (fun r H1 locs hq hF hS => ?_)
              obtain ⟨rfl, rfl⟩ := hq
              have hch283 := chT_lt tp (i + 1)
              refine c_VI hx hb hml hts hown hK hl.1 hS ⟨Nat.le_refl _, Nat.le_refl _⟩ (met_X13_sign l D dA hG k (by omega) h10 (nI i) (chT tp i) (chT_lt _ _) (nI (chT tp (i + 1)))) (cw_X13_196 hts ⟨by decide, by decide⟩) (hG 0 _ rfl) rfl rfl rfl rfl (Nat.le_of_ble_eq_true rfl) dX13_cut_286 (fun _ h => h) (fun r H1 locs hq hF hS => ?_)
              obtain ⟨rfl, V1, L1, hG, rfl, rfl⟩ := hq
              generalize hHe2 : H1 = H at hG hS ⊢
              clear hHe2
              refine n_iadd hx hb dX13_cut_289 ?_
              refine lv_istore_n (lv' := [(1, .int (nI (i + 1))), (2, .int (nI (chT tp i))), (0, .ref o)]) hx hb dX13_cut_290 rfl hl (by decide) rfl (fun ls hl => ?_)
              refine lv_goto (tgt := 7) hx hb dX13_cut_291 (by decide) ?_
              have hnw : ¬ isW (chT tp i) = true := by unfold isW; simp only [Bool.or_eq_true, decide_eq_true_eq]; omega
              obtain ⟨hp1, hp2, hp3⟩ := tk_lx hsk (by omega) hnw
              have hlx : lxF (chT tp) tp.length i = (sgK (chT tp i), 0, 0, 1) := by
                unfold lxF; rw [if_neg hnl, if_neg hnd]
              have hkpos := (sgK_pos (chT tp i)).1
              exact ih1 (i + 1) (k + 1) (up2 (up2 (up2 (up2 V1 3 k (nI (sgK (chT tp i)))) 4 k (nI i)) 5 k (nI 0)) 0 10 (nI (k + 1))) (up2 L1 6 k 0) _ _ _ (by omega) (by rw [show i + 1 = psF (chT tp) tp.length (k + 1) by rw [hp3, hlx]] <;> rfl) (by omega) (by omega) (fun j hj => by rcases (show j < k ∨ j = k by omega) with h | h; exact hne j h; subst h; unfold kdF; rw [hp2, hlx]; exact hkpos) (Eqx.up (Eqx.up (Eqx.up (Eqx.up hE1 rfl) rfl) rfl) rfl) (EqL.up hE1L rfl) up2_s (tkM_add htk (by unfold kdF; rw [hp2, hlx]) (by rw [hp1]) (by unfold vlF; rw [hp2, hlx] <;> rfl) (by unfold nmF; rw [hp2, hlx] <;> rfl)) hG hS (lv_sub hl [0, 2] rfl)
            have hid : isD (chT tp i) = true := bN1 (by omega)
            refine lv_iconst (v := (nI 0)) hx hb dX13_cut_203 (by decide) ?_
            refine lv_istore_n (lv' := [(3, .int (nI 0)), (2, .int (nI (chT tp i))), (1, .int (nI i)), (0, .ref o)]) hx hb dX13_cut_204 rfl hl (by decide) rfl (fun ls hl => ?_)
            refine lv_iconst (v := (nI 0)) hx hb dX13_cut_205 (by decide) ?_
            refine lv_istore (lv' := [(4, .int (nI 0)), (3, .int (nI 0)), (2, .int (nI (chT tp i))), (1, .int (nI i)), (0, .ref o)]) hx hb dX13_cut_206 hl (by decide) rfl (fun ls hl => ?_)
            have loop3 : ∀ (fu3 : Nat) (n : Nat) (locs : List Loc) (ls : Array Slot), tp.length - (i + n) < fu3 → (i + n ≤ tp.length) → (rnN isD (chT tp) (tp.length - i) i = rnN isD (chT tp) (tp.length - (i + n)) (i + n) + n) → va_S (AM o) H0 H locs → lv_has ls 8 [(4, .int (nI (dgN (chT tp) i n))), (3, .int (nI n)), (2, .int (nI (chT tp i))), (1, .int (nI i)), (0, .ref o)] → W p l e (mkRm 2 49) s m args below meth c H locs 0 0 QQ (F0 m 208 ls []) := by
              intro fu3
              induction fu3 with
              | zero => intro n locs ls hfu; exact absurd hfu (Nat.not_lt_zero _)
              | succ fu3 ih3 =>
                intro n locs ls hfu hin hru hS hl
                have hdg := dg24 (chT tp) i n (chT_lt tp)
                refine lv_aload_n hx hb dX13_cut_208 rfl (lv_at hl 4 rfl) ?_
                refine lv_iload_n hx hb dX13_cut_209 rfl (lv_at hl 3 rfl) ?_
                refine lv_iload_n hx hb dX13_cut_210 rfl (lv_at hl 1 rfl) ?_
                refine n_iadd hx hb dX13_cut_211 ?_
                refine c_VI hx hb hml hts hown hK hl.1 hS ⟨Nat.le_refl _, Nat.le_refl _⟩ (met_X13_byteAt l D dA hG tp htp9 ((hE1 0 4 rfl).trans hsz) (by rw [(funext (fun j => hE1 2 j rfl))]; exact htx) (i + n) (by omega)) (cw_X13_181 hts ⟨by decide, by decide⟩) (hG 0 _ rfl) rfl rfl rfl rfl (Nat.le_of_ble_eq_true rfl) dX13_cut_212 (fun _ h => h.elim) (fun r H1 locs hq hF hS => ?_)
                obtain ⟨rfl, rfl⟩ := hq
                have hch212 := chT_lt tp (i + n)
                refine c_SI hx hb hml hts hown hK hl.1 hS ⟨Nat.le_refl _, Nat.le_refl _⟩ (met_X13_isDigit l D dA (nI (chT tp (i + n)))) (cw_X13_193 hts ⟨by decide, by decide⟩) rfl rfl (Nat.le_of_ble_eq_true rfl) dX13_cut_215 (fun _ h => h.elim) (fun r H1 locs hq hF hS => ?_)
                obtain ⟨rfl, rfl⟩ := hq
                refine iv (y := nI (bN (isD (chT tp (i + n))))) (inZ_nat (by omega) (by decide) (by decide)) ?_
                have hbb215 := bN_lt (isD (chT tp (i + n)))
                refine n_if_eq (tgt := 250) hx hb dX13_cut_218 (by decide) (by omega) (fun c218 => ?_) (fun c218 => ?_)
                · have hrn : rnN isD (chT tp) (tp.length - i) i = n := by rw [hru, rnN_0 (bN0 c218), Nat.zero_add]
                  have hn1 : 1 ≤ n := by
                    have := rnN_1 (p := isD) (ch := chT tp) (sz := tp.length) (i := i) (by omega) hid
                    omega
                  refine lv_aload_n hx hb dX13_cut_250 rfl (lv_at hl 4 rfl) ?_
                  refine lv_iload_n hx hb dX13_cut_251 rfl (lv_at hl 1 rfl) ?_
                  refine lv_iconst (v := (nI 4)) hx hb dX13_cut_252 (by decide) ?_
                  refine n_icmp_le (tgt := 260) hx hb dX13_cut_253 (by decide) (by omega) (by omega) (fun c253 => ?_) (fun c253 => ?_)
                  · refine lv_iconst (v := (nI 2)) hx hb dX13_cut_260 (by decide) ?_
                    refine lv_iload_n hx hb dX13_cut_261 rfl (lv_at hl 3 rfl) ?_
                    refine lv_iload hx hb dX13_cut_262 (lv_at hl 0 rfl) ?_
                    refine lv_lconst (v := 0) hx hb dX13_cut_264 (by decide) ?_
                    refine c_VV hx hb hml hts hown hK hl.1 hS ⟨Nat.le_refl _, Nat.le_refl _⟩ (met_X13_token l D dA hG k (by omega) h10 (nI 2) (nI i) (nI (dgN (chT tp) i n)) 0) (cw_X13_185 hts ⟨by decide, by decide⟩) (hG 0 _ rfl) rfl rfl rfl rfl (Nat.le_of_ble_eq_true rfl) dX13_cut_265 (fun _ h => h) (fun H1 locs hq hF hS => ?_)
                    obtain ⟨V1, L1, hG, rfl, rfl⟩ := hq
                    generalize hHe4 : H1 = H at hG hS ⊢
                    clear hHe4
                    refine lv_iload_n hx hb dX13_cut_268 rfl (lv_at hl 3 rfl) ?_
                    refine lv_iload_n hx hb dX13_cut_269 rfl (lv_at hl 1 rfl) ?_
                    refine n_iadd hx hb dX13_cut_270 ?_
                    refine lv_istore_n (lv' := [(1, .int (nI (i + n))), (4, .int (nI (dgN (chT tp) i n))), (3, .int (nI n)), (2, .int (nI (chT tp i))), (0, .ref o)]) hx hb dX13_cut_271 rfl hl (by decide) rfl (fun ls hl => ?_)
                    refine lv_goto (tgt := 291) hx hb dX13_cut_272 (by decide) ?_
                    refine lv_goto (tgt := 7) hx hb dX13_cut_291 (by decide) ?_
                    have hnw : ¬ isW (chT tp i) = true := by unfold isW; simp only [Bool.or_eq_true, decide_eq_true_eq]; omega
                    obtain ⟨hp1, hp2, hp3⟩ := tk_lx hsk (by omega) hnw
                    have hlx : lxF (chT tp) tp.length i = (2, dgN (chT tp) i n, 0, n) := by
                      unfold lxF; rw [if_neg hnl, if_pos hid, hrn, if_neg (by omega)]
                    have hkpos : (2 : Nat) ≠ 0 := by decide
                    exact ih1 (i + n) (k + 1) (up2 (up2 (up2 (up2 V1 3 k (nI 2)) 4 k (nI i)) 5 k (nI (dgN (chT tp) i n))) 0 10 (nI (k + 1))) (up2 L1 6 k 0) _ _ _ (by omega) (by rw [show i + n = psF (chT tp) tp.length (k + 1) by rw [hp3, hlx]] <;> rfl) (by omega) (by omega) (fun j hj => by rcases (show j < k ∨ j = k by omega) with h | h; exact hne j h; subst h; unfold kdF; rw [hp2, hlx]; exact hkpos) (Eqx.up (Eqx.up (Eqx.up (Eqx.up hE1 rfl) rfl) rfl) rfl) (EqL.up hE1L rfl) up2_s (tkM_add htk (by unfold kdF; rw [hp2, hlx]) (by rw [hp1]) (by unfold vlF; rw [hp2, hlx] <;> rfl) (by unfold nmF; rw [hp2, hlx] <;> rfl)) hG hS (lv_sub hl [0, 4] rfl)
                  refine lv_iconst (v := (nI 3)) hx hb dX13_cut_256 (by decide) ?_
                  refine lv_goto (tgt := 261) hx hb dX13_cut_257 (by decide) ?_
                  refine lv_iload_n hx hb dX13_cut_261 rfl (lv_at hl 3 rfl) ?_
                  refine lv_iload hx hb dX13_cut_262 (lv_at hl 0 rfl) ?_
                  refine lv_lconst (v := 0) hx hb dX13_cut_264 (by decide) ?_
                  refine c_VV hx hb hml hts hown hK hl.1 hS ⟨Nat.le_refl _, Nat.le_refl _⟩ (met_X13_token l D dA hG k (by omega) h10 (nI 3) (nI i) (nI (dgN (chT tp) i n)) 0) (cw_X13_185 hts ⟨by decide, by decide⟩) (hG 0 _ rfl) rfl rfl rfl rfl (Nat.le_of_ble_eq_true rfl) dX13_cut_265 (fun _ h => h) (fun H1 locs hq hF hS => ?_)
                  obtain ⟨V1, L1, hG, rfl, rfl⟩ := hq
                  generalize hHe5 : H1 = H at hG hS ⊢
                  clear hHe5
                  refine lv_iload_n hx hb dX13_cut_268 rfl (lv_at hl 3 rfl) ?_
                  refine lv_iload_n hx hb dX13_cut_269 rfl (lv_at hl 1 rfl) ?_
                  refine n_iadd hx hb dX13_cut_270 ?_
                  refine lv_istore_n (lv' := [(1, .int (nI (i + n))), (4, .int (nI (dgN (chT tp) i n))), (3, .int (nI n)), (2, .int (nI (chT tp i))), (0, .ref o)]) hx hb dX13_cut_271 rfl hl (by decide) rfl (fun ls hl => ?_)
                  refine lv_goto (tgt := 291) hx hb dX13_cut_272 (by decide) ?_
                  refine lv_goto (tgt := 7) hx hb dX13_cut_291 (by decide) ?_
                  have hnw : ¬ isW (chT tp i) = true := by unfold isW; simp only [Bool.or_eq_true, decide_eq_true_eq]; omega
                  obtain ⟨hp1, hp2, hp3⟩ := tk_lx hsk (by omega) hnw
                  have hlx : lxF (chT tp) tp.length i = (3, dgN (chT tp) i n, 0, n) := by
                    unfold lxF; rw [if_neg hnl, if_pos hid, hrn, if_pos (by omega)]
                  have hkpos : (3 : Nat) ≠ 0 := by decide
                  exact ih1 (i + n) (k + 1) (up2 (up2 (up2 (up2 V1 3 k (nI 3)) 4 k (nI i)) 5 k (nI (dgN (chT tp) i n))) 0 10 (nI (k + 1))) (up2 L1 6 k 0) _ _ _ (by omega) (by rw [show i + n = psF (chT tp) tp.length (k + 1) by rw [hp3, hlx]] <;> rfl) (by omega) (by omega) (fun j hj => by rcases (show j < k ∨ j = k by omega) with h | h; exact hne j h; subst h; unfold kdF; rw [hp2, hlx]; exact hkpos) (Eqx.up (Eqx.up (Eqx.up (Eqx.up hE1 rfl) rfl) rfl) rfl) (EqL.up hE1L rfl) up2_s (tkM_add htk (by unfold kdF; rw [hp2, hlx]) (by rw [hp1]) (by unfold vlF; rw [hp2, hlx] <;> rfl) (by unfold nmF; rw [hp2, hlx] <;> rfl)) hG hS (lv_sub hl [0, 4] rfl)
                have hlt : i + n < tp.length := by
                  apply Classical.byContradiction
                  intro hz
                  have h0 := chT_0 (tp := tp) (i := i + n) (by omega)
                  rw [h0] at c218
                  exact absurd c218 (by decide)
                have hle : 48 ≤ chT tp (i + n) := by
                  have h1 := bN1 (show ¬ bN (isD (chT tp (i + n))) = 0 by omega)
                  unfold isD at h1; simp only [Bool.and_eq_true, decide_eq_true_eq] at h1; omega
                refine lv_iload_n hx hb dX13_cut_221 rfl (lv_at hl 1 rfl) ?_
                refine lv_iconst (v := (nI 4)) hx hb dX13_cut_222 (by decide) ?_
                refine n_icmp_ge (tgt := 244) hx hb dX13_cut_223 (by decide) (by omega) (by omega) (fun c223 => ?_) (fun c223 => ?_)
                · refine lv_iinc (v := (nI (n + 1))) (lv' := [(3, .int (nI (n + 1))), (4, .int (nI (dgN (chT tp) i n))), (2, .int (nI (chT tp i))), (1, .int (nI i)), (0, .ref o)]) hx hb dX13_cut_244 hl (k := 1) rfl (nI_add _ _) (by decide) rfl (fun ls hl => ?_)
                  refine lv_goto (tgt := 208) hx hb dX13_cut_247 (by decide) ?_
                  exact ih3 (n + 1) _ _ (by omega) (by omega) (by rw [hru, rnN_1 hlt (bN1 (by omega)), Nat.add_assoc i n 1]; omega) hS (by rw [show dgN (chT tp) i (n + 1) = dgN (chT tp) i n from if_neg (by omega)]; exact lv_sub hl [1, 0, 2, 3, 4] rfl)
                refine lv_bipush (v := (nI 10)) hx hb dX13_cut_226 (by decide) ?_
                refine lv_iload hx hb dX13_cut_228 (lv_at hl 0 rfl) ?_
                refine n_imul hx hb dX13_cut_230 ?_
                refine lv_aload_n hx hb dX13_cut_231 rfl (lv_at hl 4 rfl) ?_
                refine lv_iload_n hx hb dX13_cut_232 rfl (lv_at hl 3 rfl) ?_
                refine lv_iload_n hx hb dX13_cut_233 rfl (lv_at hl 1 rfl) ?_
                refine n_iadd hx hb dX13_cut_234 ?_
                refine c_VI hx hb hml hts hown hK hl.1 hS ⟨Nat.le_refl _, Nat.le_refl _⟩ (met_X13_byteAt l D dA hG tp htp9 ((hE1 0 4 rfl).trans hsz) (by rw [(funext (fun j => hE1 2 j rfl))]; exact htx) (i + n) (by omega)) (cw_X13_181 hts ⟨by decide, by decide⟩) (hG 0 _ rfl) rfl rfl rfl rfl (Nat.le_of_ble_eq_true rfl) dX13_cut_235 (fun _ h => h.elim) (fun r H1 locs hq hF hS => ?_)
                obtain ⟨rfl, rfl⟩ := hq
                have hch235 := chT_lt tp (i + n)
                refine n_iadd hx hb dX13_cut_238 ?_
                refine lv_bipush (v := (nI 48)) hx hb dX13_cut_239 (by decide) ?_
                refine n_isub hx hb dX13_cut_241 (by omega) ?_
                refine lv_istore (lv' := [(4, .int (nI (((10 * (dgN (chT tp) i n)) + (chT tp (i + n))) - 48))), (3, .int (nI n)), (2, .int (nI (chT tp i))), (1, .int (nI i)), (0, .ref o)]) hx hb dX13_cut_242 hl (by decide) rfl (fun ls hl => ?_)
                refine lv_iinc (v := (nI (n + 1))) (lv' := [(3, .int (nI (n + 1))), (4, .int (nI (((10 * (dgN (chT tp) i n)) + (chT tp (i + n))) - 48))), (2, .int (nI (chT tp i))), (1, .int (nI i)), (0, .ref o)]) hx hb dX13_cut_244 hl (k := 1) rfl (nI_add _ _) (by decide) rfl (fun ls hl => ?_)
                refine lv_goto (tgt := 208) hx hb dX13_cut_247 (by decide) ?_
                exact ih3 (n + 1) _ _ (by omega) (by omega) (by rw [hru, rnN_1 hlt (bN1 (by omega)), Nat.add_assoc i n 1]; omega) hS (by rw [show dgN (chT tp) i (n + 1) = 10 * dgN (chT tp) i n + chT tp (i + n) - 48 from if_pos (by omega)]; exact lv_sub hl [1, 0, 2, 3, 4] rfl)
            exact loop3 ((tp.length - (i + 0)) + 1) 0 _ _ (Nat.lt_succ_self _) (by omega) rfl hS (lv_sub hl [0, 1, 2, 3, 4] rfl)
          have hil : isL (chT tp i) = true := bN1 (by omega)
          refine lv_iconst (v := (nI 0)) hx hb dX13_cut_80 (by decide) ?_
          refine lv_istore_n (lv' := [(3, .int (nI 0)), (2, .int (nI (chT tp i))), (1, .int (nI i)), (0, .ref o)]) hx hb dX13_cut_81 rfl hl (by decide) rfl (fun ls hl => ?_)
          refine lv_lconst (v := 0) hx hb dX13_cut_82 (by decide) ?_
          refine lv_lstore (lv' := [(4, .long 0), (3, .int (nI 0)), (2, .int (nI (chT tp i))), (1, .int (nI i)), (0, .ref o)]) hx hb dX13_cut_83 hl (by decide) rfl (fun ls hl => ?_)
          have loop6 : ∀ (fu6 : Nat) (n : Nat) (locs : List Loc) (ls : Array Slot), tp.length - (i + n) < fu6 → (i + n ≤ tp.length) → (rnN isL (chT tp) (tp.length - i) i = rnN isL (chT tp) (tp.length - (i + n)) (i + n) + n) → va_S (AM o) H0 H locs → lv_has ls 8 [(4, .long (lN (nmN (chT tp) i n))), (3, .int (nI n)), (2, .int (nI (chT tp i))), (1, .int (nI i)), (0, .ref o)] → W p l e (mkRm 2 49) s m args below meth c H locs 0 0 QQ (F0 m 85 ls []) := by
            intro fu6
            induction fu6 with
            | zero => intro n locs ls hfu; exact absurd hfu (Nat.not_lt_zero _)
            | succ fu6 ih6 =>
              intro n locs ls hfu hin hru hS hl
              refine lv_aload_n hx hb dX13_cut_85 rfl (lv_at hl 4 rfl) ?_
              refine lv_iload_n hx hb dX13_cut_86 rfl (lv_at hl 3 rfl) ?_
              refine lv_iload_n hx hb dX13_cut_87 rfl (lv_at hl 1 rfl) ?_
              refine n_iadd hx hb dX13_cut_88 ?_
              refine c_VI hx hb hml hts hown hK hl.1 hS ⟨Nat.le_refl _, Nat.le_refl _⟩ (met_X13_byteAt l D dA hG tp htp9 ((hE1 0 4 rfl).trans hsz) (by rw [(funext (fun j => hE1 2 j rfl))]; exact htx) (i + n) (by omega)) (cw_X13_181 hts ⟨by decide, by decide⟩) (hG 0 _ rfl) rfl rfl rfl rfl (Nat.le_of_ble_eq_true rfl) dX13_cut_89 (fun _ h => h.elim) (fun r H1 locs hq hF hS => ?_)
              obtain ⟨rfl, rfl⟩ := hq
              have hch89 := chT_lt tp (i + n)
              refine c_SI hx hb hml hts hown hK hl.1 hS ⟨Nat.le_refl _, Nat.le_refl _⟩ (met_X13_isLetter l D dA (nI (chT tp (i + n)))) (cw_X13_189 hts ⟨by decide, by decide⟩) rfl rfl (Nat.le_of_ble_eq_true rfl) dX13_cut_92 (fun _ h => h.elim) (fun r H1 locs hq hF hS => ?_)
              obtain ⟨rfl, rfl⟩ := hq
              refine iv (y := nI (bN (isL (chT tp (i + n))))) (inZ_nat (by omega) (by decide) (by decide)) ?_
              have hbb92 := bN_lt (isL (chT tp (i + n)))
              refine n_if_eq (tgt := 124) hx hb dX13_cut_95 (by decide) (by omega) (fun c95 => ?_) (fun c95 => ?_)
              · have hrn : rnN isL (chT tp) (tp.length - i) i = n := by rw [hru, rnN_0 (bN0 c95), Nat.zero_add]
                have hn1 : 1 ≤ n := by
                  have := rnN_1 (p := isL) (ch := chT tp) (sz := tp.length) (i := i) (by omega) hil
                  omega
                refine lv_iload_n hx hb dX13_cut_124 rfl (lv_at hl 1 rfl) ?_
                refine lv_bipush (v := (nI 8)) hx hb dX13_cut_125 (by decide) ?_
                refine n_icmp_le (tgt := 134) hx hb dX13_cut_127 (by decide) (by omega) (by omega) (fun c127 => ?_) (fun c127 => ?_)
                · refine lv_iconst (v := (nI 1)) hx hb dX13_cut_134 (by decide) ?_
                  refine lv_istore (lv' := [(6, .int (nI 1)), (4, .long (lN (nmN (chT tp) i n))), (3, .int (nI n)), (2, .int (nI (chT tp i))), (1, .int (nI i)), (0, .ref o)]) hx hb dX13_cut_135 hl (by decide) rfl (fun ls hl => ?_)
                  refine lv_iload_n hx hb dX13_cut_137 rfl (lv_at hl 2 rfl) ?_
                  refine lv_bipush (v := (nI 8)) hx hb dX13_cut_138 (by decide) ?_
                  refine n_icmp_gt (tgt := 179) hx hb dX13_cut_140 (by decide) (by omega) (by omega) (fun c140 => ?_) (fun c140 => ?_)
                  · exfalso; omega
                  refine lv_iconst (v := (nI 0)) hx hb dX13_cut_143 (by decide) ?_
                  refine lv_istore (lv' := [(7, .int (nI 0)), (6, .int (nI 1)), (4, .long (lN (nmN (chT tp) i n))), (3, .int (nI n)), (2, .int (nI (chT tp i))), (1, .int (nI i)), (0, .ref o)]) hx hb dX13_cut_144 hl (by decide) rfl (fun ls hl => ?_)
                  have loop7 : ∀ (fu7 : Nat) (q : Nat) (y : Nat) (locs : List Loc) (ls : Array Slot), 21 - q < fu7 → (q ≤ 21) → (kwF (nmN (chT tp) i n) q = y) → va_S (AM o) H0 H locs → lv_has ls 8 [(7, .int (nI q)), (6, .int (nI y)), (4, .long (lN (nmN (chT tp) i n))), (3, .int (nI n)), (2, .int (nI (chT tp i))), (1, .int (nI i)), (0, .ref o)] → W p l e (mkRm 2 49) s m args below meth c H locs 0 0 QQ (F0 m 146 ls []) := by
                    intro fu7
                    induction fu7 with
                    | zero => intro q y locs ls hfu; exact absurd hfu (Nat.not_lt_zero _)
                    | succ fu7 ih7 =>
                      intro q y locs ls hfu hq9 hy hS hl
                      have hkl := (kwF_pos (nmN (chT tp) i n) q).2
                      refine lv_iload hx hb dX13_cut_146 (lv_at hl 0 rfl) ?_
                      refine lv_bipush (v := (nI 21)) hx hb dX13_cut_148 (by decide) ?_
                      refine n_icmp_ge (tgt := 179) hx hb dX13_cut_150 (by decide) (by omega) (by omega) (fun c150 => ?_) (fun c150 => ?_)
                      · obtain rfl : q = 21 := by omega
                        subst hy
                        have hl : lv_has ls 8 [(7, .int (nI 21)), (6, .int (nI (kwF (nmN (chT tp) i n) 21))), (4, .long (lN (nmN (chT tp) i n))), (3, .int (nI n)), (2, .int (nI (chT tp i))), (1, .int (nI i)), (0, .ref o)] := hl
                        refine lv_aload_n hx hb dX13_cut_179 rfl (lv_at hl 6 rfl) ?_
                        refine lv_iload hx hb dX13_cut_180 (lv_at hl 1 rfl) ?_
                        refine lv_iload_n hx hb dX13_cut_182 rfl (lv_at hl 5 rfl) ?_
                        refine lv_iconst (v := (nI 0)) hx hb dX13_cut_183 (by decide) ?_
                        refine lv_lload hx hb dX13_cut_184 (lv_at hl 2 rfl) ?_
                        refine c_VV hx hb hml hts hown hK hl.1 hS ⟨Nat.le_refl _, Nat.le_refl _⟩ (met_X13_token l D dA hG k (by omega) h10 (nI (kwF (nmN (chT tp) i n) 21)) (nI i) (nI 0) (lN (nmN (chT tp) i n))) (cw_X13_185 hts ⟨by decide, by decide⟩) (hG 0 _ rfl) rfl rfl rfl rfl (Nat.le_of_ble_eq_true rfl) dX13_cut_186 (fun _ h => h) (fun H1 locs hq hF hS => ?_)
                        obtain ⟨V1, L1, hG, rfl, rfl⟩ := hq
                        generalize hHe8 : H1 = H at hG hS ⊢
                        clear hHe8
                        refine lv_iload_n hx hb dX13_cut_189 rfl (lv_at hl 5 rfl) ?_
                        refine lv_iload_n hx hb dX13_cut_190 rfl (lv_at hl 3 rfl) ?_
                        refine n_iadd hx hb dX13_cut_191 ?_
                        refine lv_istore_n (lv' := [(1, .int (nI (i + n))), (7, .int (nI 21)), (6, .int (nI (kwF (nmN (chT tp) i n) 21))), (4, .long (lN (nmN (chT tp) i n))), (3, .int (nI n)), (2, .int (nI (chT tp i))), (0, .ref o)]) hx hb dX13_cut_192 rfl hl (by decide) rfl (fun ls hl => ?_)
                        refine lv_goto (tgt := 291) hx hb dX13_cut_193 (by decide) ?_
                        refine lv_goto (tgt := 7) hx hb dX13_cut_291 (by decide) ?_
                        have hnw : ¬ isW (chT tp i) = true := by unfold isW; simp only [Bool.or_eq_true, decide_eq_true_eq]; omega
                        obtain ⟨hp1, hp2, hp3⟩ := tk_lx hsk (by omega) hnw
                        have hlx : lxF (chT tp) tp.length i = (kwF (nmN (chT tp) i n) 21, 0, nmN (chT tp) i n, n) := by
                          unfold lxF; rw [if_pos hil, hrn, if_neg (by omega)]
                        have hkpos := (kwF_pos (nmN (chT tp) i n) 21).1
                        exact ih1 (i + n) (k + 1) (up2 (up2 (up2 (up2 V1 3 k (nI (kwF (nmN (chT tp) i n) 21))) 4 k (nI i)) 5 k (nI 0)) 0 10 (nI (k + 1))) (up2 L1 6 k (lN (nmN (chT tp) i n))) _ _ _ (by omega) (by rw [show i + n = psF (chT tp) tp.length (k + 1) by rw [hp3, hlx]] <;> rfl) (by omega) (by omega) (fun j hj => by rcases (show j < k ∨ j = k by omega) with h | h; exact hne j h; subst h; unfold kdF; rw [hp2, hlx]; exact hkpos) (Eqx.up (Eqx.up (Eqx.up (Eqx.up hE1 rfl) rfl) rfl) rfl) (EqL.up hE1L rfl) up2_s (tkM_add htk (by unfold kdF; rw [hp2, hlx]) (by rw [hp1]) (by unfold vlF; rw [hp2, hlx] <;> rfl) (by unfold nmF; rw [hp2, hlx] <;> rfl)) hG hS (lv_sub hl [0, 6] rfl)
                      refine lv_aload_n hx hb dX13_cut_153 rfl (lv_at hl 6 rfl) ?_
                      refine g_get hx hb hts hown hK hG 0 rfl rfl ok_X13 9 (by decide) q1480 rfl rfl dX13_cut_154 ?_
                      refine lv_iload hx hb dX13_cut_157 (lv_at hl 0 rfl) ?_
                      refine n_lald hx hb hK hG 7 rfl (by omega) (by decide) dX13_cut_159 ?_
                      refine jv (y := (L 7 q)) (hE1L 7 q rfl) ?_
                      refine jv (y := lN (kyN q)) (hky q (by omega)) ?_
                      refine lv_lload hx hb dX13_cut_160 (lv_at hl 2 rfl) ?_
                      refine W.lcmp hx hb dX13_cut_162 ?_
                      refine lv_if_ne (tgt := 173) hx hb dX13_cut_163 (by decide) (fun c163 => ?_) (fun c163 => ?_)
                      · refine lv_iinc (v := (nI (q + 1))) (lv' := [(7, .int (nI (q + 1))), (6, .int (nI y)), (4, .long (lN (nmN (chT tp) i n))), (3, .int (nI n)), (2, .int (nI (chT tp i))), (1, .int (nI i)), (0, .ref o)]) hx hb dX13_cut_173 hl (k := 0) rfl (nI_add _ _) (by decide) rfl (fun ls hl => ?_)
                        refine lv_goto (tgt := 146) hx hb dX13_cut_176 (by decide) ?_
                        have hc0 := cmp0 (a := kyN q) (b := nmN (chT tp) i n) (Nat.lt_trans (kyN_lt q (by omega)) (by decide)) (Nat.lt_trans (nm63 _ _ _ (chT_lt tp)) (by decide))
                        exact ih7 (q + 1) y _ _ (by omega) (by omega) (by simp only [kwF]; rw [if_neg (fun z => c163 (hc0.mpr z)), hy]) hS (lv_sub hl [0, 1, 2, 3, 4, 5, 6] rfl)
                      refine lv_bipush (v := (nI 20)) hx hb dX13_cut_166 (by decide) ?_
                      refine lv_iload hx hb dX13_cut_168 (lv_at hl 0 rfl) ?_
                      refine n_iadd hx hb dX13_cut_170 ?_
                      refine lv_istore (lv' := [(6, .int (nI (20 + q))), (7, .int (nI q)), (4, .long (lN (nmN (chT tp) i n))), (3, .int (nI n)), (2, .int (nI (chT tp i))), (1, .int (nI i)), (0, .ref o)]) hx hb dX13_cut_171 hl (by decide) rfl (fun ls hl => ?_)
                      refine lv_iinc (v := (nI (q + 1))) (lv' := [(7, .int (nI (q + 1))), (6, .int (nI (20 + q))), (4, .long (lN (nmN (chT tp) i n))), (3, .int (nI n)), (2, .int (nI (chT tp i))), (1, .int (nI i)), (0, .ref o)]) hx hb dX13_cut_173 hl (k := 1) rfl (nI_add _ _) (by decide) rfl (fun ls hl => ?_)
                      refine lv_goto (tgt := 146) hx hb dX13_cut_176 (by decide) ?_
                      have hc0 := cmp0 (a := kyN q) (b := nmN (chT tp) i n) (Nat.lt_trans (kyN_lt q (by omega)) (by decide)) (Nat.lt_trans (nm63 _ _ _ (chT_lt tp)) (by decide))
                      exact ih7 (q + 1) (20 + q) _ _ (by omega) (by omega) (by simp only [kwF]; rw [if_pos (hc0.mp c163)]) hS (lv_sub hl [0, 1, 2, 3, 4, 5, 6] rfl)
                  exact loop7 ((21 - 0) + 1) 0 1 _ _ (Nat.lt_succ_self _) (by omega) rfl hS (lv_sub hl [0, 1, 2, 3, 4, 5, 6] rfl)
                refine lv_iconst (v := (nI 3)) hx hb dX13_cut_130 (by decide) ?_
                refine lv_goto (tgt := 135) hx hb dX13_cut_131 (by decide) ?_
                refine lv_istore (lv' := [(6, .int (nI 3)), (4, .long (lN (nmN (chT tp) i n))), (3, .int (nI n)), (2, .int (nI (chT tp i))), (1, .int (nI i)), (0, .ref o)]) hx hb dX13_cut_135 hl (by decide) rfl (fun ls hl => ?_)
                refine lv_iload_n hx hb dX13_cut_137 rfl (lv_at hl 2 rfl) ?_
                refine lv_bipush (v := (nI 8)) hx hb dX13_cut_138 (by decide) ?_
                refine n_icmp_gt (tgt := 179) hx hb dX13_cut_140 (by decide) (by omega) (by omega) (fun c140 => ?_) (fun c140 => ?_)
                · refine lv_aload_n hx hb dX13_cut_179 rfl (lv_at hl 5 rfl) ?_
                  refine lv_iload hx hb dX13_cut_180 (lv_at hl 0 rfl) ?_
                  refine lv_iload_n hx hb dX13_cut_182 rfl (lv_at hl 4 rfl) ?_
                  refine lv_iconst (v := (nI 0)) hx hb dX13_cut_183 (by decide) ?_
                  refine lv_lload hx hb dX13_cut_184 (lv_at hl 1 rfl) ?_
                  refine c_VV hx hb hml hts hown hK hl.1 hS ⟨Nat.le_refl _, Nat.le_refl _⟩ (met_X13_token l D dA hG k (by omega) h10 (nI 3) (nI i) (nI 0) (lN (nmN (chT tp) i n))) (cw_X13_185 hts ⟨by decide, by decide⟩) (hG 0 _ rfl) rfl rfl rfl rfl (Nat.le_of_ble_eq_true rfl) dX13_cut_186 (fun _ h => h) (fun H1 locs hq hF hS => ?_)
                  obtain ⟨V1, L1, hG, rfl, rfl⟩ := hq
                  generalize hHe9 : H1 = H at hG hS ⊢
                  clear hHe9
                  refine lv_iload_n hx hb dX13_cut_189 rfl (lv_at hl 4 rfl) ?_
                  refine lv_iload_n hx hb dX13_cut_190 rfl (lv_at hl 2 rfl) ?_
                  refine n_iadd hx hb dX13_cut_191 ?_
                  refine lv_istore_n (lv' := [(1, .int (nI (i + n))), (6, .int (nI 3)), (4, .long (lN (nmN (chT tp) i n))), (3, .int (nI n)), (2, .int (nI (chT tp i))), (0, .ref o)]) hx hb dX13_cut_192 rfl hl (by decide) rfl (fun ls hl => ?_)
                  refine lv_goto (tgt := 291) hx hb dX13_cut_193 (by decide) ?_
                  refine lv_goto (tgt := 7) hx hb dX13_cut_291 (by decide) ?_
                  have hnw : ¬ isW (chT tp i) = true := by unfold isW; simp only [Bool.or_eq_true, decide_eq_true_eq]; omega
                  obtain ⟨hp1, hp2, hp3⟩ := tk_lx hsk (by omega) hnw
                  have hlx : lxF (chT tp) tp.length i = (3, 0, nmN (chT tp) i n, n) := by
                    unfold lxF; rw [if_pos hil, hrn, if_pos (by omega)]
                  have hkpos : (3 : Nat) ≠ 0 := by decide
                  exact ih1 (i + n) (k + 1) (up2 (up2 (up2 (up2 V1 3 k (nI 3)) 4 k (nI i)) 5 k (nI 0)) 0 10 (nI (k + 1))) (up2 L1 6 k (lN (nmN (chT tp) i n))) _ _ _ (by omega) (by rw [show i + n = psF (chT tp) tp.length (k + 1) by rw [hp3, hlx]] <;> rfl) (by omega) (by omega) (fun j hj => by rcases (show j < k ∨ j = k by omega) with h | h; exact hne j h; subst h; unfold kdF; rw [hp2, hlx]; exact hkpos) (Eqx.up (Eqx.up (Eqx.up (Eqx.up hE1 rfl) rfl) rfl) rfl) (EqL.up hE1L rfl) up2_s (tkM_add htk (by unfold kdF; rw [hp2, hlx]) (by rw [hp1]) (by unfold vlF; rw [hp2, hlx] <;> rfl) (by unfold nmF; rw [hp2, hlx] <;> rfl)) hG hS (lv_sub hl [0, 5] rfl)
                exfalso; omega
              have hlt : i + n < tp.length := by
                apply Classical.byContradiction
                intro hz
                have h0 := chT_0 (tp := tp) (i := i + n) (by omega)
                rw [h0] at c95
                exact absurd c95 (by decide)
              have hle : 97 ≤ chT tp (i + n) := by
                have h1 := bN1 (show ¬ bN (isL (chT tp (i + n))) = 0 by omega)
                unfold isL at h1; simp only [Bool.and_eq_true, decide_eq_true_eq] at h1; omega
              refine lv_iload_n hx hb dX13_cut_98 rfl (lv_at hl 1 rfl) ?_
              refine lv_bipush (v := (nI 8)) hx hb dX13_cut_99 (by decide) ?_
              refine n_icmp_ge (tgt := 118) hx hb dX13_cut_101 (by decide) (by omega) (by omega) (fun c101 => ?_) (fun c101 => ?_)
              · refine lv_iinc (v := (nI (n + 1))) (lv' := [(3, .int (nI (n + 1))), (4, .long (lN (nmN (chT tp) i n))), (2, .int (nI (chT tp i))), (1, .int (nI i)), (0, .ref o)]) hx hb dX13_cut_118 hl (k := 1) rfl (nI_add _ _) (by decide) rfl (fun ls hl => ?_)
                refine lv_goto (tgt := 85) hx hb dX13_cut_121 (by decide) ?_
                exact ih6 (n + 1) _ _ (by omega) (by omega) (by rw [hru, rnN_1 hlt (bN1 (by omega)), Nat.add_assoc i n 1]; omega) hS (by rw [show nmN (chT tp) i (n + 1) = nmN (chT tp) i n from if_neg (by omega)]; exact lv_sub hl [1, 0, 2, 3, 4] rfl)
              refine lv_lload hx hb dX13_cut_104 (lv_at hl 0 rfl) ?_
              refine lv_aload_n hx hb dX13_cut_106 rfl (lv_at hl 4 rfl) ?_
              refine lv_iload_n hx hb dX13_cut_107 rfl (lv_at hl 3 rfl) ?_
              refine lv_iload_n hx hb dX13_cut_108 rfl (lv_at hl 1 rfl) ?_
              refine n_iadd hx hb dX13_cut_109 ?_
              refine c_VI hx hb hml hts hown hK hl.1 hS ⟨Nat.le_refl _, Nat.le_refl _⟩ (met_X13_byteAt l D dA hG tp htp9 ((hE1 0 4 rfl).trans hsz) (by rw [(funext (fun j => hE1 2 j rfl))]; exact htx) (i + n) (by omega)) (cw_X13_181 hts ⟨by decide, by decide⟩) (hG 0 _ rfl) rfl rfl rfl rfl (Nat.le_of_ble_eq_true rfl) dX13_cut_110 (fun _ h => h.elim) (fun r H1 locs hq hF hS => ?_)
              obtain ⟨rfl, rfl⟩ := hq
              have hch110 := chT_lt tp (i + n)
              refine c_SL hx hb hml hts hown hK hl.1 hS ⟨Nat.le_refl _, Nat.le_refl _⟩ (met_X13_appends l D dA (nmN (chT tp) i n) (chT tp (i + n)) (chT_lt _ _) (Or.inr hle)) (cw_X13_174 hts ⟨by decide, by decide⟩) rfl rfl (Nat.le_of_ble_eq_true rfl) dX13_cut_113 (fun _ h => h.elim) (fun r H1 locs hq hF hS => ?_)
              obtain ⟨rfl, rfl⟩ := hq
              refine lv_lstore (lv' := [(4, .long (lN (apN (nmN (chT tp) i n) (chT tp (i + n))))), (3, .int (nI n)), (2, .int (nI (chT tp i))), (1, .int (nI i)), (0, .ref o)]) hx hb dX13_cut_116 hl (by decide) rfl (fun ls hl => ?_)
              refine lv_iinc (v := (nI (n + 1))) (lv' := [(3, .int (nI (n + 1))), (4, .long (lN (apN (nmN (chT tp) i n) (chT tp (i + n))))), (2, .int (nI (chT tp i))), (1, .int (nI i)), (0, .ref o)]) hx hb dX13_cut_118 hl (k := 1) rfl (nI_add _ _) (by decide) rfl (fun ls hl => ?_)
              refine lv_goto (tgt := 85) hx hb dX13_cut_121 (by decide) ?_
              exact ih6 (n + 1) _ _ (by omega) (by omega) (by rw [hru, rnN_1 hlt (bN1 (by omega)), Nat.add_assoc i n 1]; omega) hS (by rw [show nmN (chT tp) i (n + 1) = apN (nmN (chT tp) i n) (chT tp (i + n)) from if_pos (by omega)]; exact lv_sub hl [1, 0, 2, 3, 4] rfl)
          exact loop6 ((tp.length - (i + 0)) + 1) 0 _ _ (Nat.lt_succ_self _) (by omega) rfl hS (lv_sub hl [0, 1, 2, 3, 4] rfl)
        refine lv_iinc (v := (nI (i + 1))) (lv' := [(1, .int (nI (i + 1))), (2, .int (nI (chT tp i))), (0, .ref o)]) hx hb dX13_cut_67 hl (k := 1) rfl (nI_add _ _) (by decide) rfl (fun ls hl => ?_)
        refine lv_goto (tgt := 291) hx hb dX13_cut_70 (by decide) ?_
        refine lv_goto (tgt := 7) hx hb dX13_cut_291 (by decide) ?_
        have hw : isW (chT tp i) = true := by unfold isW; simp only [Bool.or_eq_true, decide_eq_true_eq]; omega
        exact ih1 (i + 1) k V1 L1 _ _ _ (by omega) ((skp_1 (by omega) hw).symm.trans hsk) (by omega) (by omega) hne hE1 hE1L h10 htk hG hS (lv_sub hl [0, 2] rfl)
      refine lv_aload_n hx hb dX13_cut_31 rfl (lv_at hl 2 rfl) ?_
      refine lv_iconst (v := (nI 0)) hx hb dX13_cut_32 (by decide) ?_
      refine lv_aload_n hx hb dX13_cut_33 rfl (lv_at hl 2 rfl) ?_
      refine g_get (v := .int (nI tp.length)) hx hb hts hown hK hG 0 rfl rfl ok_X13 4 (by decide) q1475 rfl (congrArg Value.int ((hE1 0 4 rfl).trans hsz)) dX13_cut_34 ?_
      refine lv_iconst (v := (nI 0)) hx hb dX13_cut_37 (by decide) ?_
      refine lv_lconst (v := 0) hx hb dX13_cut_38 (by decide) ?_
      refine c_VV hx hb hml hts hown hK hl.1 hS ⟨Nat.le_refl _, Nat.le_refl _⟩ (met_X13_token l D dA hG k (by omega) h10 (nI 0) (nI tp.length) (nI 0) 0) (cw_X13_185 hts ⟨by decide, by decide⟩) (hG 0 _ rfl) rfl rfl rfl rfl (Nat.le_of_ble_eq_true rfl) dX13_cut_39 (fun _ h => h) (fun H1 locs hq hF hS => ?_)
      obtain ⟨V1, L1, hG, rfl, rfl⟩ := hq
      generalize hHe10 : H1 = H at hG hS ⊢
      clear hHe10
      refine hend _ _ _ _ hS dX13_cut_42 ?_
      obtain ⟨hp1, hp2⟩ := tk_end hsk c28 (by omega)
      exact ⟨rfl, _, _, k + 1, hG, ((((((Eqx.rf.up rfl).trans hE1).up rfl).up rfl).up rfl).up rfl), (hE1L.up rfl), by omega, up2_s, tkM_add htk (by unfold kdF; rw [hp2]) (by rw [hp1]) (by unfold vlF; rw [hp2]) (by unfold nmF; rw [hp2]; rfl), (fun j hj => hne j (by omega)), Or.inr ⟨by unfold kdF; rw [Nat.add_sub_cancel, hp2], by omega⟩⟩
  exact loop1 ((tp.length + 1 - 0) + 1) 0 0 (up2 V 0 10 (nI 0)) L _ _ _ (Nat.lt_succ_self _) rfl (Nat.zero_le _) (by omega) (fun j hj => absurd hj (Nat.not_lt_zero _)) Eqx.rf EqL.rf up2_s (fun j hj => absurd hj (Nat.not_lt_zero _)) hG hS (lv_sub hl [0, 1] rfl)
