/-! the tokens' bounds, for tkOK -/
theorem rnN_le (p : Nat → Bool) (ch : Nat → Nat) : ∀ u i, rnN p ch u i ≤ u
  | 0, _ => Nat.le_refl _
  | u + 1, i => by
    unfold rnN
    have := rnN_le p ch u (i + 1)
    split <;> omega
theorem skF_le (ch : Nat → Nat) : ∀ u i, skF ch u i ≤ i + u
  | 0, i => Nat.le_refl _
  | u + 1, i => by
    unfold skF
    have := skF_le ch u (i + 1)
    split <;> omega
theorem skp_le {ch : Nat → Nat} {sz i : Nat} (h : i ≤ sz) : skp ch sz i ≤ sz := by
  have := skF_le ch (sz - i) i
  unfold skp
  omega
theorem lx_len {ch : Nat → Nat} {sz j : Nat} (h : j < sz) : (lxF ch sz j).2.2.2 ≤ sz - j := by
  unfold lxF
  split
  · exact rnN_le _ _ _ _
  · split
    · exact rnN_le _ _ _ _
    · show 1 ≤ sz - j; omega
theorem ps_le {ch : Nat → Nat} {sz : Nat} : ∀ k, (∀ j, j < k → kdF ch sz j ≠ 0) → psF ch sz k ≤ sz
  | 0, _ => Nat.zero_le _
  | k + 1, h => by
    have ih := ps_le k (fun j hj => h j (by omega))
    have hk := h k (by omega)
    have hp : plF ch sz k < sz := by
      apply Classical.byContradiction
      intro hn
      apply hk
      unfold kdF tkF
      rw [if_pos (by omega)]
    have hl := lx_len (ch := ch) hp
    show plF ch sz k + (lxF ch sz (plF ch sz k)).2.2.2 ≤ sz
    omega
theorem pl_le {ch : Nat → Nat} {sz m : Nat} (hne : ∀ j, j + 1 < m → kdF ch sz j ≠ 0) {j : Nat} (hj : j < m) : plF ch sz j ≤ sz :=
  skp_le (ps_le j (fun i hi => hne i (by omega)))
theorem vl_lt {ch : Nat → Nat} {sz : Nat} (hc : ∀ i, ch i < 256) (j : Nat) : vlF ch sz j < 16777216 ∧ nmF ch sz j < 2 ^ 62 := by
  unfold vlF nmF tkF
  split
  · exact ⟨by decide, by decide⟩
  · unfold lxF
    split
    · exact ⟨by show 0 < 16777216; decide, nm63 _ _ _ hc⟩
    · split
      · exact ⟨Nat.lt_of_lt_of_le (dg24 _ _ _ hc) (by decide), by show 0 < 2 ^ 62; decide⟩
      · exact ⟨by show 0 < 16777216; decide, by show 0 < 2 ^ 62; decide⟩
