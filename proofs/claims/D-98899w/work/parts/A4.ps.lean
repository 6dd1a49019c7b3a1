/-! the class's tokens and the model's: one meaning -/
abbrev kdT (tp : List Int32) : Nat → Nat := kdF (chT tp) tp.length
abbrev plT (tp : List Int32) : Nat → Nat := plF (chT tp) tp.length
abbrev vlT (tp : List Int32) : Nat → Nat := vlF (chT tp) tp.length
abbrev nmT (tp : List Int32) : Nat → Nat := nmF (chT tp) tp.length
abbrev lnT (tp : List Int32) (j : Nat) : Nat := (tkF (chT tp) tp.length j).2.2.2
/-- the class's sort of a kind -/
def srK (k : Nat) : Nat := if k = 0 then 4 else if k = 1 then 0 else if k = 2 then 1 else if k = 3 then 5 else if k < 20 then 2 else 3
theorem srK_c (k : Nat) : (k = 0 ∧ srK k = 4) ∨ (k = 1 ∧ srK k = 0) ∨ (k = 2 ∧ srK k = 1) ∨ (k = 3 ∧ srK k = 5) ∨ (4 ≤ k ∧ k < 20 ∧ srK k = 2) ∨ (20 ≤ k ∧ srK k = 3) := by
  unfold srK
  (repeat' split) <;> omega
def FT (tp : List Int32) (j : Nat) : Nat × Nat × Nat × Nat := (srK (kdT tp j), plT tp j, plT tp j + lnT tp j, if 20 ≤ kdT tp j then kdT tp j - 20 else chT tp (plT tp j))
theorem kwF_c (x : Nat) : ∀ k, kwF x k = 1 ∨ (20 ≤ kwF x k ∧ kwF x k < 20 + k)
  | 0 => Or.inl rfl
  | k + 1 => by
    unfold kwF
    split
    · exact Or.inr ⟨by omega, by omega⟩
    · rcases kwF_c x k with h | h
      · exact Or.inl h
      · exact Or.inr ⟨h.1, by omega⟩
/-- a token, by kinds -/
theorem tk_c (tp : List Int32) (j : Nat) : (tp.length ≤ plT tp j ∧ kdT tp j = 0) ∨ (plT tp j < tp.length ∧ isL (chT tp (plT tp j)) = true ∧ lnT tp j = rnN isL (chT tp) (tp.length - plT tp j) (plT tp j) ∧ nmT tp j = nmN (chT tp) (plT tp j) (lnT tp j) ∧ ((8 < lnT tp j ∧ kdT tp j = 3) ∨ (lnT tp j ≤ 8 ∧ kdT tp j = kwF (nmT tp j) 21))) ∨ (plT tp j < tp.length ∧ isD (chT tp (plT tp j)) = true ∧ lnT tp j = rnN isD (chT tp) (tp.length - plT tp j) (plT tp j) ∧ vlT tp j = dgN (chT tp) (plT tp j) (lnT tp j) ∧ ((4 < lnT tp j ∧ kdT tp j = 3) ∨ (lnT tp j ≤ 4 ∧ kdT tp j = 2))) ∨ (plT tp j < tp.length ∧ ¬ isL (chT tp (plT tp j)) = true ∧ ¬ isD (chT tp (plT tp j)) = true ∧ lnT tp j = 1 ∧ kdT tp j = sgK (chT tp (plT tp j))) := by
  by_cases h : tp.length ≤ plT tp j
  · refine Or.inl ⟨h, ?_⟩
    show (tkF (chT tp) tp.length j).1 = 0
    unfold tkF
    rw [if_pos h]
  · have e : tkF (chT tp) tp.length j = lxF (chT tp) tp.length (plT tp j) := if_neg h
    have h' : plT tp j < tp.length := by omega
    refine Or.inr ?_
    show _ ∨ _ ∨ _
    unfold kdT vlT nmT lnT
    unfold kdF vlF nmF
    rw [e]
    unfold lxF
    by_cases hL : isL (chT tp (plT tp j)) = true
    · rw [if_pos hL]
      refine Or.inl ⟨h', hL, rfl, rfl, ?_⟩
      show (8 < _ ∧ (if _ then _ else _) = 3) ∨ (_ ∧ (if _ then _ else _) = _)
      by_cases h8 : 8 < rnN isL (chT tp) (tp.length - plT tp j) (plT tp j)
      · exact Or.inl ⟨h8, if_pos h8⟩
      · exact Or.inr ⟨Nat.not_lt.mp h8, if_neg h8⟩
    · rw [if_neg hL]
      by_cases hD : isD (chT tp (plT tp j)) = true
      · rw [if_pos hD]
        refine Or.inr (Or.inl ⟨h', hD, rfl, rfl, ?_⟩)
        show (4 < _ ∧ (if _ then _ else _) = 3) ∨ (_ ∧ (if _ then _ else _) = _)
        by_cases h4 : 4 < rnN isD (chT tp) (tp.length - plT tp j) (plT tp j)
        · exact Or.inl ⟨h4, if_pos h4⟩
        · exact Or.inr ⟨Nat.not_lt.mp h4, if_neg h4⟩
      · rw [if_neg hD]
        exact Or.inr (Or.inr ⟨h', hL, hD, rfl, rfl⟩)
theorem sgK_b {b : Nat} (h : sgK b ≠ 3) : (b = 60 ∧ sgK b = 13) ∨ (b = 47 ∧ sgK b = 15) ∨ (b = 42 ∧ sgK b = 10) ∨ (b = 45 ∧ sgK b = 9) ∨ (b = 43 ∧ sgK b = 8) ∨ (b = 59 ∧ sgK b = 4) ∨ (b = 61 ∧ sgK b = 5) ∨ (b = 40 ∧ sgK b = 6) ∨ (b = 41 ∧ sgK b = 7) := by
  unfold sgK at *
  (repeat' split at *) <;> omega
theorem sgK_inj {a b : Nat} (h : sgK a = sgK b) (h3 : sgK b ≠ 3) : a = b := by
  have h1 := sgK_b h3
  have h2 := sgK_b (b := a) (by rw [h]; exact h3)
  omega
theorem kd_sg {tp : List Int32} {j : Nat} (h1 : 4 ≤ kdT tp j) (h2 : kdT tp j < 20) : kdT tp j = sgK (chT tp (plT tp j)) := by
  rcases tk_c tp j with h | h | h | h
  · omega
  · have := kwF_c (nmT tp j) 21
    omega
  · omega
  · exact h.2.2.2.2
theorem is_sg {tp : List Int32} {t y K : Nat} (hy : sgK y = K) (hK : K ≠ 3) : isC (FT tp) t 2 y = decide (kdT tp t = K) := by
  have hr := srK_c (kdT tp t)
  have hb := sgK_b (b := y) (by rw [hy]; exact hK)
  unfold isC
  by_cases h : kdT tp t = K
  · have hw : (FT tp t).2.2.2 = y := by
      show (if 20 ≤ kdT tp t then kdT tp t - 20 else chT tp (plT tp t)) = y
      rw [if_neg (by omega)]
      exact sgK_inj ((kd_sg (by omega) (by omega)).symm.trans (h.trans hy.symm)) (by rw [hy]; exact hK)
    rw [decide_eq_true h]
    exact decide_eq_true ⟨show srK (kdT tp t) = 2 by omega, hw⟩
  · rw [decide_eq_false h]
    refine decide_eq_false (fun z => h ?_)
    have z1 : srK (kdT tp t) = 2 := z.1
    have z2 : (if 20 ≤ kdT tp t then kdT tp t - 20 else chT tp (plT tp t)) = y := z.2
    rw [if_neg (by omega)] at z2
    rw [kd_sg (tp := tp) (j := t) (by omega) (by omega), z2, hy]
theorem is_wd {tp : List Int32} {t w : Nat} : isC (FT tp) t 3 w = decide (kdT tp t = 20 + w) := by
  have hr := srK_c (kdT tp t)
  unfold isC
  by_cases h : kdT tp t = 20 + w
  · rw [decide_eq_true h]
    refine decide_eq_true ⟨show srK (kdT tp t) = 3 by omega, ?_⟩
    show (if 20 ≤ kdT tp t then kdT tp t - 20 else chT tp (plT tp t)) = w
    rw [if_pos (by omega)]
    omega
  · rw [decide_eq_false h]
    refine decide_eq_false (fun z => h ?_)
    have z1 : srK (kdT tp t) = 3 := z.1
    have z2 : (if 20 ≤ kdT tp t then kdT tp t - 20 else chT tp (plT tp t)) = w := z.2
    rw [if_pos (by omega)] at z2
    omega
theorem muP_go {kd pl : Nat → Nat} {k t : Nat} (h : kd t = k) : muP kd pl k t none = goP pl t none := if_pos (isP_n.mpr h)
theorem muP_no {kd pl : Nat → Nat} {k t : Nat} (h : ¬ kd t = k) : muP kd pl k t none = (t, some (1, pl t)) := if_neg (fun z => h (isP_n.mp z))
theorem mu_sg {tp : List Int32} {t y K : Nat} (hy : sgK y = K) (hK : K ≠ 3) : muC (FT tp) 2 y t = muP (kdT tp) (plT tp) K t none := by
  unfold muC
  rw [is_sg hy hK]
  by_cases h : kdT tp t = K
  · rw [if_pos (decide_eq_true h), muP_go h]; rfl
  · rw [if_neg (fun z => h (of_decide_eq_true z)), muP_no h]; rfl
theorem mu_wd {tp : List Int32} {t w : Nat} : muC (FT tp) 3 w t = muP (kdT tp) (plT tp) (20 + w) t none := by
  unfold muC
  rw [is_wd]
  by_cases h : kdT tp t = 20 + w
  · rw [if_pos (decide_eq_true h), muP_go h]; rfl
  · rw [if_neg (fun z => h (of_decide_eq_true z)), muP_no h]; rfl
theorem tk_mu {tp : List Int32} {t y k : Nat} (h : ∀ n, srK n = y ↔ n = k) : tkC (FT tp) y t = muP (kdT tp) (plT tp) k t none := by
  unfold tkC
  show (if srK (kdT tp t) = y then goP (plC (FT tp)) t none else (t, some (1, plC (FT tp) t))) = _
  by_cases hk : kdT tp t = k
  · rw [if_pos (show srK (kdT tp t) = y from (h _).mpr hk), muP_go hk]; rfl
  · rw [if_neg (show ¬ srK (kdT tp t) = y from fun z => hk ((h _).mp z)), muP_no hk]; rfl
theorem sr_0 (n : Nat) : srK n = 0 ↔ n = 1 := by have := srK_c n; omega
theorem sr_1 (n : Nat) : srK n = 1 ↔ n = 2 := by have := srK_c n; omega
theorem bN_z {P : Prop} [Decidable P] : bN (decide P) = 0 ↔ ¬ P := by
  by_cases h : P
  · rw [decide_eq_true h]; exact ⟨fun z => absurd z (by decide), fun z => absurd h z⟩
  · rw [decide_eq_false h]; exact ⟨fun _ => h, fun _ => rfl⟩
theorem bN_p {P : Prop} [Decidable P] : 0 < bN (decide P) ↔ P := by
  by_cases h : P
  · rw [decide_eq_true h]; exact ⟨fun _ => h, fun _ => by decide⟩
  · rw [decide_eq_false h]; exact ⟨fun z => absurd z (by decide), fun z => absurd z h⟩
/-- the parser's tokens stand -/
def psC (V : GI) (tp : List Int32) (m : Nat) : Prop := tpP V tp ∧ byT tp ∧ tcM V (FT tp) m ∧ 0 < m ∧ m ≤ 2001 ∧ (∀ j, j + 1 < m → kdT tp j ≠ 0 ∧ kdT tp j ≠ 3) ∧ (kdT tp (m - 1) = 0 ∨ kdT tp (m - 1) = 3)
theorem psC.hm {V : GI} {tp : List Int32} {m : Nat} (h : psC V tp m) : tcM V (FT tp) m := h.2.2.1
theorem psC.hm9 {V : GI} {tp : List Int32} {m : Nat} (h : psC V tp m) : m ≤ 2001 := h.2.2.2.2.1
theorem psC.pl {V : GI} {tp : List Int32} {m : Nat} (h : psC V tp m) {j : Nat} (hj : j < m) : plT tp j ≤ 2000 := Nat.le_trans (pl_le (fun i hi => (h.2.2.2.2.2.1 i hi).1) hj) h.1.1
theorem psC.hbF {V : GI} {tp : List Int32} {m : Nat} (h : psC V tp m) : bdF (FT tp) m := fun j hj => by
  have h1 := srK_c (kdT tp j)
  have h2 := h.pl hj
  have h3 := chT_lt tp (plT tp j)
  have h4 : kdT tp j < 100 := kd_lt (chT tp) tp.length j
  refine ⟨show srK (kdT tp j) < 128 by omega, show plT tp j < 2 ^ 15 by omega, ?_⟩
  show (if 20 ≤ kdT tp j then kdT tp j - 20 else chT tp (plT tp j)) < 2 ^ 15
  split <;> omega
theorem psC.next {V : GI} {tp : List Int32} {m t : Nat} (h : psC V tp m) (ht : t < m) (h0 : kdT tp t ≠ 0) (h3 : kdT tp t ≠ 3) : t + 1 < m := by
  apply Classical.byContradiction
  intro hn
  have e : m - 1 = t := by omega
  rcases h.2.2.2.2.2.2 with h1 | h1
  · rw [e] at h1; exact h0 h1
  · rw [e] at h1; exact h3 h1
theorem psC_E {P : Nat → Nat → Bool} {V V1 : GI} {tp : List Int32} {m : Nat} (h : psC V tp m) (hE : Eqx P V V1) (hP : ∀ k j, k = 2 ∨ (4 ≤ k ∧ k ≤ 8) → P k j = false) : psC V1 tp m := by
  obtain ⟨h1, h2, h3, h4⟩ := h
  refine ⟨⟨h1.1, (hE 2 2 (hP _ _ (by omega))).trans h1.2.1, fun i x hx => (hE 4 i (hP _ _ (by omega))).trans (h1.2.2 i x hx)⟩, h2, ?_, h4⟩
  exact tcM_to (hE 2 7 (hP _ _ (by omega))) (fun j => hE 5 j (hP _ _ (by omega))) (fun j => hE 6 j (hP _ _ (by omega))) (fun j => hE 7 j (hP _ _ (by omega))) (fun j => hE 8 j (hP _ _ (by omega))) h3
theorem rnN_all (p : Nat → Bool) (ch : Nat → Nat) : ∀ u i j, j < rnN p ch u i → p (ch (i + j)) = true
  | 0, i, j, h => absurd h (Nat.not_lt_zero _)
  | u + 1, i, j, h => by
    unfold rnN at h
    by_cases hp : p (ch i) = true
    · rw [if_pos hp] at h
      cases j with
      | zero => exact hp
      | succ j =>
        have := rnN_all p ch u (i + 1) j (by omega)
        rw [show i + (j + 1) = i + 1 + j by omega]
        exact this
    · rw [if_neg hp] at h
      exact absurd h (Nat.not_lt_zero _)
/-- an int's digits -/
theorem psC.nu {V : GI} {tp : List Int32} {m t : Nat} (h : psC V tp m) (hk : kdT tp t = 2) : ∃ n, (FT tp t).2.2.1 = plT tp t + n ∧ n ≤ 4 ∧ plT tp t + n ≤ tp.length ∧ (∀ j, j < n → isD (chT tp (plT tp t + j)) = true) ∧ dgN (chT tp) (plT tp t) n = vlT tp t := by
  rcases tk_c tp t with q | q | q | q
  · omega
  · have := kwF_c (nmT tp t) 21
    omega
  · obtain ⟨q1, q2, q3, q4, q5⟩ := q
    have hle := rnN_le isD (chT tp) (tp.length - plT tp t) (plT tp t)
    refine ⟨lnT tp t, rfl, by omega, by omega, fun j hj => ?_, q4.symm⟩
    rw [q3] at hj
    exact rnN_all isD (chT tp) _ _ j hj
  · have h2 : sgK (chT tp (plT tp t)) = 2 := q.2.2.2.2 ▸ hk
    have h3 := sgK_b (b := chT tp (plT tp t)) (by omega)
    omega
/-- what a cell further on keeps -/
theorem gP_sz {D : va_G} {dA : Nat → ClassId} {o : Nat} {V : GI} {L : GL} {Rf : GR} {H : Heap} (h : gP D dA o dS V L Rf H) : o + 522 ≤ H.size := by
  have := h.lt (k := 521) (by rw [dS_len]; decide)
  omega
abbrev AN (o n : Nat) : Nat → Prop := fun q => AS o q ∨ n ≤ q
theorem smA_le {D : va_G} {H : Heap} {O : Nat → Prop} {d d' a : Nat} {es : List Sg} (hd : d ≤ d') (h : smA D H O d a es) : smA D H O d' a es := by
  obtain ⟨k, rfl⟩ : ∃ k, d' = d + k := ⟨d' - d, by omega⟩
  clear hd
  induction k with
  | zero => exact h
  | succ k ih => exact smA_up _ _ _ ih
/-- sums stay while the class's own cells change -/
theorem smA_AN {D : va_G} {dA : Nat → ClassId} {o n0 n1 : Nat} {ds : List Dsc} {V : GI} {L : GL} {Rf : GR} {H H1 : Heap} {d a : Nat} {es : List Sg} (h : smA D H (fun q => n0 ≤ q) d a es) (h0 : o + 522 ≤ n0) (hF : Fr (AN o H.size) H H1) : smA D H1 (fun q => n0 ≤ q) d a es :=
  smA_kept (fun q h1 h2 => hF.2 q h2 (fun z => by
    rcases z with z | z
    · have := z.2.1; omega
    · omega)) d a es h
theorem what_sg {V : GI} {tp : List Int32} {m t y K : Nat} (h : psC V tp m) (ht : t < m) (hy : sgK y = K) (hK : K ≠ 3) (hk : kdT tp t = K) : V 8 t = nI y := by
  have e := of_decide_eq_true ((show isC (FT tp) t 2 y = true by rw [is_sg hy hK]; exact decide_eq_true hk))
  rw [(h.hm.2 t ht).2.2.2 (Or.inl e.1), e.2]
theorem what_wd {V : GI} {tp : List Int32} {m t : Nat} (h : psC V tp m) (ht : t < m) (hk : 20 ≤ kdT tp t) : V 8 t = nI (kdT tp t - 20) := by
  have hr := srK_c (kdT tp t)
  rw [(h.hm.2 t ht).2.2.2 (Or.inr (show srK (kdT tp t) = 3 by omega))]
  show nI (if 20 ≤ kdT tp t then kdT tp t - 20 else chT tp (plT tp t)) = _
  rw [if_pos hk]
