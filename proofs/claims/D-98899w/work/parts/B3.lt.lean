/-! letters and their number; what lies below the class's cells -/
theorem wdN_s (l : List Nat) (x : Nat) : wdN (l ++ [x]) = apN (wdN l) x := by simp [wdN, List.foldl_append]
def ltP (l : List Nat) : Prop := ∀ x, x ∈ l → 97 ≤ x ∧ x ≤ 122
theorem apN_l {x y : Nat} (h : 97 ≤ y) : apN x y = 27 * x + (y - 96) := if_neg (by omega)
theorem lt_cc (l : List Nat) : l = [] ∨ ∃ i x, l = i ++ [x] := by
  rcases List.eq_nil_or_concat l with h | ⟨i, x, h⟩
  · exact Or.inl h
  · exact Or.inr ⟨i, x, by rw [h, List.concat_eq_append]⟩
theorem wdN_inj : ∀ (n : Nat) (l1 l2 : List Nat), l1.length ≤ n → ltP l1 → ltP l2 → wdN l1 = wdN l2 → l1 = l2
  | n, l1, l2, hn, h1, h2, he => by
    rcases lt_cc l1 with rfl | ⟨i1, x1, rfl⟩ <;> rcases lt_cc l2 with rfl | ⟨i2, x2, rfl⟩
    · rfl
    · have hx := h2 x2 (by simp)
      rw [wdN_s, apN_l hx.1] at he
      have : wdN [] = 0 := rfl
      omega
    · have hx := h1 x1 (by simp)
      rw [wdN_s, apN_l hx.1] at he
      have : wdN [] = 0 := rfl
      omega
    · have hx := h1 x1 (by simp)
      have hy := h2 x2 (by simp)
      rw [wdN_s, wdN_s, apN_l hx.1, apN_l hy.1] at he
      rw [List.length_append] at hn
      have hn2 : i1.length + 1 ≤ n := hn
      obtain ⟨m, rfl⟩ : ∃ m, n = m + 1 := ⟨n - 1, by omega⟩
      have e1 : x1 = x2 := by omega
      have e2 := wdN_inj m i1 i2 (by omega) (fun z hz => h1 z (List.mem_append_left _ hz)) (fun z hz => h2 z (List.mem_append_left _ hz)) (by omega)
      rw [e1, e2]
theorem nmN_w {tp : List Int32} {i : Nat} : ∀ n, n ≤ 8 → nmN (chT tp) i n = wdN (ltT tp i n)
  | 0, _ => rfl
  | n + 1, h => by
    rw [ltT_s, wdN_s, ← nmN_w n (by omega)]
    show (if n < 8 then apN (nmN (chT tp) i n) (chT tp (i + n)) else _) = _
    rw [if_pos (by omega)]
theorem ltT_p {tp : List Int32} {i n : Nat} (h : ∀ j, j < n → isL (chT tp (i + j)) = true) : ltP (ltT tp i n) := fun x hx => by
  obtain ⟨j, hj, rfl⟩ := ltT_m hx
  have := h j hj
  unfold isL at this
  rw [Bool.and_eq_true] at this
  exact ⟨of_decide_eq_true this.1, of_decide_eq_true this.2⟩
theorem ltT_128 {tp : List Int32} {i n : Nat} (h : ∀ j, j < n → isL (chT tp (i + j)) = true) : ∀ j, j < n → chT tp (i + j) < 128 := fun j hj => by
  have := h j hj
  unfold isL at this
  rw [Bool.and_eq_true] at this
  have := of_decide_eq_true this.2
  omega
theorem ltT_getD {tp : List Int32} {i n j : Nat} (h : j < n) : (ltT tp i n).getD j 0 = chT tp (i + j) := by
  rw [List.getD_eq_getElem?_getD]
  simp [ltT, h]
theorem kyW_p : ∀ k : Fin 21, (∀ x, x ∈ kyW.getD k.val [] → 97 ≤ x ∧ x ≤ 122) ∧ (kyW.getD k.val []).length ≤ 7 := by decide
theorem kyN_inj : ∀ a b : Fin 21, kyN a.val = kyN b.val → a = b := by decide +kernel
theorem kwF_hit {x k : Nat} (hk : k < 21) (hx : kyN k = x) : ∀ m, m ≤ 21 → k < m → kwF x m = 20 + k
  | 0, _, h => absurd h (Nat.not_lt_zero _)
  | m + 1, h1, h2 => by
    unfold kwF
    by_cases e : kyN m = x
    · rw [if_pos e]
      have := kyN_inj ⟨m, by omega⟩ ⟨k, hk⟩ (e.trans hx.symm)
      have e2 : m = k := congrArg Fin.val this
      rw [e2]
    · rw [if_neg e]
      refine kwF_hit hk hx m (by omega) ?_
      rcases Nat.lt_succ_iff_lt_or_eq.mp h2 with h | h
      · exact h
      · rw [h] at hx; exact absurd hx e
theorem kwF_m {x : Nat} : ∀ m, (∀ k, k < m → kyN k ≠ x) → kwF x m = 1
  | 0, _ => rfl
  | m + 1, h => by
    unfold kwF
    rw [if_neg (h m (by omega))]
    exact kwF_m m (fun k hk => h k (by omega))
theorem kwF_e {x : Nat} : ∀ m, kwF x m ≠ 1 → ∃ k, k < m ∧ kyN k = x ∧ kwF x m = 20 + k
  | 0, h => absurd rfl h
  | m + 1, h => by
    unfold kwF at h ⊢
    by_cases e : kyN m = x
    · rw [if_pos e]
      exact ⟨m, by omega, e, rfl⟩
    · rw [if_neg e] at h ⊢
      obtain ⟨k, h1, h2, h3⟩ := kwF_e m h
      exact ⟨k, by omega, h2, h3⟩
/-- which word letters are -/
def wdI (tp : List Int32) (a n : Nat) : Int32 := if n ≤ 8 ∧ kwF (nmN (chT tp) a n) 21 ≠ 1 then nI (kwF (nmN (chT tp) a n) 21 - 20) else -1
theorem wd_hit {tp : List Int32} {a n w : Nat} (hw : w < 21) (h : kyW.getD w [] = ltT tp a n) : wdI tp a n = nI w := by
  have hl : n ≤ 7 := by
    have := (kyW_p ⟨w, hw⟩).2
    dsimp only at this
    rw [h, ltT_len] at this
    exact this
  have e : kyN w = nmN (chT tp) a n := by
    rw [nmN_w n (by omega), ← h]; rfl
  have e2 := kwF_hit hw e 21 (Nat.le_refl _) hw
  unfold wdI
  rw [e2, if_pos ⟨by omega, by omega⟩, Nat.add_sub_cancel_left]
theorem wd_miss {tp : List Int32} {a n : Nat} (hL : ∀ j, j < n → isL (chT tp (a + j)) = true) (h : ∀ w, w < 21 → kyW.getD w [] ≠ ltT tp a n) : wdI tp a n = -1 := by
  unfold wdI
  refine if_neg (fun z => ?_)
  obtain ⟨k, h1, h2, h3⟩ := kwF_e 21 z.2
  refine h k h1 (wdN_inj 7 _ _ (kyW_p ⟨k, h1⟩).2 (kyW_p ⟨k, h1⟩).1 (ltT_p hL) ?_)
  rw [← nmN_w n z.1, ← h2]; rfl
/-- of the token at letters: its kind, by the word -/
theorem wd_c {tp : List Int32} {a n : Nat} : (∃ k, k < 21 ∧ wdI tp a n = nI k ∧ n ≤ 8 ∧ kwF (nmN (chT tp) a n) 21 = 20 + k) ∨ (wdI tp a n = -1 ∧ (8 < n ∨ (n ≤ 8 ∧ kwF (nmN (chT tp) a n) 21 = 1))) := by
  unfold wdI
  by_cases h : n ≤ 8 ∧ kwF (nmN (chT tp) a n) 21 ≠ 1
  · obtain ⟨k, h1, h2, h3⟩ := kwF_e 21 h.2
    refine Or.inl ⟨k, h1, ?_, h.1, h3⟩
    rw [if_pos h, h3, Nat.add_sub_cancel_left]
  · refine Or.inr ⟨if_neg h, ?_⟩
    by_cases h8 : n ≤ 8
    · exact Or.inr ⟨h8, Classical.byContradiction fun z => h ⟨h8, z⟩⟩
    · exact Or.inl (by omega)
/-- a sign's answer -/
def sgI (tp : List Int32) (k : Nat) : Nat := if sgK (chT tp k) = 3 then 0 else chT tp k
theorem at_eq {tp : List Int32} (hb : byT tp) {k x : Nat} (hx : x < 128) : atS tp k = nI x ↔ chT tp k = x := by
  rcases at_ch hb k with ⟨h1, h2, h3⟩ | ⟨h1, h2⟩
  · rw [at_n hb h3]
    exact nI_eq (by omega) (by omega)
  · constructor
    · intro h
      rw [h, nI_toInt (by omega)] at h1
      omega
    · intro h; omega
theorem sg_cases {tp : List Int32} (hb : byT tp) (k : Nat) : (((atS tp k).toInt < 40 ∨ 61 < (atS tp k).toInt) ∧ sgI tp k = 0) ∨ ∃ y, 40 ≤ y ∧ y ≤ 61 ∧ atS tp k = nI y ∧ chT tp k = y := by
  rcases at_ch hb k with ⟨h1, h2, h3⟩ | ⟨h1, h2⟩
  · by_cases hr : 40 ≤ chT tp k ∧ chT tp k ≤ 61
    · exact Or.inr ⟨_, hr.1, hr.2, at_n hb h3, rfl⟩
    · refine Or.inl ⟨by omega, if_pos ?_⟩
      refine Classical.byContradiction fun z => ?_
      have := sgK_b z
      omega
  · refine Or.inl ⟨by omega, if_pos ?_⟩
    refine Classical.byContradiction fun z => ?_
    have := sgK_b z
    omega
/-- what lies below the class's cells: statics of the JDK, the words' letters -/
def bsA (D : va_G) (dA : Nat → ClassId) (H : Heap) (o : Nat) (Rf : GR) (ed : Nat) : Prop := stH D H 0 (.int (nI 1)) ∧ D.2 100 0 < o ∧ (∃ r : Option Nat, stH D H 4 (va_rf r)) ∧ D.2 100 4 < o ∧ stH D H 3 (.ref ed) ∧ D.2 100 3 < o ∧ ed < o ∧ va_at D CL (ed, .inl (dA 10, 0, .inr (.inr (.inr (.inr (fun _ => none)))))) H ∧ ∀ w, w < 21 → ∃ sa, Rf 3 w = some sa ∧ strA D dA H (fun q => q < o) sa (kyW.getD w [])
theorem bsA_F {D : va_G} {dA : Nat → ClassId} {A : Nat → Prop} {H H1 : Heap} {o ed : Nat} {Rf Rf1 : GR} (h : bsA D dA H o Rf ed) (hF : Fr A H H1) (hA : ∀ q, q < H.size → A q → o ≤ q) (hr : ∀ w, Rf1 3 w = Rf 3 w) : bsA D dA H1 o Rf1 ed := by
  obtain ⟨h1, h2, ⟨r, h3⟩, h4, h5, h6, h7, h8, h9⟩ := h
  refine ⟨stH_F h1 hF (fun q a b z => by have := hA q a z; omega), h2, ⟨r, stH_F h3 hF (fun q a b z => by have := hA q a z; omega)⟩, h4, stH_F h5 hF (fun q a b z => by have := hA q a z; omega), h6, h7, h8.kept (hF.2 _ h8.lt (fun z => by have := hA _ h8.lt z; dsimp only at this; omega)), fun w hw => ?_⟩
  obtain ⟨sa, g1, g2⟩ := h9 w hw
  exact ⟨sa, (hr w).trans g1, strA_F g2 hF (fun q a b z => by have := hA q a z; omega)⟩
theorem bsA_S {D : va_G} {dA : Nat → ClassId} {A : Nat → Prop} {H H1 : Heap} {locs : List Loc} {o ed : Nat} {Rf : GR} (h : bsA D dA H o Rf ed) (hS : va_S A H H1 locs) (hA : ∀ q, q < H.size → A q → o ≤ q) : bsA D dA H1 o Rf ed := bsA_F h ⟨hS.1, hS.2.1⟩ hA (fun _ => rfl)
/-- a run's length, by what stands -/
theorem rnN_at {p : Nat → Bool} {ch : Nat → Nat} : ∀ (u i j : Nat), (∀ x, x < j → p (ch (i + x)) = true) → ¬ p (ch (i + j)) = true → j ≤ u → rnN p ch u i = j
  | 0, i, j, h1, h2, h3 => by
    obtain rfl : j = 0 := by omega
    rfl
  | u + 1, i, j, h1, h2, h3 => by
    unfold rnN
    cases j with
    | zero => exact if_neg h2
    | succ j =>
      rw [if_pos (show p (ch i) = true from h1 0 (by omega)), rnN_at u (i + 1) j (fun x hx => by have := h1 (x + 1) (by omega); rw [show i + 1 + x = i + (x + 1) by omega]; exact this) (by rw [show i + 1 + j = i + (j + 1) by omega]; exact h2) (by omega)]
theorem p_lt {p : Nat → Bool} (h0 : p 0 = false) {tp : List Int32} {k : Nat} (h : p (chT tp k) = true) : k < tp.length := by
  apply Classical.byContradiction
  intro hn
  rw [chT_0 (by omega), h0] at h
  cases h
