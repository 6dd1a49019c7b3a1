/-! THE CLASS's group: its object at o, what it makes behind it -/
def bkD (kb : Nat) : List Dsc := [.inr (5, [.inl (kb + 1), .inl (kb + 2), .inl (kb + 3), .inl (kb + 4), .inr 0, .inr 0, .inr 0, .inr 0, .inl (kb + 5), .inl (kb + 8), .inl (kb + 9)]), .inl (0, 9), .inl (0, 9), .inl (0, 9), .inl (0, 9), .inl (7, 2), .inr (13, []), .inr (14, []), .inl (0, 9), .inr (6, [.inl (kb + 10), .inr 0]), .inl (0, 9)]
abbrev dS0 : List Dsc := [.inr (0, [.inl 1, .inl 2, .inl 9, .inr 1, .inr 0, .inr 0, .inr 0, .inl 15, .inl 26, .inl 37, .inl 38, .inl 72, .inl 73, .inl 74, .inl 75, .inr 0, .inr 0, .inr 0, .inr 0, .inr 0, .inl 76, .inl 77, .inl 78, .inl 79, .inl 80, .inl 81]), .inr (1, [.inr 1, .inr 1, .inr 1, .inr 1, .inr 1, .inr 0, .inr 0, .inr 0]), .inr (2, [.inl 3, .inl 4, .inr 0, .inl 5, .inl 6, .inl 7, .inl 8, .inr 0]), .inl (5, 21), .inl (1, 2000), .inl (1, 2001), .inl (3, 2001), .inl (3, 2001), .inl (3, 2001), .inr (3, [.inl 2, .inl 1, .inr 1, .inr 0, .inr 0, .inr 0, .inr 0]), .inr (4, [.inl 11, .inl 12, .inl 13, .inl 14, .inr 0, .inr 0, .inr 0, .inr 0]), .inr (17, [.inr 0, .inr 1, .inr 0]), .inl (8, 4), .inl (0, 9), .inl (0, 9), .inr (5, [.inl 16, .inl 17, .inl 18, .inl 19, .inr 0, .inr 0, .inr 0, .inr 0, .inl 20, .inl 23, .inl 24]), .inl (0, 9), .inl (0, 9), .inl (0, 9), .inl (0, 9), .inl (7, 2), .inr (13, []), .inr (14, []), .inl (0, 9), .inr (6, [.inl 25, .inr 0]), .inl (0, 9), .inr (5, [.inl 27, .inl 28, .inl 29, .inl 30, .inr 0, .inr 0, .inr 0, .inr 0, .inl 31, .inl 34, .inl 35]), .inl (0, 9), .inl (0, 9), .inl (0, 9), .inl (0, 9), .inl (7, 2), .inr (13, []), .inr (14, []), .inl (0, 9), .inr (6, [.inl 36, .inr 0]), .inl (0, 9), .inl (6, 40), .inl (6, 3), .inr (5, [.inl 40, .inl 41, .inl 42, .inl 43, .inr 0, .inr 0, .inr 0, .inr 0, .inl 44, .inl 47, .inl 48]), .inl (0, 9), .inl (0, 9), .inl (0, 9), .inl (0, 9), .inl (7, 2), .inr (13, []), .inr (14, []), .inl (0, 9), .inr (6, [.inl 49, .inr 0]), .inl (0, 9), .inr (5, [.inl 51, .inl 52, .inl 53, .inl 54, .inr 0, .inr 0, .inr 0, .inr 0, .inl 55, .inl 58, .inl 59]), .inl (0, 9), .inl (0, 9), .inl (0, 9), .inl (0, 9), .inl (7, 2), .inr (13, []), .inr (14, []), .inl (0, 9), .inr (6, [.inl 60, .inr 0]), .inl (0, 9), .inr (5, [.inl 62, .inl 63, .inl 64, .inl 65, .inr 0, .inr 0, .inr 0, .inr 0, .inl 66, .inl 69, .inl 70]), .inl (0, 9), .inl (0, 9), .inl (0, 9), .inl (0, 9), .inl (7, 2), .inr (13, []), .inr (14, []), .inl (0, 9), .inr (6, [.inl 71, .inr 0]), .inl (0, 9), .inr (15, []), .inr (16, []), .inl (2, 3), .inl (2, 512), .inl (0, 20), .inl (0, 20), .inl (0, 25), .inl (2, 20), .inl (2, 512), .inl (0, 9)]
def dSp : Nat → List Dsc
  | 0 => []
  | i + 1 => dSp i ++ bkD (82 + 11 * i)
abbrev dS : List Dsc := dS0 ++ dSp 40
theorem dSp_len : ∀ i, (dSp i).length = 11 * i
  | 0 => rfl
  | i + 1 => by
    have e : (bkD (82 + 11 * i)).length = 11 := rfl
    rw [dSp, List.length_append, dSp_len i, e]
    omega
theorem dS_len : dS.length = 522 := by
  have e : dS0.length = 82 := rfl
  rw [List.length_append, dSp_len, e]
abbrev AS (o : Nat) : Nat → Prop := fun q => o ≤ q ∧ q < o + 522 ∧ ¬ (o + 10 ≤ q ∧ q < o + 15)
theorem AS_in {o : Nat} (k : Nat) (hk : k < 522 ∧ ¬ (10 ≤ k ∧ k < 15)) : AS o (o + k) := ⟨Nat.le_add_right _ _, by omega, by omega⟩
/-- a barrack stands at kb -/
def isB (kb : Nat) : Prop := 15 ≤ kb ∧ kb + 11 ≤ 522 ∧ ∀ i d, (bkD kb)[i]? = some d → dS[kb + i]? = some d
theorem isB_of {kb : Nat} (h1 : 15 ≤ kb ∧ kb + 11 ≤ 522) (h : ∀ i, i < 11 → dS[kb + i]? = (bkD kb)[i]?) : isB kb := ⟨h1.1, h1.2, fun i d hd => by
  have hi : i < 11 := (List.getElem?_eq_some_iff.mp hd).1
  rw [h i hi]; exact hd⟩
theorem lt11 {P : Nat → Prop} (h0 : P 0) (h1 : P 1) (h2 : P 2) (h3 : P 3) (h4 : P 4) (h5 : P 5) (h6 : P 6) (h7 : P 7) (h8 : P 8) (h9 : P 9) (h10 : P 10) : ∀ i, i < 11 → P i := fun i hi => by
  obtain rfl | rfl | rfl | rfl | rfl | rfl | rfl | rfl | rfl | rfl | rfl : i = 0 ∨ i = 1 ∨ i = 2 ∨ i = 3 ∨ i = 4 ∨ i = 5 ∨ i = 6 ∨ i = 7 ∨ i = 8 ∨ i = 9 ∨ i = 10 := by omega
  all_goals assumption
theorem isB15 : isB 15 := isB_of (by decide) (lt11 rfl rfl rfl rfl rfl rfl rfl rfl rfl rfl rfl)
theorem isB26 : isB 26 := isB_of (by decide) (lt11 rfl rfl rfl rfl rfl rfl rfl rfl rfl rfl rfl)
theorem isB39 : isB 39 := isB_of (by decide) (lt11 rfl rfl rfl rfl rfl rfl rfl rfl rfl rfl rfl)
theorem isB50 : isB 50 := isB_of (by decide) (lt11 rfl rfl rfl rfl rfl rfl rfl rfl rfl rfl rfl)
theorem isB61 : isB 61 := isB_of (by decide) (lt11 rfl rfl rfl rfl rfl rfl rfl rfl rfl rfl rfl)
theorem dSp_at {i : Nat} : ∀ {n : Nat}, i < n → ∀ j, j < 11 → (dSp n)[11 * i + j]? = (bkD (82 + 11 * i))[j]?
  | n + 1, h, j, hj => by
    rw [dSp]
    by_cases e : i = n
    · subst e
      rw [List.getElem?_append_right (by rw [dSp_len]; omega), dSp_len, Nat.add_sub_cancel_left]
    · rw [List.getElem?_append_left (by rw [dSp_len]; omega)]
      exact dSp_at (by omega) j hj
theorem isBp {i : Nat} (h : i < 40) : isB (82 + 11 * i) := isB_of (by omega) (fun j hj => by
  have e : dS0.length = 82 := rfl
  rw [List.getElem?_append_right (by rw [e]; omega), e, show 82 + 11 * i + j - 82 = 11 * i + j by omega]
  exact dSp_at h j hj)
abbrev vwI (V : GI) (kb : Nat) : GI := fun k j => V (kb + k) j
abbrev vwL (V : GL) (kb : Nat) : GL := fun k j => V (kb + k) j
abbrev vwR (V : GR) (kb : Nat) : GR := fun k j => V (kb + k) j
theorem gP_view {D : va_G} {dA : Nat → ClassId} {o kb : Nat} {V : GI} {L : GL} {Rf : GR} {H : Heap} (h : gP D dA o dS V L Rf H) (hB : isB kb) : gP D dA (o + kb) dB (vwI V kb) (vwL L kb) (vwR Rf kb) H := by
  intro i d hd
  have hi : i < 11 := (List.getElem?_eq_some_iff.mp hd).1
  have key : ∀ d', (bkD kb)[i]? = some d' → gE dA (o + kb) (vwI V kb) (vwL L kb) (vwR Rf kb) i d = gE dA o V L Rf (kb + i) d' → va_at D CL (o + kb + i, gE dA (o + kb) (vwI V kb) (vwL L kb) (vwR Rf kb) i d) H := fun d' h1 h2 => by
    rw [h2, Nat.add_assoc]
    exact h _ _ (hB.2.2 i d' h1)
  obtain rfl | rfl | rfl | rfl | rfl | rfl | rfl | rfl | rfl | rfl | rfl : i = 0 ∨ i = 1 ∨ i = 2 ∨ i = 3 ∨ i = 4 ∨ i = 5 ∨ i = 6 ∨ i = 7 ∨ i = 8 ∨ i = 9 ∨ i = 10 := by omega
  all_goals (cases hd; refine key _ rfl ?_; first | rfl | simp only [gE, gF, gV, vwI, vwR, Nat.add_assoc, Nat.add_zero])
/-- the contents where a barrack's are replaced -/
def spl (V : GI) (kb : Nat) (W : GI) : GI := fun k j => if kb ≤ k ∧ k < kb + 11 then W (k - kb) j else V k j
theorem spl_in {V W : GI} {kb i j : Nat} (h : i < 11) : spl V kb W (kb + i) j = W i j := by
  unfold spl
  rw [if_pos ⟨by omega, by omega⟩, Nat.add_sub_cancel_left]
theorem spl_out {V W : GI} {kb k j : Nat} (h : ¬ (kb ≤ k ∧ k < kb + 11)) : spl V kb W k j = V k j := if_neg h
theorem gP_back {D : va_G} {dA : Nat → ClassId} {o kb : Nat} {V W : GI} {L : GL} {Rf : GR} {H H1 : Heap} {A1 : Nat → Prop} (h : gP D dA o dS V L Rf H) (hB : isB kb) (hF : Fr A1 H H1) (hA : ∀ q, A1 q → AB (o + kb) q) (hw : gP D dA (o + kb) dB W (vwL L kb) (vwR Rf kb) H1) : gP D dA o dS (spl V kb W) L Rf H1 := by
  intro k d hd
  by_cases hk : kb ≤ k ∧ k < kb + 11
  · obtain ⟨i, rfl⟩ : ∃ i, k = kb + i := ⟨k - kb, by omega⟩
    have hi : i < 11 := by omega
    have key : ∀ d', (dB)[i]? = some d' → gE dA (o + kb) W (vwL L kb) (vwR Rf kb) i d' = gE dA o (spl V kb W) L Rf (kb + i) d → va_at D CL (o + (kb + i), gE dA o (spl V kb W) L Rf (kb + i) d) H1 := fun d' h1 h2 => by
      rw [← h2, ← Nat.add_assoc]
      exact hw _ _ h1
    have hd2 : ∀ d', (bkD kb)[i]? = some d' → d = d' := fun d' h1 => Option.some.inj (hd.symm.trans (hB.2.2 i d' h1))
    have hs : ∀ j, spl V kb W (kb + i) j = W i j := fun j => spl_in hi
    have hf : spl V kb W (kb + i) = W i := funext hs
    have hz : spl V kb W kb = W 0 := funext (fun j => spl_in (V := V) (kb := kb) (W := W) (i := 0) (j := j) (by decide))
    obtain rfl | rfl | rfl | rfl | rfl | rfl | rfl | rfl | rfl | rfl | rfl : i = 0 ∨ i = 1 ∨ i = 2 ∨ i = 3 ∨ i = 4 ∨ i = 5 ∨ i = 6 ∨ i = 7 ∨ i = 8 ∨ i = 9 ∨ i = 10 := by omega
    all_goals (obtain rfl := hd2 _ rfl; refine key _ rfl ?_; first | (simp only [gE, gF, gV, gA, vwR, Nat.add_assoc, Nat.add_zero, hf, hz]; done) | (simp only [gE, gF, gV, gA, vwR, Nat.add_assoc, Nat.add_zero, hf, hz]; rfl))
  · have hlt : k < 522 := by have := (List.getElem?_eq_some_iff.mp hd).1; rw [dS_len] at this; exact this
    refine gE_congr (V := V) (L := L) (Rf := Rf) (fun j _ => (spl_out hk).symm) (fun _ _ => rfl) (fun _ _ => rfl) ((h k d hd).kept (hF.2 _ (h k d hd).lt (fun z => ?_)))
    have := hA _ z
    have h1 := this.1
    have h2 := this.2
    apply hk
    show kb ≤ k ∧ k < kb + 11
    have h3 : o + kb ≤ o + k := h1
    have h4 : o + k < o + kb + 11 := h2
    omega
/-- the barrack at kb holds the row f -/
def bkS (V : GI) (kb n : Nat) (f : Rw) (sd : Int32) : Prop := bkM (vwI V kb) n f sd
theorem bkM_to {V V1 : GI} {n : Nat} {f : Rw} {sd : Int32} (h : ∀ k j, k ≤ 4 → V1 k j = V k j) (hb : bkM V n f sd) : bkM V1 n f sd := by
  obtain ⟨⟨h4, h5, h1, h2⟩, h6, h7, h3, h36⟩ := hb
  exact ⟨⟨(h 0 4 (by decide)).trans h4, (h 0 5 (by decide)).trans h5, fun j hj => (h 1 j (by decide)).trans (h1 j hj), fun j hj => (h 2 j (by decide)).trans (h2 j hj)⟩, (h 0 6 (by decide)).trans h6, (h 0 7 (by decide)).trans h7, fun j hj => (h 3 j (by decide)).trans (h3 j hj), fun j hj => (h 4 j (by decide)).trans (h36 j hj)⟩
theorem bkS_spl {V W : GI} {kb n : Nat} {f : Rw} {sd : Int32} (hb : bkM W n f sd) : bkS (spl V kb W) kb n f sd := bkM_to (fun k j hk => spl_in (by omega)) hb
theorem bkS_to {V V1 : GI} {kb n : Nat} {f : Rw} {sd : Int32} (h : ∀ k j, k ≤ 4 → V1 (kb + k) j = V (kb + k) j) (hb : bkS V kb n f sd) : bkS V1 kb n f sd := bkM_to h hb
def sdS (Rf : GR) (o kb : Nat) : Prop := sdB (vwR Rf kb) (o + kb)
theorem AB_AS {o kb : Nat} (hB : isB kb) : ∀ z, AB (o + kb) z → AS o z := fun z hz => by
  have h1 := hB.1
  have h2 := hB.2.1
  have h3 : o + kb ≤ z := hz.1
  have h4 : z < o + kb + 11 := hz.2
  exact ⟨by omega, by omega, by omega⟩
/-- cells of a barrack -/
def PBk (kb k _ : Nat) : Bool := decide (kb ≤ k) && decide (k < kb + 11)
theorem spl_eqx {V W : GI} {kb : Nat} : Eqx (PBk kb) V (spl V kb W) := fun k j h => spl_out (fun z => by
  unfold PBk at h
  rw [decide_eq_true z.1, decide_eq_true z.2] at h
  cases h)
theorem ok_X0 : ClsOK RX0 TX0 26 tyX0 := ⟨in_X0, tyX0_ok, nmX0⟩

