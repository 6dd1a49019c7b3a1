/-! A BARRACK: its object at b, its arrays and what it asks with behind it; a text -/
abbrev dB : List Dsc := [.inr (5, [.inl 1, .inl 2, .inl 3, .inl 4, .inr 0, .inr 0, .inr 0, .inr 0, .inl 5, .inl 8, .inl 9]), .inl (0, 9), .inl (0, 9), .inl (0, 9), .inl (0, 9), .inl (7, 2), .inr (13, []), .inr (14, []), .inl (0, 9), .inr (6, [.inl 10, .inr 0]), .inl (0, 9)]
abbrev AB (b : Nat) : Nat → Prop := fun q => b ≤ q ∧ q < b + 11
theorem AB_in {b : Nat} (k : Nat) (hk : k < 11) : AB b (b + k) := ⟨Nat.le_add_right _ _, Nat.add_lt_add_left hk b⟩
def sdB (Rf : GR) (b : Nat) : Prop := Rf 5 0 = some (b + 6) ∧ Rf 5 1 = some (b + 7)
/-- what the asking looks at -/
def bkA (V : GI) (n : Nat) (f : Rw) : Prop := V 0 4 = nI (rbF f n) ∧ V 0 5 = f 45 ∧ (∀ j, j < 9 → V 1 j = f (9 + j)) ∧ ∀ j, j < 9 → V 2 j = f (27 + j)
def bkM (V : GI) (n : Nat) (f : Rw) (sd : Int32) : Prop := bkA V n f ∧ V 0 6 = f 46 ∧ V 0 7 = sd ∧ (∀ j, j < n → V 3 j = f (18 + j)) ∧ ∀ j, j < 9 → V 4 j = f (36 + j)
theorem bkA_to {V V1 : GI} {n : Nat} {f : Rw} (h4 : V1 0 4 = V 0 4) (h5 : V1 0 5 = V 0 5) (h1 : ∀ j, V1 1 j = V 1 j) (h2 : ∀ j, V1 2 j = V 2 j) (h : bkA V n f) : bkA V1 n f := ⟨h4.trans h.1, h5.trans h.2.1, fun j hj => (h1 j).trans (h.2.2.1 j hj), fun j hj => (h2 j).trans (h.2.2.2 j hj)⟩
theorem b01_le (x : Int32) : b01 x ≤ 1 := by have := b01_lt x; omega
theorem rb_bit {f : Rw} : ∀ {n b : Nat}, b < n → rbF f n / 2 ^ b % 2 = b01 (f b)
  | n + 1, b, hb => by
    have h1 := rbF_lt f n
    have e : rbF f (n + 1) = rbF f n + b01 (f n) * 2 ^ n := by
      show rbF f n ||| b01 (f n) * 2 ^ n = _
      rw [Nat.or_comm, Nat.mul_comm, ← Nat.two_pow_add_eq_or_of_lt h1, Nat.add_comm]
    rw [e]
    by_cases hn : b = n
    · subst hn
      rw [Nat.add_mul_div_right _ _ (Nat.two_pow_pos b), Nat.div_eq_of_lt h1, Nat.zero_add]
      exact Nat.mod_eq_of_lt (b01_lt _)
    · have ih := rb_bit (f := f) (show b < n by omega)
      obtain ⟨c, rfl⟩ : ∃ c, n = b + 1 + c := ⟨n - b - 1, by omega⟩
      rw [show 2 ^ (b + 1 + c) = 2 ^ b * (2 * 2 ^ c) by rw [Nat.pow_add, Nat.pow_succ, Nat.mul_assoc]]
      rw [show b01 (f (b + 1 + c)) * (2 ^ b * (2 * 2 ^ c)) = 2 ^ b * (2 * (2 ^ c * b01 (f (b + 1 + c)))) by
        rw [Nat.mul_comm (b01 _), Nat.mul_assoc, Nat.mul_assoc], Nat.add_mul_div_left _ _ (Nat.two_pow_pos b), Nat.add_mul_mod_self_left]
      exact ih
/-- which law: the class's cell, what it says -/
def lwB (D : va_G) (dA : Nat → ClassId) (H : Heap) (O : Nat → Prop) : Option Nat → Option Lw → Prop
  | none, none => True
  | some a, some w => lwA D dA H O a w
  | _, _ => False
theorem lwB_c {D : va_G} {dA : Nat → ClassId} {H : Heap} {O : Nat → Prop} {a : Option Nat} {w : Option Lw} (h : lwB D dA H O a w) : (a = none ∧ w = none) ∨ ∃ x y, a = some x ∧ w = some y ∧ lwA D dA H O x y := by
  cases a <;> cases w
  · exact Or.inl ⟨rfl, rfl⟩
  · exact h.elim
  · exact h.elim
  · exact Or.inr ⟨_, _, rfl, rfl, h⟩
theorem lwB_kept {D : va_G} {dA : Nat → ClassId} {H H1 : Heap} {O : Nat → Prop} {a : Option Nat} {w : Option Lw} (hk : ∀ q, O q → q < H.size → H1[q]? = H[q]?) (h : lwB D dA H O a w) : lwB D dA H1 O a w := by
  cases a <;> cases w
  · trivial
  · exact h.elim
  · exact h.elim
  · exact lwA_kept hk h
/-- a text at tx, in cells of O -/
def txA (D : va_G) (dA : Nat → ClassId) (H : Heap) (O : Nat → Prop) (tx : Nat) (T : Txt) : Prop := ∃ al ls cd cb g lw mc ea nc, O tx ∧ O al ∧ O ls ∧ O cd ∧ va_at D CL (tx, .inr (4, [.ref al, .ref ls, .ref cd, .ref cb, .int nc, .int (xR T), .int (xB T), .int (xS T)])) H ∧ va_at D CL (al, .inr (17, [.int mc, .ref ea, .int (nI (xN T))])) H ∧ va_at D CL (ls, .inl (dA 8, 4, .inr (.inr (.inr (.inr lw))))) H ∧ (∀ k, k < 4 → lwB D dA H O (lw k) (xL T k)) ∧ va_at D CL (cd, .inl (dA 0, 9, .inl g)) H ∧ (∀ b, b < 9 → g b = xC T b) ∧ xN T ≤ 9
theorem txA_kept {D : va_G} {dA : Nat → ClassId} {H H1 : Heap} {O : Nat → Prop} {tx : Nat} {T : Txt} (hk : ∀ q, O q → q < H.size → H1[q]? = H[q]?) (h : txA D dA H O tx T) : txA D dA H1 O tx T := by
  obtain ⟨al, ls, cd, cb, g, lw, mc, ea, nc, o1, o2, o3, o4, h1, h2, h3, h4, h5, h6, h7⟩ := h
  exact ⟨al, ls, cd, cb, g, lw, mc, ea, nc, o1, o2, o3, o4, h1.kept (hk _ o1 h1.lt), h2.kept (hk _ o2 h2.lt), h3.kept (hk _ o3 h3.lt), fun k hk2 => lwB_kept hk (h4 k hk2), h5.kept (hk _ o4 h5.lt), h6, h7⟩
theorem txA_S {D : va_G} {dA : Nat → ClassId} {A O : Nat → Prop} {H0 H : Heap} {locs : List Loc} {tx : Nat} {T : Txt} (h : txA D dA H0 O tx T) (hS : va_S A H0 H locs) (hO : ∀ q, O q → ¬ A q) : txA D dA H O tx T := txA_kept (fun q h1 h2 => hS.2.1 q h2 (hO q h1)) h
theorem txA_n {D : va_G} {dA : Nat → ClassId} {H : Heap} {O : Nat → Prop} {tx : Nat} {T : Txt} (h : txA D dA H O tx T) : xN T ≤ 9 := by
  obtain ⟨al, ls, cd, cb, g, lw, mc, ea, nc, o1, o2, o3, o4, h1, h2, h3, h4, h5, h6, h7⟩ := h
  exact h7
theorem lwA_S {D : va_G} {dA : Nat → ClassId} {A O : Nat → Prop} {H0 H : Heap} {locs : List Loc} {a : Nat} {w : Lw} (h : lwA D dA H0 O a w) (hS : va_S A H0 H locs) (hO : ∀ q, O q → ¬ A q) : lwA D dA H O a w := lwA_kept (fun q h1 h2 => hS.2.1 q h2 (hO q h1)) h
/-- behind a law's asking: nought alone may have changed -/
theorem gP_asked {D : va_G} {dA : Nat → ClassId} {b : Nat} {V : GI} {L : GL} {Rf : GR} {H H1 : Heap} {vars : Nat → Int32} {nt : Int32} (h : gP D dA b dB V L Rf H) (hF : Fr (fun z => z = b + 9) H H1) (ha : asA D dA H1 (b + 9) (b + 10) vars nt) : gP D dA b dB (up2 V 9 1 nt) L Rf H1 := by
  intro k d hd
  by_cases e : k = 9
  · subst e
    cases hd
    exact ha.1
  · have hk : k < 11 := (List.getElem?_eq_some_iff.mp hd).1
    exact gE_congr (V := V) (fun j _ => (up2_n (fun z => e z.1)).symm) (fun _ _ => rfl) (fun _ _ => rfl) ((h k d hd).kept (hF.2 _ (h k d hd).lt (by show ¬ (b + k = b + 9); omega)))
theorem asA_of {D : va_G} {dA : Nat → ClassId} {b : Nat} {V : GI} {L : GL} {Rf : GR} {H : Heap} {vars : Nat → Int32} (h : gP D dA b dB V L Rf H) (hv : ∀ j, j < 9 → V 10 j = vars j) : asA D dA H (b + 9) (b + 10) vars (V 9 1) :=
  ⟨h 9 _ rfl, gE_congr (k := 10) (d := .inl (0, 9)) (V := V) (V' := fun _ j => vars j) (L := L) (L' := L) (Rf := Rf) (Rf' := Rf) hv (fun _ _ => rfl) (fun _ _ => rfl) (h 10 _ rfl), by omega⟩
/-- the bed beside -/
def bfI (n : Nat) (rg : Int32) (b : Nat) : Int32 := if 0 < b then nI (b - 1) else if rg = nI 1 then nI (n - 1) else -1
def bhI (n : Nat) (rg : Int32) (b : Nat) : Int32 := if b + 1 < n then nI (b + 1) else if rg = nI 1 then nI 0 else -1
def sdK (n : Nat) (x : Int32) : Prop := x = -1 ∨ ∃ k, k < n ∧ x = nI k
def lfI (f : Rw) (x : Int32) : Int32 := if x = -1 then nI 0 else f x.toNatClampNeg
theorem bf_sd {n b : Nat} {rg : Int32} (hb : b < n) : sdK n (bfI n rg b) := by
  unfold bfI
  split
  · exact Or.inr ⟨b - 1, by omega, rfl⟩
  · split
    · exact Or.inr ⟨n - 1, by omega, rfl⟩
    · exact Or.inl rfl
theorem bh_sd {n b : Nat} {rg : Int32} (hb : b < n) : sdK n (bhI n rg b) := by
  unfold bhI
  split
  · exact Or.inr ⟨b + 1, by omega, rfl⟩
  · split
    · exact Or.inr ⟨0, by omega, rfl⟩
    · exact Or.inl rfl
theorem lfI_n {f : Rw} {k : Nat} (hk : k < 2 ^ 31) : lfI f (nI k) = f k := by
  unfold lfI
  rw [if_neg (ng_ne (by decide) hk), nI_clamp hk]
theorem lAt_in {f : Rw} {rg : Int32} {n k : Nat} (hk : k < n) (hn : n ≤ 9) : lAt f rg n (nI k) = f k := by
  have h : ¬ (nI k < 0 ∨ n ≤ (nI k).toNatClampNeg) := vp_in_nI hk (by omega)
  unfold lAt
  rw [if_pos h, nI_clamp (by omega)]
theorem lAt_out {f : Rw} {rg b : Int32} {n : Nat} (h : b < 0 ∨ n ≤ b.toNatClampNeg) : lAt f rg n b = if rg = 1 ∧ 0 < n then f (if b < 0 then n - 1 else 0) else 0 := by
  unfold lAt
  rw [if_neg (fun z => z h)]
theorem lf_bf {f : Rw} {n b : Nat} {rg : Int32} (hb : b < n) (hn : n ≤ 9) : lfI f (bfI n rg b) = lAt f rg n (nI b - 1) := by
  unfold bfI
  by_cases h0 : 0 < b
  · rw [if_pos h0, lfI_n (by omega)]
    have e : nI b - 1 = nI (b - 1) := pk_sub (a := b) (b := 1) (by omega)
    rw [e, lAt_in (by omega) hn]
  · rw [if_neg h0]
    obtain rfl : b = 0 := by omega
    have hneg : (nI 0 - 1 : Int32) < 0 := by decide
    rw [lAt_out (Or.inl hneg)]
    by_cases hr : rg = nI 1
    · rw [if_pos hr, lfI_n (by omega), if_pos (show rg = 1 ∧ 0 < n from ⟨hr, by omega⟩), if_pos hneg]
    · rw [if_neg hr, if_neg (show ¬ (rg = 1 ∧ 0 < n) from fun z => hr z.1)]
      exact if_pos rfl
theorem lf_bh {f : Rw} {n b : Nat} {rg : Int32} (hb : b < n) (hn : n ≤ 9) : lfI f (bhI n rg b) = lAt f rg n (nI (b + 1)) := by
  unfold bhI
  by_cases h0 : b + 1 < n
  · rw [if_pos h0, lfI_n (by omega), lAt_in h0 hn]
  · rw [if_neg h0]
    have hout : nI (b + 1) < 0 ∨ n ≤ (nI (b + 1)).toNatClampNeg := Or.inr (by rw [nI_clamp (by omega)]; omega)
    rw [lAt_out hout]
    by_cases hr : rg = nI 1
    · rw [if_pos hr, lfI_n (by decide), if_pos (show rg = 1 ∧ 0 < n from ⟨hr, by omega⟩), if_neg (nI_pos (by omega))]
    · rw [if_neg hr, if_neg (show ¬ (rg = 1 ∧ 0 < n) from fun z => hr z.1)]
      exact if_pos rfl
theorem wthn_c {v : Int32} {N : Nat} (hN : N < 1000) : (if mx0 v < nI N then mx0 v else nI N) = wthn v 0 (nI N) := by
  have e0 : (0 : Int32).toInt = 0 := rfl
  have eN : (nI N).toInt = N := nI_toInt (by omega)
  have m0 : mx0 v = if 0 < v then v else 0 := rfl
  rw [m0]
  unfold wthn
  by_cases h0 : 0 < v
  · rw [if_pos h0]
    have h1 : ¬ v < 0 := by rw [Int32.lt_iff_toInt_lt] at *; omega
    rw [if_neg h1]
    by_cases h2 : v < nI N
    · rw [if_pos h2, if_neg (by rw [Int32.lt_iff_toInt_lt] at *; omega)]
    · rw [if_neg h2]
      by_cases h3 : nI N < v
      · rw [if_pos h3]
      · rw [if_neg h3]
        rw [Int32.lt_iff_toInt_lt] at h2 h3
        exact Int32.toInt_inj.mp (by omega)
  · rw [if_neg h0]
    by_cases h1 : v < 0
    · rw [if_pos h1]
      by_cases h2 : (0 : Int32) < nI N
      · rw [if_pos h2]
      · rw [if_neg h2]; rw [Int32.lt_iff_toInt_lt] at h2; exact Int32.toInt_inj.mp (by omega)
    · have hz : v = 0 := by rw [Int32.lt_iff_toInt_lt] at h0 h1; exact Int32.toInt_inj.mp (by omega)
      subst hz
      rw [if_neg h1]
      by_cases h2 : (0 : Int32) < nI N
      · rw [if_pos h2, if_neg (by rw [Int32.lt_iff_toInt_lt] at *; omega)]
      · rw [if_neg h2]
        rw [Int32.lt_iff_toInt_lt] at h2
        have : nI N = 0 := Int32.toInt_inj.mp (by omega)
        rw [this]; rfl
theorem mx0_pos {v : Int32} : 0 < mx0 v ↔ 0 < v := by
  unfold mx0
  split
  · exact ⟨fun _ => by assumption, fun _ => by assumption⟩
  · exact ⟨fun h => absurd h (by decide), fun h => by contradiction⟩
