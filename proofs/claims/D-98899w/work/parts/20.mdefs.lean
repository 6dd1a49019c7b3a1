/-! THE MODEL's group: its object at o, its arrays behind it -/
set_option maxRecDepth 100000
abbrev dM : List Dsc := [.inr (7, [.inr 0, .inl 1, .inr 0, .inl 2, .inr 0, .inl 3, .inl 4, .inl 5, .inl 6, .inl 7, .inr 0, .inr 0, .inr 0, .inr 0, .inr 0, .inr 0, .inr 0, .inr 0, .inr 0, .inr 0, .inr 0, .inl 8, .inl 9, .inl 10, .inl 11, .inl 12, .inl 13, .inl 14, .inl 15, .inl 16, .inl 17, .inl 18, .inl 19, .inr 0, .inl 20, .inl 21, .inl 22, .inl 23, .inl 24, .inr 0, .inl 25, .inl 26, .inl 27, .inr 0, .inl 28, .inl 29, .inr 0, .inl 30, .inl 31, .inr 0, .inr 0, .inl 32, .inl 33, .inr 0, .inl 34, .inl 35, .inl 36, .inl 37, .inr 0, .inl 38, .inl 39, .inl 40, .inl 41, .inl 42, .inl 43]), .inl (1, 2000), .inl (1, 2000), .inl (0, 403), .inl (0, 403), .inl (0, 403), .inl (4, 403), .inl (4, 21), .inl (4, 9), .inl (0, 2), .inl (0, 18), .inl (0, 18), .inl (0, 18), .inl (0, 2), .inl (2, 18), .inl (0, 2), .inl (0, 2), .inl (0, 2), .inl (0, 8), .inl (0, 8), .inl (2, 260), .inl (0, 260), .inl (0, 260), .inl (0, 260), .inl (0, 260), .inl (0, 840), .inl (0, 840), .inl (0, 64), .inl (0, 9), .inl (0, 400), .inl (0, 48), .inl (0, 48), .inl (0, 9), .inl (0, 9), .inl (0, 1920), .inl (0, 9), .inl (2, 512), .inl (0, 9), .inl (0, 20), .inl (0, 20), .inl (0, 20), .inl (2, 512), .inl (2, 3), .inl (0, 144)]
abbrev AM (o : Nat) : Nat → Prop := fun q => o ≤ q ∧ q < o + 44
theorem AM_in {o : Nat} (k : Nat) (hk : k < 44) : AM o (o + k) := ⟨Nat.le_add_right _ _, Nat.add_lt_add_left hk o⟩
theorem ok_X13 : ClsOK RX13 TX13 65 tyX13 := ⟨in_X13, tyX13_ok, nmX13⟩
/-- the live side, and how many beds it has -/
def tM (V : GI) (lv n : Nat) : Prop := lv < 2 ∧ n ≤ 9 ∧ V 0 18 = nI lv ∧ V 9 lv = nI n
def inZ (v lo hi : Int32) : Int32 := if lo ≤ v then if v ≤ hi then 1 else 0 else 0
def bedZ (n : Nat) (b : Int32) : Int32 := if ¬ (b < 0 ∨ n ≤ b.toNatClampNeg) then 1 else 0
theorem bedZ_in {n : Nat} (hn : n ≤ 9) (b : Int32) : inZ b (nI 0) (nI n - nI 1) = bedZ n b := by
  have e : (nI n - nI 1).toInt = (n : Int) - 1 := by
    have := pk_sub_toInt (a := n) (b := 1) (by omega) (by omega)
    exact this
  have h := vp_in_iff (x := b) (n := n)
  unfold vp_in at h
  have h0 : nI 0 ≤ b ↔ 0 ≤ b.toInt := by rw [Int32.le_iff_toInt_le]; rfl
  have h1 : b ≤ nI n - nI 1 ↔ b.toInt < n := by rw [Int32.le_iff_toInt_le, e]; omega
  unfold inZ bedZ
  by_cases ha : 0 ≤ b.toInt <;> by_cases hb : b.toInt < n
  · rw [if_pos (h0.mpr ha), if_pos (h1.mpr hb), if_pos (h.mpr ⟨ha, hb⟩)]
  · rw [if_pos (h0.mpr ha), if_neg (fun z => hb (h1.mp z)), if_neg (fun z => hb (h.mp z).2)]
  · rw [if_neg (fun z => ha (h0.mp z)), if_neg (fun z => ha (h.mp z).1)]
  · rw [if_neg (fun z => ha (h0.mp z)), if_neg (fun z => ha (h.mp z).1)]
theorem bedZ_cases {n : Nat} (hn : n ≤ 9) (b : Int32) : (∃ k, k < n ∧ b = nI k ∧ bedZ n b = 1) ∨ (bedZ n b = 0 ∧ ¬ vp_in b n) := by
  unfold bedZ
  by_cases h : vp_in b n
  · obtain ⟨k, hk, rfl⟩ := vp_in_of h (by omega)
    exact Or.inl ⟨k, hk, rfl, if_pos h⟩
  · exact Or.inr ⟨if_neg h, h⟩
theorem bedZ_nI {n k : Nat} (hk : k < n) (hn : n ≤ 9) : bedZ n (nI k) = 1 := if_pos (vp_in_nI hk (by omega))
/-- how who lies in a bed does, or in none -/
def lAt (row : Nat → Int32) (ring : Int32) (n : Nat) (b : Int32) : Int32 := if ¬ (b < 0 ∨ n ≤ b.toNatClampNeg) then row b.toNatClampNeg else if ring = 1 ∧ 0 < n then row (if b < 0 then n - 1 else 0) else 0
theorem lAt_cg {f f' : Nat → Int32} {r r' : Int32} {n : Nat} {b : Int32} (h1 : f = f') (h2 : r = r') : lAt f r n b = lAt f' r' n b := by rw [h1, h2]
/-- what a law is asked with -/
def lookV (row cold : Nat → Int32) (ring : Int32) (n b : Nat) : Nat → Int32 := fun j => match j with
  | 0 => row b
  | 1 => lAt row ring n (nI b - 1)
  | 2 => lAt row ring n (nI (b + 1))
  | 3 => row (9 + b)
  | 4 => cold b
  | 5 => row 45 - row 45 / 24 * 24
  | 6 => nI b
  | 7 => nI n
  | _ => row (27 + b)
theorem tM_to {V V1 : GI} {lv n : Nat} (h : tM V lv n) (h1 : V1 0 18 = V 0 18) (h2 : V1 9 lv = V 9 lv) : tM V1 lv n := ⟨h.1, h.2.1, h1.trans h.2.2.1, h2.trans h.2.2.2⟩
def rowZ (n : Nat) (x : Int32) : Int32 := inZ x (nI 0) (nI (2 ^ n - 1))
theorem two9 {n : Nat} (hn : n ≤ 9) : 2 ^ n ≤ 512 := Nat.pow_le_pow_right (by decide) hn
theorem rowZ_cases {n : Nat} (hn : n ≤ 9) (x : Int32) : (∃ k, k < 2 ^ n ∧ x = nI k ∧ rowZ n x = 1) ∨ rowZ n x = 0 := by
  have h2 := two9 hn
  have hp := Nat.two_pow_pos n
  unfold rowZ inZ
  by_cases h0 : nI 0 ≤ x
  · rw [if_pos h0]
    by_cases h1 : x ≤ nI (2 ^ n - 1)
    · obtain ⟨k, hk, rfl⟩ := nI_of (x := x) (by rw [Int32.lt_iff_toInt_lt]; rw [Int32.le_iff_toInt_le] at h0; have : (nI 0).toInt = 0 := rfl; have : (0 : Int32).toInt = 0 := rfl; omega)
      rw [if_pos h1]
      exact Or.inl ⟨k, by have := (nI_leI hk (by omega)).mp h1; omega, rfl, rfl⟩
    · rw [if_neg h1]; exact Or.inr rfl
  · rw [if_neg h0]; exact Or.inr rfl
theorem bed_vp {n : Nat} {b : Int32} (h : ¬ bedZ n b = 0) : ¬ (b < 0 ∨ n ≤ b.toNatClampNeg) := fun z => h (by unfold bedZ; rw [if_neg (fun q => q z)])
theorem bed_nvp {n : Nat} {b : Int32} (h : bedZ n b = 0) : ¬ ¬ (b < 0 ∨ n ≤ b.toNatClampNeg) := fun z => by unfold bedZ at h; rw [if_pos z] at h; cases h
theorem bed_in {n N : Nat} {b : Int32} (h : ¬ bedZ n b = 0) (hN : n ≤ N) : vp_in b N := fun z => bed_vp h (z.imp id (fun q => Nat.le_trans hN q))
theorem nlt_le {b : Int32} (h : 0 ≤ b) : ¬ b < 0 := by rw [Int32.le_iff_toInt_le] at h; rw [Int32.lt_iff_toInt_lt]; omega
theorem lt_nle {b : Int32} (h : ¬ 0 ≤ b) : b < 0 := by rw [Int32.le_iff_toInt_le] at h; rw [Int32.lt_iff_toInt_lt]; omega
/-- how many of a set's first nine bits are set -/
def bcN (x : Nat) : Nat → Nat
  | 0 => 0
  | k + 1 => bcN x k + x / 2 ^ k % 2
def bc (x : Nat) : Nat := bcN x 9
def wthn (v lo hi : Int32) : Int32 := if v < lo then lo else if hi < v then hi else v
def mixI (h v : Int32) : Int32 := ((h ^^^ v) * 1103515245 + nI 12345) ^^^ ((((h ^^^ v) * 1103515245 + nI 12345).toUInt32 >>> ((nI 15).toUInt32 &&& Int32.toUInt32 31)).toInt32)
