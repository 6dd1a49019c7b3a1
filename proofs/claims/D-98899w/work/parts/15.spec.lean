/-! THE COMMON MEANING: terms as lists of signs in the order of their coming out; laws; an hour -/
/-- (0, i) an int, (1, i) a variable, (k + 2, _) plus, minus, times, over -/
abbrev Sg : Type := Nat × Int32
def opI (k : Nat) (a b : Int32) : Int32 := if k = 0 then a + b else if k = 1 then a - b else if k = 2 then a * b else a / b
theorem opI_0 {k : Nat} {a b : Int32} (h : k = 0) : a + b = opI k a b := by unfold opI; rw [if_pos h]
theorem opI_1 {k : Nat} {a b : Int32} (h : k = 1) : a - b = opI k a b := by unfold opI; rw [if_neg (by omega), if_pos h]
theorem opI_2 {k : Nat} {a b : Int32} (h : k = 2) : a * b = opI k a b := by unfold opI; rw [if_neg (by omega), if_neg (by omega), if_pos h]
theorem opI_3 {k : Nat} {a b : Int32} (h : k = 3) : a / b = opI k a b := by unfold opI; rw [if_neg (by omega), if_neg (by omega), if_neg (by omega)]
/-- what a list of signs makes of a pile; none: something is divided by nought -/
def evS (vars : Nat → Int32) : List Sg → List Int32 → Option (List Int32)
  | [], st => some st
  | (0, i) :: es, st => evS vars es (i :: st)
  | (1, i) :: es, st => evS vars es (vars i.toNatClampNeg :: st)
  | (k + 2, _) :: es, b :: a :: st => if k = 3 ∧ b = 0 then none else evS vars es (opI k a b :: st)
  | (_ + 2, _) :: _, _ => none
/-- a list of signs that finds what it needs on a pile of d, and leaves one -/
def wfS : List Sg → Nat → Prop
  | [], d => d = 1
  | (0, _) :: es, d => d < 400 ∧ wfS es (d + 1)
  | (1, i) :: es, d => d < 400 ∧ vp_in i 9 ∧ wfS es (d + 1)
  | (k + 2, _) :: es, d => k ≤ 3 ∧ 2 ≤ d ∧ wfS es (d - 1)
/-- the pile's content -/
def pileOK (g : Nat → Int32) : List Int32 → Prop
  | [] => True
  | x :: st => g st.length = x ∧ pileOK g st
theorem pileOK_keep {g g' : Nat → Int32} : ∀ (st : List Int32), (∀ j, j < st.length → g' j = g j) → pileOK g st → pileOK g' st
  | [], _, _ => trivial
  | x :: st, h, hp => ⟨(h st.length (by simp)).trans hp.1, pileOK_keep st (fun j hj => h j (by simp; omega)) hp.2⟩
/-- a term's value: (nought divided by, the value) -/
def tmV (vars : Nat → Int32) (es : List Sg) : Option Int32 := match evS vars es [] with
  | some (x :: _) => some x
  | _ => none
