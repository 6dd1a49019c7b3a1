/-! a law told: branches (at most 4 with a test), then the last -/
def lwL (kd pl vl : Nat → Nat) : Nat → Nat → Fo → Ifs → Nat × Fo × Ifs
  | 0, t, fo, acc => if isP fo (kd t) 29 = true then (t, flP fo 2 (pl t), acc) else (t, fo, acc)
  | k + 1, t, fo, acc => if isP fo (kd t) 29 = true then match tmP kd pl vl (goP pl t fo).1 (goP pl t fo).2 with
    | (t1, fo1, e1) => match tmP kd pl vl (muP kd pl 13 t1 fo1).1 (muP kd pl 13 t1 fo1).2 with
      | (t2, fo2, e2) => match tmP kd pl vl (muP kd pl 30 t2 fo2).1 (muP kd pl 30 t2 fo2).2 with
        | (t3, fo3, e3) => lwL kd pl vl k (muP kd pl 31 t3 fo3).1 (muP kd pl 31 t3 fo3).2 (acc ++ [(e1, e2, e3)]) else (t, fo, acc)
def lwP (kd pl vl : Nat → Nat) (t : Nat) (fo : Fo) : Nat × Fo × Option Lw := match lwL kd pl vl 4 (muP kd pl 5 t fo).1 (muP kd pl 5 t fo).2 [] with
  | (t1, fo1, acc) => match tmP kd pl vl t1 fo1 with
    | (t2, fo2, el) => match muP kd pl 4 t2 fo2 with
      | (t3, fo3) => (t3, fo3, if fo3 = none then some (acc, el) else none)
/-- the rows k agree outside b0 .. b1 -/
def ouM (V V1 : GI) (k b0 b1 : Nat) : Prop := ∀ j, j < b0 ∨ b1 ≤ j → V1 k j = V k j
theorem tmP_f {kd pl vl : Nat → Nat} {t : Nat} {fo : Fo} (h : fo ≠ none) : tmP kd pl vl t fo = (t, fo, []) := if_neg h
theorem muP_f {kd pl : Nat → Nat} {k t : Nat} {fo : Fo} (h : fo ≠ none) : muP kd pl k t fo = (t, fo) := by
  cases fo with
  | none => exact absurd rfl h
  | some q => rfl
