/-! AN EXPRESSION BY DESCENT, and that the machine of signs that wait comes to the same -/
theorem goP_c (pl : Nat → Nat) (t : Nat) : (t = 400 ∧ goP pl t none = (t, some (2, pl t))) ∨ (t ≠ 400 ∧ goP pl t none = (t + 1, none)) := by
  by_cases h : t = 400
  · exact Or.inl ⟨h, if_pos h⟩
  · exact Or.inr ⟨h, if_neg h⟩
/-- things joined by the signs c1, c2: fuel, place, what is joined so far -/
def jnL (kd pl : Nat → Nat) (c1 c2 : Nat) (U : Nat → Nat × Fo × List Sg) : Nat → Nat → List Sg → Nat × Fo × List Sg
  | 0, t, a => (t, none, a)
  | n + 1, t, a => if kd t = c1 ∨ kd t = c2 then (if (goP pl t none).2 = none then (if (U (goP pl t none).1).2.1 = none then jnL kd pl c1 c2 U n (U (goP pl t none).1).1 (a ++ (U (goP pl t none).1).2.2 ++ [(opK (kd t), nI 0)]) else ((U (goP pl t none).1).1, (U (goP pl t none).1).2.1, [])) else ((goP pl t none).1, (goP pl t none).2, [])) else (t, none, a)
def jnP (kd pl : Nat → Nat) (c1 c2 N : Nat) (U : Nat → Nat × Fo × List Sg) (t : Nat) : Nat × Fo × List Sg := if (U t).2.1 = none then jnL kd pl c1 c2 U N (U t).1 (U t).2.2 else ((U t).1, (U t).2.1, [])
def ptP (kd pl : Nat → Nat) (N : Nat) (U : Nat → Nat × Fo × List Sg) : Nat → Nat × Fo × List Sg := jnP kd pl 10 15 N U
def smP (kd pl : Nat → Nat) (N : Nat) (U : Nat → Nat × Fo × List Sg) : Nat → Nat × Fo × List Sg := jnP kd pl 8 9 N (ptP kd pl N U)
/-- a unit, d more brackets may be opened -/
def rdU (kd pl vl : Nat → Nat) (N : Nat) : Nat → Nat → Nat × Fo × List Sg
  | 0, t => if unK kd t none = true then ((goP pl t none).1, (goP pl t none).2, unE kd vl t none []) else (t, some (if kd t = 6 then 2 else 1, pl t), [])
  | d + 1, t => if unK kd t none = true then ((goP pl t none).1, (goP pl t none).2, unE kd vl t none []) else if kd t = 6 then (if (goP pl t none).2 = none then (if (smP kd pl N (rdU kd pl vl N d) (goP pl t none).1).2.1 = none then ((muP kd pl 7 (smP kd pl N (rdU kd pl vl N d) (goP pl t none).1).1 none).1, (muP kd pl 7 (smP kd pl N (rdU kd pl vl N d) (goP pl t none).1).1 none).2, (smP kd pl N (rdU kd pl vl N d) (goP pl t none).1).2.2) else ((smP kd pl N (rdU kd pl vl N d) (goP pl t none).1).1, (smP kd pl N (rdU kd pl vl N d) (goP pl t none).1).2.1, [])) else ((goP pl t none).1, (goP pl t none).2, [])) else (t, some (1, pl t), [])
theorem jnL_go {kd pl : Nat → Nat} {c1 c2 n t t2 : Nat} {U : Nat → Nat × Fo × List Sg} {a b : List Sg} (h : kd t = c1 ∨ kd t = c2) (ht : t ≠ 400) (hu : U (t + 1) = (t2, none, b)) : jnL kd pl c1 c2 U (n + 1) t a = jnL kd pl c1 c2 U n t2 (a ++ b ++ [(opK (kd t), nI 0)]) := by
  have hg : goP pl t none = (t + 1, none) := if_neg ht
  rw [jnL, if_pos h, hg]
  show (if (none : Fo) = none then (if (U (t + 1)).2.1 = none then jnL kd pl c1 c2 U n (U (t + 1)).1 (a ++ (U (t + 1)).2.2 ++ [(opK (kd t), nI 0)]) else ((U (t + 1)).1, (U (t + 1)).2.1, [])) else _) = _
  rw [if_pos rfl, hu]
  exact if_pos rfl
theorem jnL_uf {kd pl : Nat → Nat} {c1 c2 n t t2 : Nat} {U : Nat → Nat × Fo × List Sg} {a b : List Sg} {q : Nat × Nat} (h : kd t = c1 ∨ kd t = c2) (ht : t ≠ 400) (hu : U (t + 1) = (t2, some q, b)) : jnL kd pl c1 c2 U (n + 1) t a = (t2, some q, []) := by
  have hg : goP pl t none = (t + 1, none) := if_neg ht
  rw [jnL, if_pos h, hg]
  show (if (none : Fo) = none then (if (U (t + 1)).2.1 = none then jnL kd pl c1 c2 U n (U (t + 1)).1 (a ++ (U (t + 1)).2.2 ++ [(opK (kd t), nI 0)]) else ((U (t + 1)).1, (U (t + 1)).2.1, [])) else _) = _
  rw [if_pos rfl, hu]
  exact if_neg (fun z => nomatch z)
theorem jnL_gf {kd pl : Nat → Nat} {c1 c2 n t : Nat} {U : Nat → Nat × Fo × List Sg} {a : List Sg} (h : kd t = c1 ∨ kd t = c2) (ht : t = 400) : jnL kd pl c1 c2 U (n + 1) t a = (t, some (2, pl t), []) := by
  have hg : goP pl t none = (t, some (2, pl t)) := if_pos ht
  rw [jnL, if_pos h, hg]
  exact if_neg (fun z => nomatch z)
theorem jnL_no {kd pl : Nat → Nat} {c1 c2 n t : Nat} {U : Nat → Nat × Fo × List Sg} {a : List Sg} (h : ¬ (kd t = c1 ∨ kd t = c2)) : jnL kd pl c1 c2 U (n + 1) t a = (t, none, a) := by
  rw [jnL, if_neg h]
theorem jnP_u {kd pl : Nat → Nat} {c1 c2 N t t1 : Nat} {U : Nat → Nat × Fo × List Sg} {a : List Sg} (h : U t = (t1, none, a)) : jnP kd pl c1 c2 N U t = jnL kd pl c1 c2 U N t1 a := by
  unfold jnP
  rw [h]
  exact if_pos rfl
theorem jnP_f {kd pl : Nat → Nat} {c1 c2 N t t1 : Nat} {U : Nat → Nat × Fo × List Sg} {a : List Sg} {q : Nat × Nat} (h : U t = (t1, some q, a)) : jnP kd pl c1 c2 N U t = (t1, some q, []) := by
  unfold jnP
  rw [h]
  exact if_neg (fun z => nomatch z)
/-- the machine, after a unit; ahead of one -/
def rsA (kd pl vl : Nat → Nat) (n nc t : Nat) (fo : Fo) (o : Nat) (ws : List Nat) (em : List Sg) : Nat × Fo × List Sg := match exC kd pl nc t fo o ws em with
  | (tc, foc, oc, wsc, ec) => if opT kd tc foc = true then exM kd pl vl n (goP pl tc foc).1 (goP pl tc foc).2 oc (kd tc :: (coO (opS kd tc foc) wsc ec).1) (coO (opS kd tc foc) wsc ec).2 else (tc, if 0 < oc then flP foc 1 (pl tc) else foc, (coO 0 wsc ec).2)
def rsE (kd pl vl : Nat → Nat) (n na t : Nat) (fo : Fo) (o : Nat) (ws : List Nat) (em : List Sg) : Nat × Fo × List Sg := match exO kd pl na t fo o ws with
  | (ta, foa, oa, wsa) => match unP kd pl ta foa with
    | (tu, fou) => if fou.isSome = true then (tu, fou, unE kd vl ta foa em) else rsA kd pl vl n 402 tu fou oa wsa (unE kd vl ta foa em)
theorem exM_rs {kd pl vl : Nat → Nat} {n t o : Nat} {ws : List Nat} {em : List Sg} : exM kd pl vl (n + 1) t none o ws em = rsE kd pl vl n 402 t none o ws em := by
  rw [exM, if_neg (fun z => nomatch z)]
  unfold rsE rsA
  rfl
theorem isP_s {q : Nat × Nat} {a k : Nat} : ¬ isP (some q) a k = true := fun z => by unfold isP at z; simp at z
theorem isP_n {a k : Nat} : isP none a k = true ↔ a = k := by unfold isP; simp
theorem rsE_f {kd pl vl : Nat → Nat} {n na t o : Nat} {q : Nat × Nat} {ws : List Nat} {em : List Sg} : (rsE kd pl vl n na t (some q) o ws em).2.1 = some q := by
  have hu : unP kd pl t (some q) = (t, some q) := by
    have : ¬ unK kd t (some q) = true := fun z => by unfold unK isP at z; simp at z
    unfold unP
    rw [if_neg this]
    rfl
  unfold rsE
  rw [exO_0 isP_s]
  show (match unP kd pl t (some q) with
    | (tu, fou) => if fou.isSome = true then (tu, fou, unE kd vl t (some q) em) else rsA kd pl vl n 402 tu fou o ws (unE kd vl t (some q) em)).2.1 = _
  rw [hu]
  show (if (some q : Fo).isSome = true then ((t, some q, unE kd vl t (some q) em) : Nat × Fo × List Sg) else _).2.1 = _
  rw [if_pos (show (some q : Fo).isSome = true from rfl)]
theorem rsA_f {kd pl vl : Nat → Nat} {n nc t o : Nat} {q : Nat × Nat} {ws : List Nat} {em : List Sg} : (rsA kd pl vl n nc t (some q) o ws em).2.1 = some q := by
  have ho : ¬ opT kd t (some q) = true := fun z => by unfold opT isP at z; simp at z
  unfold rsA
  rw [exC_0 (fun z => isP_s z.1)]
  show (if opT kd t (some q) = true then _ else ((t, (if 0 < o then flP (some q) 1 (pl t) else some q), (coO 0 ws em).2) : Nat × Fo × List Sg)).2.1 = _
  rw [if_neg ho]
  show (if 0 < o then flP (some q) 1 (pl t) else some q) = some q
  split <;> rfl
/-- an opening -/
theorem rsE_o {kd pl vl : Nat → Nat} {n na t o : Nat} {ws : List Nat} {em : List Sg} (h : kd t = 6) : rsE kd pl vl n (na + 1) t none o ws em = rsE kd pl vl n na (goP pl t (if o = 6 then some (2, pl t) else none)).1 (goP pl t (if o = 6 then some (2, pl t) else none)).2 (o + 1) (6 :: ws) em := by
  unfold rsE
  rw [exO_1 (isP_n.mpr h) rfl rfl]
  rfl
theorem unE_a (kd vl : Nat → Nat) (t : Nat) (em : List Sg) : unE kd vl t none em = em ++ unE kd vl t none [] := by
  unfold unE
  (repeat' split) <;> simp
theorem rsE_u {kd pl vl : Nat → Nat} {n na t o : Nat} {ws : List Nat} {em : List Sg} (h6 : ¬ kd t = 6) (hu : unK kd t none = true) (ht : t ≠ 400) : rsE kd pl vl n na t none o ws em = rsA kd pl vl n 402 (t + 1) none o ws (em ++ unE kd vl t none []) := by
  have hg : unP kd pl t none = (t + 1, none) := by
    unfold unP
    rw [if_pos hu]
    exact if_neg ht
  unfold rsE
  rw [exO_0 (fun z => h6 (isP_n.mp z))]
  show (match unP kd pl t none with
    | (tu, fou) => if fou.isSome = true then (tu, fou, unE kd vl t none em) else rsA kd pl vl n 402 tu fou o ws (unE kd vl t none em)) = _
  rw [hg]
  show (if (none : Fo).isSome = true then _ else rsA kd pl vl n 402 (t + 1) none o ws (unE kd vl t none em)) = _
  rw [if_neg (fun z => nomatch z), unE_a]
/-- no unit, or the last token -/
theorem rsE_n {kd pl vl : Nat → Nat} {n na t o tu : Nat} {q : Nat × Nat} {ws : List Nat} {em : List Sg} (h6 : ¬ kd t = 6) (hu : unP kd pl t none = (tu, some q)) : (rsE kd pl vl n na t none o ws em).2.1 = some q := by
  unfold rsE
  rw [exO_0 (fun z => h6 (isP_n.mp z))]
  show (match unP kd pl t none with
    | (tu, fou) => if fou.isSome = true then (tu, fou, unE kd vl t none em) else rsA kd pl vl n 402 tu fou o ws (unE kd vl t none em)).2.1 = _
  rw [hu]
  show (if (some q : Fo).isSome = true then ((tu, some q, unE kd vl t none em) : Nat × Fo × List Sg) else _).2.1 = _
  rw [if_pos (show (some q : Fo).isSome = true from rfl)]
/-- a closing -/
theorem rsA_c {kd pl vl : Nat → Nat} {n nc t o : Nat} {ws wp : List Nat} {em ep : List Sg} (h : kd t = 7) (hc : coO 0 ws em = (6 :: wp, ep)) : rsA kd pl vl n (nc + 1) t none (o + 1) ws em = rsA kd pl vl n nc (goP pl t none).1 (goP pl t none).2 o wp ep := by
  unfold rsA
  rw [exC_1 ⟨isP_n.mpr h, Nat.succ_pos _⟩ hc rfl]
  rfl
/-- the end -/
theorem rsA_e {kd pl vl : Nat → Nat} {n nc t o : Nat} {ws : List Nat} {em : List Sg} (h7 : ¬ (kd t = 7 ∧ 0 < o)) (h : ¬ (kd t = 8 ∨ kd t = 9)) (h2 : ¬ (kd t = 10 ∨ kd t = 15)) : rsA kd pl vl n nc t none o ws em = (t, if 0 < o then some (1, pl t) else none, (coO 0 ws em).2) := by
  have ho : ¬ opT kd t none = true := fun z => by
    obtain ⟨_, z⟩ := opT_k z
    omega
  unfold rsA
  rw [exC_0 (fun z => h7 ⟨isP_n.mp z.1, z.2⟩)]
  show (if opT kd t none = true then _ else ((t, (if 0 < o then flP none 1 (pl t) else none), (coO 0 ws em).2) : Nat × Fo × List Sg)) = _
  rw [if_neg ho]
  rfl
/-- a sign between -/
theorem rsA_o {kd pl vl : Nat → Nat} {n nc t o x : Nat} {ws wp : List Nat} {em ep : List Sg} (h : (x = 0 ∧ (kd t = 8 ∨ kd t = 9)) ∨ (x = 1 ∧ (kd t = 10 ∨ kd t = 15))) (hc : coO x ws em = (wp, ep)) : rsA kd pl vl n nc t none o ws em = exM kd pl vl n (goP pl t none).1 (goP pl t none).2 o (kd t :: wp) ep := by
  have ho : opT kd t none = true := by
    rcases h with ⟨_, h | h⟩ | ⟨_, h | h⟩
    · exact opT_t (isP_n.mpr h) (by decide)
    · exact opT_t (isP_n.mpr h) (by decide)
    · exact opT_t (isP_n.mpr h) (by decide)
    · exact opT_t (isP_n.mpr h) (by decide)
  have hs : opS kd t none = x := by
    rcases h with ⟨e, h⟩ | ⟨e, h⟩
    · subst e
      exact opS_0 (fun z => by have := isP_n.mp z; omega) (fun z => by have := isP_n.mp z; omega)
    · subst e
      rcases h with h | h
      · exact opS_1 (isP_n.mpr h) (by decide)
      · exact opS_1 (isP_n.mpr h) (by decide)
  unfold rsA
  rw [exC_0 (fun z => by have := isP_n.mp z.1; omega)]
  show (if opT kd t none = true then exM kd pl vl n (goP pl t none).1 (goP pl t none).2 o (kd t :: (coO (opS kd t none) ws em).1) (coO (opS kd t none) ws em).2 else _) = _
  rw [if_pos ho, hs, hc]
/-- U is what the machine does with a unit at o brackets -/
def simU (kd pl vl : Nat → Nat) (o : Nat) (U : Nat → Nat × Fo × List Sg) : Prop := ∀ (t n na : Nat) (ws : List Nat) (em : List Sg), t ≤ 400 → 401 ≤ n + t → 402 ≤ na + t →
  (∀ t1 es, U t = (t1, none, es) → t < t1 ∧ t1 ≤ 400 ∧ ∃ n' nc', 401 ≤ n' + t1 ∧ 402 ≤ nc' + t1 ∧ rsE kd pl vl n na t none o ws em = rsA kd pl vl n' nc' t1 none o ws (em ++ es)) ∧ ∀ t1 q es, U t = (t1, some q, es) → (rsE kd pl vl n na t none o ws em).2.1 = some q
theorem tri {α β γ : Type} {a a' : α} {b b' : β} {c c' : γ} (h : (a, b, c) = (a', b', c')) : a = a' ∧ b = b' ∧ c = c' := by
  injection h with h1 h2
  injection h2 with h2 h3
  exact ⟨h1, h2, h3⟩
theorem sim_p {kd pl vl : Nat → Nat} {o : Nat} {U : Nat → Nat × Fo × List Sg} (hU : simU kd pl vl o U) {ws1 : List Nat} (hs : ∀ y, coO 1 ws1 y = (ws1, y)) : ∀ (m t n nc : Nat) (W : List Nat) (em em1 a : List Sg), t ≤ 400 → 402 ≤ m + t → 401 ≤ n + t → 402 ≤ nc + t → (∀ x, coO x W em = coO x ws1 (em1 ++ a)) →
    (∀ t1 es, jnL kd pl 10 15 U m t a = (t1, none, es) → t ≤ t1 ∧ t1 ≤ 400 ∧ ¬ (kd t1 = 10 ∨ kd t1 = 15) ∧ ∃ n' nc' W' em', 401 ≤ n' + t1 ∧ 402 ≤ nc' + t1 ∧ (∀ x, coO x W' em' = coO x ws1 (em1 ++ es)) ∧ rsA kd pl vl n nc t none o W em = rsA kd pl vl n' nc' t1 none o W' em') ∧ ∀ t1 q es, jnL kd pl 10 15 U m t a = (t1, some q, es) → (rsA kd pl vl n nc t none o W em).2.1 = some q := by
  intro m
  induction m with
  | zero => intro t n nc W em em1 a h1 h2; omega
  | succ m ih =>
    intro t n nc W em em1 a ht hm hn hc hW
    by_cases hk : kd t = 10 ∨ kd t = 15
    · have hA : rsA kd pl vl n nc t none o W em = exM kd pl vl n (goP pl t none).1 (goP pl t none).2 o (kd t :: ws1) (em1 ++ a) := rsA_o (x := 1) (Or.inr ⟨rfl, hk⟩) ((hW 1).trans (hs _))
      rcases goP_c pl t with ⟨h4, hg⟩ | ⟨h4, hg⟩
      · rw [jnL_gf hk h4]
        refine ⟨fun t1 es h => (by have := (tri h).2.1; cases this), fun t1 q es h => ?_⟩
        obtain ⟨_, hq, _⟩ := tri h
        rw [hA, hg, ← hq]
        show (exM kd pl vl n t (some (2, pl t)) o (kd t :: ws1) (em1 ++ a)).2.1 = some (2, pl t)
        rw [exM_f (fo := some (2, pl t)) (fun z => nomatch z)]
      · rw [hg] at hA
        obtain ⟨n2, rfl⟩ : ∃ n2, n = n2 + 1 := ⟨n - 1, by omega⟩
        have hA2 : rsA kd pl vl (n2 + 1) nc t none o W em = rsE kd pl vl n2 402 (t + 1) none o (kd t :: ws1) (em1 ++ a) := hA.trans exM_rs
        have hu := hU (t + 1) n2 402 (kd t :: ws1) (em1 ++ a) (by omega) (by omega) (by omega)
        rcases hb : U (t + 1) with ⟨t2, fo2, b⟩
        cases fo2 with
        | some q2 =>
          rw [jnL_uf hk h4 hb]
          refine ⟨fun t1 es h => (by have := (tri h).2.1; cases this), fun t1 q es h => ?_⟩
          obtain ⟨_, hq, _⟩ := tri h
          rw [hA2, ← hq]
          exact hu.2 _ _ _ hb
        | none =>
          obtain ⟨g1, g2, n', nc', g3, g4, g5⟩ := hu.1 _ _ hb
          rw [jnL_go hk h4 hb, hA2, g5]
          obtain ⟨i1, i2⟩ := ih t2 n' nc' (kd t :: ws1) (em1 ++ a ++ b) em1 (a ++ b ++ [(opK (kd t), nI 0)]) g2 (by omega) g3 g4 (fun x => by
            rw [coO, if_neg (by omega)]
            simp only [List.append_assoc])
          refine ⟨fun t1 es h => ?_, i2⟩
          obtain ⟨j1, j2⟩ := i1 t1 es h
          exact ⟨by omega, j2⟩
    · rw [jnL_no hk]
      refine ⟨fun t1 es h => ?_, fun t1 q es h => (by have := (tri h).2.1; cases this)⟩
      obtain ⟨rfl, _, rfl⟩ := tri h
      exact ⟨Nat.le_refl _, ht, hk, n, nc, W, em, hn, hc, hW, rfl⟩
theorem sim_s {kd pl vl : Nat → Nat} {o N : Nat} (hN : 402 ≤ N) {U : Nat → Nat × Fo × List Sg} (hU : simU kd pl vl o U) {base : List Nat} (hb : ∀ x y, coO x base y = (base, y)) : ∀ (m t n nc : Nat) (W : List Nat) (em em0 a : List Sg), t ≤ 400 → 402 ≤ m + t → 401 ≤ n + t → 402 ≤ nc + t → coO 0 W em = (base, em0 ++ a) → ¬ (kd t = 10 ∨ kd t = 15) →
    (∀ t1 es, jnL kd pl 8 9 (ptP kd pl N U) m t a = (t1, none, es) → t ≤ t1 ∧ t1 ≤ 400 ∧ ¬ (kd t1 = 8 ∨ kd t1 = 9) ∧ ¬ (kd t1 = 10 ∨ kd t1 = 15) ∧ ∃ n' nc' W' em', 401 ≤ n' + t1 ∧ 402 ≤ nc' + t1 ∧ coO 0 W' em' = (base, em0 ++ es) ∧ rsA kd pl vl n nc t none o W em = rsA kd pl vl n' nc' t1 none o W' em') ∧ ∀ t1 q es, jnL kd pl 8 9 (ptP kd pl N U) m t a = (t1, some q, es) → (rsA kd pl vl n nc t none o W em).2.1 = some q := by
  intro m
  induction m with
  | zero => intro t n nc W em em0 a h1 h2; omega
  | succ m ih =>
    intro t n nc W em em0 a ht hm hn hc hW hk2
    by_cases hk : kd t = 8 ∨ kd t = 9
    · have hA : rsA kd pl vl n nc t none o W em = exM kd pl vl n (goP pl t none).1 (goP pl t none).2 o (kd t :: base) (em0 ++ a) := rsA_o (x := 0) (Or.inl ⟨rfl, hk⟩) hW
      rcases goP_c pl t with ⟨h4, hg⟩ | ⟨h4, hg⟩
      · rw [jnL_gf hk h4]
        refine ⟨fun t1 es h => (by have := (tri h).2.1; cases this), fun t1 q es h => ?_⟩
        obtain ⟨_, hq, _⟩ := tri h
        rw [hA, hg, ← hq]
        show (exM kd pl vl n t (some (2, pl t)) o (kd t :: base) (em0 ++ a)).2.1 = some (2, pl t)
        rw [exM_f (fo := some (2, pl t)) (fun z => nomatch z)]
      · rw [hg] at hA
        obtain ⟨n2, rfl⟩ : ∃ n2, n = n2 + 1 := ⟨n - 1, by omega⟩
        have hA2 : rsA kd pl vl (n2 + 1) nc t none o W em = rsE kd pl vl n2 402 (t + 1) none o (kd t :: base) (em0 ++ a) := hA.trans exM_rs
        have hu := hU (t + 1) n2 402 (kd t :: base) (em0 ++ a) (by omega) (by omega) (by omega)
        have key : (∀ t2 p, ptP kd pl N U (t + 1) = (t2, none, p) → t + 1 ≤ t2 ∧ t2 ≤ 400 ∧ ¬ (kd t2 = 10 ∨ kd t2 = 15) ∧ ∃ n' nc' W' em', 401 ≤ n' + t2 ∧ 402 ≤ nc' + t2 ∧ coO 0 W' em' = (base, em0 ++ (a ++ p ++ [(opK (kd t), nI 0)])) ∧ rsA kd pl vl (n2 + 1) nc t none o W em = rsA kd pl vl n' nc' t2 none o W' em') ∧ ∀ t2 q p, ptP kd pl N U (t + 1) = (t2, some q, p) → (rsA kd pl vl (n2 + 1) nc t none o W em).2.1 = some q := by
          rw [hA2]
          rcases hb1 : U (t + 1) with ⟨t2, fo2, b⟩
          cases fo2 with
          | some q2 =>
            have e : ptP kd pl N U (t + 1) = (t2, some q2, []) := jnP_f hb1
            rw [e]
            refine ⟨fun t1 es h => (by have := (tri h).2.1; cases this), fun t1 q es h => ?_⟩
            obtain ⟨_, hq, _⟩ := tri h
            rw [← hq]
            exact hu.2 _ _ _ hb1
          | none =>
            have e : ptP kd pl N U (t + 1) = jnL kd pl 10 15 U N t2 b := jnP_u hb1
            rw [e]
            obtain ⟨g1, g2, n', nc', g3, g4, g5⟩ := hu.1 _ _ hb1
            rw [g5]
            obtain ⟨i1, i2⟩ := sim_p hU (ws1 := kd t :: base) (fun y => by rw [coO, if_pos (Or.inr ⟨by decide, by omega⟩)]) N t2 n' nc' (kd t :: base) (em0 ++ a ++ b) (em0 ++ a) b g2 (by omega) g3 g4 (fun x => rfl)
            refine ⟨fun t1 es h => ?_, i2⟩
            obtain ⟨j1, j2, j3, n9, nc9, W9, em9, j4, j5, j6, j7⟩ := i1 t1 es h
            refine ⟨by omega, j2, j3, n9, nc9, W9, em9, j4, j5, ?_, j7⟩
            rw [j6 0, coO, if_neg (by omega), hb]
            simp only [List.append_assoc]
        rcases hp : ptP kd pl N U (t + 1) with ⟨t2, fo2, p⟩
        cases fo2 with
        | some q2 =>
          rw [jnL_uf hk h4 hp]
          refine ⟨fun t1 es h => (by have := (tri h).2.1; cases this), fun t1 q es h => ?_⟩
          obtain ⟨_, hq, _⟩ := tri h
          rw [← hq]
          exact key.2 _ _ _ hp
        | none =>
          obtain ⟨j1, j2, j3, n9, nc9, W9, em9, j4, j5, j6, j7⟩ := key.1 _ _ hp
          rw [jnL_go hk h4 hp, j7]
          obtain ⟨i1, i2⟩ := ih t2 n9 nc9 W9 em9 em0 (a ++ p ++ [(opK (kd t), nI 0)]) j2 (by omega) j4 j5 j6 j3
          refine ⟨fun t1 es h => ?_, i2⟩
          obtain ⟨k1, k2⟩ := i1 t1 es h
          exact ⟨by omega, k2⟩
    · rw [jnL_no hk]
      refine ⟨fun t1 es h => ?_, fun t1 q es h => (by have := (tri h).2.1; cases this)⟩
      obtain ⟨rfl, _, rfl⟩ := tri h
      exact ⟨Nat.le_refl _, ht, hk, hk2, n, nc, W, em, hn, hc, hW, rfl⟩
/-- a whole sum -/
theorem sim_m {kd pl vl : Nat → Nat} {o N : Nat} (hN : 402 ≤ N) {U : Nat → Nat × Fo × List Sg} (hU : simU kd pl vl o U) {base : List Nat} (hb : ∀ x y, coO x base y = (base, y)) (t n na : Nat) (em0 : List Sg) (ht : t ≤ 400) (hn : 401 ≤ n + t) (hna : 402 ≤ na + t) :
    (∀ t1 es, smP kd pl N U t = (t1, none, es) → t < t1 ∧ t1 ≤ 400 ∧ ¬ (kd t1 = 8 ∨ kd t1 = 9) ∧ ¬ (kd t1 = 10 ∨ kd t1 = 15) ∧ ∃ n' nc' W' em', 401 ≤ n' + t1 ∧ 402 ≤ nc' + t1 ∧ coO 0 W' em' = (base, em0 ++ es) ∧ rsE kd pl vl n na t none o base em0 = rsA kd pl vl n' nc' t1 none o W' em') ∧ ∀ t1 q es, smP kd pl N U t = (t1, some q, es) → (rsE kd pl vl n na t none o base em0).2.1 = some q := by
  have hu := hU t n na base em0 ht hn hna
  have key : (∀ t2 p, ptP kd pl N U t = (t2, none, p) → t < t2 ∧ t2 ≤ 400 ∧ ¬ (kd t2 = 10 ∨ kd t2 = 15) ∧ ∃ n' nc' W' em', 401 ≤ n' + t2 ∧ 402 ≤ nc' + t2 ∧ coO 0 W' em' = (base, em0 ++ p) ∧ rsE kd pl vl n na t none o base em0 = rsA kd pl vl n' nc' t2 none o W' em') ∧ ∀ t2 q p, ptP kd pl N U t = (t2, some q, p) → (rsE kd pl vl n na t none o base em0).2.1 = some q := by
    rcases hb1 : U t with ⟨t2, fo2, b⟩
    cases fo2 with
    | some q2 =>
      have e : ptP kd pl N U t = (t2, some q2, []) := jnP_f hb1
      rw [e]
      refine ⟨fun t1 es h => (by have := (tri h).2.1; cases this), fun t1 q es h => ?_⟩
      obtain ⟨_, hq, _⟩ := tri h
      rw [← hq]
      exact hu.2 _ _ _ hb1
    | none =>
      have e : ptP kd pl N U t = jnL kd pl 10 15 U N t2 b := jnP_u hb1
      rw [e]
      obtain ⟨g1, g2, n', nc', g3, g4, g5⟩ := hu.1 _ _ hb1
      rw [g5]
      obtain ⟨i1, i2⟩ := sim_p hU (ws1 := base) (fun y => hb 1 y) N t2 n' nc' base (em0 ++ b) em0 b g2 (by omega) g3 g4 (fun x => rfl)
      refine ⟨fun t1 es h => ?_, i2⟩
      obtain ⟨j1, j2, j3, n9, nc9, W9, em9, j4, j5, j6, j7⟩ := i1 t1 es h
      exact ⟨by omega, j2, j3, n9, nc9, W9, em9, j4, j5, (j6 0).trans (hb 0 _), j7⟩
  rcases hp : ptP kd pl N U t with ⟨t2, fo2, p⟩
  cases fo2 with
  | some q2 =>
    have e : smP kd pl N U t = (t2, some q2, []) := jnP_f hp
    rw [e]
    refine ⟨fun t1 es h => (by have := (tri h).2.1; cases this), fun t1 q es h => ?_⟩
    obtain ⟨_, hq, _⟩ := tri h
    rw [← hq]
    exact key.2 _ _ _ hp
  | none =>
    have e : smP kd pl N U t = jnL kd pl 8 9 (ptP kd pl N U) N t2 p := jnP_u hp
    rw [e]
    obtain ⟨j1, j2, j3, n9, nc9, W9, em9, j4, j5, j6, j7⟩ := key.1 _ _ hp
    rw [j7]
    obtain ⟨i1, i2⟩ := sim_s hN hU hb N t2 n9 nc9 W9 em9 em0 p j2 (by omega) j4 j5 j6 j3
    refine ⟨fun t1 es h => ?_, i2⟩
    obtain ⟨k1, k2⟩ := i1 t1 es h
    exact ⟨by omega, k2⟩
theorem unK_6 {kd : Nat → Nat} {t : Nat} (h : unK kd t none = true) : ¬ kd t = 6 := by
  unfold unK isP at h
  simp at h
  omega
theorem unP_y {kd pl : Nat → Nat} {t : Nat} (h : unK kd t none = true) : unP kd pl t none = goP pl t none := if_pos h
theorem unP_n {kd pl : Nat → Nat} {t : Nat} (h : ¬ unK kd t none = true) : unP kd pl t none = (t, some (1, pl t)) := if_neg h
theorem sim_u {kd pl vl : Nat → Nat} {N : Nat} (hN : 402 ≤ N) : ∀ (d : Nat), d ≤ 6 → simU kd pl vl (6 - d) (rdU kd pl vl N d) := by
  intro d
  have hyes : ∀ (o t n na : Nat) (ws : List Nat) (em : List Sg), t ≤ 400 → 401 ≤ n + t → unK kd t none = true → ∀ r : Nat × Fo × List Sg, r = ((goP pl t none).1, (goP pl t none).2, unE kd vl t none []) →
      (∀ t1 es, r = (t1, none, es) → t < t1 ∧ t1 ≤ 400 ∧ ∃ n' nc', 401 ≤ n' + t1 ∧ 402 ≤ nc' + t1 ∧ rsE kd pl vl n na t none o ws em = rsA kd pl vl n' nc' t1 none o ws (em ++ es)) ∧ ∀ t1 q es, r = (t1, some q, es) → (rsE kd pl vl n na t none o ws em).2.1 = some q := by
    intro o t n na ws em ht hn hk r hr
    subst hr
    rcases goP_c pl t with ⟨h4, hg⟩ | ⟨h4, hg⟩
    · rw [hg]
      refine ⟨fun t1 es h => (by have := (tri h).2.1; cases this), fun t1 q es h => ?_⟩
      obtain ⟨_, hq, _⟩ := tri h
      rw [← hq]
      exact rsE_n (unK_6 hk) ((unP_y hk).trans hg)
    · rw [hg]
      refine ⟨fun t1 es h => ?_, fun t1 q es h => (by have := (tri h).2.1; cases this)⟩
      obtain ⟨h1, _, h3⟩ := tri h
      subst h1 h3
      exact ⟨by omega, by omega, n, 402, by omega, by omega, rsE_u (unK_6 hk) hk h4⟩
  have hno : ∀ (o t n na : Nat) (ws : List Nat) (em : List Sg) (q : Nat × Nat), (rsE kd pl vl n na t none o ws em).2.1 = some q → ∀ (r : Nat × Fo × List Sg) (tr : Nat) (er : List Sg), r = (tr, some q, er) →
      (∀ t1 es, r = (t1, none, es) → t < t1 ∧ t1 ≤ 400 ∧ ∃ n' nc', 401 ≤ n' + t1 ∧ 402 ≤ nc' + t1 ∧ rsE kd pl vl n na t none o ws em = rsA kd pl vl n' nc' t1 none o ws (em ++ es)) ∧ ∀ t1 q es, r = (t1, some q, es) → (rsE kd pl vl n na t none o ws em).2.1 = some q := by
    intro o t n na ws em q hq r tr er hr
    subst hr
    refine ⟨fun t1 es h => (by have := (tri h).2.1; cases this), fun t1 q es h => ?_⟩
    obtain ⟨_, hq2, _⟩ := tri h
    rw [← hq2]
    exact hq
  induction d with
  | zero =>
    intro _ t n na ws em ht hn hna
    by_cases hk : unK kd t none = true
    · exact hyes _ t n na ws em ht hn hk _ (by rw [rdU, if_pos hk])
    · by_cases h6 : kd t = 6
      · refine hno _ t n na ws em (2, pl t) ?_ _ t [] (by rw [rdU, if_neg hk, if_pos h6])
        obtain ⟨na2, rfl⟩ : ∃ na2, na = na2 + 1 := ⟨na - 1, by omega⟩
        rw [rsE_o h6]
        show (rsE kd pl vl n na2 (goP pl t (some (2, pl t))).1 (goP pl t (some (2, pl t))).2 (6 - 0 + 1) (6 :: ws) em).2.1 = _
        have : (goP pl t (some (2, pl t))).2 = some (2, pl t) := by unfold goP; split <;> rfl
        rw [this]
        exact rsE_f
      · exact hno _ t n na ws em (1, pl t) (rsE_n h6 (unP_n hk)) _ t [] (by rw [rdU, if_neg hk, if_neg h6])
  | succ d ih =>
    intro hd t n na ws em ht hn hna
    have ihU := ih (by omega)
    by_cases hk : unK kd t none = true
    · exact hyes _ t n na ws em ht hn hk _ (by rw [rdU, if_pos hk])
    · by_cases h6 : kd t = 6
      · obtain ⟨na2, rfl⟩ : ∃ na2, na = na2 + 1 := ⟨na - 1, by omega⟩
        have hE : rsE kd pl vl n (na2 + 1) t none (6 - (d + 1)) ws em = rsE kd pl vl n na2 (goP pl t none).1 (goP pl t none).2 (6 - d) (6 :: ws) em := by
          rw [rsE_o h6, if_neg (by omega), show 6 - (d + 1) + 1 = 6 - d by omega]
        rcases goP_c pl t with ⟨h4, hg⟩ | ⟨h4, hg⟩
        · refine hno _ t n _ ws em (2, pl t) ?_ _ t [] (by rw [rdU, if_neg hk, if_pos h6, hg]; exact if_neg (fun z => nomatch z))
          rw [hE, hg]
          exact rsE_f
        · rw [hg] at hE
          have hM := sim_m hN ihU (base := 6 :: ws) (fun x y => by rw [coO, if_pos (Or.inl rfl)]) (t + 1) n na2 em (by omega) (by omega) (by omega)
          rcases hs : smP kd pl N (rdU kd pl vl N d) (t + 1) with ⟨t2, fo2, es2⟩
          cases fo2 with
          | some q2 =>
            refine hno _ t n _ ws em q2 ?_ _ t2 [] ?_
            · rw [hE]; exact hM.2 _ _ _ hs
            · rw [rdU, if_neg hk, if_pos h6, hg]
              show (if (none : Fo) = none then (if (smP kd pl N (rdU kd pl vl N d) (t + 1)).2.1 = none then _ else ((smP kd pl N (rdU kd pl vl N d) (t + 1)).1, (smP kd pl N (rdU kd pl vl N d) (t + 1)).2.1, [])) else _) = _
              rw [if_pos rfl, hs]
              exact if_neg (fun z => nomatch z)
          | none =>
            obtain ⟨j1, j2, j3, j4, n9, nc9, W9, em9, j5, j6, j7, j8⟩ := hM.1 _ _ hs
            have hr : rdU kd pl vl N (d + 1) t = ((muP kd pl 7 t2 none).1, (muP kd pl 7 t2 none).2, es2) := by
              rw [rdU, if_neg hk, if_pos h6, hg]
              show (if (none : Fo) = none then (if (smP kd pl N (rdU kd pl vl N d) (t + 1)).2.1 = none then ((muP kd pl 7 (smP kd pl N (rdU kd pl vl N d) (t + 1)).1 none).1, (muP kd pl 7 (smP kd pl N (rdU kd pl vl N d) (t + 1)).1 none).2, (smP kd pl N (rdU kd pl vl N d) (t + 1)).2.2) else _) else _) = _
              rw [if_pos rfl, hs]
              exact if_pos rfl
            by_cases h7 : kd t2 = 7
            · have hmu : muP kd pl 7 t2 none = goP pl t2 none := if_pos (isP_n.mpr h7)
              obtain ⟨nc8, rfl⟩ : ∃ nc8, nc9 = nc8 + 1 := ⟨nc9 - 1, by omega⟩
              have hC : rsE kd pl vl n (na2 + 1) t none (6 - (d + 1)) ws em = rsA kd pl vl n9 nc8 (goP pl t2 none).1 (goP pl t2 none).2 (6 - (d + 1)) ws (em ++ es2) := by
                rw [hE, j8, show 6 - d = 6 - (d + 1) + 1 by omega, rsA_c h7 j7]
              rcases goP_c pl t2 with ⟨h5, hg2⟩ | ⟨h5, hg2⟩
              · refine hno _ t n _ ws em (2, pl t2) ?_ _ t2 es2 (by rw [hr, hmu, hg2])
                rw [hC, hg2]
                exact rsA_f
              · rw [hr, hmu, hg2]
                refine ⟨fun t1 es h => ?_, fun t1 q es h => (by have := (tri h).2.1; cases this)⟩
                obtain ⟨h1, _, h3⟩ := tri h
                subst h1 h3
                exact ⟨by omega, by omega, n9, nc8, by omega, by omega, by rw [hC, hg2]⟩
            · have hmu : muP kd pl 7 t2 none = (t2, some (1, pl t2)) := if_neg (fun z => h7 (isP_n.mp z))
              refine hno _ t n _ ws em (1, pl t2) ?_ _ t2 es2 (by rw [hr, hmu])
              rw [hE, j8, rsA_e (fun z => h7 z.1) j3 j4]
              exact if_pos (by omega)
      · exact hno _ t n na ws em (1, pl t) (rsE_n h6 (unP_n hk)) _ t [] (by rw [rdU, if_neg hk, if_neg h6])
/-- an expression, by descent -/
def rdE (kd pl vl : Nat → Nat) (t : Nat) : Nat × Fo × List Sg := smP kd pl 402 (rdU kd pl vl 402 6) t
theorem ex_rd {kd pl vl : Nat → Nat} {t : Nat} (ht : t ≤ 400) : (∀ t1 es, rdE kd pl vl t = (t1, none, es) → exM kd pl vl 402 t none 0 [] [] = (t1, none, es)) ∧ ∀ t1 q es, rdE kd pl vl t = (t1, some q, es) → (exM kd pl vl 402 t none 0 [] []).2.1 = some q := by
  have e : exM kd pl vl 402 t none 0 [] [] = rsE kd pl vl 401 402 t none 0 [] [] := exM_rs (n := 401)
  have hM := sim_m (N := 402) (Nat.le_refl _) (sim_u (kd := kd) (pl := pl) (vl := vl) (N := 402) (Nat.le_refl _) 6 (Nat.le_refl _)) (base := []) (fun x y => rfl) t 401 402 [] ht (by omega) (by omega)
  rw [e]
  refine ⟨fun t1 es h => ?_, fun t1 q es h => hM.2 t1 q es h⟩
  obtain ⟨j1, j2, j3, j4, n9, nc9, W9, em9, j5, j6, j7, j8⟩ := hM.1 t1 es h
  have j9 := j8.trans (rsA_e (fun z => absurd z.2 (Nat.lt_irrefl 0)) j3 j4)
  rw [j7] at j9
  exact j9
/-- what a sum makes: progress, not more signs than tokens, and signs that find what they need -/
def gdE (es : List Sg) : Prop := ∀ (d : Nat) (rest : List Sg), d + es.length ≤ 400 → wfS rest (d + 1) → wfS (es ++ rest) d
def gdU (U : Nat → Nat × Fo × List Sg) : Prop := ∀ t t1 es, U t = (t1, none, es) → t + es.length ≤ t1 ∧ t < t1 ∧ gdE es
theorem opK_c (w : Nat) : ∃ k, opK w = k + 2 ∧ k ≤ 3 := by
  unfold opK
  (repeat' split)
  · exact ⟨0, rfl, by decide⟩
  · exact ⟨1, rfl, by decide⟩
  · exact ⟨2, rfl, by decide⟩
  · exact ⟨3, rfl, by decide⟩
theorem gdE_join {a b : List Sg} {w : Nat} {v : Int32} (ha : gdE a) (hb : gdE b) : gdE (a ++ b ++ [(opK w, v)]) := by
  intro d rest hl hr
  obtain ⟨k, hk, hk3⟩ := opK_c w
  simp only [List.length_append, List.length_singleton] at hl
  rw [List.append_assoc, List.append_assoc]
  refine ha d _ (by omega) (hb (d + 1) _ (by omega) ?_)
  rw [hk]
  exact ⟨hk3, by omega, hr⟩
theorem gd_jnL {kd pl : Nat → Nat} {c1 c2 : Nat} {U : Nat → Nat × Fo × List Sg} (hU : gdU U) : ∀ (m t : Nat) (a : List Sg) (t0 : Nat), gdE a → t0 + a.length ≤ t → t0 < t → ∀ t1 es, jnL kd pl c1 c2 U m t a = (t1, none, es) → t0 + es.length ≤ t1 ∧ t0 < t1 ∧ gdE es := by
  intro m
  induction m with
  | zero =>
    intro t a t0 ha hl ht t1 es h
    obtain ⟨h1, _, h3⟩ := tri (show (t, (none : Fo), a) = (t1, none, es) from h)
    subst h1 h3
    exact ⟨hl, ht, ha⟩
  | succ m ih =>
    intro t a t0 ha hl ht t1 es h
    by_cases hk : kd t = c1 ∨ kd t = c2
    · rcases goP_c pl t with ⟨h4, hg⟩ | ⟨h4, hg⟩
      · rw [jnL_gf hk h4] at h
        have := (tri h).2.1
        cases this
      · rcases hb : U (t + 1) with ⟨t2, fo2, b⟩
        cases fo2 with
        | some q2 =>
          rw [jnL_uf hk h4 hb] at h
          have := (tri h).2.1
          cases this
        | none =>
          rw [jnL_go hk h4 hb] at h
          obtain ⟨g1, g2, g3⟩ := hU _ _ _ hb
          exact ih t2 _ t0 (gdE_join ha g3) (by simp only [List.length_append, List.length_singleton]; omega) (by omega) t1 es h
    · rw [jnL_no hk] at h
      obtain ⟨h1, _, h3⟩ := tri h
      subst h1 h3
      exact ⟨hl, ht, ha⟩
theorem gd_jnP {kd pl : Nat → Nat} {c1 c2 N : Nat} {U : Nat → Nat × Fo × List Sg} (hU : gdU U) : gdU (jnP kd pl c1 c2 N U) := by
  intro t t1 es h
  rcases hb : U t with ⟨t2, fo2, b⟩
  cases fo2 with
  | some q2 =>
    rw [jnP_f hb] at h
    have := (tri h).2.1
    cases this
  | none =>
    rw [jnP_u hb] at h
    obtain ⟨g1, g2, g3⟩ := hU _ _ _ hb
    exact gd_jnL hU N t2 b t g3 g1 g2 t1 es h
theorem gd_unE {kd vl : Nat → Nat} {t : Nat} (h : unK kd t none = true) : (unE kd vl t none []).length = 1 ∧ gdE (unE kd vl t none []) := by
  unfold unE
  by_cases h2 : isP none (kd t) 2 = true
  · rw [if_pos h2]
    refine ⟨rfl, fun d rest hl hr => ⟨?_, hr⟩⟩
    have : d + 1 ≤ 400 := hl
    omega
  · rw [if_neg h2, if_pos h]
    have h3 : 32 ≤ kd t ∧ kd t ≤ 40 := by
      unfold unK at h
      simp only [Bool.or_eq_true, Bool.and_eq_true, decide_eq_true_eq] at h
      rcases h with h | h
      · exact absurd h h2
      · exact ⟨h.1.2, h.2⟩
    refine ⟨rfl, fun d rest hl hr => ⟨?_, vp_in_nI (by omega) (by decide), hr⟩⟩
    have : d + 1 ≤ 400 := hl
    omega
theorem gd_u {kd pl vl : Nat → Nat} {N : Nat} : ∀ d, gdU (rdU kd pl vl N d) := by
  have hyes : ∀ (t : Nat), unK kd t none = true → ∀ t1 es, ((goP pl t none).1, (goP pl t none).2, unE kd vl t none []) = (t1, none, es) → t + es.length ≤ t1 ∧ t < t1 ∧ gdE es := by
    intro t hk t1 es h
    rcases goP_c pl t with ⟨h4, hg⟩ | ⟨h4, hg⟩
    · rw [hg] at h
      have := (tri h).2.1
      cases this
    · rw [hg] at h
      obtain ⟨h1, _, h3⟩ := tri h
      subst h1 h3
      obtain ⟨g1, g2⟩ := gd_unE (vl := vl) hk
      exact ⟨by show t + _ ≤ t + 1; omega, Nat.lt_succ_self _, g2⟩
  intro d
  induction d with
  | zero =>
    intro t t1 es h
    by_cases hk : unK kd t none = true
    · rw [rdU, if_pos hk] at h
      exact hyes t hk t1 es h
    · rw [rdU, if_neg hk] at h
      have := (tri h).2.1
      cases this
  | succ d ih =>
    intro t t1 es h
    by_cases hk : unK kd t none = true
    · rw [rdU, if_pos hk] at h
      exact hyes t hk t1 es h
    · rw [rdU, if_neg hk] at h
      by_cases h6 : kd t = 6
      · rw [if_pos h6] at h
        rcases goP_c pl t with ⟨h4, hg⟩ | ⟨h4, hg⟩
        · rw [hg, if_neg (fun z => nomatch z)] at h
          have := (tri h).2.1
          cases this
        · rw [hg, if_pos rfl] at h
          rcases hs : smP kd pl N (rdU kd pl vl N d) (t + 1) with ⟨t2, fo2, es2⟩
          replace h : (if (smP kd pl N (rdU kd pl vl N d) (t + 1)).2.1 = none then ((muP kd pl 7 (smP kd pl N (rdU kd pl vl N d) (t + 1)).1 none).1, (muP kd pl 7 (smP kd pl N (rdU kd pl vl N d) (t + 1)).1 none).2, (smP kd pl N (rdU kd pl vl N d) (t + 1)).2.2) else ((smP kd pl N (rdU kd pl vl N d) (t + 1)).1, (smP kd pl N (rdU kd pl vl N d) (t + 1)).2.1, [])) = (t1, none, es) := h
          rw [hs] at h
          cases fo2 with
          | some q2 =>
            rw [if_neg (fun z => nomatch z)] at h
            have := (tri h).2.1
            cases this
          | none =>
            rw [if_pos rfl] at h
            obtain ⟨g1, g2, g3⟩ := (gd_jnP (gd_jnP ih) : gdU (smP kd pl N (rdU kd pl vl N d))) _ _ _ hs
            obtain ⟨h1, h2, h3⟩ := tri h
            replace h3 : es2 = es := h3
            subst h3
            have hm : t2 ≤ t1 := by
              rw [← h1]
              unfold muP
              split
              · unfold goP; split <;> simp
              · exact Nat.le_refl _
            exact ⟨by omega, by omega, g3⟩
      · rw [if_neg h6] at h
        have := (tri h).2.1
        cases this
theorem gd_rdE {kd pl vl : Nat → Nat} : gdU (rdE kd pl vl) := gd_jnP (gd_jnP (gd_u 6))
theorem gdE_wf {es : List Sg} (h : gdE es) (hl : es.length ≤ 400) : wfS es 0 := by
  have := h 0 [] (by omega) rfl
  rw [List.append_nil] at this
  exact this
/-- the machine's expression, where no fault stands -/
theorem tmP_rd {kd pl vl : Nat → Nat} {t : Nat} (ht : t ≤ 400) : (∀ t1 es, rdE kd pl vl t = (t1, none, es) → tmP kd pl vl t none = (t1, none, es)) ∧ ∀ t1 q es, rdE kd pl vl t = (t1, some q, es) → (tmP kd pl vl t none).2.1 = some q := by
  have e : tmP kd pl vl t none = exM kd pl vl 402 t none 0 [] [] := if_pos rfl
  rw [e]
  exact ex_rd ht
theorem tmP_n {kd pl vl : Nat → Nat} {t t1 : Nat} {es : List Sg} (ht : t ≤ 400) (h : tmP kd pl vl t none = (t1, none, es)) : rdE kd pl vl t = (t1, none, es) := by
  obtain ⟨h1, h2⟩ := tmP_rd (kd := kd) (pl := pl) (vl := vl) ht
  rcases hs : rdE kd pl vl t with ⟨t2, fo2, es2⟩
  cases fo2 with
  | none => rw [← h, h1 _ _ hs]
  | some q =>
    have := h2 _ _ _ hs
    rw [h] at this
    cases this
theorem tmP_ok {kd pl vl : Nat → Nat} {t t1 : Nat} {es : List Sg} {fo : Fo} (ht : t ≤ 400) (h : tmP kd pl vl t fo = (t1, none, es)) (h4 : t1 ≤ 400) : fo = none ∧ t < t1 ∧ wfS es 0 := by
  cases fo with
  | some q =>
    have e : tmP kd pl vl t (some q) = (t, some q, []) := if_neg (fun z => nomatch z)
    rw [e] at h
    have := (tri h).2.1
    cases this
  | none =>
    obtain ⟨g1, g2, g3⟩ := gd_rdE _ _ _ (tmP_n ht h)
    exact ⟨rfl, g2, gdE_wf g3 (by omega)⟩
