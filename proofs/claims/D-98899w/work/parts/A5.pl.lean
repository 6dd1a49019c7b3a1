/-! sums told: plain laws for the class's descent -/
def PPo (k j : Nat) : Bool := (k == 1 && j == 6) || (k == 1 && j == 7) || (k == 9 && j == 3) || (k == 9 && j == 4)
theorem PPs_PPo : ∀ k j, PPo k j = false → PPs k j = false := by intro k j h; simp only [PPs, PPo, Bool.or_eq_false_iff, Bool.and_eq_false_iff, beq_eq_false_iff_ne, ne_eq] at *; omega
theorem PFt_PPo : ∀ k j, PPo k j = false → PFt k j = false := by intro k j h; simp only [PFt, PPo, Bool.or_eq_false_iff, Bool.and_eq_false_iff, beq_eq_false_iff_ne, ne_eq] at *; omega
theorem PPo_PPx : ∀ k j, PPx k j = false → PPo k j = false := by intro k j h; simp only [PPo, PPx, Bool.or_eq_false_iff, Bool.and_eq_false_iff, beq_eq_false_iff_ne, ne_eq] at *; omega
def moU (U : Nat → Nat × Fo × List Sg) : Prop := ∀ t, t ≤ (U t).1
theorem jnL_mo {kd pl : Nat → Nat} {c1 c2 : Nat} {U : Nat → Nat × Fo × List Sg} (hU : moU U) : ∀ (n t : Nat) (a : List Sg), t ≤ (jnL kd pl c1 c2 U n t a).1
  | 0, t, a => Nat.le_refl _
  | n + 1, t, a => by
    have hg := go_ge pl t none
    have h1 := hU (goP pl t none).1
    unfold jnL
    by_cases h : kd t = c1 ∨ kd t = c2
    · rw [if_pos h]
      by_cases h2 : (goP pl t none).2 = none
      · rw [if_pos h2]
        by_cases h3 : (U (goP pl t none).1).2.1 = none
        · rw [if_pos h3]
          exact Nat.le_trans hg (Nat.le_trans h1 (jnL_mo hU n _ _))
        · rw [if_neg h3]
          exact Nat.le_trans hg h1
      · rw [if_neg h2]
        exact hg
    · rw [if_neg h]
      exact Nat.le_refl _
theorem jnP_mo {kd pl : Nat → Nat} {c1 c2 N : Nat} {U : Nat → Nat × Fo × List Sg} (hU : moU U) : moU (jnP kd pl c1 c2 N U) := fun t => by
  unfold jnP
  split
  · exact Nat.le_trans (hU t) (jnL_mo hU _ _ _)
  · exact hU t
theorem un_v {kd pl vl : Nat → Nat} {N d t : Nat} (h : unK kd t none = true) : rdU kd pl vl N d t = ((goP pl t none).1, (goP pl t none).2, unE kd vl t none []) := by
  cases d <;> exact if_pos h
theorem un_1 {kd pl vl : Nat → Nat} {N d t : Nat} (h : ¬ unK kd t none = true) (h6 : ¬ kd t = 6) : rdU kd pl vl N d t = (t, some (1, pl t), []) := by
  cases d with
  | zero => unfold rdU; rw [if_neg h, if_neg h6]
  | succ d => unfold rdU; rw [if_neg h, if_neg h6]
theorem un_6z {kd pl vl : Nat → Nat} {N t : Nat} (h6 : kd t = 6) : rdU kd pl vl N 0 t = (t, some (2, pl t), []) := by
  have h : ¬ unK kd t none = true := fun z => unK_6 z h6
  unfold rdU
  rw [if_neg h, if_pos h6]
theorem un_6g {kd pl vl : Nat → Nat} {N d t : Nat} (h6 : kd t = 6) (h4 : (goP pl t none).2 ≠ none) : rdU kd pl vl N (d + 1) t = ((goP pl t none).1, (goP pl t none).2, []) := by
  have h : ¬ unK kd t none = true := fun z => unK_6 z h6
  unfold rdU
  rw [if_neg h, if_pos h6, if_neg h4]
theorem un_6s {kd pl vl : Nat → Nat} {N d t : Nat} {R4 : Nat × Fo × List Sg} (h6 : kd t = 6) (h4 : t ≠ 400) (hR : smP kd pl N (rdU kd pl vl N d) (t + 1) = R4) : rdU kd pl vl N (d + 1) t = if R4.2.1 = none then ((muP kd pl 7 R4.1 none).1, (muP kd pl 7 R4.1 none).2, R4.2.2) else (R4.1, R4.2.1, []) := by
  have h : ¬ unK kd t none = true := fun z => unK_6 z h6
  have hg : goP pl t none = (t + 1, none) := if_neg h4
  unfold rdU
  rw [if_neg h, if_pos h6, hg]
  show (if (none : Fo) = none then (if (smP kd pl N (rdU kd pl vl N d) (t + 1)).2.1 = none then _ else _) else _) = _
  rw [if_pos rfl, hR]
theorem rdU_mo {kd pl vl : Nat → Nat} {N : Nat} : ∀ d, moU (rdU kd pl vl N d) := by
  intro d
  induction d with
  | zero =>
    intro t
    by_cases h : unK kd t none = true
    · rw [un_v h]; exact go_ge pl t none
    · by_cases h6 : kd t = 6
      · rw [un_6z h6]; exact Nat.le_refl _
      · rw [un_1 h h6]; exact Nat.le_refl _
  | succ d ih =>
    intro t
    by_cases h : unK kd t none = true
    · rw [un_v h]; exact go_ge pl t none
    · by_cases h6 : kd t = 6
      · rcases goP_c pl t with ⟨h4, hg⟩ | ⟨h4, hg⟩
        · rw [un_6g h6 (by rw [hg]; exact fun z => nomatch z)]; exact go_ge pl t none
        · have h1 := jnP_mo (kd := kd) (pl := pl) (c1 := 8) (c2 := 9) (N := N) (jnP_mo (kd := kd) (pl := pl) (c1 := 10) (c2 := 15) (N := N) ih) (t + 1)
          rw [un_6s (R4 := smP kd pl N (rdU kd pl vl N d) (t + 1)) h6 h4 rfl]
          have h2 : t + 1 ≤ (smP kd pl N (rdU kd pl vl N d) (t + 1)).1 := h1
          split
          · have := mu_ge kd pl 7 (smP kd pl N (rdU kd pl vl N d) (t + 1)).1 none
            exact Nat.le_trans (by omega) this
          · exact Nat.le_trans (by omega) h2
      · rw [un_1 h h6]; exact Nat.le_refl _
theorem rdP_mo {kd pl vl : Nat → Nat} {N d : Nat} : moU (ptP kd pl N (rdU kd pl vl N d)) := jnP_mo (rdU_mo d)
theorem rdS_mo {kd pl vl : Nat → Nat} {N d : Nat} : moU (smP kd pl N (rdU kd pl vl N d)) := jnP_mo rdP_mo
theorem un_6ge {kd pl vl : Nat → Nat} {N d t : Nat} {R3 R4 : Nat × Fo × List Sg} (h6 : kd t = 6) (h4 : t ≠ 400) (hR : smP kd pl N (rdU kd pl vl N d) (t + 1) = R4) (h3 : rdU kd pl vl N (d + 1) t = R3) : R4.1 ≤ R3.1 ∧ t + 1 ≤ R4.1 := by
  rw [un_6s h6 h4 hR] at h3
  refine ⟨?_, by rw [← hR]; exact rdS_mo (t + 1)⟩
  subst h3
  split
  · exact mu_ge kd pl 7 R4.1 none
  · exact Nat.le_refl _
theorem jnL_g2 {kd pl : Nat → Nat} {c1 c2 n t : Nat} {U : Nat → Nat × Fo × List Sg} {a : List Sg} (h : kd t = c1 ∨ kd t = c2) (hg : (goP pl t none).2 ≠ none) : (jnL kd pl c1 c2 U (n + 1) t a).2.1 = (goP pl t none).2 := by
  unfold jnL
  rw [if_pos h, if_neg hg]
theorem jnL_u2 {kd pl : Nat → Nat} {c1 c2 n t : Nat} {U : Nat → Nat × Fo × List Sg} {a : List Sg} {R4 : Nat × Fo × List Sg} (h : kd t = c1 ∨ kd t = c2) (ht : t ≠ 400) (hu : U (t + 1) = R4) (hn : R4.2.1 ≠ none) : (jnL kd pl c1 c2 U (n + 1) t a).2.1 = R4.2.1 := by
  have hg : goP pl t none = (t + 1, none) := if_neg ht
  unfold jnL
  rw [if_pos h, hg]
  show (if (none : Fo) = none then (if (U (t + 1)).2.1 = none then jnL kd pl c1 c2 U n (U (t + 1)).1 (a ++ (U (t + 1)).2.2 ++ [(opK (kd t), nI 0)]) else ((U (t + 1)).1, (U (t + 1)).2.1, [])) else ((t + 1 : Nat), (none : Fo), ([] : List Sg))).2.1 = _
  rw [if_pos rfl, hu, if_neg hn]
theorem jnL_u3 {kd pl : Nat → Nat} {c1 c2 n t : Nat} {U : Nat → Nat × Fo × List Sg} {a : List Sg} {R3 R4 : Nat × Fo × List Sg} (hU : moU U) (h : kd t = c1 ∨ kd t = c2) (ht : t ≠ 400) (hu : U (t + 1) = R4) (h3 : jnL kd pl c1 c2 U (n + 1) t a = R3) : R4.1 ≤ R3.1 ∧ t + 1 ≤ R4.1 := by
  have hg : goP pl t none = (t + 1, none) := if_neg ht
  refine ⟨?_, by rw [← hu]; exact hU (t + 1)⟩
  subst h3
  unfold jnL
  rw [if_pos h, hg]
  show R4.1 ≤ (if (none : Fo) = none then (if (U (t + 1)).2.1 = none then jnL kd pl c1 c2 U n (U (t + 1)).1 (a ++ (U (t + 1)).2.2 ++ [(opK (kd t), nI 0)]) else ((U (t + 1)).1, (U (t + 1)).2.1, [])) else _).1
  rw [if_pos rfl, hu]
  split
  · exact jnL_mo hU _ _ _
  · exact Nat.le_refl _
theorem jnP_u2 {kd pl : Nat → Nat} {c1 c2 N t : Nat} {U : Nat → Nat × Fo × List Sg} {R4 : Nat × Fo × List Sg} (hu : U t = R4) (hn : R4.2.1 ≠ none) : (jnP kd pl c1 c2 N U t).2.1 = R4.2.1 := by
  unfold jnP
  rw [hu, if_neg hn]
theorem jnP_u3 {kd pl : Nat → Nat} {c1 c2 N t : Nat} {U : Nat → Nat × Fo × List Sg} {R3 R4 : Nat × Fo × List Sg} (hU : moU U) (hu : U t = R4) (h3 : jnP kd pl c1 c2 N U t = R3) : R4.1 ≤ R3.1 ∧ t ≤ R4.1 := by
  refine ⟨?_, by rw [← hu]; exact hU t⟩
  subst h3
  unfold jnP
  rw [hu]
  split
  · exact jnL_mo hU _ _ _
  · exact Nat.le_refl _
theorem unK_c {kd : Nat → Nat} {t : Nat} : unK kd t none = true ↔ kd t = 2 ∨ (32 ≤ kd t ∧ kd t ≤ 40) := by
  unfold unK
  rw [Bool.or_eq_true, isP_n, Bool.and_eq_true, Bool.and_eq_true, decide_eq_true_eq, decide_eq_true_eq]
  constructor
  · rintro (h | h)
    · exact Or.inl h
    · exact Or.inr ⟨h.1.2, h.2⟩
  · rintro (h | h)
    · exact Or.inl h
    · exact Or.inr ⟨⟨rfl, h.1⟩, h.2⟩
theorem unE_2 {kd vl : Nat → Nat} {t : Nat} (h : kd t = 2) : unE kd vl t none [] = [(0, nI (vl t))] := by
  unfold unE
  rw [if_pos (isP_n.mpr h)]; rfl
theorem unE_v {kd vl : Nat → Nat} {t : Nat} (h : 32 ≤ kd t ∧ kd t ≤ 40) : unE kd vl t none [] = [(1, nI (kd t - 32))] := by
  unfold unE
  rw [if_neg (fun z => by have := isP_n.mp z; omega), if_pos (unK_c.mpr (Or.inr h))]; rfl
/-- a join is made -/
theorem smA_jn {D : va_G} {H : Heap} {O : Nat → Prop} {d d1 d2 na a b k w : Nat} {es e2 : List Sg} (hk : k ≤ 3) (hw : opK w = k + 2) (hO : O na) (hat : va_at D CL (na, .inr (11, [.int (nI (opCh k)), .ref a, .ref b])) H) (h1 : smA D H O d1 a es) (h2 : smA D H O d2 b e2) (hd1 : d1 < d) (hd2 : d2 < d) : smA D H O d na (es ++ e2 ++ [(opK w, nI 0)]) := by
  obtain ⟨d', rfl⟩ : ∃ x, d = x + 1 := ⟨d - 1, by omega⟩
  refine ⟨hO, Or.inr (Or.inr ⟨k, a, b, es, e2, hk, by rw [hw], hat, smA_le (by omega) h1, smA_le (by omega) h2⟩)⟩
theorem okX_ne {D : va_G} {dA : Nat → ClassId} {o : Nat} {V : GI} {L : GL} {Rf : GR} {R : Nat × Fo} {q : Nat} {H1 : Heap} (h : okX D dA o V L Rf R q H1) : R.2 ≠ none := by
  obtain ⟨h1, V1, Rf1, hG, hE1, hr, n, pl, h2, h3⟩ := h
  rw [h2]
  exact fun z => nomatch z
theorem PPx_ps : ∀ k j, k = 2 ∨ (4 ≤ k ∧ k ≤ 8) → PPx k j = false := by
  intro k j h
  simp only [PPx, Bool.or_eq_false_iff, beq_eq_false_iff_ne, ne_eq]
  omega
/-- a sum told: where it stands, what it is -/
def exQ (D : va_G) (dA : Nat → ClassId) (o : Nat) (V : GI) (L : GL) (Rf : GR) (n0 m t : Nat) (R : Nat × Fo × List Sg) (r : Option Nat) (H1 : Heap) : Prop := ∃ a V1, r = some a ∧ gP D dA o dS V1 L Rf H1 ∧ Eqx PPo V V1 ∧ V1 9 4 = V 9 4 ∧ R.2.1 = none ∧ V1 9 3 = nI R.1 ∧ t < R.1 ∧ R.1 ≤ 400 ∧ R.1 < m ∧ smA D H1 (fun q => n0 ≤ q) (R.1 - t) a R.2.2
def exX (D : va_G) (dA : Nat → ClassId) (o : Nat) (V : GI) (L : GL) (Rf : GR) (R : Nat × Fo × List Sg) (q : Nat) (H1 : Heap) : Prop := okX D dA o V L Rf (R.1, R.2.1) q H1
def exK (l : Launch) (D : va_G) (dA : Nat → ClassId) (y : MethodName) (cc : ByteArray) (nL f w d : Nat) (S : (Nat → Nat) → (Nat → Nat) → (Nat → Nat) → Nat → Nat × Fo × List Sg) : Prop := ∀ {o : Nat} {V : GI} {L : GL} {Rf : GR} {H0 : Heap} {tp : List Int32} {m0 t : Nat} {R3 : Nat × Fo × List Sg}, gP D dA o dS V L Rf H0 → psC V tp m0 → V 9 3 = nI t → t < m0 → t ≤ 400 → V 9 4 = nI (6 - d) → d ≤ 6 → S (kdT tp) (plT tp) (vlT tp) t = R3 → CtrX l D dA y cc nL (some (.object "PartedSide$Sum")) (mkRmC f w (R3.1 - t) (3 * (R3.1 - t))) [.ref (o + 9)] H0 (AN o H0.size) (QR (exQ D dA o V L Rf H0.size m0 t R3)) (exX D dA o V L Rf R3)
