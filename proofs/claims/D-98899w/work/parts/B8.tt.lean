/-! places grow with the tokens; the worst by token and by place; a text while it is told -/
theorem skF_ge (ch : Nat → Nat) : ∀ u i, i ≤ skF ch u i
  | 0, i => Nat.le_refl _
  | u + 1, i => by
    unfold skF
    have := skF_ge ch u (i + 1)
    split <;> omega
theorem tk_ln {tp : List Int32} {j : Nat} (h : kdT tp j ≠ 0) : plT tp j < tp.length ∧ 0 < lnT tp j := by
  rcases tk_c tp j with q | q | q | q
  · exact absurd q.2 h
  · obtain ⟨q1, q2, q3, q4⟩ := q
    refine ⟨q1, ?_⟩
    rw [q3]
    obtain ⟨u, hu⟩ : ∃ u, tp.length - plT tp j = u + 1 := ⟨tp.length - plT tp j - 1, by omega⟩
    rw [hu]
    unfold rnN
    rw [if_pos q2]
    omega
  · obtain ⟨q1, q2, q3, q4⟩ := q
    refine ⟨q1, ?_⟩
    rw [q3]
    obtain ⟨u, hu⟩ : ∃ u, tp.length - plT tp j = u + 1 := ⟨tp.length - plT tp j - 1, by omega⟩
    rw [hu]
    unfold rnN
    rw [if_pos q2]
    omega
  · exact ⟨q.1, by have := q.2.2.2.1; omega⟩
theorem pl_S1 {tp : List Int32} {j : Nat} (h : kdT tp j ≠ 0) : plT tp j < plT tp (j + 1) := by
  obtain ⟨h1, h2⟩ := tk_ln h
  have e := ps_next h1
  have hg := skF_ge (chT tp) (tp.length - psF (chT tp) tp.length (j + 1)) (psF (chT tp) tp.length (j + 1))
  have e2 : plT tp (j + 1) = skF (chT tp) (tp.length - psF (chT tp) tp.length (j + 1)) (psF (chT tp) tp.length (j + 1)) := rfl
  omega
theorem psC.plm {V : GI} {tp : List Int32} {m : Nat} (h : psC V tp m) {i : Nat} : ∀ j, i < j → j < m → plT tp i < plT tp j
  | 0, hi, _ => absurd hi (Nat.not_lt_zero _)
  | j + 1, hi, hj => by
    have h1 := pl_S1 (tp := tp) (j := j) (h.2.2.2.2.2.1 j hj).1
    rcases Nat.lt_succ_iff_lt_or_eq.mp hi with h2 | h2
    · have := psC.plm h j h2 (by omega); omega
    · rw [h2]; exact h1
/-- a name's letters -/
theorem psC.nm {V : GI} {tp : List Int32} {m t : Nat} (h : psC V tp m) (hk : kdT tp t = 1) : ∃ n, (FT tp t).2.2.1 = plT tp t + n ∧ n ≤ 8 ∧ plT tp t + n ≤ tp.length ∧ (∀ j, j < n → isL (chT tp (plT tp t + j)) = true) ∧ nmN (chT tp) (plT tp t) n = nmT tp t := by
  rcases tk_c tp t with q | q | q | q
  · omega
  · obtain ⟨q1, q2, q3, q4, q5⟩ := q
    have hle := rnN_le isL (chT tp) (tp.length - plT tp t) (plT tp t)
    refine ⟨lnT tp t, rfl, by omega, by omega, fun j hj => ?_, q4.symm⟩
    rw [q3] at hj
    exact rnN_all isL (chT tp) _ _ j hj
  · have := q.2.2.2.2
    omega
  · have h2 : sgK (chT tp (plT tp t)) = 1 := q.2.2.2.2 ▸ hk
    have h3 := sgK_b (b := chT tp (plT tp t)) (by omega)
    omega
/-- the worst by place -/
def woN (tp : List Int32) (wo : Fo) : Fo := wo.map (fun q => (q.1, plT tp q.2))
theorem wo_P {V : GI} {tp : List Int32} {m : Nat} (h : psC V tp m) {wo : Fo} {n q : Nat} (hw : ∀ x, wo = some x → x.2 < m) (hq : q < m) : woP none (woN tp wo) n (plT tp q) = woN tp (woC wo n q) := by
  cases wo with
  | none => rfl
  | some x =>
    obtain ⟨a, b⟩ := x
    have hb := hw _ rfl
    show (if plT tp b < plT tp q ∨ (plT tp q = plT tp b ∧ a ≤ n) then some (a, plT tp b) else some (n, plT tp q)) = woN tp (if b < q ∨ (q = b ∧ a ≤ n) then some (a, b) else some (n, q))
    have e : (plT tp b < plT tp q ∨ (plT tp q = plT tp b ∧ a ≤ n)) ↔ (b < q ∨ (q = b ∧ a ≤ n)) := by
      rcases Nat.lt_trichotomy b q with h1 | h1 | h1
      · have := psC.plm h q h1 hq
        omega
      · subst h1; omega
      · have := psC.plm h b h1 hb
        omega
    by_cases c : b < q ∨ (q = b ∧ a ≤ n)
    · rw [if_pos c, if_pos (e.mpr c)]; rfl
    · rw [if_neg c, if_neg (fun z => c (e.mp z))]; rfl
theorem woC_lt {wo : Fo} {n q t : Nat} (hw : ∀ x, wo = some x → x.2 < t) (hq : q < t) : ∀ x, woC wo n q = some x → x.2 < t := fun x hx => by
  cases wo with
  | none => cases hx; exact hq
  | some y =>
    obtain ⟨a, b⟩ := y
    have hb := hw _ rfl
    have hx2 : (if b < q ∨ (q = b ∧ a ≤ n) then some (a, b) else some (n, q)) = some x := hx
    split at hx2
    · cases hx2; exact hb
    · cases hx2; exact hq
theorem woC_ne {wo : Fo} {n q : Nat} : woC wo n q ≠ none := fun h => by
  cases wo with
  | none => cases h
  | some y =>
    obtain ⟨a, b⟩ := y
    have h2 : (if b < q ∨ (q = b ∧ a ≤ n) then some (a, b) else some (n, q)) = none := h
    split at h2 <;> cases h2
theorem woP_2 {wo : Fo} {k p : Nat} : woP none (woP none wo k p) k p = woP none wo k p := by
  cases wo with
  | none => show (if p < p ∨ (p = p ∧ k ≤ k) then some (k, p) else some (k, p)) = _; rw [ite_self]; rfl
  | some x =>
    obtain ⟨a, b⟩ := x
    have e : ∀ y : Nat × Nat, woP none (some y) k p = if y.2 < p ∨ (p = y.2 ∧ y.1 ≤ k) then some y else some (k, p) := fun _ => rfl
    rw [e]
    by_cases c : b < p ∨ (p = b ∧ a ≤ k)
    · rw [if_pos c, e, if_pos c]
    · rw [if_neg c, e]; split <;> rfl
theorem hasF_s {nm : Nat → Nat} {x k : Nat} : hasF nm x (k + 1) = (hasF nm x k || decide (nm k = x)) := rfl
theorem smW_has {wo : Fo} {nm : Nat → Nat} {x p : Nat} : ∀ n, smW none wo nm x p n = if hasF nm x n = true then woP none wo 3 p else wo
  | 0 => rfl
  | n + 1 => by
    have ih := smW_has (wo := wo) (nm := nm) (x := x) (p := p) n
    unfold smW
    rw [ih, hasF_s]
    by_cases h1 : nm n = x
    · rw [if_pos h1, decide_eq_true h1, Bool.or_true, if_pos rfl]
      by_cases h2 : hasF nm x n = true
      · rw [if_pos h2, woP_2]
      · rw [if_neg h2]
    · rw [if_neg h1, decide_eq_false h1, Bool.or_false]
/-- the worst behind a number -/
def nuW (tp : List Int32) (wo : Fo) (lo hi t : Nat) : Fo := if vlT tp t < lo ∨ hi < vlT tp t then woC wo 5 t else wo
theorem nu_W {V : GI} {tp : List Int32} {m : Nat} (h : psC V tp m) {wo : Fo} {lo hi t : Nat} (hw : ∀ x, wo = some x → x.2 < m) (ht : t < m) (hk : kdT tp t = 2) : bdW (kdT tp) (plT tp) (vlT tp) lo hi t none (woN tp wo) = woN tp (nuW tp wo lo hi t) := by
  unfold bdW nuW
  by_cases c : vlT tp t < lo ∨ hi < vlT tp t
  · rw [if_pos ⟨isP_n.mpr hk, c⟩, if_pos c, wo_P h hw ht]
  · rw [if_neg (fun z => c z.2), if_neg c]
theorem nuW_lt {tp : List Int32} {wo : Fo} {lo hi q t : Nat} (hw : ∀ x, wo = some x → x.2 < t) (hq : q < t) : ∀ x, nuW tp wo lo hi q = some x → x.2 < t := by
  unfold nuW
  split
  · exact woC_lt hw hq
  · exact hw
theorem nuW_n {tp : List Int32} {wo : Fo} {lo hi t : Nat} (h : nuW tp wo lo hi t = none) : wo = none ∧ lo ≤ vlT tp t ∧ vlT tp t ≤ hi := by
  unfold nuW at h
  split at h
  · exact absurd h woC_ne
  · exact ⟨h, by omega, by omega⟩
theorem bdP_2 {kd pl : Nat → Nat} {t : Nat} (h : kd t = 2) : bdP kd pl t none = goP pl t none := if_pos (isP_n.mpr h)
theorem bdP_mu {kd pl : Nat → Nat} {t : Nat} : bdP kd pl t none = muP kd pl 2 t none := by
  by_cases h : kd t = 2
  · rw [bdP_2 h, muP_go h]
  · rw [muP_no h]; exact if_neg (fun z => h (isP_n.mp z))
theorem bdV_2 {kd vl : Nat → Nat} {lo t : Nat} (h : kd t = 2) : bdV kd vl lo t none = vl t := if_pos (isP_n.mpr h)
/-! a text while it is told -/
abbrev TB (tx ea hi : Nat) : Nat → Prop := fun q => tx + 5 ≤ q ∧ q ≠ ea ∧ q < hi
def ttS (D : va_G) (dA : Nat → ClassId) (H : Heap) (o ed tx ea hi : Nat) (VT : GI) (RT : GR) (r : Rs) : Prop :=
  (o + 522 ≤ tx ∧ tx + 5 ≤ hi) ∧ rN r ≤ 9 ∧ VT 1 2 = nI (rN r) ∧ RT 1 1 = some ea ∧
  (∃ (cap : Nat) (g : Nat → Option Nat), va_at D CL (ea, .inl (dA 10, cap, .inr (.inr (.inr (.inr g))))) H ∧ ((rN r = 0 ∧ cap = 0 ∧ ea = ed ∧ ed < o) ∨ (cap = 10 ∧ 0 < rN r ∧ ea ≠ ed ∧ tx + 5 ≤ ea ∧ ea < hi)) ∧ (ea < o ∨ tx + 5 ≤ ea) ∧ ∀ k, k < rN r → ∃ a nm, TB tx ea hi a ∧ TB tx ea hi nm ∧ g k = some a ∧ slN D dA H (TB tx ea hi) a (rNm r k) nm [.int (nI (rLf r k)), .int (nI (rHb r k))]) ∧
  (∀ b, b < 9 → VT 3 b = nI (rCo r b)) ∧ VT 0 4 = nI (rCn r) ∧ rCn r ≤ 9 ∧ VT 0 5 = nI (rRg r) ∧ VT 0 6 = nI (rBg r) ∧ VT 0 7 = nI (rSe r) ∧ ∀ k, k < 4 → lwB D dA H (TB tx ea hi) (RT 2 k) (rLw r k)
theorem slN_F {D : va_G} {dA : Nat → ClassId} {A B : Nat → Prop} {H H1 : Heap} {a x nm : Nat} {vs : List Value} (h : slN D dA H B a x nm vs) (hF : Fr A H H1) (ha : a < H.size → ¬ A a) (hA : ∀ q, q < H.size → B q → ¬ A q) : slN D dA H1 B a x nm vs := by
  obtain ⟨h1, lt, h2, h3⟩ := h
  exact ⟨h1.kept (hF.2 _ h1.lt (ha h1.lt)), lt, strA_F h2 hF hA, h3⟩
theorem slN_m {D : va_G} {dA : Nat → ClassId} {B B2 : Nat → Prop} {H : Heap} {a x nm : Nat} {vs : List Value} (h : slN D dA H B a x nm vs) (hA : ∀ q, q < H.size → B q → B2 q) : slN D dA H B2 a x nm vs := by
  obtain ⟨h1, lt, h2, h3⟩ := h
  exact ⟨h1, lt, strA_m h2 hA, h3⟩
theorem lwB_m {D : va_G} {dA : Nat → ClassId} {H : Heap} {O O2 : Nat → Prop} {a : Option Nat} {w : Option Lw} (hO : ∀ q, q < H.size → O q → O2 q) (h : lwB D dA H O a w) : lwB D dA H O2 a w := by
  cases a <;> cases w
  · trivial
  · exact h.elim
  · exact h.elim
  · exact lwA_mono hO h
theorem slN_lt {D : va_G} {dA : Nat → ClassId} {B : Nat → Prop} {H : Heap} {a x nm : Nat} {vs : List Value} (h : slN D dA H B a x nm vs) : nm < H.size := by
  obtain ⟨h1, lt, ⟨va, u1, u2, b1, b2, g1, g2⟩, h3⟩ := h
  exact g1.lt
theorem ttS_F {D : va_G} {dA : Nat → ClassId} {A : Nat → Prop} {H H1 : Heap} {o ed tx ea hi : Nat} {VT : GI} {RT : GR} {r : Rs} (h : ttS D dA H o ed tx ea hi VT RT r) (hF : Fr A H H1) (hA : ∀ q, q < H.size → A q → AS o q ∨ (o + 522 ≤ q ∧ q < tx + 5) ∨ hi ≤ q) : ttS D dA H1 o ed tx ea hi VT RT r := by
  obtain ⟨h1, h2, h3, h4, ⟨cap, g, h5, h6, h7, h8⟩, h9, h10, h11, h12, h13, h14, h15⟩ := h
  have hB : ∀ q, q < H.size → TB tx ea hi q → ¬ A q := fun q hq hb z => by
    rcases hA q hq z with z | z | z
    · have := z.2.1; have := hb.1; omega
    · have := hb.1; omega
    · have := hb.2.2; omega
  refine ⟨h1, h2, h3, h4, ⟨cap, g, h5.kept (hF.2 _ h5.lt (fun z => ?_)), h6, h7, fun k hk => ?_⟩, h9, h10, h11, h12, h13, h14, fun k hk => lwB_kept (fun q a b => hF.2 q b (hB q b a)) (h15 k hk)⟩
  · dsimp only at z
    rcases hA _ h5.lt z with z | z | z <;> dsimp only at z
    · have := z.1; have := z.2.1; omega
    · omega
    · omega
  · obtain ⟨a, nm, k1, k2, k3, k4⟩ := h8 k hk
    exact ⟨a, nm, k1, k2, k3, slN_F k4 hF (fun q => hB _ q k1) hB⟩
/-- with the bound of the heap -/
theorem ttS_hi {D : va_G} {dA : Nat → ClassId} {H : Heap} {o ed tx ea hi : Nat} {VT : GI} {RT : GR} {r : Rs} (h : ttS D dA H o ed tx ea hi VT RT r) (ht5 : tx + 5 ≤ H.size) : ttS D dA H o ed tx ea H.size VT RT r := by
  obtain ⟨h1, h2, h3, h4, ⟨cap, g, h5, h6, h7, h8⟩, h9, h10, h11, h12, h13, h14, h15⟩ := h
  have hB : ∀ q, q < H.size → TB tx ea hi q → TB tx ea H.size q := fun q hq hb => ⟨hb.1, hb.2.1, hq⟩
  have h50 := h5.lt
  dsimp only at h50
  refine ⟨⟨h1.1, ht5⟩, h2, h3, h4, ⟨cap, g, h5, by omega, h7, fun k hk => ?_⟩, h9, h10, h11, h12, h13, h14, fun k hk => lwB_m hB (h15 k hk)⟩
  obtain ⟨a, nm, k1, k2, k3, k4⟩ := h8 k hk
  exact ⟨a, nm, hB _ k4.1.lt k1, hB _ (slN_lt k4) k2, k3, slN_m k4 hB⟩
theorem tt_al {D : va_G} {dA : Nat → ClassId} {H : Heap} {tx ea n : Nat} {VT : GI} {LT : GL} {RT : GR} (hG : gP D dA tx dT VT LT RT H) (h1 : VT 1 2 = nI n) (h2 : RT 1 1 = some ea) : va_at D CL (tx + 1, .inr (17, [.int (VT 1 0), .ref ea, .int (nI n)])) H := by
  have h := hG 1 _ rfl
  have e : va_at D CL (tx + 1, .inr (17, [.int (VT 1 0), va_rf (RT 1 1), .int (VT 1 2)])) H := h
  rw [h1, h2] at e
  exact e
/-- what holds while nothing wrong was told -/
def wtS (VT : GI) (r : Rs) (bs : Nat → Nat) (wo : Fo) : Prop := (∀ i, i < rCn r → VT 4 i = nI (bs i) ∧ bs i < 16777216) ∧ (wo = none → (∀ k, k < rN r → rLf r k < 2) ∧ (∀ i, i < rCn r → bs i ≤ 8 ∧ rHc r (bs i) ≠ 0) ∧ ∀ b, b < 9 → rHc r b ≠ 0 → ∃ i, i < rCn r ∧ bs i = b)
