def PTo (k j : Nat) : Bool := k == 9 || k == 10 || k == 11 || k == 12 || k == 13 || k == 14 || k == 15 || k == 16 || k == 17 || k == 18 || k == 19 || k == 20 || k == 21 || k == 22 || k == 23 || k == 24 || k == 25 || k == 26 || k == 27 || (k == 0 && (j == 11 || j == 12 || j == 13 || j == 14 || j == 15 || j == 16 || j == 20 || j == 33 || j == 39 || j == 43))
theorem PFl_PTo : ∀ k j, PTo k j = false → PFl k j = false := by intro k j h; simp only [PFl, PTo, Bool.or_eq_false_iff, Bool.and_eq_false_iff, beq_eq_false_iff_ne, ne_eq] at *; omega
theorem PGo_PTo : ∀ k j, PTo k j = false → PGo k j = false := by intro k j h; simp only [PGo, PTo, Bool.or_eq_false_iff, Bool.and_eq_false_iff, beq_eq_false_iff_ne, ne_eq] at *; omega
theorem PWo_PTo : ∀ k j, PTo k j = false → PWo k j = false := by intro k j h; simp only [PWo, PTo, Bool.or_eq_false_iff, Bool.and_eq_false_iff, beq_eq_false_iff_ne, ne_eq] at *; omega
theorem PBd_PTo : ∀ k j, PTo k j = false → PBd k j = false := by intro k j h; simp only [PBd, PTo, Bool.or_eq_false_iff, Bool.and_eq_false_iff, beq_eq_false_iff_ne, ne_eq] at *; omega
theorem PTs_PTo : ∀ k j, PTo k j = false → PTs k j = false := by intro k j h; simp only [PTs, PTo, Bool.or_eq_false_iff, Bool.and_eq_false_iff, beq_eq_false_iff_ne, ne_eq] at *; omega
theorem PLw_PTo : ∀ k j, PTo k j = false → PLw k j = false := by intro k j h; simp only [PLw, PTo, Bool.or_eq_false_iff, Bool.and_eq_false_iff, beq_eq_false_iff_ne, ne_eq] at *; omega
/-! what is told: names, who lies left, habits, cold, whether cold was told, how many of cold, ring, begins, seed, laws -/
abbrev Rs : Type := Nat × (Nat → Nat) × (Nat → Nat) × (Nat → Nat) × (Nat → Nat) × (Nat → Nat) × Nat × Nat × Nat × Nat × (Nat → Option Lw)
abbrev rN (r : Rs) : Nat := r.1
abbrev rNm (r : Rs) : Nat → Nat := r.2.1
abbrev rLf (r : Rs) : Nat → Nat := r.2.2.1
abbrev rHb (r : Rs) : Nat → Nat := r.2.2.2.1
abbrev rCo (r : Rs) : Nat → Nat := r.2.2.2.2.1
abbrev rHc (r : Rs) : Nat → Nat := r.2.2.2.2.2.1
abbrev rCn (r : Rs) : Nat := r.2.2.2.2.2.2.1
abbrev rRg (r : Rs) : Nat := r.2.2.2.2.2.2.2.1
abbrev rBg (r : Rs) : Nat := r.2.2.2.2.2.2.2.2.1
abbrev rSe (r : Rs) : Nat := r.2.2.2.2.2.2.2.2.2.1
abbrev rLw (r : Rs) : Nat → Option Lw := r.2.2.2.2.2.2.2.2.2.2
def txR (r : Rs) : Txt := (rN r, nI (rRg r), fun b => nI (rCo r b), rLw r, nI (rBg r), nI (rSe r), fun b => nI (rLf r b), fun b => nI (rHb r b))
/-- a law in the rows of side sd, its branches below b, its codes below ce -/
def lwR (V : GI) (sd k b ce : Nat) : Option Lw → Prop
  | none => V 18 (4 * sd + k) = nI 0 ∧ V 19 (4 * sd + k) = nI 0
  | some w => ∃ f c0 c1, V 18 (4 * sd + k) = nI f ∧ V 19 (4 * sd + k) = nI (f + w.1.length + 1) ∧ lwN V f c0 c1 w ∧ 130 * sd ≤ f ∧ f + w.1.length + 1 ≤ b ∧ 420 * sd ≤ c0 ∧ c1 ≤ ce
def rsS (V : GI) (sd b ce : Nat) (r : Rs) : Prop := rN r ≤ 9 ∧ V 9 sd = nI (rN r) ∧ (∀ i, i < rN r → V 10 (9 * sd + i) = nI (rLf r i)) ∧ (∀ i, i < rN r → V 11 (9 * sd + i) = nI (rHb r i)) ∧ (∀ i, i < 9 → V 12 (9 * sd + i) = nI (rCo r i)) ∧ V 15 sd = nI (rRg r) ∧ V 16 sd = nI (rBg r) ∧ V 17 sd = nI (rSe r) ∧ ∀ k, k < 4 → lwR V sd k b ce (rLw r k)
def rsN (V : GI) (L : GL) (sd : Nat) (r : Rs) : Prop := V 0 20 = nI (rN r) ∧ (∀ i, i < rN r → L 8 i = lN (rNm r i) ∧ rNm r i < 2 ^ 62) ∧ (∀ i, i < 9 → V 14 (9 * sd + i) = nI (rHc r i) ∧ rHc r i < 2) ∧ V 13 sd = nI (rCn r) ∧ rCn r ≤ 9
/-- the rows of the other side stay -/
def sdF (V V1 : GI) (sd : Nat) : Prop := (∀ k, (k = 9 ∨ k = 13 ∨ k = 15 ∨ k = 16 ∨ k = 17) → ∀ j, j ≠ sd → V1 k j = V k j) ∧ (∀ k, (k = 10 ∨ k = 11 ∨ k = 12 ∨ k = 14) → ∀ j, (j < 9 * sd ∨ 9 * sd + 9 ≤ j) → V1 k j = V k j) ∧ ∀ k, (k = 18 ∨ k = 19) → ∀ j, (j < 4 * sd ∨ 4 * sd + 4 ≤ j) → V1 k j = V k j
theorem sdF.rf {V : GI} {sd : Nat} : sdF V V sd := ⟨fun _ _ _ _ => rfl, fun _ _ _ _ => rfl, fun _ _ _ _ => rfl⟩
theorem sdF.trans {V V1 V2 : GI} {sd : Nat} (h : sdF V V1 sd) (h2 : sdF V1 V2 sd) : sdF V V2 sd := ⟨fun k a j b => (h2.1 k a j b).trans (h.1 k a j b), fun k a j b => (h2.2.1 k a j b).trans (h.2.1 k a j b), fun k a j b => (h2.2.2 k a j b).trans (h.2.2 k a j b)⟩
theorem brF.trans {V V1 V2 : GI} {b : Nat} (h : brF V V1 b) (h2 : brF V1 V2 b) : brF V V2 b := fun k j a c e => (h2 k j a c e).trans (h k j a c e)
theorem brF_mono {V V1 : GI} {b b2 : Nat} (h1 : b2 ≤ b) (h2 : b2 < 130 → b < 130) (h : brF V V1 b) : brF V V1 b2 := fun k j a c e => h k j a c (by omega)
theorem brF_to {V V1 : GI} {b : Nat} (h : ∀ k j, 20 ≤ k → k ≤ 24 → V1 k j = V k j) : brF V V1 b := fun k j a c _ => h k j a c
theorem loF_same {V V1 : GI} {c : Nat} (h1 : ∀ j, V1 25 j = V 25 j) (h2 : ∀ j, V1 26 j = V 26 j) : loF V V1 c := fun j _ => ⟨h1 j, h2 j⟩
theorem lwN_fr {V V1 : GI} {b c0 c : Nat} {w : Lw} (h : lwN V b c0 c w) (hr : ∀ k j, 20 ≤ k → k ≤ 24 → b ≤ j → j < b + w.1.length + 1 → V1 k j = V k j) (hl : ∀ j, c0 ≤ j → j < c → V1 25 j = V 25 j ∧ V1 26 j = V 26 j) : lwN V1 b c0 c w := by
  obtain ⟨h1, h2, x, y, h3, h4, h5, h6, h7, h8⟩ := h
  exact ⟨acM_fr h1 (fun k j a c d e => hr k j a c d (by omega)) hl, (hr 20 _ (by decide) (by decide) (by omega) (by omega)).trans h2, x, y, (hr 23 _ (by decide) (by decide) (by omega) (by omega)).trans h3, (hr 24 _ (by decide) (by decide) (by omega) (by omega)).trans h4, segM_fr h5 h7 h8 hl, h6, h7, h8⟩
theorem lwR_fr {V V1 : GI} {sd k b ce : Nat} {w : Option Lw} (h : lwR V sd k b ce w) (h18 : V1 18 (4 * sd + k) = V 18 (4 * sd + k)) (h19 : V1 19 (4 * sd + k) = V 19 (4 * sd + k)) (hr : ∀ k j, 20 ≤ k → k ≤ 24 → 130 * sd ≤ j → j < b → V1 k j = V k j) (hl : ∀ j, 420 * sd ≤ j → j < ce → V1 25 j = V 25 j ∧ V1 26 j = V 26 j) {b2 ce2 : Nat} (hb : b ≤ b2) (hc : ce ≤ ce2) : lwR V1 sd k b2 ce2 w := by
  cases w with
  | none => exact ⟨h18.trans h.1, h19.trans h.2⟩
  | some w =>
    obtain ⟨f, c0, c1, h1, h2, h3, h4, h5, h6, h7⟩ := h
    exact ⟨f, c0, c1, h18.trans h1, h19.trans h2, lwN_fr h3 (fun k j a c d e => hr k j a c (by omega) (by omega)) (fun j a c => hl j (by omega) (by omega)), h4, by omega, h6, by omega⟩
/-- the cells of the side's text -/
theorem rsS_fr {V V1 : GI} {sd b ce : Nat} {r : Rs} (h : rsS V sd b ce r) (h9 : V1 9 sd = V 9 sd) (hA : ∀ k, (k = 10 ∨ k = 11 ∨ k = 12) → ∀ j, 9 * sd ≤ j → j < 9 * sd + 9 → V1 k j = V k j) (h15 : ∀ k, (k = 15 ∨ k = 16 ∨ k = 17) → V1 k sd = V k sd) (hB : ∀ k, (k = 18 ∨ k = 19) → ∀ j, 4 * sd ≤ j → j < 4 * sd + 4 → V1 k j = V k j) (hr : ∀ k j, 20 ≤ k → k ≤ 24 → 130 * sd ≤ j → j < b → V1 k j = V k j) (hl : ∀ j, 420 * sd ≤ j → j < ce → V1 25 j = V 25 j ∧ V1 26 j = V 26 j) : rsS V1 sd b ce r := by
  obtain ⟨a1, a2, a3, a4, a5, a6, a7, a8, a9⟩ := h
  exact ⟨a1, h9.trans a2, fun i hi => (hA 10 (Or.inl rfl) _ (by omega) (by omega)).trans (a3 i hi), fun i hi => (hA 11 (Or.inr (Or.inl rfl)) _ (by omega) (by omega)).trans (a4 i hi), fun i hi => (hA 12 (Or.inr (Or.inr rfl)) _ (by omega) (by omega)).trans (a5 i hi), (h15 15 (Or.inl rfl)).trans a6, (h15 16 (Or.inr (Or.inl rfl))).trans a7, (h15 17 (Or.inr (Or.inr rfl))).trans a8, fun k hk => lwR_fr (a9 k hk) (hB 18 (Or.inl rfl) _ (by omega) (by omega)) (hB 19 (Or.inr rfl) _ (by omega) (by omega)) hr hl (Nat.le_refl _) (Nat.le_refl _)⟩
/-- read on the one side, the other stays -/
theorem rsS_other {V V1 : GI} {sd lv b ce : Nat} {r : Rs} (h : rsS V lv b ce r) (hs : (sd = 0 ∧ lv = 1) ∨ (sd = 1 ∧ lv = 0)) (hb : b ≤ 130 * lv + 130) (hc : ce ≤ 420 * lv + 420) (h1 : sdF V V1 sd) (h2 : brF V V1 (130 * sd)) (h3 : loF V V1 (420 * sd)) : rsS V1 lv b ce r :=
  rsS_fr h (h1.1 9 (Or.inl rfl) lv (by omega)) (fun k hk j a c => h1.2.1 k (by omega) j (by omega)) (fun k hk => h1.1 k (by omega) lv (by omega)) (fun k hk j a c => h1.2.2 k hk j (by omega)) (fun k j a c d e => h2 k j a c (by omega)) (fun j a c => h3 j (by omega))
theorem rsS_tx {V : GI} {lv b ce : Nat} {r : Rs} (hlv : lv < 2) (h18 : V 0 18 = nI lv) (h : rsS V lv b ce r) (hb : b ≤ 260) : txM V lv (txR r) := by
  obtain ⟨a1, a2, a3, a4, a5, a6, a7, a8, a9⟩ := h
  refine ⟨⟨hlv, a1, h18, a2⟩, a6, a5, fun k hk => ?_, a7, a8, a3, a4⟩
  have hw := a9 k hk
  show lwM V lv k (rLw r k)
  cases hl : rLw r k with
  | none =>
    rw [hl] at hw
    exact hw.1.trans hw.2.symm
  | some w =>
    rw [hl] at hw
    obtain ⟨f, c0, c1, h1, h2, h3, h4, h5, h6, h7⟩ := hw
    refine ⟨f, f + w.1.length + 1, h1, h2, by omega, ?_⟩
    obtain ⟨g1, g2, x, y, g3, g4, g5, g6, g7, g8⟩ := h3
    have key : ∀ (as bs : Ifs) (e : w.1 = as ++ bs), lawM V (f + w.1.length + 1) w.2 (f + as.length) bs := by
      intro as bs
      induction bs generalizing as with
      | nil =>
        intro e
        rw [List.append_nil] at e
        rw [e] at g2 g3 g4 ⊢
        exact ⟨rfl, g2, x, y, g3, g4, g5, g6⟩
      | cons q bs ih =>
        intro e
        obtain ⟨p, q, r⟩ := q
        have hi : w.1[as.length]? = some (p, q, r) := by rw [e, List.getElem?_append_right (Nat.le_refl _), Nat.sub_self]; rfl
        obtain ⟨b1, x1, y1, z1, w1, b2, b3, b4, b5, b6, b7, ⟨b8, b9⟩, b10, b11⟩ := g1 _ _ _ _ hi
        refine ⟨b1, ⟨x1, y1, z1, w1, b2, b3, b4, b5, b6, b7, b8, b9⟩, ?_⟩
        have := ih (as ++ [(p, q, r)]) (by rw [e, List.append_assoc]; rfl)
        rw [List.length_append, List.length_singleton] at this
        exact this
    exact key [] w.1 rfl
theorem row_snoc {V V1 : GI} {k sd n x : Nat} {f : Nat → Nat} (h : ∀ i, i < n → V k (9 * sd + i) = nI (f i)) (hx : V1 k (9 * sd + n) = nI x) (hk : atM V V1 k (9 * sd + n)) : ∀ i, i < n + 1 → V1 k (9 * sd + i) = nI (va_up f n x i) := fun i hi => by
  unfold va_up
  by_cases e : i = n
  · subst e; rw [if_pos rfl]; exact hx
  · rw [if_neg e, hk _ (by omega)]; exact h i (by omega)
theorem row_put {V V1 : GI} {k sd b x : Nat} {f : Nat → Nat} (h : ∀ i, i < 9 → V k (9 * sd + i) = nI (f i)) (hx : V1 k (9 * sd + b) = nI x) (hk : atM V V1 k (9 * sd + b)) : ∀ i, i < 9 → V1 k (9 * sd + i) = nI (va_up f b x i) := fun i hi => by
  unfold va_up
  by_cases e : i = b
  · subst e; rw [if_pos rfl]; exact hx
  · rw [if_neg e, hk _ (by omega)]; exact h i hi
/-! what one tale makes: place, fault, worst, what is told -/
def slP (kd pl vl nm : Nat → Nat) (t : Nat) (wo : Fo) (r : Rs) : Nat × Fo × Fo × Rs :=
  ((muP kd pl 4 (bdP kd pl (bdP kd pl (muP kd pl 1 t none).1 (muP kd pl 1 t none).2).1 (bdP kd pl (muP kd pl 1 t none).1 (muP kd pl 1 t none).2).2).1 (bdP kd pl (bdP kd pl (muP kd pl 1 t none).1 (muP kd pl 1 t none).2).1 (bdP kd pl (muP kd pl 1 t none).1 (muP kd pl 1 t none).2).2).2).1,
   (muP kd pl 4 (bdP kd pl (bdP kd pl (muP kd pl 1 t none).1 (muP kd pl 1 t none).2).1 (bdP kd pl (muP kd pl 1 t none).1 (muP kd pl 1 t none).2).2).1 (bdP kd pl (bdP kd pl (muP kd pl 1 t none).1 (muP kd pl 1 t none).2).1 (bdP kd pl (muP kd pl 1 t none).1 (muP kd pl 1 t none).2).2).2).2,
   bdW kd pl vl 0 9 (bdP kd pl (muP kd pl 1 t none).1 (muP kd pl 1 t none).2).1 (bdP kd pl (muP kd pl 1 t none).1 (muP kd pl 1 t none).2).2 (bdW kd pl vl 0 1 (muP kd pl 1 t none).1 (muP kd pl 1 t none).2 (smW (muP kd pl 1 t none).2 wo (rNm r) (nm t) (pl t) (rN r))),
   (rN r + 1, va_up (rNm r) (rN r) (nm t), va_up (rLf r) (rN r) (bdV kd vl 0 (muP kd pl 1 t none).1 (muP kd pl 1 t none).2), va_up (rHb r) (rN r) (bdV kd vl 0 (bdP kd pl (muP kd pl 1 t none).1 (muP kd pl 1 t none).2).1 (bdP kd pl (muP kd pl 1 t none).1 (muP kd pl 1 t none).2).2), rCo r, rHc r, rCn r, rRg r, rBg r, rSe r, rLw r))
def clR (r : Rs) (b v : Nat) : Rs := (rN r, rNm r, rLf r, rHb r, (if b ≤ 8 then va_up (rCo r) b v else rCo r), (if b ≤ 8 then va_up (rHc r) b 1 else rHc r), rCn r + 1, rRg r, rBg r, rSe r, rLw r)
def clP (kd pl vl : Nat → Nat) (t : Nat) (wo : Fo) (r : Rs) : Nat × Fo × Fo × Rs :=
  ((muP kd pl 4 (bdP kd pl (bdP kd pl t none).1 (bdP kd pl t none).2).1 (bdP kd pl (bdP kd pl t none).1 (bdP kd pl t none).2).2).1, (muP kd pl 4 (bdP kd pl (bdP kd pl t none).1 (bdP kd pl t none).2).1 (bdP kd pl (bdP kd pl t none).1 (bdP kd pl t none).2).2).2,
   bdW kd pl vl 0 99 (bdP kd pl t none).1 (bdP kd pl t none).2 (bdW kd pl vl 0 8 t none wo), clR r (bdV kd vl 0 t none) (bdV kd vl 0 (bdP kd pl t none).1 (bdP kd pl t none).2))
def rgR (r : Rs) (v : Nat) : Rs := (rN r, rNm r, rLf r, rHb r, rCo r, rHc r, rCn r, v, rBg r, rSe r, rLw r)
def bgR (r : Rs) (v : Nat) : Rs := (rN r, rNm r, rLf r, rHb r, rCo r, rHc r, rCn r, rRg r, v, rSe r, rLw r)
def seR (r : Rs) (v : Nat) : Rs := (rN r, rNm r, rLf r, rHb r, rCo r, rHc r, rCn r, rRg r, rBg r, v, rLw r)
def lwS (r : Rs) (k : Nat) (w : Option Lw) : Rs := (rN r, rNm r, rLf r, rHb r, rCo r, rHc r, rCn r, rRg r, rBg r, rSe r, va_up (rLw r) k w)
def onP (kd pl vl nm : Nat → Nat) (t : Nat) (wo : Fo) (r : Rs) : Nat × Fo × Fo × Rs :=
  if kd t = 20 then (if (rmP pl (rN r) 9 t).2 = none then slP kd pl vl nm (rmP pl (rN r) 9 t).1 wo r else ((rmP pl (rN r) 9 t).1, (rmP pl (rN r) 9 t).2, wo, r))
  else if kd t = 21 then (if (rmP pl (rCn r) 9 t).2 = none then clP kd pl vl (rmP pl (rCn r) 9 t).1 wo r else ((rmP pl (rCn r) 9 t).1, (rmP pl (rCn r) 9 t).2, wo, r))
  else if kd t = 26 then ((tiP kd pl t).1, (tiP kd pl t).2, tiW kd pl vl 0 1 t wo, rgR r (tiV kd pl vl 0 t))
  else if kd t = 27 then ((tiP kd pl t).1, (tiP kd pl t).2, tiW kd pl vl 0 23 t wo, bgR r (tiV kd pl vl 0 t))
  else if kd t = 28 then ((tiP kd pl t).1, (tiP kd pl t).2, tiW kd pl vl 0 9999 t wo, seR r (tiV kd pl vl 0 t))
  else if 22 ≤ kd t ∧ kd t ≤ 25 then ((lwP kd pl vl (goP pl t none).1 (goP pl t none).2).1, (lwP kd pl vl (goP pl t none).1 (goP pl t none).2).2.1, wo, lwS r (kd t - 22) (lwP kd pl vl (goP pl t none).1 (goP pl t none).2).2.2)
  else (t, some (1, pl t), wo, r)
section ONP
variable {kd pl vl nm : Nat → Nat} {t t1 : Nat} {wo : Fo} {r : Rs} {q : Nat × Nat}
theorem onP_20f (h : kd t = 20) (hr : rmP pl (rN r) 9 t = (t1, some q)) : onP kd pl vl nm t wo r = (t1, some q, wo, r) := by
  unfold onP
  rw [if_pos h, hr]
  exact if_neg (fun z => nomatch z)
theorem onP_20 (h : kd t = 20) (hr : rmP pl (rN r) 9 t = (t1, none)) : onP kd pl vl nm t wo r = slP kd pl vl nm t1 wo r := by
  unfold onP
  rw [if_pos h, hr]
  exact if_pos rfl
theorem onP_21f (h : kd t = 21) (hr : rmP pl (rCn r) 9 t = (t1, some q)) : onP kd pl vl nm t wo r = (t1, some q, wo, r) := by
  unfold onP
  rw [if_neg (by omega), if_pos h, hr]
  exact if_neg (fun z => nomatch z)
theorem onP_21 (h : kd t = 21) (hr : rmP pl (rCn r) 9 t = (t1, none)) : onP kd pl vl nm t wo r = clP kd pl vl t1 wo r := by
  unfold onP
  rw [if_neg (by omega), if_pos h, hr]
  exact if_pos rfl
theorem onP_26 (h : kd t = 26) : onP kd pl vl nm t wo r = ((tiP kd pl t).1, (tiP kd pl t).2, tiW kd pl vl 0 1 t wo, rgR r (tiV kd pl vl 0 t)) := by
  unfold onP
  rw [if_neg (by omega), if_neg (by omega), if_pos h]
theorem onP_27 (h : kd t = 27) : onP kd pl vl nm t wo r = ((tiP kd pl t).1, (tiP kd pl t).2, tiW kd pl vl 0 23 t wo, bgR r (tiV kd pl vl 0 t)) := by
  unfold onP
  rw [if_neg (by omega), if_neg (by omega), if_neg (by omega), if_pos h]
theorem onP_28 (h : kd t = 28) : onP kd pl vl nm t wo r = ((tiP kd pl t).1, (tiP kd pl t).2, tiW kd pl vl 0 9999 t wo, seR r (tiV kd pl vl 0 t)) := by
  unfold onP
  rw [if_neg (by omega), if_neg (by omega), if_neg (by omega), if_neg (by omega), if_pos h]
theorem onP_22 (h : 22 ≤ kd t ∧ kd t ≤ 25) : onP kd pl vl nm t wo r = ((lwP kd pl vl (goP pl t none).1 (goP pl t none).2).1, (lwP kd pl vl (goP pl t none).1 (goP pl t none).2).2.1, wo, lwS r (kd t - 22) (lwP kd pl vl (goP pl t none).1 (goP pl t none).2).2.2) := by
  unfold onP
  rw [if_neg (by omega), if_neg (by omega), if_neg (by omega), if_neg (by omega), if_neg (by omega), if_pos h]
theorem onP_o (h : kd t < 20 ∨ 28 < kd t) : onP kd pl vl nm t wo r = (t, some (1, pl t), wo, r) := by
  unfold onP
  rw [if_neg (by omega), if_neg (by omega), if_neg (by omega), if_neg (by omega), if_neg (by omega), if_neg (by omega)]
end ONP
theorem lwP_c {kd pl vl : Nat → Nat} {t : Nat} {fo : Fo} : ((lwP kd pl vl t fo).2.1 = none ∧ ∃ w, (lwP kd pl vl t fo).2.2 = some w) ∨ ((lwP kd pl vl t fo).2.1 ≠ none ∧ (lwP kd pl vl t fo).2.2 = none) := by
  unfold lwP
  split
  split
  split
  next t3 fo3 _ =>
    by_cases h : fo3 = none
    · exact Or.inl ⟨h, _, if_pos h⟩
    · exact Or.inr ⟨h, if_neg h⟩
theorem bdP_n {kd pl : Nat → Nat} {t t1 : Nat} {fo fo1 : Fo} (h : bdP kd pl t fo = (t1, fo1)) : t ≤ t1 ∧ t1 ≤ t + 1 ∧ (fo1 = none → fo = none ∧ t1 = t + 1 ∧ kd t = 2) := by
  unfold bdP at h
  split at h
  · next hk =>
    obtain ⟨a1, a2, a3⟩ := goP_f h
    exact ⟨a1, a2, fun z => ⟨(a3 z).1, (a3 z).2, by unfold isP at hk; simp only [Bool.and_eq_true, decide_eq_true_eq] at hk; exact hk.2⟩⟩
  · injection h with h1 h2
    subst h1 h2
    exact ⟨Nat.le_refl _, Nat.le_succ _, fun z => by cases fo <;> cases z⟩
theorem tiP_n {kd pl : Nat → Nat} {t t1 : Nat} {fo1 : Fo} (h : tiP kd pl t = (t1, fo1)) : t ≤ t1 := by
  unfold tiP at h
  rcases hg : goP pl t none with ⟨a, fa⟩
  rw [hg] at h
  rcases hb : bdP kd pl a fa with ⟨b, fb⟩
  replace h : muP kd pl 4 (bdP kd pl a fa).1 (bdP kd pl a fa).2 = (t1, fo1) := h
  rw [hb] at h
  have h1 := (goP_f hg).1
  have h2 := (bdP_n hb).1
  have h3 := (muP_n h).1
  omega
theorem bdV_le {kd vl : Nat → Nat} {lo t : Nat} {fo : Fo} {N : Nat} (h1 : lo ≤ N) (h2 : vl t ≤ N) : bdV kd vl lo t fo ≤ N := by
  unfold bdV
  split
  · exact h2
  · exact h1
theorem rmP_n {pl : Nat → Nat} {a b t t1 : Nat} {fo1 : Fo} (h : rmP pl a b t = (t1, fo1)) : t ≤ t1 ∧ t1 ≤ t + 1 ∧ (fo1 = none → a ≠ b ∧ t1 = t + 1) := by
  unfold rmP at h
  split at h
  · injection h with h1 h2
    subst h1 h2
    exact ⟨Nat.le_refl _, Nat.le_succ _, fun z => nomatch z⟩
  · next hk =>
    obtain ⟨a1, a2, a3⟩ := goP_f h
    exact ⟨a1, a2, fun z => ⟨hk, (a3 z).2⟩⟩
/-- a place goes on, the codes' bound with it -/
theorem cb_le {cm ce t t1 : Nat} (h : cbM cm ce t none) (h1 : t ≤ t1) : cbM cm ce t1 none := ⟨by have := h.1; omega, fun _ => by have := h.2 rfl; omega⟩
def P8 (k _ : Nat) : Bool := k == 8
theorem fo_some {fo : Fo} (h : fo ≠ none) : ∃ q, fo = some q := by
  cases fo with
  | none => exact absurd rfl h
  | some q => exact ⟨q, rfl⟩
theorem go_ge (pl : Nat → Nat) (t : Nat) (fo : Fo) : t ≤ (goP pl t fo).1 := (goP_f (Prod.eta _).symm).1
theorem mu_ge (kd pl : Nat → Nat) (k t : Nat) (fo : Fo) : t ≤ (muP kd pl k t fo).1 := (muP_n (Prod.eta _).symm).1
theorem bd_ge (kd pl : Nat → Nat) (t : Nat) (fo : Fo) : t ≤ (bdP kd pl t fo).1 := (bdP_n (Prod.eta _).symm).1
theorem slP_ge (kd pl vl nm : Nat → Nat) (t : Nat) (wo : Fo) (r : Rs) : t ≤ (slP kd pl vl nm t wo r).1 :=
  Nat.le_trans (mu_ge kd pl 1 t none) (Nat.le_trans (bd_ge kd pl _ _) (Nat.le_trans (bd_ge kd pl _ _) (mu_ge kd pl 4 _ _)))
theorem clP_ge (kd pl vl : Nat → Nat) (t : Nat) (wo : Fo) (r : Rs) : t ≤ (clP kd pl vl t wo r).1 :=
  Nat.le_trans (bd_ge kd pl t none) (Nat.le_trans (bd_ge kd pl _ _) (mu_ge kd pl 4 _ _))
theorem nm_snoc {L : GL} {n x : Nat} {f : Nat → Nat} (h : ∀ i, i < n → L 8 i = lN (f i) ∧ f i < 2 ^ 62) (hx : x < 2 ^ 62) : ∀ i, i < n + 1 → up2 L 8 n (lN x) 8 i = lN (va_up f n x i) ∧ va_up f n x i < 2 ^ 62 := fun i hi => by
  unfold va_up
  by_cases e : i = n
  · subst e; rw [if_pos rfl, up2_s]; exact ⟨rfl, hx⟩
  · rw [if_neg e, up2_n (fun z => e z.2)]; exact h i (by omega)
theorem hc_put {f : Nat → Nat} {b : Nat} (h : ∀ i, i < 9 → f i < 2) : ∀ i, i < 9 → va_up f b 1 i < 2 := fun i hi => by
  unfold va_up
  split
  · decide
  · exact h i hi
theorem lw_new {V V1 : GI} {sd b b1 ce ce1 kq : Nat} {lw : Nat → Option Lw} {w : Lw} (hlw : ∀ k, k < 4 → lwR V sd k b ce (lw k)) (h18 : V1 18 (4 * sd + kq) = nI b) (h19 : V1 19 (4 * sd + kq) = nI b1) (hb1 : b1 = b + w.1.length + 1) (hN : lwN V1 b ce ce1 w) (ha : atM V V1 18 (4 * sd + kq)) (hb : atM V V1 19 (4 * sd + kq)) (hbr : brF V V1 b) (hlo : loF V V1 ce) (hb0 : 130 * sd ≤ b) (hc0 : 420 * sd ≤ ce) (hce : ce ≤ ce1) : ∀ k, k < 4 → lwR V1 sd k b1 ce1 (va_up lw kq (some w) k) := fun k hk => by
  unfold va_up
  by_cases e : k = kq
  · subst e
    rw [if_pos rfl]
    subst hb1
    exact ⟨b, ce, ce1, h18, h19, hN, hb0, Nat.le_refl _, hc0, Nat.le_refl _⟩
  · rw [if_neg e]
    exact lwR_fr (hlw k hk) (ha _ (by omega)) (hb _ (by omega)) (fun k j a c _ d => hbr k j a c (Or.inl d)) (fun j _ d => hlo j (Or.inl d)) (by omega) hce
theorem cw_X13_269 {R : Room} {s : State} {args : Array Value} (hts : ∀ w ∈ lw_all, w.before args s = true) {f w k j : Nat} (hR : f + 1 ≤ R.frames ∧ 8 + (3 + 11) + w ≤ R.locals) : CallW R s args RX13 RX13 269 yX13_roomFor cX13_roomFor 3 none (ws_ yX13_roomFor cX13_roomFor 3 none) (mkRmC f w k j) k j 2 := cwV 2 hts (lw_V q1714 q1716 qs58 q129 q1717) rfl rfl rfl (by decide +kernel) hR
theorem cw_X13_272 {R : Room} {s : State} {args : Array Value} (hts : ∀ w ∈ lw_all, w.before args s = true) {f w k j : Nat} (hR : f + 1 ≤ R.frames ∧ 8 + (4 + 11) + w ≤ R.locals) : CallW R s args RX13 RX13 272 yX13_tellSleeper cX13_tellSleeper 4 none (ws_ yX13_tellSleeper cX13_tellSleeper 4 none) (mkRmC f w k j) k j 0 := cwV 0 hts (lw_V q1726 q1728 qs61 q129 q1729) rfl rfl rfl (by decide +kernel) hR
theorem cw_X13_275 {R : Room} {s : State} {args : Array Value} (hts : ∀ w ∈ lw_all, w.before args s = true) {f w k j : Nat} (hR : f + 1 ≤ R.frames ∧ 8 + (4 + 11) + w ≤ R.locals) : CallW R s args RX13 RX13 275 yX13_toldInt cX13_toldInt 4 (some .int) (ws_ yX13_toldInt cX13_toldInt 4 (some .int)) (mkRmC f w k j) k j 2 := cwV 2 hts (lw_V q1742 q1744 qs65 q129 q1745) rfl rfl rfl (by decide +kernel) hR
theorem cw_X13_278 {R : Room} {s : State} {args : Array Value} (hts : ∀ w ∈ lw_all, w.before args s = true) {f w k j : Nat} (hR : f + 1 ≤ R.frames ∧ 8 + (4 + 11) + w ≤ R.locals) : CallW R s args RX13 RX13 278 yX13_tellLaw cX13_tellLaw 4 none (ws_ yX13_tellLaw cX13_tellLaw 4 none) (mkRmC f w k j) k j 1 := cwV 1 hts (lw_V q1746 q1748 qs66 q129 q1749) rfl rfl rfl (by decide +kernel) hR
set_option maxHeartbeats 4000000 in
theorem met_X13_tellOne (l : Launch) (D : va_G) (dA : Nat → ClassId) {o : Nat} {V : GI} {L : GL} {Rf : GR} {H0 : Heap} (hG : gP D dA o dM V L Rf H0) {ch : Nat → Nat} {sz m0 : Nat} (hT : tkOK V L ch sz m0) {t : Nat} (hps : psM V m0 t none) {wo : Fo} (hwo : woM V wo) (hnz : kdF ch sz t ≠ 0) {sd b ce : Nat} {rs : Rs} (h19 : V 0 19 = nI sd) (hsd9 : sd < 2) (h12 : V 0 12 = nI 0) (h33 : V 0 33 = nI b) (h39 : V 0 39 = nI ce) (hcb : cbM (420 * sd + 420) ce t none) (hbt : 4 * b ≤ 4 * (130 * sd) + t) (hb0 : 130 * sd ≤ b) (hc0 : 420 * sd ≤ ce) (hRS : rsS V sd b ce rs) (hRN : rsN V L sd rs) : Ctr l D dA yX13_tellOne cX13_tellOne 3 none (mkRm 6 126) [.ref o] H0 (AM o) (QV (fun H1 => ∃ V1 L1 b1 ce1, gP D dA o dM V1 L1 Rf H1 ∧ Eqx PTo V V1 ∧ EqL P8 L L1 ∧ psM V1 m0 (onP (kdF ch sz) (plF ch sz) (vlF ch sz) (nmF ch sz) t wo rs).1 (onP (kdF ch sz) (plF ch sz) (vlF ch sz) (nmF ch sz) t wo rs).2.1 ∧ woM V1 (onP (kdF ch sz) (plF ch sz) (vlF ch sz) (nmF ch sz) t wo rs).2.2.1 ∧ sdF V V1 sd ∧ brF V V1 (130 * sd) ∧ loF V V1 (420 * sd) ∧ ((onP (kdF ch sz) (plF ch sz) (vlF ch sz) (nmF ch sz) t wo rs).2.1 = none → V1 0 12 = nI 0 ∧ V1 0 33 = nI b1 ∧ V1 0 39 = nI ce1 ∧ cbM (420 * sd + 420) ce1 (onP (kdF ch sz) (plF ch sz) (vlF ch sz) (nmF ch sz) t wo rs).1 none ∧ 4 * b1 ≤ 4 * (130 * sd) + (onP (kdF ch sz) (plF ch sz) (vlF ch sz) (nmF ch sz) t wo rs).1 ∧ 130 * sd ≤ b1 ∧ 420 * sd ≤ ce1 ∧ rsS V1 sd b1 ce1 (onP (kdF ch sz) (plF ch sz) (vlF ch sz) (nmF ch sz) t wo rs).2.2.2 ∧ rsN V1 L1 sd (onP (kdF ch sz) (plF ch sz) (vlF ch sz) (nmF ch sz) t wo rs).2.2.2))) := by
  have hm9 := hT.2.2.1
  refine ctr_V (by decide) (Nat.le_of_ble_eq_true rfl) ?_
  intro p e s m args below meth c ls QQ locs hx hb hml hown hts hK hend hS hl
  have hl : lv_has ls 3 [(0, .ref o)] := hl
  obtain ⟨ft, hft9, hft, hfz⟩ := fo_z hps.2.2
  have htm := hps.1
  obtain ⟨hk3, hk4, hk5, hk6⟩ := hT.1 t htm
  have hkd9 := kd_lt ch sz t
  have hb3 := (hT.2.2.2.2.2 t htm).1
  have hb5 := (hT.2.2.2.2.2 t htm).2.1
  replace hfz : fzI ft none := hfz
  obtain ⟨hn9, h9, h10, h11, h12c, h15, h16, h17, hlw⟩ := hRS
  obtain ⟨h20, hnm, h14, h13, hcn9⟩ := hRN
  have hcb1 := hcb.1
  refine lv_aload_n hx hb dX13_tellOne_0 rfl (lv_at hl 0 rfl) ?_
  refine g_get hx hb hts hown hK hG 0 rfl rfl ok_X13 5 (by decide) q1476 rfl rfl dX13_tellOne_1 ?_
  refine lv_aload_n hx hb dX13_tellOne_4 rfl (lv_at hl 0 rfl) ?_
  refine g_get (v := .int (nI t)) hx hb hts hown hK hG 0 rfl rfl ok_X13 11 (by decide) q1482 rfl (congrArg Value.int hps.2.1) dX13_tellOne_5 ?_
  refine n_iald hx hb hK hG 3 rfl (by omega) (by decide) dX13_tellOne_8 ?_
  refine iv (y := (nI (kdF ch sz t))) hk3 ?_
  obtain hkq | hkq | hkq | hkq | hkq | hkq | hkq | hkq : kdF ch sz t = 20 ∨ kdF ch sz t = 21 ∨ kdF ch sz t = 26 ∨ kdF ch sz t = 27 ∨ kdF ch sz t = 28 ∨ (22 ≤ kdF ch sz t ∧ kdF ch sz t ≤ 25) ∨ kdF ch sz t < 20 ∨ 28 < kdF ch sz t := by omega
  · refine lv_tableIn (tgt := 60) (off := 51) hx hb dX13_tellOne_9 (by rw [hkq]; decide) (by rw [hkq]; decide) (by rw [hkq]; rfl) (by decide) ?_
    refine lv_aload_n hx hb dX13_tellOne_60 rfl (lv_at hl 0 rfl) ?_
    refine lv_aload_n hx hb dX13_tellOne_61 rfl (lv_at hl 0 rfl) ?_
    refine g_get hx hb hts hown hK hG 0 rfl rfl ok_X13 22 (by decide) q1493 rfl rfl dX13_tellOne_62 ?_
    refine lv_aload_n hx hb dX13_tellOne_65 rfl (lv_at hl 0 rfl) ?_
    refine g_get (v := .int (nI sd)) hx hb hts hown hK hG 0 rfl rfl ok_X13 19 (by decide) q1490 rfl (congrArg Value.int h19) dX13_tellOne_66 ?_
    refine n_iald hx hb hK hG 9 rfl (by omega) (by decide) dX13_tellOne_69 ?_
    refine iv (y := (nI (rN rs))) h9 ?_
    refine lv_bipush (v := (nI 9)) hx hb dX13_tellOne_70 (by decide) ?_
    refine c_VV hx hb hml hts hown hK hl.1 hS ⟨Nat.le_refl _, Nat.le_refl _⟩ (met_X13_roomFor l D dA hG hT hps (by omega) (rN rs) 9 (by omega) (by omega)) (cw_X13_269 hts ⟨by decide, by decide⟩) (hG 0 _ rfl) rfl rfl rfl rfl (Nat.le_of_ble_eq_true rfl) dX13_tellOne_72 (fun _ h => h) (fun H1 locs hq hF hS => ?_)
    obtain ⟨V1, hG, hE1, hps1⟩ := hq
    generalize hHe1 : H1 = H at hG hS ⊢
    clear hHe1
    obtain ⟨t1, fo1, he1⟩ : ∃ a b, rmP (plF ch sz) (rN rs) 9 t = (a, b) := ⟨_, _, rfl⟩
    replace hps1 : psM V1 m0 t1 fo1 := by rw [he1] at hps1; exact hps1
    obtain ⟨ft1, hft91, hft1, hfz1⟩ := fo_z hps1.2.2
    have htm1 := hps1.1
    obtain ⟨hk31, hk41, hk51, hk61⟩ := hT.1 t1 htm1
    have hkd91 := kd_lt ch sz t1
    have hb31 := (hT.2.2.2.2.2 t1 htm1).1
    have hb51 := (hT.2.2.2.2.2 t1 htm1).2.1
    replace hfz1 : fzI ft1 fo1 := hfz1
    have hpn1 := rmP_n he1
    refine lv_aload_n hx hb dX13_tellOne_75 rfl (lv_at hl 0 rfl) ?_
    refine g_get (v := .int (nI ft1)) hx hb hts hown hK hG 0 rfl rfl ok_X13 13 (by decide) q1484 rfl (congrArg Value.int hft1) dX13_tellOne_76 ?_
    refine n_if_ne (tgt := 296) hx hb dX13_tellOne_79 (by decide) (by omega) (fun c79 => ?_) (fun c79 => ?_)
    · refine hend _ _ _ _ hS dX13_tellOne_296 ?_
      have hsd : sdF V V1 sd := by
        refine ⟨fun k hk j hj => ?_, fun k hk j hj => ?_, fun k hk j hj => ?_⟩
        · obtain rfl | rfl | rfl | rfl | rfl := hk
          · exact (hE1 9 j rfl)
          · exact (hE1 13 j rfl)
          · exact (hE1 15 j rfl)
          · exact (hE1 16 j rfl)
          · exact (hE1 17 j rfl)
        · obtain rfl | rfl | rfl | rfl := hk
          · exact (hE1 10 j rfl)
          · exact (hE1 11 j rfl)
          · exact (hE1 12 j rfl)
          · exact (hE1 14 j rfl)
        · obtain rfl | rfl := hk
          · exact (hE1 18 j rfl)
          · exact (hE1 19 j rfl)
      have hz20 : ∀ k j, 20 ≤ k → k ≤ 24 → V1 k j = V k j := by
        intro k j h1 h2
        obtain rfl | rfl | rfl | rfl | rfl : k = 20 ∨ k = 21 ∨ k = 22 ∨ k = 23 ∨ k = 24 := by omega
        · exact (hE1 20 j rfl)
        · exact (hE1 21 j rfl)
        · exact (hE1 22 j rfl)
        · exact (hE1 23 j rfl)
        · exact (hE1 24 j rfl)
      have hbr2 : brF V V1 (130 * sd) := brF_to hz20
      have hlo2 : loF V V1 (420 * sd) := loF_same (fun j => (hE1 25 j rfl)) (fun j => (hE1 26 j rfl))
      obtain ⟨qf, rfl⟩ := fo_some (fun z => absurd (hfz1.mpr z) (by omega))
      have hRR : onP (kdF ch sz) (plF ch sz) (vlF ch sz) (nmF ch sz) t wo rs = _ := onP_20f hkq he1
      rw [hRR]
      exact ⟨rfl, _, L, b, ce, hG, (hE1.mono PGo_PTo), EqL.rf, hps1, (woM_to (V := V) (hE1 0 15 rfl) (hE1 0 16 rfl) hwo), hsd, hbr2, hlo2, fun z => nomatch z⟩
    obtain rfl : fo1 = none := hfz1.mp (by omega)
    have hn99 := (hpn1.2.2 rfl).1
    refine lv_aload_n hx hb dX13_tellOne_82 rfl (lv_at hl 0 rfl) ?_
    refine c_VV hx hb hml hts hown hK hl.1 hS ⟨Nat.le_refl _, Nat.le_refl _⟩ (met_X13_tellSleeper l D dA hG (tkOK_to (V := V) (fun j => (hE1 3 j rfl)) (fun j => (hE1 4 j rfl)) (fun j => (hE1 5 j rfl)) hT) hps1 (woM_to (V := V) (hE1 0 15 rfl) (hE1 0 16 rfl) hwo) (Eq.trans (hE1 0 19 rfl) h19) hsd9 (Eq.trans (hE1 9 sd rfl) h9) (by omega) (Eq.trans (hE1 0 20 rfl) h20) hnm) (cw_X13_272 hts ⟨by decide, by decide⟩) (hG 0 _ rfl) rfl rfl rfl rfl (Nat.le_of_ble_eq_true rfl) dX13_tellOne_83 (fun _ h => h) (fun H1 locs hq hF hS => ?_)
    obtain ⟨V2, L2, hG, hE2, hps2, hwo2, h102, h112, ha102, ha112, ha92, hok2, hno2⟩ := hq
    generalize hHe2 : H1 = H at hG hS ⊢
    clear hHe2
    refine lv_goto (tgt := 296) hx hb dX13_tellOne_86 (by decide) ?_
    refine hend _ _ _ _ hS dX13_tellOne_296 ?_
    have hsd : sdF V V2 sd := by
      refine ⟨fun k hk j hj => ?_, fun k hk j hj => ?_, fun k hk j hj => ?_⟩
      · obtain rfl | rfl | rfl | rfl | rfl := hk
        · exact (Eq.trans (ha92 j (by omega)) (hE1 9 j rfl))
        · exact (Eq.trans (hE2 13 j rfl) (hE1 13 j rfl))
        · exact (Eq.trans (hE2 15 j rfl) (hE1 15 j rfl))
        · exact (Eq.trans (hE2 16 j rfl) (hE1 16 j rfl))
        · exact (Eq.trans (hE2 17 j rfl) (hE1 17 j rfl))
      · obtain rfl | rfl | rfl | rfl := hk
        · exact (Eq.trans (ha102 j (by omega)) (hE1 10 j rfl))
        · exact (Eq.trans (ha112 j (by omega)) (hE1 11 j rfl))
        · exact (Eq.trans (hE2 12 j rfl) (hE1 12 j rfl))
        · exact (Eq.trans (hE2 14 j rfl) (hE1 14 j rfl))
      · obtain rfl | rfl := hk
        · exact (Eq.trans (hE2 18 j rfl) (hE1 18 j rfl))
        · exact (Eq.trans (hE2 19 j rfl) (hE1 19 j rfl))
    have hz20 : ∀ k j, 20 ≤ k → k ≤ 24 → V2 k j = V k j := by
      intro k j h1 h2
      obtain rfl | rfl | rfl | rfl | rfl : k = 20 ∨ k = 21 ∨ k = 22 ∨ k = 23 ∨ k = 24 := by omega
      · exact (Eq.trans (hE2 20 j rfl) (hE1 20 j rfl))
      · exact (Eq.trans (hE2 21 j rfl) (hE1 21 j rfl))
      · exact (Eq.trans (hE2 22 j rfl) (hE1 22 j rfl))
      · exact (Eq.trans (hE2 23 j rfl) (hE1 23 j rfl))
      · exact (Eq.trans (hE2 24 j rfl) (hE1 24 j rfl))
    have hbr2 : brF V V2 (130 * sd) := brF_to hz20
    have hlo2 : loF V V2 (420 * sd) := loF_same (fun j => (Eq.trans (hE2 25 j rfl) (hE1 25 j rfl))) (fun j => (Eq.trans (hE2 26 j rfl) (hE1 26 j rfl)))
    have hRR : onP (kdF ch sz) (plF ch sz) (vlF ch sz) (nmF ch sz) t wo rs = slP (kdF ch sz) (plF ch sz) (vlF ch sz) (nmF ch sz) t1 wo rs := onP_20 hkq he1
    have hge := slP_ge (kdF ch sz) (plF ch sz) (vlF ch sz) (nmF ch sz) t1 wo rs
    have hcond : (slP (kdF ch sz) (plF ch sz) (vlF ch sz) (nmF ch sz) t1 wo rs).2.1 = none → V2 0 12 = nI 0 ∧ V2 0 33 = nI b ∧ V2 0 39 = nI ce ∧ cbM (420 * sd + 420) ce (slP (kdF ch sz) (plF ch sz) (vlF ch sz) (nmF ch sz) t1 wo rs).1 none ∧ 4 * b ≤ 4 * (130 * sd) + (slP (kdF ch sz) (plF ch sz) (vlF ch sz) (nmF ch sz) t1 wo rs).1 ∧ 130 * sd ≤ b ∧ 420 * sd ≤ ce ∧ rsS V2 sd b ce (slP (kdF ch sz) (plF ch sz) (vlF ch sz) (nmF ch sz) t1 wo rs).2.2.2 ∧ rsN V2 L2 sd (slP (kdF ch sz) (plF ch sz) (vlF ch sz) (nmF ch sz) t1 wo rs).2.2.2 := fun z => by
      obtain ⟨g9, g20, gL⟩ := hok2 z
      refine ⟨(Eq.trans ((hE2 0 12 rfl).trans (hE1 0 12 rfl)) h12), (Eq.trans ((hE2 0 33 rfl).trans (hE1 0 33 rfl)) h33), (Eq.trans ((hE2 0 39 rfl).trans (hE1 0 39 rfl)) h39), cb_le hcb (by omega), by omega, hb0, hc0, ⟨?_, g9, row_snoc h10 h102 (fun j hj => (Eq.trans (ha102 j hj) (hE1 10 j rfl))), row_snoc h11 h112 (fun j hj => (Eq.trans (ha112 j hj) (hE1 11 j rfl))), (fun i hi => Eq.trans (let j := 9 * sd + i; (Eq.trans (hE2 12 j rfl) (hE1 12 j rfl))) (h12c i hi)), (Eq.trans ((hE2 15 sd rfl).trans (hE1 15 sd rfl)) h15), (Eq.trans ((hE2 16 sd rfl).trans (hE1 16 sd rfl)) h16), (Eq.trans ((hE2 17 sd rfl).trans (hE1 17 sd rfl)) h17), fun k hk => lwR_fr (hlw k hk) (let j := 4 * sd + k; (Eq.trans (hE2 18 j rfl) (hE1 18 j rfl))) (let j := 4 * sd + k; (Eq.trans (hE2 19 j rfl) (hE1 19 j rfl))) (fun k j a c _ _ => hz20 k j a c) (fun j _ _ => ⟨(Eq.trans (hE2 25 j rfl) (hE1 25 j rfl)), (Eq.trans (hE2 26 j rfl) (hE1 26 j rfl))⟩) (Nat.le_refl _) (Nat.le_refl _)⟩, ⟨g20, ?_, (fun i hi => ⟨Eq.trans (let j := 9 * sd + i; (Eq.trans (hE2 14 j rfl) (hE1 14 j rfl))) (h14 i hi).1, (h14 i hi).2⟩), (Eq.trans ((hE2 13 sd rfl).trans (hE1 13 sd rfl)) h13), hcn9⟩⟩
      · show rN rs + 1 ≤ 9
        omega
      · rw [gL]
        exact nm_snoc hnm (hT.2.2.2.2.2 t1 (by omega)).2.2
    rw [hRR]
    exact ⟨rfl, _, L2, b, ce, hG, ((hE1.mono PGo_PTo).trans (hE2.mono PTs_PTo)), (show EqL P8 L L2 from by
      by_cases hz : (slP (kdF ch sz) (plF ch sz) (vlF ch sz) (nmF ch sz) t1 wo rs).2.1 = none
      · rw [(hok2 hz).2.2]; exact EqL.rf.up rfl
      · rw [(hno2 hz).2.2]; exact EqL.rf), hps2, hwo2, hsd, hbr2, hlo2, hcond⟩
  · refine lv_tableIn (tgt := 89) (off := 80) hx hb dX13_tellOne_9 (by rw [hkq]; decide) (by rw [hkq]; decide) (by rw [hkq]; rfl) (by decide) ?_
    refine lv_aload_n hx hb dX13_tellOne_89 rfl (lv_at hl 0 rfl) ?_
    refine lv_aload_n hx hb dX13_tellOne_90 rfl (lv_at hl 0 rfl) ?_
    refine g_get hx hb hts hown hK hG 0 rfl rfl ok_X13 26 (by decide) q1497 rfl rfl dX13_tellOne_91 ?_
    refine lv_aload_n hx hb dX13_tellOne_94 rfl (lv_at hl 0 rfl) ?_
    refine g_get (v := .int (nI sd)) hx hb hts hown hK hG 0 rfl rfl ok_X13 19 (by decide) q1490 rfl (congrArg Value.int h19) dX13_tellOne_95 ?_
    refine n_iald hx hb hK hG 13 rfl (by omega) (by decide) dX13_tellOne_98 ?_
    refine iv (y := (nI (rCn rs))) h13 ?_
    refine lv_bipush (v := (nI 9)) hx hb dX13_tellOne_99 (by decide) ?_
    refine c_VV hx hb hml hts hown hK hl.1 hS ⟨Nat.le_refl _, Nat.le_refl _⟩ (met_X13_roomFor l D dA hG hT hps (by omega) (rCn rs) 9 (by omega) (by omega)) (cw_X13_269 hts ⟨by decide, by decide⟩) (hG 0 _ rfl) rfl rfl rfl rfl (Nat.le_of_ble_eq_true rfl) dX13_tellOne_101 (fun _ h => h) (fun H1 locs hq hF hS => ?_)
    obtain ⟨V3, hG, hE3, hps3⟩ := hq
    generalize hHe3 : H1 = H at hG hS ⊢
    clear hHe3
    obtain ⟨t3, fo3, he3⟩ : ∃ a b, rmP (plF ch sz) (rCn rs) 9 t = (a, b) := ⟨_, _, rfl⟩
    replace hps3 : psM V3 m0 t3 fo3 := by rw [he3] at hps3; exact hps3
    obtain ⟨ft3, hft93, hft3, hfz3⟩ := fo_z hps3.2.2
    have htm3 := hps3.1
    obtain ⟨hk33, hk43, hk53, hk63⟩ := hT.1 t3 htm3
    have hkd93 := kd_lt ch sz t3
    have hb33 := (hT.2.2.2.2.2 t3 htm3).1
    have hb53 := (hT.2.2.2.2.2 t3 htm3).2.1
    replace hfz3 : fzI ft3 fo3 := hfz3
    have hpn3 := rmP_n he3
    refine lv_aload_n hx hb dX13_tellOne_104 rfl (lv_at hl 0 rfl) ?_
    refine g_get (v := .int (nI ft3)) hx hb hts hown hK hG 0 rfl rfl ok_X13 13 (by decide) q1484 rfl (congrArg Value.int hft3) dX13_tellOne_105 ?_
    refine n_if_le (tgt := 112) hx hb dX13_tellOne_108 (by decide) (by omega) (fun c108 => ?_) (fun c108 => ?_)
    · obtain rfl : fo3 = none := hfz3.mp (by omega)
      have hn99 := (hpn3.2.2 rfl).1
      refine lv_aload_n hx hb dX13_tellOne_112 rfl (lv_at hl 0 rfl) ?_
      refine lv_iconst (v := (nI 0)) hx hb dX13_tellOne_113 (by decide) ?_
      refine lv_bipush (v := (nI 8)) hx hb dX13_tellOne_114 (by decide) ?_
      refine c_VI hx hb hml hts hown hK hl.1 hS ⟨Nat.le_refl _, Nat.le_refl _⟩ (met_X13_bounded l D dA hG (tkOK_to (V := V) (fun j => (hE3 3 j rfl)) (fun j => (hE3 4 j rfl)) (fun j => (hE3 5 j rfl)) hT) hps3 (woM_to (V := V) (hE3 0 15 rfl) (hE3 0 16 rfl) hwo) 0 8 (by omega) (by omega)) (cw_X13_262 hts ⟨by decide, by decide⟩) (hG 0 _ rfl) rfl rfl rfl rfl (Nat.le_of_ble_eq_true rfl) dX13_tellOne_116 (fun _ h => h) (fun r H1 locs hq hF hS => ?_)
      obtain ⟨rfl, hq⟩ := hq
      obtain ⟨V4, hG, hE4, hps4, hwo4⟩ := hq
      generalize hHe4 : H1 = H at hG hS ⊢
      clear hHe4
      obtain ⟨wo4, hew4⟩ : ∃ a, bdW (kdF ch sz) (plF ch sz) (vlF ch sz) 0 8 t3 none wo = a := ⟨_, rfl⟩
      rw [hew4] at hwo4
      obtain ⟨t4, fo4, he4⟩ : ∃ a b, bdP (kdF ch sz) (plF ch sz) t3 none = (a, b) := ⟨_, _, rfl⟩
      replace hps4 : psM V4 m0 t4 fo4 := by rw [he4] at hps4; exact hps4
      obtain ⟨ft4, hft94, hft4, hfz4⟩ := fo_z hps4.2.2
      have htm4 := hps4.1
      obtain ⟨hk34, hk44, hk54, hk64⟩ := hT.1 t4 htm4
      have hkd94 := kd_lt ch sz t4
      have hb34 := (hT.2.2.2.2.2 t4 htm4).1
      have hb54 := (hT.2.2.2.2.2 t4 htm4).2.1
      replace hfz4 : fzI ft4 fo4 := hfz4
      have hbv4 : bdV (kdF ch sz) (vlF ch sz) 0 t3 none ≤ 16777216 := bdV_le (by omega) (by omega)
      generalize hbq4 : bdV (kdF ch sz) (vlF ch sz) 0 t3 none = bv4 at hbv4 ⊢
      refine lv_istore_n (lv' := [(1, .int (nI bv4)), (0, .ref o)]) hx hb dX13_tellOne_119 rfl hl (by decide) rfl (fun ls hl => ?_)
      refine lv_aload_n hx hb dX13_tellOne_120 rfl (lv_at hl 1 rfl) ?_
      refine lv_iconst (v := (nI 0)) hx hb dX13_tellOne_121 (by decide) ?_
      refine lv_bipush (v := (nI 99)) hx hb dX13_tellOne_122 (by decide) ?_
      refine c_VI hx hb hml hts hown hK hl.1 hS ⟨Nat.le_refl _, Nat.le_refl _⟩ (met_X13_bounded l D dA hG (tkOK_to (V := V) (fun j => (Eq.trans (hE4 3 j rfl) (hE3 3 j rfl))) (fun j => (Eq.trans (hE4 4 j rfl) (hE3 4 j rfl))) (fun j => (Eq.trans (hE4 5 j rfl) (hE3 5 j rfl))) hT) hps4 hwo4 0 99 (by omega) (by omega)) (cw_X13_262 hts ⟨by decide, by decide⟩) (hG 0 _ rfl) rfl rfl rfl rfl (Nat.le_of_ble_eq_true rfl) dX13_tellOne_124 (fun _ h => h) (fun r H1 locs hq hF hS => ?_)
      obtain ⟨rfl, hq⟩ := hq
      obtain ⟨V5, hG, hE5, hps5, hwo5⟩ := hq
      generalize hHe5 : H1 = H at hG hS ⊢
      clear hHe5
      obtain ⟨wo5, hew5⟩ : ∃ a, bdW (kdF ch sz) (plF ch sz) (vlF ch sz) 0 99 t4 fo4 wo4 = a := ⟨_, rfl⟩
      rw [hew5] at hwo5
      obtain ⟨t5, fo5, he5⟩ : ∃ a b, bdP (kdF ch sz) (plF ch sz) t4 fo4 = (a, b) := ⟨_, _, rfl⟩
      replace hps5 : psM V5 m0 t5 fo5 := by rw [he5] at hps5; exact hps5
      obtain ⟨ft5, hft95, hft5, hfz5⟩ := fo_z hps5.2.2
      have htm5 := hps5.1
      obtain ⟨hk35, hk45, hk55, hk65⟩ := hT.1 t5 htm5
      have hkd95 := kd_lt ch sz t5
      have hb35 := (hT.2.2.2.2.2 t5 htm5).1
      have hb55 := (hT.2.2.2.2.2 t5 htm5).2.1
      replace hfz5 : fzI ft5 fo5 := hfz5
      have hbv5 : bdV (kdF ch sz) (vlF ch sz) 0 t4 fo4 ≤ 16777216 := bdV_le (by omega) (by omega)
      generalize hbq5 : bdV (kdF ch sz) (vlF ch sz) 0 t4 fo4 = bv5 at hbv5 ⊢
      refine lv_istore_n (lv' := [(2, .int (nI bv5)), (1, .int (nI bv4)), (0, .ref o)]) hx hb dX13_tellOne_127 rfl hl (by decide) rfl (fun ls hl => ?_)
      refine lv_aload_n hx hb dX13_tellOne_128 rfl (lv_at hl 2 rfl) ?_
      refine lv_iconst (v := (nI 4)) hx hb dX13_tellOne_129 (by decide) ?_
      refine c_VV hx hb hml hts hown hK hl.1 hS ⟨Nat.le_refl _, Nat.le_refl _⟩ (met_X13_must l D dA hG (tkOK_to (V := V) (fun j => (Eq.trans (hE5 3 j rfl) (Eq.trans (hE4 3 j rfl) (hE3 3 j rfl)))) (fun j => (Eq.trans (hE5 4 j rfl) (Eq.trans (hE4 4 j rfl) (hE3 4 j rfl)))) (fun j => (Eq.trans (hE5 5 j rfl) (Eq.trans (hE4 5 j rfl) (hE3 5 j rfl)))) hT) hps5 4 (by omega) (by omega)) (cw_X13_266 hts ⟨by decide, by decide⟩) (hG 0 _ rfl) rfl rfl rfl rfl (Nat.le_of_ble_eq_true rfl) dX13_tellOne_130 (fun _ h => h) (fun H1 locs hq hF hS => ?_)
      obtain ⟨V6, hG, hE6, hps6⟩ := hq
      generalize hHe6 : H1 = H at hG hS ⊢
      clear hHe6
      obtain ⟨t6, fo6, he6⟩ : ∃ a b, muP (kdF ch sz) (plF ch sz) 4 t5 fo5 = (a, b) := ⟨_, _, rfl⟩
      replace hps6 : psM V6 m0 t6 fo6 := by rw [he6] at hps6; exact hps6
      obtain ⟨ft6, hft96, hft6, hfz6⟩ := fo_z hps6.2.2
      have htm6 := hps6.1
      obtain ⟨hk36, hk46, hk56, hk66⟩ := hT.1 t6 htm6
      have hkd96 := kd_lt ch sz t6
      have hb36 := (hT.2.2.2.2.2 t6 htm6).1
      have hb56 := (hT.2.2.2.2.2 t6 htm6).2.1
      replace hfz6 : fzI ft6 fo6 := hfz6
      refine lv_aload_n hx hb dX13_tellOne_133 rfl (lv_at hl 2 rfl) ?_
      refine g_get hx hb hts hown hK hG 0 rfl rfl ok_X13 26 (by decide) q1497 rfl rfl dX13_tellOne_134 ?_
      refine lv_aload_n hx hb dX13_tellOne_137 rfl (lv_at hl 2 rfl) ?_
      refine g_get (v := .int (nI sd)) hx hb hts hown hK hG 0 rfl rfl ok_X13 19 (by decide) q1490 rfl (congrArg Value.int (((hE6 0 19 rfl).trans ((hE5 0 19 rfl).trans ((hE4 0 19 rfl).trans (hE3 0 19 rfl)))).trans h19)) dX13_tellOne_138 ?_
      refine lv_dup2_11 hx hb dX13_tellOne_141 rfl rfl ?_
      refine n_iald hx hb hK hG 13 rfl (by omega) (by decide) dX13_tellOne_142 ?_
      refine iv (y := (nI (rCn rs))) (((hE6 13 sd rfl).trans ((hE5 13 sd rfl).trans ((hE4 13 sd rfl).trans (hE3 13 sd rfl)))).trans h13) ?_
      refine lv_iconst (v := (nI 1)) hx hb dX13_tellOne_143 (by decide) ?_
      refine n_iadd hx hb dX13_tellOne_144 ?_
      refine n_iast hx hb hK hG hS 13 (AM_in 13 (by decide)) rfl (by omega) (by decide) dX13_tellOne_145 (fun H locs hG hO hS => ?_)
      refine lv_iload_n hx hb dX13_tellOne_146 rfl (lv_at hl 1 rfl) ?_
      refine lv_bipush (v := (nI 8)) hx hb dX13_tellOne_147 (by decide) ?_
      refine n_icmp_le (tgt := 153) hx hb dX13_tellOne_149 (by decide) (by omega) (by omega) (fun c149 => ?_) (fun c149 => ?_)
      · refine lv_aload_n hx hb dX13_tellOne_153 rfl (lv_at hl 2 rfl) ?_
        refine g_get hx hb hts hown hK hG 0 rfl rfl ok_X13 25 (by decide) q1496 rfl rfl dX13_tellOne_154 ?_
        refine lv_bipush (v := (nI 9)) hx hb dX13_tellOne_157 (by decide) ?_
        refine lv_aload_n hx hb dX13_tellOne_159 rfl (lv_at hl 2 rfl) ?_
        refine g_get (v := .int (nI sd)) hx hb hts hown hK hG 0 rfl rfl ok_X13 19 (by decide) q1490 rfl (congrArg Value.int (((hE6 0 19 rfl).trans ((hE5 0 19 rfl).trans ((hE4 0 19 rfl).trans (hE3 0 19 rfl)))).trans h19)) dX13_tellOne_160 ?_
        refine n_imul hx hb dX13_tellOne_163 ?_
        refine lv_iload_n hx hb dX13_tellOne_164 rfl (lv_at hl 1 rfl) ?_
        refine n_iadd hx hb dX13_tellOne_165 ?_
        refine lv_iload_n hx hb dX13_tellOne_166 rfl (lv_at hl 0 rfl) ?_
        refine n_iast hx hb hK hG hS 12 (AM_in 12 (by decide)) rfl (by omega) (by decide) dX13_tellOne_167 (fun H locs hG hO hS => ?_)
        refine lv_aload_n hx hb dX13_tellOne_168 rfl (lv_at hl 2 rfl) ?_
        refine g_get hx hb hts hown hK hG 0 rfl rfl ok_X13 27 (by decide) q1498 rfl rfl dX13_tellOne_169 ?_
        refine lv_bipush (v := (nI 9)) hx hb dX13_tellOne_172 (by decide) ?_
        refine lv_aload_n hx hb dX13_tellOne_174 rfl (lv_at hl 2 rfl) ?_
        refine g_get (v := .int (nI sd)) hx hb hts hown hK hG 0 rfl rfl ok_X13 19 (by decide) q1490 rfl (congrArg Value.int (((hE6 0 19 rfl).trans ((hE5 0 19 rfl).trans ((hE4 0 19 rfl).trans (hE3 0 19 rfl)))).trans h19)) dX13_tellOne_175 ?_
        refine n_imul hx hb dX13_tellOne_178 ?_
        refine lv_iload_n hx hb dX13_tellOne_179 rfl (lv_at hl 1 rfl) ?_
        refine n_iadd hx hb dX13_tellOne_180 ?_
        refine lv_iconst (v := (nI 1)) hx hb dX13_tellOne_181 (by decide) ?_
        refine n_zast (x2 := (nI 1)) hx hb hK hG hS 14 (AM_in 14 (by decide)) rfl (by omega) (by decide) (by decide) dX13_tellOne_182 (fun H locs hG hO hS => ?_)
        refine lv_goto (tgt := 296) hx hb dX13_tellOne_183 (by decide) ?_
        refine hend _ _ _ _ hS dX13_tellOne_296 ?_
        have hsd : sdF V (up2 (up2 (up2 V6 13 sd (nI ((rCn rs) + 1))) 12 ((9 * sd) + bv4) (nI bv5)) 14 ((9 * sd) + bv4) (nI 1)) sd := by
          refine ⟨fun k hk j hj => ?_, fun k hk j hj => ?_, fun k hk j hj => ?_⟩
          · obtain rfl | rfl | rfl | rfl | rfl := hk
            · exact (Eq.trans (hE6 9 j rfl) (Eq.trans (hE5 9 j rfl) (Eq.trans (hE4 9 j rfl) (hE3 9 j rfl))))
            · exact (Eq.trans (show up2 _ 13 _ _ 13 _ = _ from up2_n (fun z => by have := z.2; omega)) (Eq.trans (hE6 13 j rfl) (Eq.trans (hE5 13 j rfl) (Eq.trans (hE4 13 j rfl) (hE3 13 j rfl)))))
            · exact (Eq.trans (hE6 15 j rfl) (Eq.trans (hE5 15 j rfl) (Eq.trans (hE4 15 j rfl) (hE3 15 j rfl))))
            · exact (Eq.trans (hE6 16 j rfl) (Eq.trans (hE5 16 j rfl) (Eq.trans (hE4 16 j rfl) (hE3 16 j rfl))))
            · exact (Eq.trans (hE6 17 j rfl) (Eq.trans (hE5 17 j rfl) (Eq.trans (hE4 17 j rfl) (hE3 17 j rfl))))
          · obtain rfl | rfl | rfl | rfl := hk
            · exact (Eq.trans (hE6 10 j rfl) (Eq.trans (hE5 10 j rfl) (Eq.trans (hE4 10 j rfl) (hE3 10 j rfl))))
            · exact (Eq.trans (hE6 11 j rfl) (Eq.trans (hE5 11 j rfl) (Eq.trans (hE4 11 j rfl) (hE3 11 j rfl))))
            · exact (Eq.trans (show up2 _ 12 _ _ 12 _ = _ from up2_n (fun z => by have := z.2; omega)) (Eq.trans (hE6 12 j rfl) (Eq.trans (hE5 12 j rfl) (Eq.trans (hE4 12 j rfl) (hE3 12 j rfl)))))
            · exact (Eq.trans (show up2 _ 14 _ _ 14 _ = _ from up2_n (fun z => by have := z.2; omega)) (Eq.trans (hE6 14 j rfl) (Eq.trans (hE5 14 j rfl) (Eq.trans (hE4 14 j rfl) (hE3 14 j rfl)))))
          · obtain rfl | rfl := hk
            · exact (Eq.trans (hE6 18 j rfl) (Eq.trans (hE5 18 j rfl) (Eq.trans (hE4 18 j rfl) (hE3 18 j rfl))))
            · exact (Eq.trans (hE6 19 j rfl) (Eq.trans (hE5 19 j rfl) (Eq.trans (hE4 19 j rfl) (hE3 19 j rfl))))
        have hz20 : ∀ k j, 20 ≤ k → k ≤ 24 → (up2 (up2 (up2 V6 13 sd (nI ((rCn rs) + 1))) 12 ((9 * sd) + bv4) (nI bv5)) 14 ((9 * sd) + bv4) (nI 1)) k j = V k j := by
          intro k j h1 h2
          obtain rfl | rfl | rfl | rfl | rfl : k = 20 ∨ k = 21 ∨ k = 22 ∨ k = 23 ∨ k = 24 := by omega
          · exact (Eq.trans (hE6 20 j rfl) (Eq.trans (hE5 20 j rfl) (Eq.trans (hE4 20 j rfl) (hE3 20 j rfl))))
          · exact (Eq.trans (hE6 21 j rfl) (Eq.trans (hE5 21 j rfl) (Eq.trans (hE4 21 j rfl) (hE3 21 j rfl))))
          · exact (Eq.trans (hE6 22 j rfl) (Eq.trans (hE5 22 j rfl) (Eq.trans (hE4 22 j rfl) (hE3 22 j rfl))))
          · exact (Eq.trans (hE6 23 j rfl) (Eq.trans (hE5 23 j rfl) (Eq.trans (hE4 23 j rfl) (hE3 23 j rfl))))
          · exact (Eq.trans (hE6 24 j rfl) (Eq.trans (hE5 24 j rfl) (Eq.trans (hE4 24 j rfl) (hE3 24 j rfl))))
        have hbr2 : brF V (up2 (up2 (up2 V6 13 sd (nI ((rCn rs) + 1))) 12 ((9 * sd) + bv4) (nI bv5)) 14 ((9 * sd) + bv4) (nI 1)) (130 * sd) := brF_to hz20
        have hlo2 : loF V (up2 (up2 (up2 V6 13 sd (nI ((rCn rs) + 1))) 12 ((9 * sd) + bv4) (nI bv5)) 14 ((9 * sd) + bv4) (nI 1)) (420 * sd) := loF_same (fun j => (Eq.trans (hE6 25 j rfl) (Eq.trans (hE5 25 j rfl) (Eq.trans (hE4 25 j rfl) (hE3 25 j rfl))))) (fun j => (Eq.trans (hE6 26 j rfl) (Eq.trans (hE5 26 j rfl) (Eq.trans (hE4 26 j rfl) (hE3 26 j rfl)))))
        have hCL : clP (kdF ch sz) (plF ch sz) (vlF ch sz) t3 wo rs = (t6, fo6, wo5, clR rs bv4 bv5) := by
          unfold clP
          simp only [he4, he5, he6, hew4, hew5, hbq4, hbq5]
        have hRR : onP (kdF ch sz) (plF ch sz) (vlF ch sz) (nmF ch sz) t wo rs = _ := (onP_21 hkq he3).trans hCL
        have hge : t ≤ t6 := by have a1 := hpn3.1; have a2 := (bdP_n he4).1; have a3 := (bdP_n he5).1; have a4 := (muP_n he6).1; omega
        rw [hRR]
        exact ⟨rfl, _, L, b, ce, hG, (((((((hE3.mono PGo_PTo).trans (hE4.mono PBd_PTo)).trans (hE5.mono PBd_PTo)).trans (hE6.mono PGo_PTo)).up rfl).up rfl).up rfl), EqL.rf, (psM_to (V := V6) rfl rfl rfl hps6), (woM_to (V := V5) (hE6 0 15 rfl) (hE6 0 16 rfl) hwo5), hsd, hbr2, hlo2, fun z => ⟨(Eq.trans ((hE6 0 12 rfl).trans ((hE5 0 12 rfl).trans ((hE4 0 12 rfl).trans (hE3 0 12 rfl)))) h12), (Eq.trans ((hE6 0 33 rfl).trans ((hE5 0 33 rfl).trans ((hE4 0 33 rfl).trans (hE3 0 33 rfl)))) h33), (Eq.trans ((hE6 0 39 rfl).trans ((hE5 0 39 rfl).trans ((hE4 0 39 rfl).trans (hE3 0 39 rfl)))) h39), cb_le hcb hge, by show 4 * b ≤ 4 * (130 * sd) + t6; omega, hb0, hc0, ⟨hn9, (Eq.trans ((hE6 9 sd rfl).trans ((hE5 9 sd rfl).trans ((hE4 9 sd rfl).trans (hE3 9 sd rfl)))) h9), (fun i hi => Eq.trans (let j := 9 * sd + i; (Eq.trans (hE6 10 j rfl) (Eq.trans (hE5 10 j rfl) (Eq.trans (hE4 10 j rfl) (hE3 10 j rfl))))) (h10 i hi)), (fun i hi => Eq.trans (let j := 9 * sd + i; (Eq.trans (hE6 11 j rfl) (Eq.trans (hE5 11 j rfl) (Eq.trans (hE4 11 j rfl) (hE3 11 j rfl))))) (h11 i hi)), (show ∀ i, i < 9 → (up2 (up2 (up2 V6 13 sd (nI ((rCn rs) + 1))) 12 ((9 * sd) + bv4) (nI bv5)) 14 ((9 * sd) + bv4) (nI 1)) 12 (9 * sd + i) = nI ((if bv4 ≤ 8 then va_up (rCo rs) bv4 bv5 else rCo rs) i) from by rw [if_pos (by omega)]; exact row_put h12c (show up2 _ 12 _ _ 12 _ = _ from up2_s) (fun j hj => (Eq.trans (show up2 _ 12 _ _ 12 _ = _ from up2_n (fun z => hj z.2)) (Eq.trans (hE6 12 j rfl) (Eq.trans (hE5 12 j rfl) (Eq.trans (hE4 12 j rfl) (hE3 12 j rfl))))))), (Eq.trans ((hE6 15 sd rfl).trans ((hE5 15 sd rfl).trans ((hE4 15 sd rfl).trans (hE3 15 sd rfl)))) h15), (Eq.trans ((hE6 16 sd rfl).trans ((hE5 16 sd rfl).trans ((hE4 16 sd rfl).trans (hE3 16 sd rfl)))) h16), (Eq.trans ((hE6 17 sd rfl).trans ((hE5 17 sd rfl).trans ((hE4 17 sd rfl).trans (hE3 17 sd rfl)))) h17), fun k hk => lwR_fr (V1 := (up2 (up2 (up2 V6 13 sd (nI ((rCn rs) + 1))) 12 ((9 * sd) + bv4) (nI bv5)) 14 ((9 * sd) + bv4) (nI 1))) (hlw k hk) (let j := 4 * sd + k; (Eq.trans (hE6 18 j rfl) (Eq.trans (hE5 18 j rfl) (Eq.trans (hE4 18 j rfl) (hE3 18 j rfl))))) (let j := 4 * sd + k; (Eq.trans (hE6 19 j rfl) (Eq.trans (hE5 19 j rfl) (Eq.trans (hE4 19 j rfl) (hE3 19 j rfl))))) (fun k j a c _ _ => hz20 k j a c) (fun j _ _ => ⟨(Eq.trans (hE6 25 j rfl) (Eq.trans (hE5 25 j rfl) (Eq.trans (hE4 25 j rfl) (hE3 25 j rfl)))), (Eq.trans (hE6 26 j rfl) (Eq.trans (hE5 26 j rfl) (Eq.trans (hE4 26 j rfl) (hE3 26 j rfl))))⟩) (Nat.le_refl _) (Nat.le_refl _)⟩, ⟨(Eq.trans ((hE6 0 20 rfl).trans ((hE5 0 20 rfl).trans ((hE4 0 20 rfl).trans (hE3 0 20 rfl)))) h20), hnm, (show ∀ i, i < 9 → (up2 (up2 (up2 V6 13 sd (nI ((rCn rs) + 1))) 12 ((9 * sd) + bv4) (nI bv5)) 14 ((9 * sd) + bv4) (nI 1)) 14 (9 * sd + i) = nI ((if bv4 ≤ 8 then va_up (rHc rs) bv4 1 else rHc rs) i) ∧ (if bv4 ≤ 8 then va_up (rHc rs) bv4 1 else rHc rs) i < 2 from by rw [if_pos (by omega)]; exact fun i hi => ⟨row_put (fun i hi => (h14 i hi).1) (show up2 _ 14 _ _ 14 _ = _ from up2_s) (fun j hj => (Eq.trans (show up2 _ 14 _ _ 14 _ = _ from up2_n (fun z => hj z.2)) (Eq.trans (hE6 14 j rfl) (Eq.trans (hE5 14 j rfl) (Eq.trans (hE4 14 j rfl) (hE3 14 j rfl)))))) i hi, hc_put (fun i hi => (h14 i hi).2) i hi⟩), (show up2 _ 13 _ _ 13 _ = _ from up2_s), by show rCn rs + 1 ≤ 9; omega⟩⟩⟩
      refine hend _ _ _ _ hS dX13_tellOne_152 ?_
      have hsd : sdF V (up2 V6 13 sd (nI ((rCn rs) + 1))) sd := by
        refine ⟨fun k hk j hj => ?_, fun k hk j hj => ?_, fun k hk j hj => ?_⟩
        · obtain rfl | rfl | rfl | rfl | rfl := hk
          · exact (Eq.trans (hE6 9 j rfl) (Eq.trans (hE5 9 j rfl) (Eq.trans (hE4 9 j rfl) (hE3 9 j rfl))))
          · exact (Eq.trans (show up2 _ 13 _ _ 13 _ = _ from up2_n (fun z => by have := z.2; omega)) (Eq.trans (hE6 13 j rfl) (Eq.trans (hE5 13 j rfl) (Eq.trans (hE4 13 j rfl) (hE3 13 j rfl)))))
          · exact (Eq.trans (hE6 15 j rfl) (Eq.trans (hE5 15 j rfl) (Eq.trans (hE4 15 j rfl) (hE3 15 j rfl))))
          · exact (Eq.trans (hE6 16 j rfl) (Eq.trans (hE5 16 j rfl) (Eq.trans (hE4 16 j rfl) (hE3 16 j rfl))))
          · exact (Eq.trans (hE6 17 j rfl) (Eq.trans (hE5 17 j rfl) (Eq.trans (hE4 17 j rfl) (hE3 17 j rfl))))
        · obtain rfl | rfl | rfl | rfl := hk
          · exact (Eq.trans (hE6 10 j rfl) (Eq.trans (hE5 10 j rfl) (Eq.trans (hE4 10 j rfl) (hE3 10 j rfl))))
          · exact (Eq.trans (hE6 11 j rfl) (Eq.trans (hE5 11 j rfl) (Eq.trans (hE4 11 j rfl) (hE3 11 j rfl))))
          · exact (Eq.trans (hE6 12 j rfl) (Eq.trans (hE5 12 j rfl) (Eq.trans (hE4 12 j rfl) (hE3 12 j rfl))))
          · exact (Eq.trans (hE6 14 j rfl) (Eq.trans (hE5 14 j rfl) (Eq.trans (hE4 14 j rfl) (hE3 14 j rfl))))
        · obtain rfl | rfl := hk
          · exact (Eq.trans (hE6 18 j rfl) (Eq.trans (hE5 18 j rfl) (Eq.trans (hE4 18 j rfl) (hE3 18 j rfl))))
          · exact (Eq.trans (hE6 19 j rfl) (Eq.trans (hE5 19 j rfl) (Eq.trans (hE4 19 j rfl) (hE3 19 j rfl))))
      have hz20 : ∀ k j, 20 ≤ k → k ≤ 24 → (up2 V6 13 sd (nI ((rCn rs) + 1))) k j = V k j := by
        intro k j h1 h2
        obtain rfl | rfl | rfl | rfl | rfl : k = 20 ∨ k = 21 ∨ k = 22 ∨ k = 23 ∨ k = 24 := by omega
        · exact (Eq.trans (hE6 20 j rfl) (Eq.trans (hE5 20 j rfl) (Eq.trans (hE4 20 j rfl) (hE3 20 j rfl))))
        · exact (Eq.trans (hE6 21 j rfl) (Eq.trans (hE5 21 j rfl) (Eq.trans (hE4 21 j rfl) (hE3 21 j rfl))))
        · exact (Eq.trans (hE6 22 j rfl) (Eq.trans (hE5 22 j rfl) (Eq.trans (hE4 22 j rfl) (hE3 22 j rfl))))
        · exact (Eq.trans (hE6 23 j rfl) (Eq.trans (hE5 23 j rfl) (Eq.trans (hE4 23 j rfl) (hE3 23 j rfl))))
        · exact (Eq.trans (hE6 24 j rfl) (Eq.trans (hE5 24 j rfl) (Eq.trans (hE4 24 j rfl) (hE3 24 j rfl))))
      have hbr2 : brF V (up2 V6 13 sd (nI ((rCn rs) + 1))) (130 * sd) := brF_to hz20
      have hlo2 : loF V (up2 V6 13 sd (nI ((rCn rs) + 1))) (420 * sd) := loF_same (fun j => (Eq.trans (hE6 25 j rfl) (Eq.trans (hE5 25 j rfl) (Eq.trans (hE4 25 j rfl) (hE3 25 j rfl))))) (fun j => (Eq.trans (hE6 26 j rfl) (Eq.trans (hE5 26 j rfl) (Eq.trans (hE4 26 j rfl) (hE3 26 j rfl)))))
      have hCL : clP (kdF ch sz) (plF ch sz) (vlF ch sz) t3 wo rs = (t6, fo6, wo5, clR rs bv4 bv5) := by
        unfold clP
        simp only [he4, he5, he6, hew4, hew5, hbq4, hbq5]
      have hRR : onP (kdF ch sz) (plF ch sz) (vlF ch sz) (nmF ch sz) t wo rs = _ := (onP_21 hkq he3).trans hCL
      have hge : t ≤ t6 := by have a1 := hpn3.1; have a2 := (bdP_n he4).1; have a3 := (bdP_n he5).1; have a4 := (muP_n he6).1; omega
      rw [hRR]
      exact ⟨rfl, _, L, b, ce, hG, (((((hE3.mono PGo_PTo).trans (hE4.mono PBd_PTo)).trans (hE5.mono PBd_PTo)).trans (hE6.mono PGo_PTo)).up rfl), EqL.rf, (psM_to (V := V6) rfl rfl rfl hps6), (woM_to (V := V5) (hE6 0 15 rfl) (hE6 0 16 rfl) hwo5), hsd, hbr2, hlo2, fun z => ⟨(Eq.trans ((hE6 0 12 rfl).trans ((hE5 0 12 rfl).trans ((hE4 0 12 rfl).trans (hE3 0 12 rfl)))) h12), (Eq.trans ((hE6 0 33 rfl).trans ((hE5 0 33 rfl).trans ((hE4 0 33 rfl).trans (hE3 0 33 rfl)))) h33), (Eq.trans ((hE6 0 39 rfl).trans ((hE5 0 39 rfl).trans ((hE4 0 39 rfl).trans (hE3 0 39 rfl)))) h39), cb_le hcb hge, by show 4 * b ≤ 4 * (130 * sd) + t6; omega, hb0, hc0, ⟨hn9, (Eq.trans ((hE6 9 sd rfl).trans ((hE5 9 sd rfl).trans ((hE4 9 sd rfl).trans (hE3 9 sd rfl)))) h9), (fun i hi => Eq.trans (let j := 9 * sd + i; (Eq.trans (hE6 10 j rfl) (Eq.trans (hE5 10 j rfl) (Eq.trans (hE4 10 j rfl) (hE3 10 j rfl))))) (h10 i hi)), (fun i hi => Eq.trans (let j := 9 * sd + i; (Eq.trans (hE6 11 j rfl) (Eq.trans (hE5 11 j rfl) (Eq.trans (hE4 11 j rfl) (hE3 11 j rfl))))) (h11 i hi)), (show ∀ i, i < 9 → (up2 V6 13 sd (nI ((rCn rs) + 1))) 12 (9 * sd + i) = nI ((if bv4 ≤ 8 then va_up (rCo rs) bv4 bv5 else rCo rs) i) from by rw [if_neg (by omega)]; exact (fun i hi => Eq.trans (let j := 9 * sd + i; (Eq.trans (hE6 12 j rfl) (Eq.trans (hE5 12 j rfl) (Eq.trans (hE4 12 j rfl) (hE3 12 j rfl))))) (h12c i hi))), (Eq.trans ((hE6 15 sd rfl).trans ((hE5 15 sd rfl).trans ((hE4 15 sd rfl).trans (hE3 15 sd rfl)))) h15), (Eq.trans ((hE6 16 sd rfl).trans ((hE5 16 sd rfl).trans ((hE4 16 sd rfl).trans (hE3 16 sd rfl)))) h16), (Eq.trans ((hE6 17 sd rfl).trans ((hE5 17 sd rfl).trans ((hE4 17 sd rfl).trans (hE3 17 sd rfl)))) h17), fun k hk => lwR_fr (V1 := (up2 V6 13 sd (nI ((rCn rs) + 1)))) (hlw k hk) (let j := 4 * sd + k; (Eq.trans (hE6 18 j rfl) (Eq.trans (hE5 18 j rfl) (Eq.trans (hE4 18 j rfl) (hE3 18 j rfl))))) (let j := 4 * sd + k; (Eq.trans (hE6 19 j rfl) (Eq.trans (hE5 19 j rfl) (Eq.trans (hE4 19 j rfl) (hE3 19 j rfl))))) (fun k j a c _ _ => hz20 k j a c) (fun j _ _ => ⟨(Eq.trans (hE6 25 j rfl) (Eq.trans (hE5 25 j rfl) (Eq.trans (hE4 25 j rfl) (hE3 25 j rfl)))), (Eq.trans (hE6 26 j rfl) (Eq.trans (hE5 26 j rfl) (Eq.trans (hE4 26 j rfl) (hE3 26 j rfl))))⟩) (Nat.le_refl _) (Nat.le_refl _)⟩, ⟨(Eq.trans ((hE6 0 20 rfl).trans ((hE5 0 20 rfl).trans ((hE4 0 20 rfl).trans (hE3 0 20 rfl)))) h20), hnm, (show ∀ i, i < 9 → (up2 V6 13 sd (nI ((rCn rs) + 1))) 14 (9 * sd + i) = nI ((if bv4 ≤ 8 then va_up (rHc rs) bv4 1 else rHc rs) i) ∧ (if bv4 ≤ 8 then va_up (rHc rs) bv4 1 else rHc rs) i < 2 from by rw [if_neg (by omega)]; exact (fun i hi => ⟨Eq.trans (let j := 9 * sd + i; (Eq.trans (hE6 14 j rfl) (Eq.trans (hE5 14 j rfl) (Eq.trans (hE4 14 j rfl) (hE3 14 j rfl))))) (h14 i hi).1, (h14 i hi).2⟩)), (show up2 _ 13 _ _ 13 _ = _ from up2_s), by show rCn rs + 1 ≤ 9; omega⟩⟩⟩
    refine hend _ _ _ _ hS dX13_tellOne_111 ?_
    have hsd : sdF V V3 sd := by
      refine ⟨fun k hk j hj => ?_, fun k hk j hj => ?_, fun k hk j hj => ?_⟩
      · obtain rfl | rfl | rfl | rfl | rfl := hk
        · exact (hE3 9 j rfl)
        · exact (hE3 13 j rfl)
        · exact (hE3 15 j rfl)
        · exact (hE3 16 j rfl)
        · exact (hE3 17 j rfl)
      · obtain rfl | rfl | rfl | rfl := hk
        · exact (hE3 10 j rfl)
        · exact (hE3 11 j rfl)
        · exact (hE3 12 j rfl)
        · exact (hE3 14 j rfl)
      · obtain rfl | rfl := hk
        · exact (hE3 18 j rfl)
        · exact (hE3 19 j rfl)
    have hz20 : ∀ k j, 20 ≤ k → k ≤ 24 → V3 k j = V k j := by
      intro k j h1 h2
      obtain rfl | rfl | rfl | rfl | rfl : k = 20 ∨ k = 21 ∨ k = 22 ∨ k = 23 ∨ k = 24 := by omega
      · exact (hE3 20 j rfl)
      · exact (hE3 21 j rfl)
      · exact (hE3 22 j rfl)
      · exact (hE3 23 j rfl)
      · exact (hE3 24 j rfl)
    have hbr2 : brF V V3 (130 * sd) := brF_to hz20
    have hlo2 : loF V V3 (420 * sd) := loF_same (fun j => (hE3 25 j rfl)) (fun j => (hE3 26 j rfl))
    obtain ⟨qf, rfl⟩ := fo_some (fun z => absurd (hfz3.mpr z) (by omega))
    have hRR : onP (kdF ch sz) (plF ch sz) (vlF ch sz) (nmF ch sz) t wo rs = _ := onP_21f hkq he3
    rw [hRR]
    exact ⟨rfl, _, L, b, ce, hG, (hE3.mono PGo_PTo), EqL.rf, hps3, (woM_to (V := V) (hE3 0 15 rfl) (hE3 0 16 rfl) hwo), hsd, hbr2, hlo2, fun z => nomatch z⟩
  · refine lv_tableIn (tgt := 186) (off := 177) hx hb dX13_tellOne_9 (by rw [hkq]; decide) (by rw [hkq]; decide) (by rw [hkq]; rfl) (by decide) ?_
    refine lv_aload_n hx hb dX13_tellOne_186 rfl (lv_at hl 0 rfl) ?_
    refine g_get hx hb hts hown hK hG 0 rfl rfl ok_X13 28 (by decide) q1499 rfl rfl dX13_tellOne_187 ?_
    refine lv_aload_n hx hb dX13_tellOne_190 rfl (lv_at hl 0 rfl) ?_
    refine g_get (v := .int (nI sd)) hx hb hts hown hK hG 0 rfl rfl ok_X13 19 (by decide) q1490 rfl (congrArg Value.int h19) dX13_tellOne_191 ?_
    refine lv_aload_n hx hb dX13_tellOne_194 rfl (lv_at hl 0 rfl) ?_
    refine lv_iconst (v := (nI 0)) hx hb dX13_tellOne_195 (by decide) ?_
    refine lv_iconst (v := (nI 1)) hx hb dX13_tellOne_196 (by decide) ?_
    refine c_VI hx hb hml hts hown hK hl.1 hS ⟨Nat.le_refl _, Nat.le_refl _⟩ (met_X13_toldInt l D dA hG hT hps hwo (by omega) 0 1 (by omega) (by omega)) (cw_X13_275 hts ⟨by decide, by decide⟩) (hG 0 _ rfl) rfl rfl rfl rfl (Nat.le_of_ble_eq_true rfl) dX13_tellOne_197 (fun _ h => h) (fun r H1 locs hq hF hS => ?_)
    obtain ⟨rfl, hq⟩ := hq
    obtain ⟨V7, hG, hE7, hps7, hwo7⟩ := hq
    generalize hHe7 : H1 = H at hG hS ⊢
    clear hHe7
    obtain ⟨t7, fo7, he7⟩ : ∃ a b, tiP (kdF ch sz) (plF ch sz) t = (a, b) := ⟨_, _, rfl⟩
    replace hps7 : psM V7 m0 t7 fo7 := by rw [he7] at hps7; exact hps7
    obtain ⟨ft7, hft97, hft7, hfz7⟩ := fo_z hps7.2.2
    have htm7 := hps7.1
    obtain ⟨hk37, hk47, hk57, hk67⟩ := hT.1 t7 htm7
    have hkd97 := kd_lt ch sz t7
    have hb37 := (hT.2.2.2.2.2 t7 htm7).1
    have hb57 := (hT.2.2.2.2.2 t7 htm7).2.1
    replace hfz7 : fzI ft7 fo7 := hfz7
    refine n_iast hx hb hK hG hS 15 (AM_in 15 (by decide)) rfl (by omega) (by decide) dX13_tellOne_200 (fun H locs hG hO hS => ?_)
    refine lv_goto (tgt := 296) hx hb dX13_tellOne_201 (by decide) ?_
    refine hend _ _ _ _ hS dX13_tellOne_296 ?_
    have hsd : sdF V (up2 V7 15 sd (nI (tiV (kdF ch sz) (plF ch sz) (vlF ch sz) 0 t))) sd := by
      refine ⟨fun k hk j hj => ?_, fun k hk j hj => ?_, fun k hk j hj => ?_⟩
      · obtain rfl | rfl | rfl | rfl | rfl := hk
        · exact (hE7 9 j rfl)
        · exact (hE7 13 j rfl)
        · exact (Eq.trans (show up2 _ 15 _ _ 15 _ = _ from up2_n (fun z => by have := z.2; omega)) (hE7 15 j rfl))
        · exact (hE7 16 j rfl)
        · exact (hE7 17 j rfl)
      · obtain rfl | rfl | rfl | rfl := hk
        · exact (hE7 10 j rfl)
        · exact (hE7 11 j rfl)
        · exact (hE7 12 j rfl)
        · exact (hE7 14 j rfl)
      · obtain rfl | rfl := hk
        · exact (hE7 18 j rfl)
        · exact (hE7 19 j rfl)
    have hz20 : ∀ k j, 20 ≤ k → k ≤ 24 → (up2 V7 15 sd (nI (tiV (kdF ch sz) (plF ch sz) (vlF ch sz) 0 t))) k j = V k j := by
      intro k j h1 h2
      obtain rfl | rfl | rfl | rfl | rfl : k = 20 ∨ k = 21 ∨ k = 22 ∨ k = 23 ∨ k = 24 := by omega
      · exact (hE7 20 j rfl)
      · exact (hE7 21 j rfl)
      · exact (hE7 22 j rfl)
      · exact (hE7 23 j rfl)
      · exact (hE7 24 j rfl)
    have hbr2 : brF V (up2 V7 15 sd (nI (tiV (kdF ch sz) (plF ch sz) (vlF ch sz) 0 t))) (130 * sd) := brF_to hz20
    have hlo2 : loF V (up2 V7 15 sd (nI (tiV (kdF ch sz) (plF ch sz) (vlF ch sz) 0 t))) (420 * sd) := loF_same (fun j => (hE7 25 j rfl)) (fun j => (hE7 26 j rfl))
    have hRR : onP (kdF ch sz) (plF ch sz) (vlF ch sz) (nmF ch sz) t wo rs = _ := onP_26 hkq
    rw [he7] at hRR
    have hge := tiP_n he7
    rw [hRR]
    exact ⟨rfl, _, L, b, ce, hG, ((hE7.mono PBd_PTo).up rfl), EqL.rf, (psM_to (V := V7) rfl rfl rfl hps7), (woM_to (V := V7) rfl rfl hwo7), hsd, hbr2, hlo2, fun z => ⟨(Eq.trans (hE7 0 12 rfl) h12), (Eq.trans (hE7 0 33 rfl) h33), (Eq.trans (hE7 0 39 rfl) h39), cb_le hcb hge, by show 4 * b ≤ 4 * (130 * sd) + t7; omega, hb0, hc0, ⟨hn9, (Eq.trans (hE7 9 sd rfl) h9), (fun i hi => Eq.trans (let j := 9 * sd + i; (hE7 10 j rfl)) (h10 i hi)), (fun i hi => Eq.trans (let j := 9 * sd + i; (hE7 11 j rfl)) (h11 i hi)), (fun i hi => Eq.trans (let j := 9 * sd + i; (hE7 12 j rfl)) (h12c i hi)), (show up2 _ 15 _ _ 15 _ = _ from up2_s), (Eq.trans (hE7 16 sd rfl) h16), (Eq.trans (hE7 17 sd rfl) h17), fun k hk => lwR_fr (V1 := (up2 V7 15 sd (nI (tiV (kdF ch sz) (plF ch sz) (vlF ch sz) 0 t)))) (hlw k hk) (let j := 4 * sd + k; (hE7 18 j rfl)) (let j := 4 * sd + k; (hE7 19 j rfl)) (fun k j a c _ _ => hz20 k j a c) (fun j _ _ => ⟨(hE7 25 j rfl), (hE7 26 j rfl)⟩) (Nat.le_refl _) (Nat.le_refl _)⟩, ⟨(Eq.trans (hE7 0 20 rfl) h20), hnm, (fun i hi => ⟨Eq.trans (let j := 9 * sd + i; (hE7 14 j rfl)) (h14 i hi).1, (h14 i hi).2⟩), (Eq.trans (hE7 13 sd rfl) h13), hcn9⟩⟩⟩
  · refine lv_tableIn (tgt := 204) (off := 195) hx hb dX13_tellOne_9 (by rw [hkq]; decide) (by rw [hkq]; decide) (by rw [hkq]; rfl) (by decide) ?_
    refine lv_aload_n hx hb dX13_tellOne_204 rfl (lv_at hl 0 rfl) ?_
    refine g_get hx hb hts hown hK hG 0 rfl rfl ok_X13 29 (by decide) q1500 rfl rfl dX13_tellOne_205 ?_
    refine lv_aload_n hx hb dX13_tellOne_208 rfl (lv_at hl 0 rfl) ?_
    refine g_get (v := .int (nI sd)) hx hb hts hown hK hG 0 rfl rfl ok_X13 19 (by decide) q1490 rfl (congrArg Value.int h19) dX13_tellOne_209 ?_
    refine lv_aload_n hx hb dX13_tellOne_212 rfl (lv_at hl 0 rfl) ?_
    refine lv_iconst (v := (nI 0)) hx hb dX13_tellOne_213 (by decide) ?_
    refine lv_bipush (v := (nI 23)) hx hb dX13_tellOne_214 (by decide) ?_
    refine c_VI hx hb hml hts hown hK hl.1 hS ⟨Nat.le_refl _, Nat.le_refl _⟩ (met_X13_toldInt l D dA hG hT hps hwo (by omega) 0 23 (by omega) (by omega)) (cw_X13_275 hts ⟨by decide, by decide⟩) (hG 0 _ rfl) rfl rfl rfl rfl (Nat.le_of_ble_eq_true rfl) dX13_tellOne_216 (fun _ h => h) (fun r H1 locs hq hF hS => ?_)
    obtain ⟨rfl, hq⟩ := hq
    obtain ⟨V8, hG, hE8, hps8, hwo8⟩ := hq
    generalize hHe8 : H1 = H at hG hS ⊢
    clear hHe8
    obtain ⟨t8, fo8, he8⟩ : ∃ a b, tiP (kdF ch sz) (plF ch sz) t = (a, b) := ⟨_, _, rfl⟩
    replace hps8 : psM V8 m0 t8 fo8 := by rw [he8] at hps8; exact hps8
    obtain ⟨ft8, hft98, hft8, hfz8⟩ := fo_z hps8.2.2
    have htm8 := hps8.1
    obtain ⟨hk38, hk48, hk58, hk68⟩ := hT.1 t8 htm8
    have hkd98 := kd_lt ch sz t8
    have hb38 := (hT.2.2.2.2.2 t8 htm8).1
    have hb58 := (hT.2.2.2.2.2 t8 htm8).2.1
    replace hfz8 : fzI ft8 fo8 := hfz8
    refine n_iast hx hb hK hG hS 16 (AM_in 16 (by decide)) rfl (by omega) (by decide) dX13_tellOne_219 (fun H locs hG hO hS => ?_)
    refine lv_goto (tgt := 296) hx hb dX13_tellOne_220 (by decide) ?_
    refine hend _ _ _ _ hS dX13_tellOne_296 ?_
    have hsd : sdF V (up2 V8 16 sd (nI (tiV (kdF ch sz) (plF ch sz) (vlF ch sz) 0 t))) sd := by
      refine ⟨fun k hk j hj => ?_, fun k hk j hj => ?_, fun k hk j hj => ?_⟩
      · obtain rfl | rfl | rfl | rfl | rfl := hk
        · exact (hE8 9 j rfl)
        · exact (hE8 13 j rfl)
        · exact (hE8 15 j rfl)
        · exact (Eq.trans (show up2 _ 16 _ _ 16 _ = _ from up2_n (fun z => by have := z.2; omega)) (hE8 16 j rfl))
        · exact (hE8 17 j rfl)
      · obtain rfl | rfl | rfl | rfl := hk
        · exact (hE8 10 j rfl)
        · exact (hE8 11 j rfl)
        · exact (hE8 12 j rfl)
        · exact (hE8 14 j rfl)
      · obtain rfl | rfl := hk
        · exact (hE8 18 j rfl)
        · exact (hE8 19 j rfl)
    have hz20 : ∀ k j, 20 ≤ k → k ≤ 24 → (up2 V8 16 sd (nI (tiV (kdF ch sz) (plF ch sz) (vlF ch sz) 0 t))) k j = V k j := by
      intro k j h1 h2
      obtain rfl | rfl | rfl | rfl | rfl : k = 20 ∨ k = 21 ∨ k = 22 ∨ k = 23 ∨ k = 24 := by omega
      · exact (hE8 20 j rfl)
      · exact (hE8 21 j rfl)
      · exact (hE8 22 j rfl)
      · exact (hE8 23 j rfl)
      · exact (hE8 24 j rfl)
    have hbr2 : brF V (up2 V8 16 sd (nI (tiV (kdF ch sz) (plF ch sz) (vlF ch sz) 0 t))) (130 * sd) := brF_to hz20
    have hlo2 : loF V (up2 V8 16 sd (nI (tiV (kdF ch sz) (plF ch sz) (vlF ch sz) 0 t))) (420 * sd) := loF_same (fun j => (hE8 25 j rfl)) (fun j => (hE8 26 j rfl))
    have hRR : onP (kdF ch sz) (plF ch sz) (vlF ch sz) (nmF ch sz) t wo rs = _ := onP_27 hkq
    rw [he8] at hRR
    have hge := tiP_n he8
    rw [hRR]
    exact ⟨rfl, _, L, b, ce, hG, ((hE8.mono PBd_PTo).up rfl), EqL.rf, (psM_to (V := V8) rfl rfl rfl hps8), (woM_to (V := V8) rfl rfl hwo8), hsd, hbr2, hlo2, fun z => ⟨(Eq.trans (hE8 0 12 rfl) h12), (Eq.trans (hE8 0 33 rfl) h33), (Eq.trans (hE8 0 39 rfl) h39), cb_le hcb hge, by show 4 * b ≤ 4 * (130 * sd) + t8; omega, hb0, hc0, ⟨hn9, (Eq.trans (hE8 9 sd rfl) h9), (fun i hi => Eq.trans (let j := 9 * sd + i; (hE8 10 j rfl)) (h10 i hi)), (fun i hi => Eq.trans (let j := 9 * sd + i; (hE8 11 j rfl)) (h11 i hi)), (fun i hi => Eq.trans (let j := 9 * sd + i; (hE8 12 j rfl)) (h12c i hi)), (Eq.trans (hE8 15 sd rfl) h15), (show up2 _ 16 _ _ 16 _ = _ from up2_s), (Eq.trans (hE8 17 sd rfl) h17), fun k hk => lwR_fr (V1 := (up2 V8 16 sd (nI (tiV (kdF ch sz) (plF ch sz) (vlF ch sz) 0 t)))) (hlw k hk) (let j := 4 * sd + k; (hE8 18 j rfl)) (let j := 4 * sd + k; (hE8 19 j rfl)) (fun k j a c _ _ => hz20 k j a c) (fun j _ _ => ⟨(hE8 25 j rfl), (hE8 26 j rfl)⟩) (Nat.le_refl _) (Nat.le_refl _)⟩, ⟨(Eq.trans (hE8 0 20 rfl) h20), hnm, (fun i hi => ⟨Eq.trans (let j := 9 * sd + i; (hE8 14 j rfl)) (h14 i hi).1, (h14 i hi).2⟩), (Eq.trans (hE8 13 sd rfl) h13), hcn9⟩⟩⟩
  · refine lv_tableIn (tgt := 223) (off := 214) hx hb dX13_tellOne_9 (by rw [hkq]; decide) (by rw [hkq]; decide) (by rw [hkq]; rfl) (by decide) ?_
    refine lv_aload_n hx hb dX13_tellOne_223 rfl (lv_at hl 0 rfl) ?_
    refine g_get hx hb hts hown hK hG 0 rfl rfl ok_X13 30 (by decide) q1501 rfl rfl dX13_tellOne_224 ?_
    refine lv_aload_n hx hb dX13_tellOne_227 rfl (lv_at hl 0 rfl) ?_
    refine g_get (v := .int (nI sd)) hx hb hts hown hK hG 0 rfl rfl ok_X13 19 (by decide) q1490 rfl (congrArg Value.int h19) dX13_tellOne_228 ?_
    refine lv_aload_n hx hb dX13_tellOne_231 rfl (lv_at hl 0 rfl) ?_
    refine lv_iconst (v := (nI 0)) hx hb dX13_tellOne_232 (by decide) ?_
    refine lv_sipush (v := (nI 9999)) hx hb dX13_tellOne_233 (by decide) ?_
    refine c_VI hx hb hml hts hown hK hl.1 hS ⟨Nat.le_refl _, Nat.le_refl _⟩ (met_X13_toldInt l D dA hG hT hps hwo (by omega) 0 9999 (by omega) (by omega)) (cw_X13_275 hts ⟨by decide, by decide⟩) (hG 0 _ rfl) rfl rfl rfl rfl (Nat.le_of_ble_eq_true rfl) dX13_tellOne_236 (fun _ h => h) (fun r H1 locs hq hF hS => ?_)
    obtain ⟨rfl, hq⟩ := hq
    obtain ⟨V9, hG, hE9, hps9, hwo9⟩ := hq
    generalize hHe9 : H1 = H at hG hS ⊢
    clear hHe9
    obtain ⟨t9, fo9, he9⟩ : ∃ a b, tiP (kdF ch sz) (plF ch sz) t = (a, b) := ⟨_, _, rfl⟩
    replace hps9 : psM V9 m0 t9 fo9 := by rw [he9] at hps9; exact hps9
    obtain ⟨ft9, hft99, hft9, hfz9⟩ := fo_z hps9.2.2
    have htm9 := hps9.1
    obtain ⟨hk39, hk49, hk59, hk69⟩ := hT.1 t9 htm9
    have hkd99 := kd_lt ch sz t9
    have hb39 := (hT.2.2.2.2.2 t9 htm9).1
    have hb59 := (hT.2.2.2.2.2 t9 htm9).2.1
    replace hfz9 : fzI ft9 fo9 := hfz9
    refine n_iast hx hb hK hG hS 17 (AM_in 17 (by decide)) rfl (by omega) (by decide) dX13_tellOne_239 (fun H locs hG hO hS => ?_)
    refine lv_goto (tgt := 296) hx hb dX13_tellOne_240 (by decide) ?_
    refine hend _ _ _ _ hS dX13_tellOne_296 ?_
    have hsd : sdF V (up2 V9 17 sd (nI (tiV (kdF ch sz) (plF ch sz) (vlF ch sz) 0 t))) sd := by
      refine ⟨fun k hk j hj => ?_, fun k hk j hj => ?_, fun k hk j hj => ?_⟩
      · obtain rfl | rfl | rfl | rfl | rfl := hk
        · exact (hE9 9 j rfl)
        · exact (hE9 13 j rfl)
        · exact (hE9 15 j rfl)
        · exact (hE9 16 j rfl)
        · exact (Eq.trans (show up2 _ 17 _ _ 17 _ = _ from up2_n (fun z => by have := z.2; omega)) (hE9 17 j rfl))
      · obtain rfl | rfl | rfl | rfl := hk
        · exact (hE9 10 j rfl)
        · exact (hE9 11 j rfl)
        · exact (hE9 12 j rfl)
        · exact (hE9 14 j rfl)
      · obtain rfl | rfl := hk
        · exact (hE9 18 j rfl)
        · exact (hE9 19 j rfl)
    have hz20 : ∀ k j, 20 ≤ k → k ≤ 24 → (up2 V9 17 sd (nI (tiV (kdF ch sz) (plF ch sz) (vlF ch sz) 0 t))) k j = V k j := by
      intro k j h1 h2
      obtain rfl | rfl | rfl | rfl | rfl : k = 20 ∨ k = 21 ∨ k = 22 ∨ k = 23 ∨ k = 24 := by omega
      · exact (hE9 20 j rfl)
      · exact (hE9 21 j rfl)
      · exact (hE9 22 j rfl)
      · exact (hE9 23 j rfl)
      · exact (hE9 24 j rfl)
    have hbr2 : brF V (up2 V9 17 sd (nI (tiV (kdF ch sz) (plF ch sz) (vlF ch sz) 0 t))) (130 * sd) := brF_to hz20
    have hlo2 : loF V (up2 V9 17 sd (nI (tiV (kdF ch sz) (plF ch sz) (vlF ch sz) 0 t))) (420 * sd) := loF_same (fun j => (hE9 25 j rfl)) (fun j => (hE9 26 j rfl))
    have hRR : onP (kdF ch sz) (plF ch sz) (vlF ch sz) (nmF ch sz) t wo rs = _ := onP_28 hkq
    rw [he9] at hRR
    have hge := tiP_n he9
    rw [hRR]
    exact ⟨rfl, _, L, b, ce, hG, ((hE9.mono PBd_PTo).up rfl), EqL.rf, (psM_to (V := V9) rfl rfl rfl hps9), (woM_to (V := V9) rfl rfl hwo9), hsd, hbr2, hlo2, fun z => ⟨(Eq.trans (hE9 0 12 rfl) h12), (Eq.trans (hE9 0 33 rfl) h33), (Eq.trans (hE9 0 39 rfl) h39), cb_le hcb hge, by show 4 * b ≤ 4 * (130 * sd) + t9; omega, hb0, hc0, ⟨hn9, (Eq.trans (hE9 9 sd rfl) h9), (fun i hi => Eq.trans (let j := 9 * sd + i; (hE9 10 j rfl)) (h10 i hi)), (fun i hi => Eq.trans (let j := 9 * sd + i; (hE9 11 j rfl)) (h11 i hi)), (fun i hi => Eq.trans (let j := 9 * sd + i; (hE9 12 j rfl)) (h12c i hi)), (Eq.trans (hE9 15 sd rfl) h15), (Eq.trans (hE9 16 sd rfl) h16), (show up2 _ 17 _ _ 17 _ = _ from up2_s), fun k hk => lwR_fr (V1 := (up2 V9 17 sd (nI (tiV (kdF ch sz) (plF ch sz) (vlF ch sz) 0 t)))) (hlw k hk) (let j := 4 * sd + k; (hE9 18 j rfl)) (let j := 4 * sd + k; (hE9 19 j rfl)) (fun k j a c _ _ => hz20 k j a c) (fun j _ _ => ⟨(hE9 25 j rfl), (hE9 26 j rfl)⟩) (Nat.le_refl _) (Nat.le_refl _)⟩, ⟨(Eq.trans (hE9 0 20 rfl) h20), hnm, (fun i hi => ⟨Eq.trans (let j := 9 * sd + i; (hE9 14 j rfl)) (h14 i hi).1, (h14 i hi).2⟩), (Eq.trans (hE9 13 sd rfl) h13), hcn9⟩⟩⟩
  · have hoff : (#[51, 80, 234, 234, 234, 234, 177, 195, 214] : Array Int)[((nI (kdF ch sz t)).toInt - 20).toNat]? = some 234 := by
      obtain h | h | h | h : kdF ch sz t = 22 ∨ kdF ch sz t = 23 ∨ kdF ch sz t = 24 ∨ kdF ch sz t = 25 := by omega
      all_goals (rw [h]; rfl)
    refine lv_tableIn (tgt := 243) (off := 234) hx hb dX13_tellOne_9 (by rw [nI_toInt (by omega)]; omega) (by rw [nI_toInt (by omega)]; omega) hoff (by decide) ?_
    refine lv_aload_n hx hb dX13_tellOne_243 rfl (lv_at hl 0 rfl) ?_
    refine g_get hx hb hts hown hK hG 0 rfl rfl ok_X13 5 (by decide) q1476 rfl rfl dX13_tellOne_244 ?_
    refine lv_aload_n hx hb dX13_tellOne_247 rfl (lv_at hl 0 rfl) ?_
    refine g_get (v := .int (nI t)) hx hb hts hown hK hG 0 rfl rfl ok_X13 11 (by decide) q1482 rfl (congrArg Value.int hps.2.1) dX13_tellOne_248 ?_
    refine n_iald hx hb hK hG 3 rfl (by omega) (by decide) dX13_tellOne_251 ?_
    refine iv (y := (nI (kdF ch sz t))) hk3 ?_
    refine lv_bipush (v := (nI 22)) hx hb dX13_tellOne_252 (by decide) ?_
    refine n_isub hx hb dX13_tellOne_254 (by omega) ?_
    refine lv_istore_n (lv' := [(1, .int (nI ((kdF ch sz t) - 22))), (0, .ref o)]) hx hb dX13_tellOne_255 rfl hl (by decide) rfl (fun ls hl => ?_)
    refine lv_iload_n hx hb dX13_tellOne_256 rfl (lv_at hl 0 rfl) ?_
    refine n_if_lt (tgt := 274) hx hb dX13_tellOne_257 (by decide) (by omega) ?_
    refine lv_aload_n hx hb dX13_tellOne_260 rfl (lv_at hl 1 rfl) ?_
    refine g_get hx hb hts hown hK hG 0 rfl rfl ok_X13 5 (by decide) q1476 rfl rfl dX13_tellOne_261 ?_
    refine lv_aload_n hx hb dX13_tellOne_264 rfl (lv_at hl 1 rfl) ?_
    refine g_get (v := .int (nI t)) hx hb hts hown hK hG 0 rfl rfl ok_X13 11 (by decide) q1482 rfl (congrArg Value.int hps.2.1) dX13_tellOne_265 ?_
    refine n_iald hx hb hK hG 3 rfl (by omega) (by decide) dX13_tellOne_268 ?_
    refine iv (y := (nI (kdF ch sz t))) hk3 ?_
    refine lv_bipush (v := (nI 25)) hx hb dX13_tellOne_269 (by decide) ?_
    refine n_icmp_le (tgt := 279) hx hb dX13_tellOne_271 (by decide) (by omega) (by omega) (fun c271 => ?_) (fun c271 => ?_)
    · refine lv_aload_n hx hb dX13_tellOne_279 rfl (lv_at hl 1 rfl) ?_
      refine g_get (v := .int (nI ft)) hx hb hts hown hK hG 0 rfl rfl ok_X13 13 (by decide) q1484 rfl (congrArg Value.int hft) dX13_tellOne_280 ?_
      refine n_if_le (tgt := 287) hx hb dX13_tellOne_283 (by decide) (by omega) (fun c283 => ?_) (fun c283 => ?_)
      · refine lv_aload_n hx hb dX13_tellOne_287 rfl (lv_at hl 1 rfl) ?_
        refine c_VV hx hb hml hts hown hK hl.1 hS ⟨Nat.le_refl _, Nat.le_refl _⟩ (met_X13_goesOn l D dA hG hT hps (by omega)) (cw_X13_221 hts ⟨by decide, by decide⟩) (hG 0 _ rfl) rfl rfl rfl rfl (Nat.le_of_ble_eq_true rfl) dX13_tellOne_288 (fun _ h => h) (fun H1 locs hq hF hS => ?_)
        obtain ⟨V10, hG, hE10, hps10⟩ := hq
        generalize hHe10 : H1 = H at hG hS ⊢
        clear hHe10
        obtain ⟨t10, fo10, he10⟩ : ∃ a b, goP (plF ch sz) t none = (a, b) := ⟨_, _, rfl⟩
        replace hps10 : psM V10 m0 t10 fo10 := by rw [he10] at hps10; exact hps10
        obtain ⟨ft10, hft910, hft10, hfz10⟩ := fo_z hps10.2.2
        have htm10 := hps10.1
        obtain ⟨hk310, hk410, hk510, hk610⟩ := hT.1 t10 htm10
        have hkd910 := kd_lt ch sz t10
        have hb310 := (hT.2.2.2.2.2 t10 htm10).1
        have hb510 := (hT.2.2.2.2.2 t10 htm10).2.1
        replace hfz10 : fzI ft10 fo10 := hfz10
        refine lv_aload_n hx hb dX13_tellOne_291 rfl (lv_at hl 1 rfl) ?_
        refine lv_iload_n hx hb dX13_tellOne_292 rfl (lv_at hl 0 rfl) ?_
        refine c_VV hx hb hml hts hown hK hl.1 hS ⟨Nat.le_refl _, Nat.le_refl _⟩ (met_X13_tellLaw l D dA hG (tkOK_to (V := V) (fun j => (hE10 3 j rfl)) (fun j => (hE10 4 j rfl)) (fun j => (hE10 5 j rfl)) hT) hps10 (Eq.trans (hE10 0 19 rfl) h19) hsd9 (by omega) (Eq.trans (hE10 0 33 rfl) h33) (Eq.trans (hE10 0 39 rfl) h39) (Eq.trans (hE10 0 12 rfl) h12) (cm := 420 * sd + 420) (bs := 130 * sd) ⟨by omega, by omega, fun z => by omega⟩ (cbM_go hcb he10) (fun z => by have := (goP_f he10).2.2 z; omega) (by omega) (by omega) (fun z => by omega)) (cw_X13_278 hts ⟨by decide, by decide⟩) (hG 0 _ rfl) rfl rfl rfl rfl (Nat.le_of_ble_eq_true rfl) dX13_tellOne_293 (fun _ h => h) (fun H1 locs hq hF hS => ?_)
        obtain ⟨V11, b11, ce11, o11, hG, hE11, hps11, h1211, h3311, h3911, hbr11, hlo11, hno11, hok11⟩ := hq
        generalize hHe11 : H1 = H at hG hS ⊢
        clear hHe11
        refine hend _ _ _ _ hS dX13_tellOne_296 ?_
        have hRR : onP (kdF ch sz) (plF ch sz) (vlF ch sz) (nmF ch sz) t wo rs = _ := onP_22 hkq
        rw [he10] at hRR
        have h1819 : atM V V11 18 (4 * sd + (kdF ch sz t - 22)) ∧ atM V V11 19 (4 * sd + (kdF ch sz t - 22)) := by
          rcases lwP_c (kd := kdF ch sz) (pl := plF ch sz) (vl := vlF ch sz) (t := t10) (fo := fo10) with ⟨_, wl, hwl⟩ | ⟨_, hwl⟩
          · obtain ⟨_, _, _, _, _, _, g1, g2, _⟩ := hok11 wl hwl
            exact ⟨fun j hj => (g1 j hj).trans (hE10 18 j rfl), fun j hj => (g2 j hj).trans (hE10 19 j rfl)⟩
          · exact ⟨fun j hj => ((hno11 hwl).1 j).trans (hE10 18 j rfl), fun j hj => ((hno11 hwl).2 j).trans (hE10 19 j rfl)⟩
        have hz20 : ∀ k j, 20 ≤ k → k ≤ 24 → V10 k j = V k j := by
          intro k j h1 h2
          obtain rfl | rfl | rfl | rfl | rfl : k = 20 ∨ k = 21 ∨ k = 22 ∨ k = 23 ∨ k = 24 := by omega
          · exact (hE10 20 j rfl)
          · exact (hE10 21 j rfl)
          · exact (hE10 22 j rfl)
          · exact (hE10 23 j rfl)
          · exact (hE10 24 j rfl)
        have hbrB : brF V V11 b := brF.trans (brF_to hz20) hbr11
        have hloB : loF V V11 ce := loF.trans (loF_same (fun j => (hE10 25 j rfl)) (fun j => (hE10 26 j rfl))) hlo11
        have hbr2 : brF V V11 (130 * sd) := brF_mono hb0 (fun z => by omega) hbrB
        have hlo2 : loF V V11 (420 * sd) := loF_mono hc0 (fun z => by omega) hloB
        have hsd : sdF V V11 sd := by
          refine ⟨fun k hk j hj => ?_, fun k hk j hj => ?_, fun k hk j hj => ?_⟩
          · obtain rfl | rfl | rfl | rfl | rfl := hk
            · exact (Eq.trans (hE11 9 j rfl) (hE10 9 j rfl))
            · exact (Eq.trans (hE11 13 j rfl) (hE10 13 j rfl))
            · exact (Eq.trans (hE11 15 j rfl) (hE10 15 j rfl))
            · exact (Eq.trans (hE11 16 j rfl) (hE10 16 j rfl))
            · exact (Eq.trans (hE11 17 j rfl) (hE10 17 j rfl))
          · obtain rfl | rfl | rfl | rfl := hk
            · exact (Eq.trans (hE11 10 j rfl) (hE10 10 j rfl))
            · exact (Eq.trans (hE11 11 j rfl) (hE10 11 j rfl))
            · exact (Eq.trans (hE11 12 j rfl) (hE10 12 j rfl))
            · exact (Eq.trans (hE11 14 j rfl) (hE10 14 j rfl))
          · obtain rfl | rfl := hk
            · exact (h1819.1 j (by omega))
            · exact (h1819.2 j (by omega))
        have hcond : (lwP (kdF ch sz) (plF ch sz) (vlF ch sz) t10 fo10).2.1 = none → V11 0 12 = nI 0 ∧ V11 0 33 = nI b11 ∧ V11 0 39 = nI ce11 ∧ cbM (420 * sd + 420) ce11 (lwP (kdF ch sz) (plF ch sz) (vlF ch sz) t10 fo10).1 none ∧ 4 * b11 ≤ 4 * (130 * sd) + (lwP (kdF ch sz) (plF ch sz) (vlF ch sz) t10 fo10).1 ∧ 130 * sd ≤ b11 ∧ 420 * sd ≤ ce11 ∧ rsS V11 sd b11 ce11 (lwS rs (kdF ch sz t - 22) (lwP (kdF ch sz) (plF ch sz) (vlF ch sz) t10 fo10).2.2) ∧ rsN V11 L sd (lwS rs (kdF ch sz t - 22) (lwP (kdF ch sz) (plF ch sz) (vlF ch sz) t10 fo10).2.2) := fun z => by
          rcases lwP_c (kd := kdF ch sz) (pl := plF ch sz) (vl := vlF ch sz) (t := t10) (fo := fo10) with ⟨_, wl, hwl⟩ | ⟨hz, _⟩
          · obtain ⟨k1, k2, k3, k4, k5, k6, _, _, k7, k8⟩ := hok11 wl hwl
            subst k1
            refine ⟨h1211, h3311, h3911, k2, k3, by omega, by omega, ⟨hn9, (Eq.trans ((hE11 9 sd rfl).trans (hE10 9 sd rfl)) h9), (fun i hi => Eq.trans (let j := 9 * sd + i; (Eq.trans (hE11 10 j rfl) (hE10 10 j rfl))) (h10 i hi)), (fun i hi => Eq.trans (let j := 9 * sd + i; (Eq.trans (hE11 11 j rfl) (hE10 11 j rfl))) (h11 i hi)), (fun i hi => Eq.trans (let j := 9 * sd + i; (Eq.trans (hE11 12 j rfl) (hE10 12 j rfl))) (h12c i hi)), (Eq.trans ((hE11 15 sd rfl).trans (hE10 15 sd rfl)) h15), (Eq.trans ((hE11 16 sd rfl).trans (hE10 16 sd rfl)) h16), (Eq.trans ((hE11 17 sd rfl).trans (hE10 17 sd rfl)) h17), fun k hk => ?_⟩, ⟨(Eq.trans ((hE11 0 20 rfl).trans (hE10 0 20 rfl)) h20), hnm, (fun i hi => ⟨Eq.trans (let j := 9 * sd + i; (Eq.trans (hE11 14 j rfl) (hE10 14 j rfl))) (h14 i hi).1, (h14 i hi).2⟩), (Eq.trans ((hE11 13 sd rfl).trans (hE10 13 sd rfl)) h13), hcn9⟩⟩
            show lwR V11 sd k b11 ce11 (va_up (rLw rs) (kdF ch sz t - 22) (lwP (kdF ch sz) (plF ch sz) (vlF ch sz) t10 fo10).2.2 k)
            rw [hwl]
            exact lw_new hlw k5 k6 k7 k8 h1819.1 h1819.2 hbrB hloB hb0 hc0 k4 k hk
          · exact absurd z hz
        rw [hRR]
        exact ⟨rfl, _, L, b11, ce11, hG, ((hE10.mono PGo_PTo).trans (hE11.mono PLw_PTo)), EqL.rf, hps11, (woM_to (V := V) (Eq.trans (hE11 0 15 rfl) (hE10 0 15 rfl)) (Eq.trans (hE11 0 16 rfl) (hE10 0 16 rfl)) hwo), hsd, hbr2, hlo2, hcond⟩
      · exact absurd (hfz.mpr rfl) (by omega)
    · omega
  · refine lv_tableOut (tgt := 243) hx hb dX13_tellOne_9 (by rw [nI_toInt (by omega)]; omega) (by decide) ?_
    refine lv_aload_n hx hb dX13_tellOne_243 rfl (lv_at hl 0 rfl) ?_
    refine g_get hx hb hts hown hK hG 0 rfl rfl ok_X13 5 (by decide) q1476 rfl rfl dX13_tellOne_244 ?_
    refine lv_aload_n hx hb dX13_tellOne_247 rfl (lv_at hl 0 rfl) ?_
    refine g_get (v := .int (nI t)) hx hb hts hown hK hG 0 rfl rfl ok_X13 11 (by decide) q1482 rfl (congrArg Value.int hps.2.1) dX13_tellOne_248 ?_
    refine n_iald hx hb hK hG 3 rfl (by omega) (by decide) dX13_tellOne_251 ?_
    refine iv (y := (nI (kdF ch sz t))) hk3 ?_
    refine lv_bipush (v := (nI 22)) hx hb dX13_tellOne_252 (by decide) ?_
    refine lv_isub hx hb dX13_tellOne_254 ?_
    refine lv_istore_n (lv' := [(1, .int (nI (kdF ch sz t) - nI 22)), (0, .ref o)]) hx hb dX13_tellOne_255 rfl hl (by decide) rfl (fun ls hl => ?_)
    refine lv_iload_n hx hb dX13_tellOne_256 rfl (lv_at hl 0 rfl) ?_
    refine lv_if_lt (tgt := 274) hx hb dX13_tellOne_257 (by decide) (fun c257 => ?_) (fun c257 => ?_)
    · refine lv_aload_n hx hb dX13_tellOne_274 rfl (lv_at hl 1 rfl) ?_
      refine lv_iconst (v := (nI 1)) hx hb dX13_tellOne_275 (by decide) ?_
      refine c_VV hx hb hml hts hown hK hl.1 hS ⟨Nat.le_refl _, Nat.le_refl _⟩ (met_X13_fail l D dA hG hT hps 1 (by omega) (by omega)) (cw_X13_215 hts ⟨by decide, by decide⟩) (hG 0 _ rfl) rfl rfl rfl rfl (Nat.le_of_ble_eq_true rfl) dX13_tellOne_276 (fun _ h => h) (fun H1 locs hq hF hS => ?_)
      obtain ⟨V12, hG, hE12, hps12⟩ := hq
      generalize hHe12 : H1 = H at hG hS ⊢
      clear hHe12
      obtain ⟨fo12, he12⟩ : ∃ a, flP none 1 (plF ch sz t) = a := ⟨_, rfl⟩
      replace hps12 : psM V12 m0 t fo12 := by rw [he12] at hps12; exact hps12
      obtain ⟨ft12, hft912, hft12, hfz12⟩ := fo_z hps12.2.2
      have htm12 := hps12.1
      obtain ⟨hk312, hk412, hk512, hk612⟩ := hT.1 t htm12
      have hkd912 := kd_lt ch sz t
      have hb312 := (hT.2.2.2.2.2 t htm12).1
      have hb512 := (hT.2.2.2.2.2 t htm12).2.1
      replace hfz12 : fzI ft12 fo12 := hfz12
      refine lv_aload_n hx hb dX13_tellOne_279 rfl (lv_at hl 1 rfl) ?_
      refine g_get (v := .int (nI ft12)) hx hb hts hown hK hG 0 rfl rfl ok_X13 13 (by decide) q1484 rfl (congrArg Value.int hft12) dX13_tellOne_280 ?_
      refine n_if_le (tgt := 287) hx hb dX13_tellOne_283 (by decide) (by omega) (fun c283 => ?_) (fun c283 => ?_)
      · exact absurd (hfz12.mp (by omega)) (he12 ▸ flP_s)
      · refine hend _ _ _ _ hS dX13_tellOne_286 ?_
        have hsd : sdF V V12 sd := by
          refine ⟨fun k hk j hj => ?_, fun k hk j hj => ?_, fun k hk j hj => ?_⟩
          · obtain rfl | rfl | rfl | rfl | rfl := hk
            · exact (hE12 9 j rfl)
            · exact (hE12 13 j rfl)
            · exact (hE12 15 j rfl)
            · exact (hE12 16 j rfl)
            · exact (hE12 17 j rfl)
          · obtain rfl | rfl | rfl | rfl := hk
            · exact (hE12 10 j rfl)
            · exact (hE12 11 j rfl)
            · exact (hE12 12 j rfl)
            · exact (hE12 14 j rfl)
          · obtain rfl | rfl := hk
            · exact (hE12 18 j rfl)
            · exact (hE12 19 j rfl)
        have hz20 : ∀ k j, 20 ≤ k → k ≤ 24 → V12 k j = V k j := by
          intro k j h1 h2
          obtain rfl | rfl | rfl | rfl | rfl : k = 20 ∨ k = 21 ∨ k = 22 ∨ k = 23 ∨ k = 24 := by omega
          · exact (hE12 20 j rfl)
          · exact (hE12 21 j rfl)
          · exact (hE12 22 j rfl)
          · exact (hE12 23 j rfl)
          · exact (hE12 24 j rfl)
        have hbr2 : brF V V12 (130 * sd) := brF_to hz20
        have hlo2 : loF V V12 (420 * sd) := loF_same (fun j => (hE12 25 j rfl)) (fun j => (hE12 26 j rfl))
        have hRR : onP (kdF ch sz) (plF ch sz) (vlF ch sz) (nmF ch sz) t wo rs = (t, some (1, plF ch sz t), wo, rs) := onP_o (by omega)
        obtain rfl : some (1, plF ch sz t) = fo12 := he12
        rw [hRR]
        exact ⟨rfl, _, L, b, ce, hG, (hE12.mono PFl_PTo), EqL.rf, hps12, (woM_to (V := V) (hE12 0 15 rfl) (hE12 0 16 rfl) hwo), hsd, hbr2, hlo2, fun z => nomatch z⟩
    · exact absurd (by rw [Int32.lt_iff_toInt_lt, pk_sub_toInt (by omega) (by omega)]; have e0 : (0 : Int32).toInt = 0 := rfl; omega) c257
  · refine lv_tableOut (tgt := 243) hx hb dX13_tellOne_9 (by rw [nI_toInt (by omega)]; omega) (by decide) ?_
    refine lv_aload_n hx hb dX13_tellOne_243 rfl (lv_at hl 0 rfl) ?_
    refine g_get hx hb hts hown hK hG 0 rfl rfl ok_X13 5 (by decide) q1476 rfl rfl dX13_tellOne_244 ?_
    refine lv_aload_n hx hb dX13_tellOne_247 rfl (lv_at hl 0 rfl) ?_
    refine g_get (v := .int (nI t)) hx hb hts hown hK hG 0 rfl rfl ok_X13 11 (by decide) q1482 rfl (congrArg Value.int hps.2.1) dX13_tellOne_248 ?_
    refine n_iald hx hb hK hG 3 rfl (by omega) (by decide) dX13_tellOne_251 ?_
    refine iv (y := (nI (kdF ch sz t))) hk3 ?_
    refine lv_bipush (v := (nI 22)) hx hb dX13_tellOne_252 (by decide) ?_
    refine n_isub hx hb dX13_tellOne_254 (by omega) ?_
    refine lv_istore_n (lv' := [(1, .int (nI ((kdF ch sz t) - 22))), (0, .ref o)]) hx hb dX13_tellOne_255 rfl hl (by decide) rfl (fun ls hl => ?_)
    refine lv_iload_n hx hb dX13_tellOne_256 rfl (lv_at hl 0 rfl) ?_
    refine n_if_lt (tgt := 274) hx hb dX13_tellOne_257 (by decide) (by omega) ?_
    refine lv_aload_n hx hb dX13_tellOne_260 rfl (lv_at hl 1 rfl) ?_
    refine g_get hx hb hts hown hK hG 0 rfl rfl ok_X13 5 (by decide) q1476 rfl rfl dX13_tellOne_261 ?_
    refine lv_aload_n hx hb dX13_tellOne_264 rfl (lv_at hl 1 rfl) ?_
    refine g_get (v := .int (nI t)) hx hb hts hown hK hG 0 rfl rfl ok_X13 11 (by decide) q1482 rfl (congrArg Value.int hps.2.1) dX13_tellOne_265 ?_
    refine n_iald hx hb hK hG 3 rfl (by omega) (by decide) dX13_tellOne_268 ?_
    refine iv (y := (nI (kdF ch sz t))) hk3 ?_
    refine lv_bipush (v := (nI 25)) hx hb dX13_tellOne_269 (by decide) ?_
    refine n_icmp_le (tgt := 279) hx hb dX13_tellOne_271 (by decide) (by omega) (by omega) (fun c271 => ?_) (fun c271 => ?_)
    · omega
    · refine lv_aload_n hx hb dX13_tellOne_274 rfl (lv_at hl 1 rfl) ?_
      refine lv_iconst (v := (nI 1)) hx hb dX13_tellOne_275 (by decide) ?_
      refine c_VV hx hb hml hts hown hK hl.1 hS ⟨Nat.le_refl _, Nat.le_refl _⟩ (met_X13_fail l D dA hG hT hps 1 (by omega) (by omega)) (cw_X13_215 hts ⟨by decide, by decide⟩) (hG 0 _ rfl) rfl rfl rfl rfl (Nat.le_of_ble_eq_true rfl) dX13_tellOne_276 (fun _ h => h) (fun H1 locs hq hF hS => ?_)
      obtain ⟨V13, hG, hE13, hps13⟩ := hq
      generalize hHe13 : H1 = H at hG hS ⊢
      clear hHe13
      obtain ⟨fo13, he13⟩ : ∃ a, flP none 1 (plF ch sz t) = a := ⟨_, rfl⟩
      replace hps13 : psM V13 m0 t fo13 := by rw [he13] at hps13; exact hps13
      obtain ⟨ft13, hft913, hft13, hfz13⟩ := fo_z hps13.2.2
      have htm13 := hps13.1
      obtain ⟨hk313, hk413, hk513, hk613⟩ := hT.1 t htm13
      have hkd913 := kd_lt ch sz t
      have hb313 := (hT.2.2.2.2.2 t htm13).1
      have hb513 := (hT.2.2.2.2.2 t htm13).2.1
      replace hfz13 : fzI ft13 fo13 := hfz13
      refine lv_aload_n hx hb dX13_tellOne_279 rfl (lv_at hl 1 rfl) ?_
      refine g_get (v := .int (nI ft13)) hx hb hts hown hK hG 0 rfl rfl ok_X13 13 (by decide) q1484 rfl (congrArg Value.int hft13) dX13_tellOne_280 ?_
      refine n_if_le (tgt := 287) hx hb dX13_tellOne_283 (by decide) (by omega) (fun c283 => ?_) (fun c283 => ?_)
      · exact absurd (hfz13.mp (by omega)) (he13 ▸ flP_s)
      · refine hend _ _ _ _ hS dX13_tellOne_286 ?_
        have hsd : sdF V V13 sd := by
          refine ⟨fun k hk j hj => ?_, fun k hk j hj => ?_, fun k hk j hj => ?_⟩
          · obtain rfl | rfl | rfl | rfl | rfl := hk
            · exact (hE13 9 j rfl)
            · exact (hE13 13 j rfl)
            · exact (hE13 15 j rfl)
            · exact (hE13 16 j rfl)
            · exact (hE13 17 j rfl)
          · obtain rfl | rfl | rfl | rfl := hk
            · exact (hE13 10 j rfl)
            · exact (hE13 11 j rfl)
            · exact (hE13 12 j rfl)
            · exact (hE13 14 j rfl)
          · obtain rfl | rfl := hk
            · exact (hE13 18 j rfl)
            · exact (hE13 19 j rfl)
        have hz20 : ∀ k j, 20 ≤ k → k ≤ 24 → V13 k j = V k j := by
          intro k j h1 h2
          obtain rfl | rfl | rfl | rfl | rfl : k = 20 ∨ k = 21 ∨ k = 22 ∨ k = 23 ∨ k = 24 := by omega
          · exact (hE13 20 j rfl)
          · exact (hE13 21 j rfl)
          · exact (hE13 22 j rfl)
          · exact (hE13 23 j rfl)
          · exact (hE13 24 j rfl)
        have hbr2 : brF V V13 (130 * sd) := brF_to hz20
        have hlo2 : loF V V13 (420 * sd) := loF_same (fun j => (hE13 25 j rfl)) (fun j => (hE13 26 j rfl))
        have hRR : onP (kdF ch sz) (plF ch sz) (vlF ch sz) (nmF ch sz) t wo rs = (t, some (1, plF ch sz t), wo, rs) := onP_o (by omega)
        obtain rfl : some (1, plF ch sz t) = fo13 := he13
        rw [hRR]
        exact ⟨rfl, _, L, b, ce, hG, (hE13.mono PFl_PTo), EqL.rf, hps13, (woM_to (V := V) (hE13 0 15 rfl) (hE13 0 16 rfl) hwo), hsd, hbr2, hlo2, fun z => nomatch z⟩
