def PRt (k _ : Nat) : Bool := k == 2
def PRp (k j : Nat) : Bool := k == 2 || k == 3 || k == 4 || k == 5 || (k == 0 && (j == 2 || j == 4 || j == 10 || j == 11 || j == 12 || j == 13 || j == 15 || j == 19 || j == 20))
def PRf (k j : Nat) : Bool := k == 2 || k == 3 || k == 4 || k == 5 || k == 9 || k == 10 || k == 11 || k == 12 || k == 13 || k == 14 || k == 15 || k == 16 || k == 17 || k == 18 || k == 19 || k == 20 || k == 21 || k == 22 || k == 23 || k == 24 || k == 25 || k == 26 || k == 27 || (k == 0 && (j == 2 || j == 4 || j == 10 || j == 11 || j == 12 || j == 13 || j == 14 || j == 15 || j == 16 || j == 17 || j == 19 || j == 20 || j == 33 || j == 39 || j == 43))
def PRs (k j : Nat) : Bool := k == 2 || k == 3 || k == 4 || k == 5 || k == 9 || k == 10 || k == 11 || k == 12 || k == 13 || k == 14 || k == 15 || k == 16 || k == 17 || k == 18 || k == 19 || k == 20 || k == 21 || k == 22 || k == 23 || k == 24 || k == 25 || k == 26 || k == 27 || k == 30 || k == 31 || k == 42 || (k == 0 && (j == 2 || j == 4 || j == 10 || j == 11 || j == 12 || j == 13 || j == 14 || j == 15 || j == 16 || j == 17 || j == 18 || j == 19 || j == 20 || j == 33 || j == 39 || j == 43 || j == 49 || j == 50 || j == 53 || j == 58))
theorem PRt_PRp : ∀ k j, PRp k j = false → PRt k j = false := by intro k j h; simp only [PRt, PRp, Bool.or_eq_false_iff, Bool.and_eq_false_iff, beq_eq_false_iff_ne, ne_eq] at *; omega
theorem PTk_PRp : ∀ k j, PRp k j = false → PTk k j = false := by intro k j h; simp only [PTk, PRp, Bool.or_eq_false_iff, Bool.and_eq_false_iff, beq_eq_false_iff_ne, ne_eq] at *; omega
theorem PRt_PRf : ∀ k j, PRf k j = false → PRt k j = false := by intro k j h; simp only [PRt, PRf, Bool.or_eq_false_iff, Bool.and_eq_false_iff, beq_eq_false_iff_ne, ne_eq] at *; omega
theorem PTk_PRf : ∀ k j, PRf k j = false → PTk k j = false := by intro k j h; simp only [PTk, PRf, Bool.or_eq_false_iff, Bool.and_eq_false_iff, beq_eq_false_iff_ne, ne_eq] at *; omega
theorem PPl_PRf : ∀ k j, PRf k j = false → PPl k j = false := by intro k j h; simp only [PPl, PRf, Bool.or_eq_false_iff, Bool.and_eq_false_iff, beq_eq_false_iff_ne, ne_eq] at *; omega
theorem PTo_PRf : ∀ k j, PRf k j = false → PTo k j = false := by intro k j h; simp only [PTo, PRf, Bool.or_eq_false_iff, Bool.and_eq_false_iff, beq_eq_false_iff_ne, ne_eq] at *; omega
theorem PWo_PRf : ∀ k j, PRf k j = false → PWo k j = false := by intro k j h; simp only [PWo, PRf, Bool.or_eq_false_iff, Bool.and_eq_false_iff, beq_eq_false_iff_ne, ne_eq] at *; omega
theorem PRf_PRs : ∀ k j, PRs k j = false → PRf k j = false := by intro k j h; simp only [PRf, PRs, Bool.or_eq_false_iff, Bool.and_eq_false_iff, beq_eq_false_iff_ne, ne_eq] at *; omega
theorem PRt_PRs : ∀ k j, PRs k j = false → PRt k j = false := by intro k j h; simp only [PRt, PRs, Bool.or_eq_false_iff, Bool.and_eq_false_iff, beq_eq_false_iff_ne, ne_eq] at *; omega
theorem PTk_PRs : ∀ k j, PRs k j = false → PTk k j = false := by intro k j h; simp only [PTk, PRs, Bool.or_eq_false_iff, Bool.and_eq_false_iff, beq_eq_false_iff_ne, ne_eq] at *; omega
theorem PPl_PRs : ∀ k j, PRs k j = false → PPl k j = false := by intro k j h; simp only [PPl, PRs, Bool.or_eq_false_iff, Bool.and_eq_false_iff, beq_eq_false_iff_ne, ne_eq] at *; omega
theorem PTo_PRs : ∀ k j, PRs k j = false → PTo k j = false := by intro k j h; simp only [PTo, PRs, Bool.or_eq_false_iff, Bool.and_eq_false_iff, beq_eq_false_iff_ne, ne_eq] at *; omega
theorem PWo_PRs : ∀ k j, PRs k j = false → PWo k j = false := by intro k j h; simp only [PWo, PRs, Bool.or_eq_false_iff, Bool.and_eq_false_iff, beq_eq_false_iff_ne, ne_eq] at *; omega
theorem PC_PRs : ∀ k j, PRs k j = false → PC k j = false := by intro k j h; simp only [PC, PRs, Bool.or_eq_false_iff, Bool.and_eq_false_iff, beq_eq_false_iff_ne, ne_eq] at *; omega
theorem PN_PRs : ∀ k j, PRs k j = false → PN k j = false := by intro k j h; simp only [PN, PRs, Bool.or_eq_false_iff, Bool.and_eq_false_iff, beq_eq_false_iff_ne, ne_eq] at *; omega
/-! a text read -/
def rs0 : Rs := (0, fun _ => 0, fun _ => 0, fun _ => 0, fun _ => 0, fun _ => 0, 0, 0, 0, 0, fun _ => none)
def rdL (kd pl vl nm : Nat → Nat) : Nat → Nat → Fo → Fo → Rs → Nat × Fo × Fo × Rs
  | 0, t, fo, wo, r => (t, fo, wo, r)
  | u + 1, t, fo, wo, r => if fo = none ∧ kd t ≠ 0 then rdL kd pl vl nm u (onP kd pl vl nm t wo r).1 (onP kd pl vl nm t wo r).2.1 (onP kd pl vl nm t wo r).2.2.1 (onP kd pl vl nm t wo r).2.2.2 else (t, fo, wo, r)
def rdX (kd pl vl nm : Nat → Nat) : Nat × Fo × Fo × Rs := rdL kd pl vl nm 402 0 none none rs0
/-- what is wrong: number, place -/
def rdF (kd pl vl nm : Nat → Nat) : Fo := match (rdX kd pl vl nm).2.1 with
  | some q => some q
  | none => if abA (rHc (rdX kd pl vl nm).2.2.2) (rN (rdX kd pl vl nm).2.2.2) = true then (rdX kd pl vl nm).2.2.1 else woP none (rdX kd pl vl nm).2.2.1 6 (pl (rdX kd pl vl nm).1)
def rdT (kd pl vl nm : Nat → Nat) : Rs := (rdX kd pl vl nm).2.2.2
theorem rdL_0 {kd pl vl nm : Nat → Nat} {u t : Nat} {fo wo : Fo} {r : Rs} (h : ¬ (fo = none ∧ kd t ≠ 0)) : rdL kd pl vl nm u t fo wo r = (t, fo, wo, r) := by
  cases u with
  | zero => rfl
  | succ u => rw [rdL, if_neg h]
theorem rdL_1 {kd pl vl nm : Nat → Nat} {u t t1 : Nat} {fo1 wo wo1 : Fo} {r r1 : Rs} (h : kd t ≠ 0) (h1 : onP kd pl vl nm t wo r = (t1, fo1, wo1, r1)) : rdL kd pl vl nm (u + 1) t none wo r = rdL kd pl vl nm u t1 fo1 wo1 r1 := by
  rw [rdL, if_pos ⟨rfl, h⟩, h1]
/-- the row as a text begins -/
def bgF (t : Txt) : Rw := fun j => if j < xN t then xF t j else if 9 ≤ j ∧ j < 9 + xN t then xH t (j - 9) else if 18 ≤ j ∧ j < 18 + xN t then nI (j - 18) else if j = 45 then xB t else nI 0
def rdQ (V V1 : GI) (lv b ce : Nat) (rs : Rs) (F : Fo) (T : Rs) (r : Int32) : Prop := match F with
  | some q => r = nI q.1 ∧ 0 < q.1 ∧ q.1 < 10 ∧ V1 0 17 = nI q.2 ∧ Eqx PRf V V1 ∧ rsS V1 lv b ce rs
  | none => r = nI 0 ∧ V1 0 17 = -1 ∧ V1 0 18 = nI (1 - lv) ∧ (∃ b1 ce1, rsS V1 (1 - lv) b1 ce1 T ∧ b1 ≤ 130 * (1 - lv) + 130 ∧ ce1 ≤ 420 * (1 - lv) + 420) ∧ (∀ j, j < 48 → V1 30 j = bgF (txR T) j) ∧ V1 0 53 = nI 0 ∧ V1 0 58 = nI 0 ∧ (∀ s, s < 3 → V1 42 s = nI 0) ∧ Eqx PRs V V1
theorem tkOK_L {V : GI} {L L1 : GL} {ch : Nat → Nat} {sz m : Nat} (h6 : ∀ j, L1 6 j = L 6 j) (h : tkOK V L ch sz m) : tkOK V L1 ch sz m :=
  ⟨fun j hj => by obtain ⟨a, b, c, d⟩ := h.1 j hj; exact ⟨a, b, c, (h6 j).trans d⟩, h.2⟩
theorem tk_ok {V : GI} {L : GL} {tp : List Int32} {m : Nat} (htp : tp.length ≤ 2000) (hm : m ≤ 401) (hT : tkM V L (chT tp) tp.length m) (hne : ∀ j, j + 1 < m → kdF (chT tp) tp.length j ≠ 0) (he : (m = 401 ∧ kdF (chT tp) tp.length 400 ≠ 0) ∨ (kdF (chT tp) tp.length (m - 1) = 0 ∧ 0 < m)) : tkOK V L (chT tp) tp.length m :=
  ⟨hT, by omega, hm, hne, by omega, fun j hj => ⟨Nat.le_trans (pl_le hne hj) htp, (vl_lt (chT_lt tp) j).1, (vl_lt (chT_lt tp) j).2⟩⟩
theorem pl_S {V V1 : GI} {sd b ce : Nat} (h : ∀ k j, 9 ≤ k → V1 k j = plZ V sd 9 4 k j) : rsS V1 sd b ce rs0 := by
  have e1 : ∀ k, (k = 9 ∨ k = 13 ∨ k = 15 ∨ k = 16 ∨ k = 17) → V1 k sd = nI 0 := fun k hk => by
    rw [h _ _ (by omega), plZ, if_pos ⟨hk, rfl⟩]
  refine ⟨Nat.zero_le _, e1 9 (by decide), fun i hi => absurd hi (Nat.not_lt_zero _), fun i hi => absurd hi (Nat.not_lt_zero _), fun i hi => ?_, e1 15 (by decide), e1 16 (by decide), e1 17 (by decide), fun k hk => ⟨?_, ?_⟩⟩
  · rw [h _ _ (by omega), plZ, if_neg (by omega), if_pos ⟨Or.inl rfl, by omega, by omega⟩]; rfl
  · rw [h _ _ (by omega), plZ, if_neg (by omega), if_neg (by omega), if_pos ⟨Or.inl rfl, by omega, by omega⟩]
  · rw [h _ _ (by omega), plZ, if_neg (by omega), if_neg (by omega), if_pos ⟨Or.inr rfl, by omega, by omega⟩]
theorem pl_N {V V1 : GI} {L : GL} {sd : Nat} (h : ∀ k j, 9 ≤ k → V1 k j = plZ V sd 9 4 k j) (h20 : V1 0 20 = nI 0) : rsN V1 L sd rs0 := by
  refine ⟨h20, fun i hi => absurd hi (Nat.not_lt_zero _), fun i hi => ⟨?_, by show (0 : Nat) < 2; decide⟩, ?_, Nat.zero_le _⟩
  · rw [h _ _ (by omega), plZ, if_neg (by omega), if_pos ⟨Or.inr rfl, by omega, by omega⟩]; rfl
  · rw [h _ _ (by omega), plZ, if_pos ⟨by decide, rfl⟩]; rfl
theorem pl_F {V V1 : GI} {sd : Nat} (h : ∀ k j, 9 ≤ k → V1 k j = plZ V sd 9 4 k j) : sdF V V1 sd := by
  refine ⟨fun k hk j hj => ?_, fun k hk j hj => ?_, fun k hk j hj => ?_⟩ <;> (rw [h _ _ (by omega), plZ, if_neg (by omega), if_neg (by omega), if_neg (by omega)])
theorem pl_20 {V V1 : GI} {sd : Nat} (h : ∀ k j, 9 ≤ k → V1 k j = plZ V sd 9 4 k j) : ∀ k j, 20 ≤ k → V1 k j = V k j := fun k j hk => by
  rw [h _ _ (by omega), plZ, if_neg (by omega), if_neg (by omega), if_neg (by omega)]
theorem sdF_P {V V1 : GI} {sd : Nat} (h : ∀ k j, 9 ≤ k → V1 k j = V k j) : sdF V V1 sd := ⟨fun k hk j _ => h k j (by omega), fun k hk j _ => h k j (by omega), fun k hk j _ => h k j (by omega)⟩
theorem PRp_9 : ∀ k j, 9 ≤ k → PRp k j = false := by intro k j h; simp only [PRp, Bool.or_eq_false_iff, Bool.and_eq_false_iff, beq_eq_false_iff_ne, ne_eq]; omega
theorem EqL.mono {P Q : Nat → Nat → Bool} {V V1 : GL} (h : EqL P V V1) (hpq : ∀ k j, Q k j = false → P k j = false) : EqL Q V V1 := fun k j q => h k j (hpq k j q)
def PLr (k _ : Nat) : Bool := k == 6 || k == 8
theorem P6_PLr : ∀ k j, PLr k j = false → P6 k j = false := by intro k j h; simp only [PLr, P6, Bool.or_eq_false_iff] at *; exact h.1
theorem P8_PLr : ∀ k j, PLr k j = false → P8 k j = false := by intro k j h; simp only [PLr, P8, Bool.or_eq_false_iff] at *; exact h.2
theorem rdF_f {kd pl vl nm : Nat → Nat} {t : Nat} {q : Nat × Nat} {w : Fo} {r : Rs} (h : rdX kd pl vl nm = (t, some q, w, r)) : rdF kd pl vl nm = some q := by unfold rdF; rw [h]
theorem rdF_n {kd pl vl nm : Nat → Nat} {t : Nat} {w w2 : Fo} {r : Rs} (h : rdX kd pl vl nm = (t, none, w, r)) (h2 : (if abA (rHc r) (rN r) = true then w else woP none w 6 (pl t)) = w2) : rdF kd pl vl nm = w2 := by unfold rdF; rw [h, ← h2]
theorem rdT_e {kd pl vl nm : Nat → Nat} {t : Nat} {f w : Fo} {r : Rs} (h : rdX kd pl vl nm = (t, f, w, r)) : rdT kd pl vl nm = r := by unfold rdT; rw [h]
theorem rdQ_s {V V1 : GI} {lv b ce : Nat} {rs T : Rs} {q : Nat × Nat} {r : Int32} (h : r = nI q.1 ∧ 0 < q.1 ∧ q.1 < 10 ∧ V1 0 17 = nI q.2 ∧ Eqx PRf V V1 ∧ rsS V1 lv b ce rs) : rdQ V V1 lv b ce rs (some q) T r := h
theorem rdQ_n {V V1 : GI} {lv b ce : Nat} {rs T : Rs} {r : Int32} (h : r = nI 0 ∧ V1 0 17 = -1 ∧ V1 0 18 = nI (1 - lv) ∧ (∃ b1 ce1, rsS V1 (1 - lv) b1 ce1 T ∧ b1 ≤ 130 * (1 - lv) + 130 ∧ ce1 ≤ 420 * (1 - lv) + 420) ∧ (∀ j, j < 48 → V1 30 j = bgF (txR T) j) ∧ V1 0 53 = nI 0 ∧ V1 0 58 = nI 0 ∧ (∀ s, s < 3 → V1 42 s = nI 0) ∧ Eqx PRs V V1) : rdQ V V1 lv b ce rs none T r := h
theorem fo_cases (fo : Fo) : fo = none ∨ ∃ q, fo = some q := by cases fo with | none => exact Or.inl rfl | some q => exact Or.inr ⟨q, rfl⟩
theorem cp_tx {V : GI} {tp : List Int32} {k : Nat} {x : Int32} (h : ∀ (i : Nat) (y : Int32), i < k → tp[i]? = some y → V 2 i = y) (hx : ∀ y, tp[k]? = some y → y = x) : ∀ (i : Nat) (y : Int32), i < k + 1 → tp[i]? = some y → up2 V 2 k x 2 i = y := fun i y hi hy => by
  by_cases e : i = k
  · subst e; rw [up2_s]; exact (hx y hy).symm
  · rw [up2_n (fun z => e z.2)]; exact h i y (by omega) hy
theorem bg_end {V W V1 : GI} {lv b ce : Nat} {r : Rs} (hr : rsS W lv b ce r) (h10 : ∀ j, V 10 j = W 10 j) (h11 : ∀ j, V 11 j = W 11 j) (h16 : V 16 lv = W 16 lv) (h : ∀ j, j ≠ 45 → V1 31 j = bgZ V lv (rN r) 31 j) (h45 : V1 31 45 = V 16 lv) : ∀ j, j < 48 → V1 31 j = bgF (txR r) j := fun j hj => by
  obtain ⟨a1, a2, a3, a4, a5, a6, a7, a8, a9⟩ := hr
  have e1 : xN (txR r) = rN r := rfl
  unfold bgF
  rw [e1]
  by_cases e : j = 45
  · subst e
    rw [h45, h16, if_neg (by omega), if_neg (by omega), if_neg (by omega), if_pos rfl]
    exact a7
  · rw [h j e, bgZ]
    by_cases c1 : j < rN r
    · rw [if_pos ⟨rfl, c1⟩, if_pos c1, h10]; exact a3 j c1
    · rw [if_neg (fun z => c1 z.2), if_neg c1]
      by_cases c2 : 9 ≤ j ∧ j < 9 + rN r
      · rw [if_pos ⟨rfl, c2⟩, if_pos c2, h11]; exact a4 _ (by omega)
      · rw [if_neg (fun z => c2 z.2), if_neg c2]
        by_cases c3 : 18 ≤ j ∧ j < 18 + rN r
        · rw [if_pos ⟨rfl, c3⟩, if_pos c3]
        · rw [if_neg (fun z => c3 z.2), if_neg c3, if_pos ⟨rfl, hj⟩, if_neg e]
theorem mu_le {kd pl : Nat → Nat} {k t t1 : Nat} {fo fo1 : Fo} (ht : t ≤ 400) (h : muP kd pl k t fo = (t1, fo1)) : t1 ≤ 400 := by
  unfold muP goP at h
  split at h
  · split at h
    · injection h with h; omega
    · injection h with h; omega
  · injection h with h; omega
theorem tm_f {kd pl vl : Nat → Nat} {t t1 : Nat} {fo fo1 : Fo} {es : List Sg} (h : tmP kd pl vl t fo = (t1, fo1, es)) (hf : fo1 = none) : fo = none := by
  cases fo with
  | none => rfl
  | some q =>
    rw [tmP_f (fo := some q) (fun z => nomatch z)] at h
    have := (tri h).2.1
    rw [hf] at this
    cases this
theorem tm_lt {kd pl vl : Nat → Nat} {t t1 : Nat} {fo fo1 : Fo} {es : List Sg} (ht : t ≤ 400) (h : tmP kd pl vl t fo = (t1, fo1, es)) (hf : fo1 = none) : fo = none ∧ t < t1 := by
  have h0 := tm_f h hf
  subst h0 hf
  exact ⟨rfl, (gd_rdE _ _ _ (tmP_n ht h)).2.1⟩
theorem rdE_le {kd pl vl : Nat → Nat} {t t1 : Nat} {es : List Sg} (ht : t ≤ 400) (h : rdE kd pl vl t = (t1, none, es)) : t1 ≤ 400 :=
  ((sim_m (N := 402) (Nat.le_refl _) (sim_u (kd := kd) (pl := pl) (vl := vl) (N := 402) (Nat.le_refl _) 6 (Nat.le_refl _)) (base := []) (fun x y => rfl) t 401 402 [] ht (by omega) (by omega)).1 t1 es h).2.1
theorem tm_le {kd pl vl : Nat → Nat} {t t1 : Nat} {fo fo1 : Fo} {es : List Sg} (ht : t ≤ 400) (h : tmP kd pl vl t fo = (t1, fo1, es)) (hf : fo1 = none) : t1 ≤ 400 := by
  have h0 := tm_f h hf
  subst h0 hf
  exact rdE_le ht (tmP_n ht h)
theorem lwL_lt {kd pl vl : Nat → Nat} : ∀ (k t : Nat) (fo : Fo) (ac : Ifs) (t1 : Nat) (ac1 : Ifs), (fo = none → t ≤ 400) → lwL kd pl vl k t fo ac = (t1, none, ac1) → fo = none ∧ t ≤ t1 ∧ t1 ≤ 400 := by
  intro k
  induction k with
  | zero =>
    intro t fo ac t1 ac1 ht h
    by_cases hi : isP fo (kd t) 29 = true
    · rw [lwL_4 hi] at h
      exact absurd (tri h).2.1 flP_s
    · rw [lwL_0 hi] at h
      obtain ⟨h1, h2, _⟩ := tri h
      have := ht h2
      exact ⟨h2, by omega, by omega⟩
  | succ k ih =>
    intro t fo ac t1 ac1 ht h
    by_cases hi : isP fo (kd t) 29 = true
    · rcases h1 : goP pl t fo with ⟨u1, f1⟩
      rcases h2 : tmP kd pl vl u1 f1 with ⟨u2, f2, e1⟩
      rcases h3 : muP kd pl 13 u2 f2 with ⟨u3, f3⟩
      rcases h4 : tmP kd pl vl u3 f3 with ⟨u4, f4, e2⟩
      rcases h5 : muP kd pl 30 u4 f4 with ⟨u5, f5⟩
      rcases h6 : tmP kd pl vl u5 f5 with ⟨u6, f6, e3⟩
      rcases h7 : muP kd pl 31 u6 f6 with ⟨u7, f7⟩
      rw [lwL_s hi h1 h2 h3 h4 h5 h6 h7] at h
      have hfo : fo = none := by unfold isP at hi; simp only [Bool.and_eq_true, Option.isNone_iff_eq_none] at hi; exact hi.1
      have ht4 := ht hfo
      have c7 := muP_n h7
      have c5 := muP_n h5
      have c3 := muP_n h3
      have c1 := goP_f h1
      have b1 : u1 ≤ 400 := by
        unfold goP at h1
        split at h1
        · injection h1 with h1; omega
        · injection h1 with h1; omega
      have key : f7 = none → u7 ≤ 400 ∧ t ≤ u7 := fun z => by
        have z6 := (c7.2.2 z).1
        have z5 := tm_f h6 z6
        have z4 := (c5.2.2 z5).1
        have z3 := tm_f h4 z4
        have z2 := (c3.2.2 z3).1
        have z1 := tm_f h2 z2
        have b2 := tm_le b1 h2 z2
        have b3 := mu_le b2 h3
        have b4 := tm_le b3 h4 z4
        have b5 := mu_le b4 h5
        have b6 := tm_le b5 h6 z6
        have b7 := mu_le b6 h7
        have l2 := (tm_lt b1 h2 z2).2
        have l4 := (tm_lt b3 h4 z4).2
        have l6 := (tm_lt b5 h6 z6).2
        exact ⟨b7, by omega⟩
      obtain ⟨i1, i2, i3⟩ := ih _ _ _ _ _ (fun z => (key z).1) h
      have := (key i1).2
      exact ⟨hfo, by omega, i3⟩
    · rw [lwL_0 hi] at h
      obtain ⟨h1, h2, _⟩ := tri h
      have := ht h2
      exact ⟨h2, by omega, by omega⟩
theorem lwP_lt {kd pl vl : Nat → Nat} {t : Nat} {fo : Fo} (ht : t ≤ 400) (h : (lwP kd pl vl t fo).2.1 = none) : fo = none ∧ t < (lwP kd pl vl t fo).1 := by
  rcases h1 : muP kd pl 5 t fo with ⟨ta, foa⟩
  rcases h2 : lwL kd pl vl 4 ta foa [] with ⟨t1, fo1, ac⟩
  rcases h3 : tmP kd pl vl t1 fo1 with ⟨t2, fo2, el⟩
  rcases h4 : muP kd pl 4 t2 fo2 with ⟨t3, fo3⟩
  rw [lwP_eq h1 h2 h3 h4] at h ⊢
  replace h : fo3 = none := h
  show fo = none ∧ t < t3
  have c4 := muP_n h4
  have f2 := (c4.2.2 h).1
  have b1 := mu_le ht h1
  have hf1 : fo1 = none := tm_f h3 f2
  subst hf1
  obtain ⟨i1, i2, i3⟩ := lwL_lt 4 ta foa [] t1 ac (fun _ => b1) h2
  have c3 := tm_lt i3 h3 f2
  have c1 := muP_n h1
  exact ⟨(c1.2.2 i1).1, by omega⟩
theorem onP_lt {kd pl vl nm : Nat → Nat} {t : Nat} {wo : Fo} {r : Rs} (ht : t ≤ 400) (h : (onP kd pl vl nm t wo r).2.1 = none) : t < (onP kd pl vl nm t wo r).1 := by
  by_cases c1 : kd t = 20
  · rcases hr : rmP pl (rN r) 9 t with ⟨t1, fo1⟩
    cases fo1 with
    | some q => rw [onP_20f c1 hr] at h; cases h
    | none =>
      rw [onP_20 c1 hr]
      have := slP_ge kd pl vl nm t1 wo r
      have := (rmP_n hr).2.2 rfl
      omega
  by_cases c2 : kd t = 21
  · rcases hr : rmP pl (rCn r) 9 t with ⟨t1, fo1⟩
    cases fo1 with
    | some q => rw [onP_21f c2 hr] at h; cases h
    | none =>
      rw [onP_21 c2 hr]
      have := clP_ge kd pl vl t1 wo r
      have := (rmP_n hr).2.2 rfl
      omega
  have ti : (tiP kd pl t).2 = none → t < (tiP kd pl t).1 := fun z => by
    unfold tiP at z ⊢
    rcases hg : goP pl t none with ⟨a, fa⟩
    rw [hg] at z
    replace z : (muP kd pl 4 (bdP kd pl a fa).1 (bdP kd pl a fa).2).2 = none := z
    show t < (muP kd pl 4 (bdP kd pl a fa).1 (bdP kd pl a fa).2).1
    rcases hb : bdP kd pl a fa with ⟨b, fb⟩
    rw [hb] at z
    rcases hm : muP kd pl 4 b fb with ⟨c, fc⟩
    have z2 : fc = none := by rw [← z]; exact (congrArg Prod.snd hm).symm
    have g1 := goP_f hg
    have g2 := bdP_n hb
    have g3 := muP_n hm
    have g4 := g3.2.2 z2
    have g5 := g2.2.2 g4.1
    show t < c
    have := g1.2.2 g5.1
    omega
  by_cases c3 : kd t = 26
  · rw [onP_26 c3] at h ⊢; exact ti h
  by_cases c4 : kd t = 27
  · rw [onP_27 c4] at h ⊢; exact ti h
  by_cases c5 : kd t = 28
  · rw [onP_28 c5] at h ⊢; exact ti h
  by_cases c6 : 22 ≤ kd t ∧ kd t ≤ 25
  · rw [onP_22 c6] at h ⊢
    rcases hg : goP pl t none with ⟨a, fa⟩
    rw [hg] at h
    have ha : a ≤ 400 := by
      unfold goP at hg
      split at hg
      · injection hg with hg; omega
      · injection hg with hg; omega
    have := lwP_lt ha (show (lwP kd pl vl a fa).2.1 = none from h)
    have g1 := (goP_f hg).2.2 this.1
    show t < (lwP kd pl vl a fa).1
    omega
  · rw [onP_o (by omega)] at h
    cases h
theorem cw_X13_224 {R : Room} {s : State} {args : Array Value} (hts : ∀ w ∈ lw_all, w.before args s = true) {f w k j : Nat} (hR : f + 1 ≤ R.frames ∧ 8 + (8 + 11) + w ≤ R.locals) : CallW R s args RX13 RX13 224 yX13_cut cX13_cut 8 none (ws_ yX13_cut cX13_cut 8 none) (mkRmC f w k j) k j 0 := cwV 0 hts (lw_V q1684 q1686 qs52 q129 q1687) rfl rfl rfl (by decide +kernel) hR
theorem cw_X13_149 {R : Room} {s : State} {args : Array Value} (hts : ∀ w ∈ lw_all, w.before args s = true) {f w k j : Nat} (hR : f + 1 ≤ R.frames ∧ 8 + (3 + 11) + w ≤ R.locals) : CallW R s args RX13 RX13 149 yX13_plain cX13_plain 3 none (ws_ yX13_plain cX13_plain 3 none) (mkRmC f w k j) k j 1 := cwV 1 hts (lw_V q1449 q1451 qs47 q129 q1452) rfl rfl rfl (by decide +kernel) hR
theorem cw_X13_248 {R : Room} {s : State} {args : Array Value} (hts : ∀ w ∈ lw_all, w.before args s = true) {f w k j : Nat} (hR : f + 1 ≤ R.frames ∧ 8 + (2 + 11) + w ≤ R.locals) : CallW R s args RX13 RX13 248 yX13_areBeds cX13_areBeds 2 (some .boolean) (ws_ yX13_areBeds cX13_areBeds 2 (some .boolean)) (mkRmC f w k j) k j 0 := cwV 0 hts (lw_V q1770 q1772 qs72 q129 q1773) rfl rfl rfl (by decide +kernel) hR
theorem cw_X13_157 {R : Room} {s : State} {args : Array Value} (hts : ∀ w ∈ lw_all, w.before args s = true) {f w k j : Nat} (hR : f + 1 ≤ R.frames ∧ 8 + (2 + 11) + w ≤ R.locals) : CallW R s args RX13 RX13 157 yX13_begins cX13_begins 2 none (ws_ yX13_begins cX13_begins 2 none) (mkRmC f w k j) k j 0 := cwV 0 hts (lw_V q1460 q1462 qs48 q129 q1463) rfl rfl rfl (by decide +kernel) hR
theorem cw_X13_245 {R : Room} {s : State} {args : Array Value} (hts : ∀ w ∈ lw_all, w.before args s = true) {f w k j : Nat} (hR : f + 1 ≤ R.frames ∧ 8 + (3 + 11) + w ≤ R.locals) : CallW R s args RX13 RX13 245 yX13_tellOne cX13_tellOne 3 none (ws_ yX13_tellOne cX13_tellOne 3 none) (mkRmC f w k j) k j 0 := cwV 0 hts (lw_V q1710 q1712 qs57 q129 q1713) rfl rfl rfl (by decide +kernel) hR
set_option maxHeartbeats 4000000 in
theorem met_X13_read (l : Launch) (D : va_G) (dA : Nat → ClassId) {o : Nat} {V : GI} {L : GL} {Rf : GR} {H0 : Heap} (hG : gP D dA o dM V L Rf H0) (tp : List Int32) (htp : tpM V tp) (htb : ∀ x, x ∈ tp → vp_nar .byte x = x) (hky : ∀ k, k < 21 → L 7 k = lN (kyN k)) {lv b ce : Nat} {rs : Rs} (hlv : lv < 2) (h18 : V 0 18 = nI lv) (hRS : rsS V lv b ce rs) (hb9 : b ≤ 130 * lv + 130) (hce9 : ce ≤ 420 * lv + 420) : Ctr l D dA yX13_read cX13_read 2 (some .int) (mkRm 7 148) [.ref o] H0 (AM o) (QI (fun r H1 => ∃ V1 L1, gP D dA o dM V1 L1 Rf H1 ∧ EqL PLr L L1 ∧ V1 0 2 = nI 0 ∧ rdQ V V1 lv b ce rs (rdF (kdF (chT tp) tp.length) (plF (chT tp) tp.length) (vlF (chT tp) tp.length) (nmF (chT tp) tp.length)) (rdT (kdF (chT tp) tp.length) (plF (chT tp) tp.length) (vlF (chT tp) tp.length) (nmF (chT tp) tp.length)) r)) := by
  have htp9 := htp.1
  refine ctr_I (by decide) (Nat.le_of_ble_eq_true rfl) ?_
  intro p e s m args below meth c ls QQ locs hx hb hml hown hts hK hend hS hl
  have hl : lv_has ls 2 [(0, .ref o)] := hl
  refine lv_aload_n hx hb dX13_read_0 rfl (lv_at hl 0 rfl) ?_
  refine lv_aload_n hx hb dX13_read_1 rfl (lv_at hl 0 rfl) ?_
  refine g_get (v := .int (nI tp.length)) hx hb hts hown hK hG 0 rfl rfl ok_X13 2 (by decide) q1473 rfl (congrArg Value.int htp.2.1) dX13_read_2 ?_
  refine g_put hx hb hts hown hK hG hS 0 (AM_in 0 (by decide)) rfl rfl ok_X13 4 (by decide) q1475 rfl rfl rfl rfl dX13_read_5 (fun H locs hG hO hS => ?_)
  refine lv_iconst (v := (nI 0)) hx hb dX13_read_8 (by decide) ?_
  refine lv_istore_n (lv' := [(1, .int (nI 0)), (0, .ref o)]) hx hb dX13_read_9 rfl hl (by decide) rfl (fun ls hl => ?_)
  have loop1 : ∀ (fu1 : Nat) (k : Nat) (V1 : GI) (H : Heap) (locs : List Loc) (ls : Array Slot), tp.length - k < fu1 → (k ≤ tp.length) → (Eqx PRt (up2 V 0 4 (nI tp.length)) V1) → (∀ (i : Nat) (y : Int32), i < k → tp[i]? = some y → V1 2 i = y) → gP D dA o dM V1 L Rf H → va_S (AM o) H0 H locs → lv_has ls 2 [(1, .int (nI k)), (0, .ref o)] → W p l e (mkRm 7 148) s m args below meth c H locs 0 0 QQ (F0 m 10 ls []) := by
    intro fu1
    induction fu1 with
    | zero => intro k V1 H locs ls hfu; exact absurd hfu (Nat.not_lt_zero _)
    | succ fu1 ih1 =>
      intro k V1 H locs ls hfu hkn hE1 hcp hG hS hl
      refine lv_iload_n hx hb dX13_read_10 rfl (lv_at hl 0 rfl) ?_
      refine lv_aload_n hx hb dX13_read_11 rfl (lv_at hl 1 rfl) ?_
      refine g_get (v := .int (nI tp.length)) hx hb hts hown hK hG 0 rfl rfl ok_X13 4 (by decide) q1475 rfl (congrArg Value.int (hE1 0 4 rfl)) dX13_read_12 ?_
      refine n_icmp_ge (tgt := 36) hx hb dX13_read_15 (by decide) (by omega) (by omega) (fun c15 => ?_) (fun c15 => ?_)
      · obtain rfl : k = tp.length := by omega
        refine lv_aload_n hx hb dX13_read_36 rfl (lv_at hl 1 rfl) ?_
        refine lv_iconst (v := (nI 0)) hx hb dX13_read_37 (by decide) ?_
        refine g_put hx hb hts hown hK hG hS 0 (AM_in 0 (by decide)) rfl rfl ok_X13 2 (by decide) q1473 rfl rfl rfl rfl dX13_read_38 (fun H locs hG hO hS => ?_)
        refine lv_aload_n hx hb dX13_read_41 rfl (lv_at hl 1 rfl) ?_
        refine c_VV hx hb hml hts hown hK hl.1 hS ⟨Nat.le_refl _, Nat.le_refl _⟩ (met_X13_cut l D dA hG tp htp.1 (hE1 0 4 rfl) (fun i x hx => Eq.trans rfl (hcp i x (List.getElem?_eq_some_iff.mp hx).1 hx)) hky) (cw_X13_224 hts ⟨by decide, by decide⟩) (hG 0 _ rfl) rfl rfl rfl rfl (Nat.le_of_ble_eq_true rfl) dX13_read_42 (fun _ h => h) (fun H1 locs hq hF hS => ?_)
        obtain ⟨V2, L2, m0, hG, hE2, hEL2, hm09, h10c, htk, hne, hend0⟩ := hq
        generalize hHe2 : H1 = H at hG hS ⊢
        clear hHe2
        have hT := tk_ok htp.1 hm09 htk hne hend0
        obtain ⟨ch, hch⟩ : ∃ c, c = chT tp := ⟨_, rfl⟩
        obtain ⟨sz, hsz⟩ : ∃ s, s = tp.length := ⟨_, rfl⟩
        rw [← hch, ← hsz] at hT
        have hm9 := hT.2.2.1
        refine lv_aload_n hx hb dX13_read_45 rfl (lv_at hl 1 rfl) ?_
        refine lv_iconst (v := (nI 0)) hx hb dX13_read_46 (by decide) ?_
        refine g_put hx hb hts hown hK hG hS 0 (AM_in 0 (by decide)) rfl rfl ok_X13 11 (by decide) q1482 rfl rfl rfl rfl dX13_read_47 (fun H locs hG hO hS => ?_)
        refine lv_aload_n hx hb dX13_read_50 rfl (lv_at hl 1 rfl) ?_
        refine lv_iconst (v := (nI 0)) hx hb dX13_read_51 (by decide) ?_
        refine g_put hx hb hts hown hK hG hS 0 (AM_in 0 (by decide)) rfl rfl ok_X13 12 (by decide) q1483 rfl rfl rfl rfl dX13_read_52 (fun H locs hG hO hS => ?_)
        refine lv_aload_n hx hb dX13_read_55 rfl (lv_at hl 1 rfl) ?_
        refine lv_iconst (v := (nI 0)) hx hb dX13_read_56 (by decide) ?_
        refine g_put hx hb hts hown hK hG hS 0 (AM_in 0 (by decide)) rfl rfl ok_X13 13 (by decide) q1484 rfl rfl rfl rfl dX13_read_57 (fun H locs hG hO hS => ?_)
        refine lv_aload_n hx hb dX13_read_60 rfl (lv_at hl 1 rfl) ?_
        refine lv_iconst (v := (nI 0)) hx hb dX13_read_61 (by decide) ?_
        refine g_put hx hb hts hown hK hG hS 0 (AM_in 0 (by decide)) rfl rfl ok_X13 15 (by decide) q1486 rfl rfl rfl rfl dX13_read_62 (fun H locs hG hO hS => ?_)
        refine lv_aload_n hx hb dX13_read_65 rfl (lv_at hl 1 rfl) ?_
        refine lv_iconst (v := (nI 1)) hx hb dX13_read_66 (by decide) ?_
        refine lv_aload_n hx hb dX13_read_67 rfl (lv_at hl 1 rfl) ?_
        refine g_get (v := .int (nI lv)) hx hb hts hown hK hG 0 rfl rfl ok_X13 18 (by decide) q1489 rfl (congrArg Value.int (((hE2 0 18 rfl).trans (hE1 0 18 rfl)).trans h18)) dX13_read_68 ?_
        refine n_isub hx hb dX13_read_71 (by omega) ?_
        refine g_put hx hb hts hown hK hG hS 0 (AM_in 0 (by decide)) rfl rfl ok_X13 19 (by decide) q1490 rfl rfl rfl rfl dX13_read_72 (fun H locs hG hO hS => ?_)
        refine lv_aload_n hx hb dX13_read_75 rfl (lv_at hl 1 rfl) ?_
        refine lv_iconst (v := (nI 0)) hx hb dX13_read_76 (by decide) ?_
        refine g_put hx hb hts hown hK hG hS 0 (AM_in 0 (by decide)) rfl rfl ok_X13 20 (by decide) q1491 rfl rfl rfl rfl dX13_read_77 (fun H locs hG hO hS => ?_)
        refine lv_aload_n hx hb dX13_read_80 rfl (lv_at hl 1 rfl) ?_
        refine lv_aload_n hx hb dX13_read_81 rfl (lv_at hl 1 rfl) ?_
        refine g_get (v := .int (nI (1 - lv))) hx hb hts hown hK hG 0 rfl rfl ok_X13 19 (by decide) q1490 rfl rfl dX13_read_82 ?_
        refine c_VV hx hb hml hts hown hK hl.1 hS ⟨Nat.le_refl _, Nat.le_refl _⟩ (met_X13_plain l D dA hG (1 - lv) (by omega)) (cw_X13_149 hts ⟨by decide, by decide⟩) (hG 0 _ rfl) rfl rfl rfl rfl (Nat.le_of_ble_eq_true rfl) dX13_read_85 (fun _ h => h) (fun H1 locs hq hF hS => ?_)
        have hEp : Eqx PRp V (up2 (up2 (up2 (up2 (up2 (up2 V2 0 11 (nI 0)) 0 12 (nI 0)) 0 13 (nI 0)) 0 15 (nI 0)) 0 19 (nI (1 - lv))) 0 20 (nI 0)) := ((((((((((Eqx.rf.up rfl).trans (hE1.mono PRt_PRp)).up rfl).trans (hE2.mono PTk_PRp)).up rfl).up rfl).up rfl).up rfl).up rfl).up rfl)
        obtain ⟨V3, hG, hE3, hpl3⟩ := hq
        generalize hHe3 : H1 = H at hG hS ⊢
        clear hHe3
        have h99 : ∀ k j, 9 ≤ k → (up2 (up2 (up2 (up2 (up2 (up2 V2 0 11 (nI 0)) 0 12 (nI 0)) 0 13 (nI 0)) 0 15 (nI 0)) 0 19 (nI (1 - lv))) 0 20 (nI 0)) k j = V k j := fun k j h => hEp k j (PRp_9 k j h)
        refine lv_aload_n hx hb dX13_read_88 rfl (lv_at hl 1 rfl) ?_
        refine lv_sipush (v := (nI 130)) hx hb dX13_read_89 (by decide) ?_
        refine lv_aload_n hx hb dX13_read_92 rfl (lv_at hl 1 rfl) ?_
        refine g_get (v := .int (nI (1 - lv))) hx hb hts hown hK hG 0 rfl rfl ok_X13 19 (by decide) q1490 rfl (congrArg Value.int (hE3 0 19 rfl)) dX13_read_93 ?_
        refine n_imul hx hb dX13_read_96 ?_
        refine g_put hx hb hts hown hK hG hS 0 (AM_in 0 (by decide)) rfl rfl ok_X13 33 (by decide) q1504 rfl rfl rfl rfl dX13_read_97 (fun H locs hG hO hS => ?_)
        refine lv_aload_n hx hb dX13_read_100 rfl (lv_at hl 1 rfl) ?_
        refine lv_sipush (v := (nI 420)) hx hb dX13_read_101 (by decide) ?_
        refine lv_aload_n hx hb dX13_read_104 rfl (lv_at hl 1 rfl) ?_
        refine g_get (v := .int (nI (1 - lv))) hx hb hts hown hK hG 0 rfl rfl ok_X13 19 (by decide) q1490 rfl (congrArg Value.int (hE3 0 19 rfl)) dX13_read_105 ?_
        refine n_imul hx hb dX13_read_108 ?_
        refine g_put hx hb hts hown hK hG hS 0 (AM_in 0 (by decide)) rfl rfl ok_X13 39 (by decide) q1510 rfl rfl rfl rfl dX13_read_109 (fun H locs hG hO hS => ?_)
        have hpl2 : ∀ k j, 9 ≤ k → (up2 (up2 V3 0 33 (nI (130 * (1 - lv)))) 0 39 (nI (420 * (1 - lv)))) k j = plZ (up2 (up2 (up2 (up2 (up2 (up2 V2 0 11 (nI 0)) 0 12 (nI 0)) 0 13 (nI 0)) 0 15 (nI 0)) 0 19 (nI (1 - lv))) 0 20 (nI 0)) (1 - lv) 9 4 k j := fun k j h => by
          rw [up2_n (by omega), up2_n (by omega)]
          exact hpl3 k j
        have hsF0 : sdF V (up2 (up2 V3 0 33 (nI (130 * (1 - lv)))) 0 39 (nI (420 * (1 - lv)))) (1 - lv) := sdF.trans (sdF_P h99) (pl_F hpl2)
        have hbr0 : brF V (up2 (up2 V3 0 33 (nI (130 * (1 - lv)))) 0 39 (nI (420 * (1 - lv)))) (130 * (1 - lv)) := brF_to (fun k j a _ => (pl_20 hpl2 k j a).trans (h99 k j (by omega)))
        have hlo0 : loF V (up2 (up2 V3 0 33 (nI (130 * (1 - lv)))) 0 39 (nI (420 * (1 - lv)))) (420 * (1 - lv)) := loF_same (fun j => (pl_20 hpl2 25 j (by decide)).trans (h99 25 j (by decide))) (fun j => (pl_20 hpl2 26 j (by decide)).trans (h99 26 j (by decide)))
        have hRX : rdX (kdF ch sz) (plF ch sz) (vlF ch sz) (nmF ch sz) = rdX (kdF ch sz) (plF ch sz) (vlF ch sz) (nmF ch sz) := rfl
        have loop4 : ∀ (fu4 : Nat) (u : Nat) (tt : Nat) (ff : Fo) (wx : Fo) (rx : Rs) (bx : Nat) (cx : Nat) (V4 : GI) (L4 : GL) (H : Heap) (locs : List Loc) (ls : Array Slot), u < fu4 → (rdL (kdF ch sz) (plF ch sz) (vlF ch sz) (nmF ch sz) u tt ff wx rx = rdX (kdF ch sz) (plF ch sz) (vlF ch sz) (nmF ch sz)) → (ff = none → 402 ≤ u + tt) → (Eqx PTo (up2 (up2 V3 0 33 (nI (130 * (1 - lv)))) 0 39 (nI (420 * (1 - lv)))) V4) → (EqL P8 L2 L4) → (tkOK V4 L4 ch sz m0) → (psM V4 m0 tt ff) → (woM V4 wx) → (V4 0 18 = nI lv) → (V4 0 19 = nI (1 - lv)) → (V4 0 2 = nI 0) → (sdF V V4 (1 - lv)) → (brF V V4 (130 * (1 - lv))) → (loF V V4 (420 * (1 - lv))) → (ff = none → V4 0 12 = nI 0 ∧ V4 0 33 = nI bx ∧ V4 0 39 = nI cx ∧ cbM (420 * (1 - lv) + 420) cx tt none ∧ 4 * bx ≤ 4 * (130 * (1 - lv)) + tt ∧ 130 * (1 - lv) ≤ bx ∧ 420 * (1 - lv) ≤ cx ∧ rsS V4 (1 - lv) bx cx rx ∧ rsN V4 L4 (1 - lv) rx) → gP D dA o dM V4 L4 Rf H → va_S (AM o) H0 H locs → lv_has ls 2 [(1, .int (nI tp.length)), (0, .ref o)] → W p l e (mkRm 7 148) s m args below meth c H locs 0 0 QQ (F0 m 112 ls []) := by
          intro fu4
          induction fu4 with
          | zero => intro u tt ff wx rx bx cx V4 L4 H locs ls hfu; exact absurd hfu (Nat.not_lt_zero _)
          | succ fu4 ih4 =>
            intro u tt ff wx rx bx cx V4 L4 H locs ls hfu hR hn hE4 hE4L hTl hps hwo h18l h19l h2l hsF hbr hlo hok hG hS hl
            obtain ⟨ft_5, hft9_5, hft_5, hfz_5⟩ := fo_z hps.2.2
            have htm_5 := hps.1
            obtain ⟨hk3_5, hk4_5, hk5_5, hk6_5⟩ := hT.1 tt htm_5
            have hkd9_5 := kd_lt ch sz tt
            have hb3_5 := (hT.2.2.2.2.2 tt htm_5).1
            have hb5_5 := (hT.2.2.2.2.2 tt htm_5).2.1
            replace hfz_5 : fzI ft_5 ff := hfz_5
            refine lv_aload_n hx hb dX13_read_112 rfl (lv_at hl 1 rfl) ?_
            refine g_get (v := .int (nI ft_5)) hx hb hts hown hK hG 0 rfl rfl ok_X13 13 (by decide) q1484 rfl (congrArg Value.int hft_5) dX13_read_113 ?_
            refine n_if_ne (tgt := 134) hx hb dX13_read_116 (by decide) (by omega) (fun c116 => ?_) (fun c116 => ?_)
            · have hffn : ff ≠ none := fun z => by have := hfz_5.mpr z; omega
              have hRe : rdX (kdF ch sz) (plF ch sz) (vlF ch sz) (nmF ch sz) = (tt, ff, wx, rx) := hR.symm.trans (rdL_0 (fun z => hffn z.1))
              obtain ⟨qf, rfl⟩ := fo_some hffn
              obtain ⟨hq1, hq2, hq3, hq4⟩ := hps.2.2
              have hFF : rdF (kdF ch sz) (plF ch sz) (vlF ch sz) (nmF ch sz) = some qf := rdF_f hRe
              refine lv_aload_n hx hb dX13_read_134 rfl (lv_at hl 1 rfl) ?_
              refine g_get (v := .int (nI qf.1)) hx hb hts hown hK hG 0 rfl rfl ok_X13 13 (by decide) q1484 rfl (congrArg Value.int hq1) dX13_read_135 ?_
              refine n_if_ne (tgt := 158) hx hb dX13_read_138 (by decide) (by omega) (fun c138 => ?_) (fun c138 => ?_)
              · refine lv_aload_n hx hb dX13_read_158 rfl (lv_at hl 1 rfl) ?_
                refine lv_aload_n hx hb dX13_read_159 rfl (lv_at hl 1 rfl) ?_
                refine g_get (v := .int (nI qf.1)) hx hb hts hown hK hG 0 rfl rfl ok_X13 13 (by decide) q1484 rfl (congrArg Value.int hq1) dX13_read_160 ?_
                refine n_if_le (tgt := 173) hx hb dX13_read_163 (by decide) (by omega) (fun c163 => ?_) (fun c163 => ?_)
                · exact absurd c163 (by omega)
                · refine lv_aload_n hx hb dX13_read_166 rfl (lv_at hl 1 rfl) ?_
                  refine g_get (v := .int (nI qf.2)) hx hb hts hown hK hG 0 rfl rfl ok_X13 14 (by decide) q1485 rfl (congrArg Value.int hq4) dX13_read_167 ?_
                  refine lv_goto (tgt := 188) hx hb dX13_read_170 (by decide) ?_
                  refine g_put hx hb hts hown hK hG hS 0 (AM_in 0 (by decide)) rfl rfl ok_X13 17 (by decide) q1488 rfl rfl rfl rfl dX13_read_188 (fun H locs hG hO hS => ?_)
                  refine lv_aload_n hx hb dX13_read_191 rfl (lv_at hl 1 rfl) ?_
                  refine g_get (v := .int (nI qf.1)) hx hb hts hown hK hG 0 rfl rfl ok_X13 13 (by decide) q1484 rfl (congrArg Value.int hq1) dX13_read_192 ?_
                  refine n_if_le (tgt := 203) hx hb dX13_read_195 (by decide) (by omega) (fun c195 => ?_) (fun c195 => ?_)
                  · exact absurd c195 (by omega)
                  · refine lv_aload_n hx hb dX13_read_198 rfl (lv_at hl 1 rfl) ?_
                    refine g_get (v := .int (nI qf.1)) hx hb hts hown hK hG 0 rfl rfl ok_X13 13 (by decide) q1484 rfl (congrArg Value.int hq1) dX13_read_199 ?_
                    refine hend _ _ _ _ _ hS dX13_read_202 ?_
                    subst hch hsz
                    have hRSf : rsS (up2 V4 0 17 (nI qf.2)) lv b ce rs := by
                      refine rsS_fr (rsS_other hRS (by omega) hb9 hce9 hsF hbr hlo) rfl (fun k hk j _ _ => ?_) (fun k hk => ?_) (fun k hk j _ _ => ?_) (fun k j h1 h2 _ _ => ?_) (fun j _ _ => ⟨rfl, rfl⟩)
                      · obtain rfl | rfl | rfl := hk
                        · exact rfl
                        · exact rfl
                        · exact rfl
                      · obtain rfl | rfl | rfl := hk
                        · exact rfl
                        · exact rfl
                        · exact rfl
                      · obtain rfl | rfl := hk
                        · exact rfl
                        · exact rfl
                      · obtain rfl | rfl | rfl | rfl | rfl : k = 20 ∨ k = 21 ∨ k = 22 ∨ k = 23 ∨ k = 24 := by omega
                        · exact rfl
                        · exact rfl
                        · exact rfl
                        · exact rfl
                        · exact rfl
                    exact ⟨_, rfl, _, _, hG, (EqL.trans (EqL.mono hEL2 P6_PLr) (EqL.mono hE4L P8_PLr)), h2l, by rw [hFF]; exact rdQ_s ⟨rfl, hq2, hq3, rfl, (((((((((((((((Eqx.rf.up rfl).trans (hE1.mono PRt_PRf)).up rfl).trans (hE2.mono PTk_PRf)).up rfl).up rfl).up rfl).up rfl).up rfl).up rfl).trans (hE3.mono PPl_PRf)).up rfl).up rfl).trans (hE4.mono PTo_PRf)).up rfl), hRSf⟩⟩
              · exact absurd c138 (by omega)
            obtain rfl : ff = none := hfz_5.mp (by omega)
            obtain ⟨g12, g33, g39, gcb, gbt, gb0, gc0, gRS, gRN⟩ := hok rfl
            refine lv_aload_n hx hb dX13_read_119 rfl (lv_at hl 1 rfl) ?_
            refine lv_iconst (v := (nI 0)) hx hb dX13_read_120 (by decide) ?_
            refine c_VI hx hb hml hts hown hK hl.1 hS ⟨Nat.le_refl _, Nat.le_refl _⟩ (met_X13_is l D dA hG hTl hps 0 (by omega)) (cw_X13_218 hts ⟨by decide, by decide⟩) (hG 0 _ rfl) rfl rfl rfl rfl (Nat.le_of_ble_eq_true rfl) dX13_read_121 (fun _ h => h.elim) (fun r H1 locs hq hF hS => ?_)
            obtain ⟨rfl, rfl⟩ := hq
            have hbb121 := bN_lt (isP none (kdF ch sz tt) 0)
            refine n_if_ne (tgt := 134) hx hb dX13_read_124 (by decide) (by omega) (fun c124 => ?_) (fun c124 => ?_)
            · have hkz := isP_n.mp (bN1 (show ¬ bN (isP none (kdF ch sz tt) 0) = 0 by omega))
              have hRe : rdX (kdF ch sz) (plF ch sz) (vlF ch sz) (nmF ch sz) = (tt, none, wx, rx) := hR.symm.trans (rdL_0 (fun z => z.2 hkz))
              refine lv_aload_n hx hb dX13_read_134 rfl (lv_at hl 1 rfl) ?_
              refine g_get (v := .int (nI 0)) hx hb hts hown hK hG 0 rfl rfl ok_X13 13 (by decide) q1484 rfl (congrArg Value.int hps.2.2) dX13_read_135 ?_
              refine n_if_ne (tgt := 158) hx hb dX13_read_138 (by decide) (by omega) (fun c138 => ?_) (fun c138 => ?_)
              · exact absurd c138 (by omega)
              · refine lv_aload_n hx hb dX13_read_141 rfl (lv_at hl 1 rfl) ?_
                refine c_VI hx hb hml hts hown hK hl.1 hS ⟨Nat.le_refl _, Nat.le_refl _⟩ (met_X13_areBeds l D dA hG h19l (by omega) gRS.2.1 gRS.1 gRN.2.2.1) (cw_X13_248 hts ⟨by decide, by decide⟩) (hG 0 _ rfl) rfl rfl rfl rfl (Nat.le_of_ble_eq_true rfl) dX13_read_142 (fun _ h => h.elim) (fun r H1 locs hq hF hS => ?_)
                obtain ⟨rfl, rfl⟩ := hq
                have hbb142 := bN_lt (abA (rHc rx) (rN rx))
                refine n_if_ne (tgt := 158) hx hb dX13_read_145 (by decide) (by omega) (fun c145 => ?_) (fun c145 => ?_)
                · have hAB := bN1 (show ¬ bN (abA (rHc rx) (rN rx)) = 0 by omega)
                  have hFF := rdF_n hRe (if_pos hAB)
                  have hwq : woM V4 wx := hwo
                  obtain hw | ⟨qw, hw⟩ := fo_cases (wx)
                  · rw [hw] at hwq hFF
                    refine lv_aload_n hx hb dX13_read_158 rfl (lv_at hl 1 rfl) ?_
                    refine lv_aload_n hx hb dX13_read_159 rfl (lv_at hl 1 rfl) ?_
                    refine g_get (v := .int (nI 0)) hx hb hts hown hK hG 0 rfl rfl ok_X13 13 (by decide) q1484 rfl (congrArg Value.int hps.2.2) dX13_read_160 ?_
                    refine n_if_le (tgt := 173) hx hb dX13_read_163 (by decide) (by omega) (fun c163 => ?_) (fun c163 => ?_)
                    · refine lv_aload_n hx hb dX13_read_173 rfl (lv_at hl 1 rfl) ?_
                      refine g_get (v := .int (nI 0)) hx hb hts hown hK hG 0 rfl rfl ok_X13 15 (by decide) q1486 rfl (congrArg Value.int hwq) dX13_read_174 ?_
                      refine n_if_le (tgt := 187) hx hb dX13_read_177 (by decide) (by omega) (fun c177 => ?_) (fun c177 => ?_)
                      · refine lv_iconst (v := (-1)) hx hb dX13_read_187 (by decide) ?_
                        refine g_put hx hb hts hown hK hG hS 0 (AM_in 0 (by decide)) rfl rfl ok_X13 17 (by decide) q1488 rfl rfl rfl rfl dX13_read_188 (fun H locs hG hO hS => ?_)
                        refine lv_aload_n hx hb dX13_read_191 rfl (lv_at hl 1 rfl) ?_
                        refine g_get (v := .int (nI 0)) hx hb hts hown hK hG 0 rfl rfl ok_X13 13 (by decide) q1484 rfl (congrArg Value.int hps.2.2) dX13_read_192 ?_
                        refine n_if_le (tgt := 203) hx hb dX13_read_195 (by decide) (by omega) (fun c195 => ?_) (fun c195 => ?_)
                        · refine lv_aload_n hx hb dX13_read_203 rfl (lv_at hl 1 rfl) ?_
                          refine g_get (v := .int (nI 0)) hx hb hts hown hK hG 0 rfl rfl ok_X13 15 (by decide) q1486 rfl (congrArg Value.int hwq) dX13_read_204 ?_
                          refine n_if_le (tgt := 215) hx hb dX13_read_207 (by decide) (by omega) (fun c207 => ?_) (fun c207 => ?_)
                          · refine lv_aload_n hx hb dX13_read_215 rfl (lv_at hl 1 rfl) ?_
                            refine lv_aload_n hx hb dX13_read_216 rfl (lv_at hl 1 rfl) ?_
                            refine g_get (v := .int (nI (1 - lv))) hx hb hts hown hK hG 0 rfl rfl ok_X13 19 (by decide) q1490 rfl (congrArg Value.int ((hE4 0 19 rfl).trans (hE3 0 19 rfl))) dX13_read_217 ?_
                            refine g_put hx hb hts hown hK hG hS 0 (AM_in 0 (by decide)) rfl rfl ok_X13 18 (by decide) q1489 rfl rfl rfl rfl dX13_read_220 (fun H locs hG hO hS => ?_)
                            refine lv_aload_n hx hb dX13_read_223 rfl (lv_at hl 1 rfl) ?_
                            refine c_VV hx hb hml hts hown hK hl.1 hS ⟨Nat.le_refl _, Nat.le_refl _⟩ (met_X13_begins l D dA hG (lv := (1 - lv)) (n := rN rx) ⟨by omega, gRS.1, rfl, gRS.2.1⟩) (cw_X13_157 hts ⟨by decide, by decide⟩) (hG 0 _ rfl) rfl rfl rfl rfl (Nat.le_of_ble_eq_true rfl) dX13_read_224 (fun _ h => h) (fun H1 locs hq hF hS => ?_)
                            obtain ⟨V6, hG, hE6, h316, h456, h496, h506⟩ := hq
                            generalize hHe6 : H1 = H at hG hS ⊢
                            clear hHe6
                            refine lv_aload_n hx hb dX13_read_227 rfl (lv_at hl 1 rfl) ?_
                            refine c_VV hx hb hml hts hown hK hl.1 hS ⟨Nat.le_refl _, Nat.le_refl _⟩ (met_X13_keepsRow l D dA hG) (cw_X13_160 hts ⟨by decide, by decide⟩) (hG 0 _ rfl) rfl rfl rfl rfl (Nat.le_of_ble_eq_true rfl) dX13_read_228 (fun _ h => h) (fun H1 locs hq hF hS => ?_)
                            obtain ⟨V7, hG, hE7, h307⟩ := hq
                            generalize hHe7 : H1 = H at hG hS ⊢
                            clear hHe7
                            refine lv_aload_n hx hb dX13_read_231 rfl (lv_at hl 1 rfl) ?_
                            refine lv_iconst (v := (nI 0)) hx hb dX13_read_232 (by decide) ?_
                            refine g_put hx hb hts hown hK hG hS 0 (AM_in 0 (by decide)) rfl rfl ok_X13 53 (by decide) q1524 rfl rfl rfl rfl dX13_read_233 (fun H locs hG hO hS => ?_)
                            refine lv_aload_n hx hb dX13_read_236 rfl (lv_at hl 1 rfl) ?_
                            refine lv_iconst (v := (nI 0)) hx hb dX13_read_237 (by decide) ?_
                            refine g_put hx hb hts hown hK hG hS 0 (AM_in 0 (by decide)) rfl rfl ok_X13 58 (by decide) q1529 rfl rfl rfl rfl dX13_read_238 (fun H locs hG hO hS => ?_)
                            refine lv_iconst (v := (nI 0)) hx hb dX13_read_241 (by decide) ?_
                            refine lv_istore_n (lv' := [(1, .int (nI 0)), (0, .ref o)]) hx hb dX13_read_242 rfl hl (by decide) rfl (fun ls hl => ?_)
                            refine lv_iload_n hx hb dX13_read_243 rfl (lv_at hl 0 rfl) ?_
                            refine lv_iconst (v := (nI 3)) hx hb dX13_read_244 (by decide) ?_
                            refine n_icmp_ge (tgt := 261) hx hb dX13_read_245 (by decide) (by decide) (by decide) (fun z => absurd z (by decide)) (fun _ => ?_)
                            refine lv_aload_n hx hb dX13_read_248 rfl (lv_at hl 1 rfl) ?_
                            refine g_get hx hb hts hown hK hG 0 rfl rfl ok_X13 63 (by decide) q1534 rfl rfl dX13_read_249 ?_
                            refine lv_iload_n hx hb dX13_read_252 rfl (lv_at hl 0 rfl) ?_
                            refine lv_iconst (v := (nI 0)) hx hb dX13_read_253 (by decide) ?_
                            refine n_zast (x2 := (nI 0)) hx hb hK hG hS 42 (AM_in 42 (by decide)) rfl (by omega) (by decide) (by decide) dX13_read_254 (fun H locs hG hO hS => ?_)
                            refine lv_iinc (v := (nI 1)) (lv' := [(1, .int (nI 1)), (0, .ref o)]) hx hb dX13_read_255 hl (k := 0) rfl (nI_add _ _) (by decide) rfl (fun ls hl => ?_)
                            refine lv_goto (tgt := 243) hx hb dX13_read_258 (by decide) ?_
                            refine lv_iload_n hx hb dX13_read_243 rfl (lv_at hl 0 rfl) ?_
                            refine lv_iconst (v := (nI 3)) hx hb dX13_read_244 (by decide) ?_
                            refine n_icmp_ge (tgt := 261) hx hb dX13_read_245 (by decide) (by decide) (by decide) (fun z => absurd z (by decide)) (fun _ => ?_)
                            refine lv_aload_n hx hb dX13_read_248 rfl (lv_at hl 1 rfl) ?_
                            refine g_get hx hb hts hown hK hG 0 rfl rfl ok_X13 63 (by decide) q1534 rfl rfl dX13_read_249 ?_
                            refine lv_iload_n hx hb dX13_read_252 rfl (lv_at hl 0 rfl) ?_
                            refine lv_iconst (v := (nI 0)) hx hb dX13_read_253 (by decide) ?_
                            refine n_zast (x2 := (nI 0)) hx hb hK hG hS 42 (AM_in 42 (by decide)) rfl (by omega) (by decide) (by decide) dX13_read_254 (fun H locs hG hO hS => ?_)
                            refine lv_iinc (v := (nI 2)) (lv' := [(1, .int (nI 2)), (0, .ref o)]) hx hb dX13_read_255 hl (k := 0) rfl (nI_add _ _) (by decide) rfl (fun ls hl => ?_)
                            refine lv_goto (tgt := 243) hx hb dX13_read_258 (by decide) ?_
                            refine lv_iload_n hx hb dX13_read_243 rfl (lv_at hl 0 rfl) ?_
                            refine lv_iconst (v := (nI 3)) hx hb dX13_read_244 (by decide) ?_
                            refine n_icmp_ge (tgt := 261) hx hb dX13_read_245 (by decide) (by decide) (by decide) (fun z => absurd z (by decide)) (fun _ => ?_)
                            refine lv_aload_n hx hb dX13_read_248 rfl (lv_at hl 1 rfl) ?_
                            refine g_get hx hb hts hown hK hG 0 rfl rfl ok_X13 63 (by decide) q1534 rfl rfl dX13_read_249 ?_
                            refine lv_iload_n hx hb dX13_read_252 rfl (lv_at hl 0 rfl) ?_
                            refine lv_iconst (v := (nI 0)) hx hb dX13_read_253 (by decide) ?_
                            refine n_zast (x2 := (nI 0)) hx hb hK hG hS 42 (AM_in 42 (by decide)) rfl (by omega) (by decide) (by decide) dX13_read_254 (fun H locs hG hO hS => ?_)
                            refine lv_iinc (v := (nI 3)) (lv' := [(1, .int (nI 3)), (0, .ref o)]) hx hb dX13_read_255 hl (k := 0) rfl (nI_add _ _) (by decide) rfl (fun ls hl => ?_)
                            refine lv_goto (tgt := 243) hx hb dX13_read_258 (by decide) ?_
                            refine lv_iload_n hx hb dX13_read_243 rfl (lv_at hl 0 rfl) ?_
                            refine lv_iconst (v := (nI 3)) hx hb dX13_read_244 (by decide) ?_
                            refine n_icmp_ge (tgt := 261) hx hb dX13_read_245 (by decide) (by decide) (by decide) (fun _ => ?_) (fun z => absurd z (by decide))
                            refine lv_iconst (v := (nI 0)) hx hb dX13_read_261 (by decide) ?_
                            refine hend _ _ _ _ _ hS dX13_read_262 ?_
                            subst hch hsz
                            have hRSf : rsS (up2 (up2 (up2 (up2 (up2 V7 0 53 (nI 0)) 0 58 (nI 0)) 42 0 (nI 0)) 42 1 (nI 0)) 42 2 (nI 0)) (1 - lv) bx cx rx := by
                              refine rsS_fr gRS (Eq.trans (hE7 9 (1 - lv) rfl) (hE6 9 (1 - lv) rfl)) (fun k hk j _ _ => ?_) (fun k hk => ?_) (fun k hk j _ _ => ?_) (fun k j h1 h2 _ _ => ?_) (fun j _ _ => ⟨(Eq.trans (hE7 25 j rfl) (hE6 25 j rfl)), (Eq.trans (hE7 26 j rfl) (hE6 26 j rfl))⟩)
                              · obtain rfl | rfl | rfl := hk
                                · exact (Eq.trans (hE7 10 j rfl) (hE6 10 j rfl))
                                · exact (Eq.trans (hE7 11 j rfl) (hE6 11 j rfl))
                                · exact (Eq.trans (hE7 12 j rfl) (hE6 12 j rfl))
                              · obtain rfl | rfl | rfl := hk
                                · exact (Eq.trans (hE7 15 (1 - lv) rfl) (hE6 15 (1 - lv) rfl))
                                · exact (Eq.trans (hE7 16 (1 - lv) rfl) (hE6 16 (1 - lv) rfl))
                                · exact (Eq.trans (hE7 17 (1 - lv) rfl) (hE6 17 (1 - lv) rfl))
                              · obtain rfl | rfl := hk
                                · exact (Eq.trans (hE7 18 j rfl) (hE6 18 j rfl))
                                · exact (Eq.trans (hE7 19 j rfl) (hE6 19 j rfl))
                              · obtain rfl | rfl | rfl | rfl | rfl : k = 20 ∨ k = 21 ∨ k = 22 ∨ k = 23 ∨ k = 24 := by omega
                                · exact (Eq.trans (hE7 20 j rfl) (hE6 20 j rfl))
                                · exact (Eq.trans (hE7 21 j rfl) (hE6 21 j rfl))
                                · exact (Eq.trans (hE7 22 j rfl) (hE6 22 j rfl))
                                · exact (Eq.trans (hE7 23 j rfl) (hE6 23 j rfl))
                                · exact (Eq.trans (hE7 24 j rfl) (hE6 24 j rfl))
                            have hbx := bg_end gRS (fun j => rfl) (fun j => rfl) rfl h316 h456
                            have h42 : ∀ s, s < 3 → (up2 (up2 (up2 (up2 (up2 V7 0 53 (nI 0)) 0 58 (nI 0)) 42 0 (nI 0)) 42 1 (nI 0)) 42 2 (nI 0)) 42 s = nI 0 := by
                              intro s hs
                              obtain rfl | rfl | rfl : s = 0 ∨ s = 1 ∨ s = 2 := by omega
                              all_goals rfl
                            exact ⟨_, rfl, _, _, hG, (EqL.trans (EqL.mono hEL2 P6_PLr) (EqL.mono hE4L P8_PLr)), (Eq.trans (Eq.trans (hE7 0 2 rfl) (hE6 0 2 rfl)) h2l), by rw [hFF, rdT_e hRe]; exact rdQ_n ⟨rfl, ((hE7 0 17 rfl).trans (hE6 0 17 rfl)), ((hE7 0 18 rfl).trans (hE6 0 18 rfl)), ⟨bx, cx, hRSf, by omega, by have := gcb.2 rfl; omega⟩, fun j hj => Eq.trans (congrFun h307 j) (hbx j hj), rfl, rfl, h42, (((((((((((((((((((((((Eqx.rf.up rfl).trans (hE1.mono PRt_PRs)).up rfl).trans (hE2.mono PTk_PRs)).up rfl).up rfl).up rfl).up rfl).up rfl).up rfl).trans (hE3.mono PPl_PRs)).up rfl).up rfl).trans (hE4.mono PTo_PRs)).up rfl).up rfl).trans (hE6.mono PC_PRs)).trans (hE7.mono PN_PRs)).up rfl).up rfl).up rfl).up rfl).up rfl)⟩⟩
                          · exact absurd c207 (by omega)
                        · exact absurd c195 (by omega)
                      · exact absurd c177 (by omega)
                    · exact absurd c163 (by omega)
                  rw [hw] at hwq hFF
                  obtain ⟨hq1, hq2, hq3, hq4, hq5⟩ := hwq
                  refine lv_aload_n hx hb dX13_read_158 rfl (lv_at hl 1 rfl) ?_
                  refine lv_aload_n hx hb dX13_read_159 rfl (lv_at hl 1 rfl) ?_
                  refine g_get (v := .int (nI 0)) hx hb hts hown hK hG 0 rfl rfl ok_X13 13 (by decide) q1484 rfl (congrArg Value.int hps.2.2) dX13_read_160 ?_
                  refine n_if_le (tgt := 173) hx hb dX13_read_163 (by decide) (by omega) (fun c163 => ?_) (fun c163 => ?_)
                  · refine lv_aload_n hx hb dX13_read_173 rfl (lv_at hl 1 rfl) ?_
                    refine g_get (v := .int (nI qw.1)) hx hb hts hown hK hG 0 rfl rfl ok_X13 15 (by decide) q1486 rfl (congrArg Value.int hq1) dX13_read_174 ?_
                    refine n_if_le (tgt := 187) hx hb dX13_read_177 (by decide) (by omega) (fun c177 => ?_) (fun c177 => ?_)
                    · exact absurd c177 (by omega)
                    · refine lv_aload_n hx hb dX13_read_180 rfl (lv_at hl 1 rfl) ?_
                      refine g_get (v := .int (nI qw.2)) hx hb hts hown hK hG 0 rfl rfl ok_X13 16 (by decide) q1487 rfl (congrArg Value.int hq4) dX13_read_181 ?_
                      refine lv_goto (tgt := 188) hx hb dX13_read_184 (by decide) ?_
                      refine g_put hx hb hts hown hK hG hS 0 (AM_in 0 (by decide)) rfl rfl ok_X13 17 (by decide) q1488 rfl rfl rfl rfl dX13_read_188 (fun H locs hG hO hS => ?_)
                      refine lv_aload_n hx hb dX13_read_191 rfl (lv_at hl 1 rfl) ?_
                      refine g_get (v := .int (nI 0)) hx hb hts hown hK hG 0 rfl rfl ok_X13 13 (by decide) q1484 rfl (congrArg Value.int hps.2.2) dX13_read_192 ?_
                      refine n_if_le (tgt := 203) hx hb dX13_read_195 (by decide) (by omega) (fun c195 => ?_) (fun c195 => ?_)
                      · refine lv_aload_n hx hb dX13_read_203 rfl (lv_at hl 1 rfl) ?_
                        refine g_get (v := .int (nI qw.1)) hx hb hts hown hK hG 0 rfl rfl ok_X13 15 (by decide) q1486 rfl (congrArg Value.int hq1) dX13_read_204 ?_
                        refine n_if_le (tgt := 215) hx hb dX13_read_207 (by decide) (by omega) (fun c207 => ?_) (fun c207 => ?_)
                        · exact absurd c207 (by omega)
                        · refine lv_aload_n hx hb dX13_read_210 rfl (lv_at hl 1 rfl) ?_
                          refine g_get (v := .int (nI qw.1)) hx hb hts hown hK hG 0 rfl rfl ok_X13 15 (by decide) q1486 rfl (congrArg Value.int hq1) dX13_read_211 ?_
                          refine hend _ _ _ _ _ hS dX13_read_214 ?_
                          subst hch hsz
                          have hRSf : rsS (up2 V4 0 17 (nI qw.2)) lv b ce rs := by
                            refine rsS_fr (rsS_other hRS (by omega) hb9 hce9 hsF hbr hlo) rfl (fun k hk j _ _ => ?_) (fun k hk => ?_) (fun k hk j _ _ => ?_) (fun k j h1 h2 _ _ => ?_) (fun j _ _ => ⟨rfl, rfl⟩)
                            · obtain rfl | rfl | rfl := hk
                              · exact rfl
                              · exact rfl
                              · exact rfl
                            · obtain rfl | rfl | rfl := hk
                              · exact rfl
                              · exact rfl
                              · exact rfl
                            · obtain rfl | rfl := hk
                              · exact rfl
                              · exact rfl
                            · obtain rfl | rfl | rfl | rfl | rfl : k = 20 ∨ k = 21 ∨ k = 22 ∨ k = 23 ∨ k = 24 := by omega
                              · exact rfl
                              · exact rfl
                              · exact rfl
                              · exact rfl
                              · exact rfl
                          exact ⟨_, rfl, _, _, hG, (EqL.trans (EqL.mono hEL2 P6_PLr) (EqL.mono hE4L P8_PLr)), h2l, by rw [hFF]; exact rdQ_s ⟨rfl, hq2, hq3, rfl, (((((((((((((((Eqx.rf.up rfl).trans (hE1.mono PRt_PRf)).up rfl).trans (hE2.mono PTk_PRf)).up rfl).up rfl).up rfl).up rfl).up rfl).up rfl).trans (hE3.mono PPl_PRf)).up rfl).up rfl).trans (hE4.mono PTo_PRf)).up rfl), hRSf⟩⟩
                      · exact absurd c195 (by omega)
                  · exact absurd c163 (by omega)
                have hAB := bN0 (show bN (abA (rHc rx) (rN rx)) = 0 by omega)
                have hFF := rdF_n hRe (if_neg hAB)
                refine lv_aload_n hx hb dX13_read_148 rfl (lv_at hl 1 rfl) ?_
                refine lv_bipush (v := (nI 6)) hx hb dX13_read_149 (by decide) ?_
                refine lv_aload_n hx hb dX13_read_151 rfl (lv_at hl 1 rfl) ?_
                refine g_get (v := .int (nI tt)) hx hb hts hown hK hG 0 rfl rfl ok_X13 11 (by decide) q1482 rfl (congrArg Value.int hps.2.1) dX13_read_152 ?_
                refine c_VV hx hb hml hts hown hK hl.1 hS ⟨Nat.le_refl _, Nat.le_refl _⟩ (met_X13_wrong l D dA hG hTl hps hwo 6 tt (by omega) (by omega) (by omega)) (cw_X13_252 hts ⟨by decide, by decide⟩) (hG 0 _ rfl) rfl rfl rfl rfl (Nat.le_of_ble_eq_true rfl) dX13_read_155 (fun _ h => h) (fun H1 locs hq hF hS => ?_)
                obtain ⟨V8, hG, hE8, hwo8⟩ := hq
                generalize hHe8 : H1 = H at hG hS ⊢
                clear hHe8
                have hwq : woM V8 (woP none wx 6 (plF ch sz tt)) := hwo8
                obtain hw | ⟨qw, hw⟩ := fo_cases ((woP none wx 6 (plF ch sz tt)))
                · rw [hw] at hwq hFF
                  refine lv_aload_n hx hb dX13_read_158 rfl (lv_at hl 1 rfl) ?_
                  refine lv_aload_n hx hb dX13_read_159 rfl (lv_at hl 1 rfl) ?_
                  refine g_get (v := .int (nI 0)) hx hb hts hown hK hG 0 rfl rfl ok_X13 13 (by decide) q1484 rfl (congrArg Value.int ((hE8 0 13 rfl).trans hps.2.2)) dX13_read_160 ?_
                  refine n_if_le (tgt := 173) hx hb dX13_read_163 (by decide) (by omega) (fun c163 => ?_) (fun c163 => ?_)
                  · refine lv_aload_n hx hb dX13_read_173 rfl (lv_at hl 1 rfl) ?_
                    refine g_get (v := .int (nI 0)) hx hb hts hown hK hG 0 rfl rfl ok_X13 15 (by decide) q1486 rfl (congrArg Value.int hwq) dX13_read_174 ?_
                    refine n_if_le (tgt := 187) hx hb dX13_read_177 (by decide) (by omega) (fun c177 => ?_) (fun c177 => ?_)
                    · refine lv_iconst (v := (-1)) hx hb dX13_read_187 (by decide) ?_
                      refine g_put hx hb hts hown hK hG hS 0 (AM_in 0 (by decide)) rfl rfl ok_X13 17 (by decide) q1488 rfl rfl rfl rfl dX13_read_188 (fun H locs hG hO hS => ?_)
                      refine lv_aload_n hx hb dX13_read_191 rfl (lv_at hl 1 rfl) ?_
                      refine g_get (v := .int (nI 0)) hx hb hts hown hK hG 0 rfl rfl ok_X13 13 (by decide) q1484 rfl (congrArg Value.int ((hE8 0 13 rfl).trans hps.2.2)) dX13_read_192 ?_
                      refine n_if_le (tgt := 203) hx hb dX13_read_195 (by decide) (by omega) (fun c195 => ?_) (fun c195 => ?_)
                      · refine lv_aload_n hx hb dX13_read_203 rfl (lv_at hl 1 rfl) ?_
                        refine g_get (v := .int (nI 0)) hx hb hts hown hK hG 0 rfl rfl ok_X13 15 (by decide) q1486 rfl (congrArg Value.int hwq) dX13_read_204 ?_
                        refine n_if_le (tgt := 215) hx hb dX13_read_207 (by decide) (by omega) (fun c207 => ?_) (fun c207 => ?_)
                        · refine lv_aload_n hx hb dX13_read_215 rfl (lv_at hl 1 rfl) ?_
                          refine lv_aload_n hx hb dX13_read_216 rfl (lv_at hl 1 rfl) ?_
                          refine g_get (v := .int (nI (1 - lv))) hx hb hts hown hK hG 0 rfl rfl ok_X13 19 (by decide) q1490 rfl (congrArg Value.int ((hE8 0 19 rfl).trans ((hE4 0 19 rfl).trans (hE3 0 19 rfl)))) dX13_read_217 ?_
                          refine g_put hx hb hts hown hK hG hS 0 (AM_in 0 (by decide)) rfl rfl ok_X13 18 (by decide) q1489 rfl rfl rfl rfl dX13_read_220 (fun H locs hG hO hS => ?_)
                          refine lv_aload_n hx hb dX13_read_223 rfl (lv_at hl 1 rfl) ?_
                          refine c_VV hx hb hml hts hown hK hl.1 hS ⟨Nat.le_refl _, Nat.le_refl _⟩ (met_X13_begins l D dA hG (lv := (1 - lv)) (n := rN rx) ⟨by omega, gRS.1, rfl, (Eq.trans (hE8 9 (1 - lv) rfl) gRS.2.1)⟩) (cw_X13_157 hts ⟨by decide, by decide⟩) (hG 0 _ rfl) rfl rfl rfl rfl (Nat.le_of_ble_eq_true rfl) dX13_read_224 (fun _ h => h) (fun H1 locs hq hF hS => ?_)
                          obtain ⟨V9, hG, hE9, h319, h459, h499, h509⟩ := hq
                          generalize hHe9 : H1 = H at hG hS ⊢
                          clear hHe9
                          refine lv_aload_n hx hb dX13_read_227 rfl (lv_at hl 1 rfl) ?_
                          refine c_VV hx hb hml hts hown hK hl.1 hS ⟨Nat.le_refl _, Nat.le_refl _⟩ (met_X13_keepsRow l D dA hG) (cw_X13_160 hts ⟨by decide, by decide⟩) (hG 0 _ rfl) rfl rfl rfl rfl (Nat.le_of_ble_eq_true rfl) dX13_read_228 (fun _ h => h) (fun H1 locs hq hF hS => ?_)
                          obtain ⟨V10, hG, hE10, h3010⟩ := hq
                          generalize hHe10 : H1 = H at hG hS ⊢
                          clear hHe10
                          refine lv_aload_n hx hb dX13_read_231 rfl (lv_at hl 1 rfl) ?_
                          refine lv_iconst (v := (nI 0)) hx hb dX13_read_232 (by decide) ?_
                          refine g_put hx hb hts hown hK hG hS 0 (AM_in 0 (by decide)) rfl rfl ok_X13 53 (by decide) q1524 rfl rfl rfl rfl dX13_read_233 (fun H locs hG hO hS => ?_)
                          refine lv_aload_n hx hb dX13_read_236 rfl (lv_at hl 1 rfl) ?_
                          refine lv_iconst (v := (nI 0)) hx hb dX13_read_237 (by decide) ?_
                          refine g_put hx hb hts hown hK hG hS 0 (AM_in 0 (by decide)) rfl rfl ok_X13 58 (by decide) q1529 rfl rfl rfl rfl dX13_read_238 (fun H locs hG hO hS => ?_)
                          refine lv_iconst (v := (nI 0)) hx hb dX13_read_241 (by decide) ?_
                          refine lv_istore_n (lv' := [(1, .int (nI 0)), (0, .ref o)]) hx hb dX13_read_242 rfl hl (by decide) rfl (fun ls hl => ?_)
                          refine lv_iload_n hx hb dX13_read_243 rfl (lv_at hl 0 rfl) ?_
                          refine lv_iconst (v := (nI 3)) hx hb dX13_read_244 (by decide) ?_
                          refine n_icmp_ge (tgt := 261) hx hb dX13_read_245 (by decide) (by decide) (by decide) (fun z => absurd z (by decide)) (fun _ => ?_)
                          refine lv_aload_n hx hb dX13_read_248 rfl (lv_at hl 1 rfl) ?_
                          refine g_get hx hb hts hown hK hG 0 rfl rfl ok_X13 63 (by decide) q1534 rfl rfl dX13_read_249 ?_
                          refine lv_iload_n hx hb dX13_read_252 rfl (lv_at hl 0 rfl) ?_
                          refine lv_iconst (v := (nI 0)) hx hb dX13_read_253 (by decide) ?_
                          refine n_zast (x2 := (nI 0)) hx hb hK hG hS 42 (AM_in 42 (by decide)) rfl (by omega) (by decide) (by decide) dX13_read_254 (fun H locs hG hO hS => ?_)
                          refine lv_iinc (v := (nI 1)) (lv' := [(1, .int (nI 1)), (0, .ref o)]) hx hb dX13_read_255 hl (k := 0) rfl (nI_add _ _) (by decide) rfl (fun ls hl => ?_)
                          refine lv_goto (tgt := 243) hx hb dX13_read_258 (by decide) ?_
                          refine lv_iload_n hx hb dX13_read_243 rfl (lv_at hl 0 rfl) ?_
                          refine lv_iconst (v := (nI 3)) hx hb dX13_read_244 (by decide) ?_
                          refine n_icmp_ge (tgt := 261) hx hb dX13_read_245 (by decide) (by decide) (by decide) (fun z => absurd z (by decide)) (fun _ => ?_)
                          refine lv_aload_n hx hb dX13_read_248 rfl (lv_at hl 1 rfl) ?_
                          refine g_get hx hb hts hown hK hG 0 rfl rfl ok_X13 63 (by decide) q1534 rfl rfl dX13_read_249 ?_
                          refine lv_iload_n hx hb dX13_read_252 rfl (lv_at hl 0 rfl) ?_
                          refine lv_iconst (v := (nI 0)) hx hb dX13_read_253 (by decide) ?_
                          refine n_zast (x2 := (nI 0)) hx hb hK hG hS 42 (AM_in 42 (by decide)) rfl (by omega) (by decide) (by decide) dX13_read_254 (fun H locs hG hO hS => ?_)
                          refine lv_iinc (v := (nI 2)) (lv' := [(1, .int (nI 2)), (0, .ref o)]) hx hb dX13_read_255 hl (k := 0) rfl (nI_add _ _) (by decide) rfl (fun ls hl => ?_)
                          refine lv_goto (tgt := 243) hx hb dX13_read_258 (by decide) ?_
                          refine lv_iload_n hx hb dX13_read_243 rfl (lv_at hl 0 rfl) ?_
                          refine lv_iconst (v := (nI 3)) hx hb dX13_read_244 (by decide) ?_
                          refine n_icmp_ge (tgt := 261) hx hb dX13_read_245 (by decide) (by decide) (by decide) (fun z => absurd z (by decide)) (fun _ => ?_)
                          refine lv_aload_n hx hb dX13_read_248 rfl (lv_at hl 1 rfl) ?_
                          refine g_get hx hb hts hown hK hG 0 rfl rfl ok_X13 63 (by decide) q1534 rfl rfl dX13_read_249 ?_
                          refine lv_iload_n hx hb dX13_read_252 rfl (lv_at hl 0 rfl) ?_
                          refine lv_iconst (v := (nI 0)) hx hb dX13_read_253 (by decide) ?_
                          refine n_zast (x2 := (nI 0)) hx hb hK hG hS 42 (AM_in 42 (by decide)) rfl (by omega) (by decide) (by decide) dX13_read_254 (fun H locs hG hO hS => ?_)
                          refine lv_iinc (v := (nI 3)) (lv' := [(1, .int (nI 3)), (0, .ref o)]) hx hb dX13_read_255 hl (k := 0) rfl (nI_add _ _) (by decide) rfl (fun ls hl => ?_)
                          refine lv_goto (tgt := 243) hx hb dX13_read_258 (by decide) ?_
                          refine lv_iload_n hx hb dX13_read_243 rfl (lv_at hl 0 rfl) ?_
                          refine lv_iconst (v := (nI 3)) hx hb dX13_read_244 (by decide) ?_
                          refine n_icmp_ge (tgt := 261) hx hb dX13_read_245 (by decide) (by decide) (by decide) (fun _ => ?_) (fun z => absurd z (by decide))
                          refine lv_iconst (v := (nI 0)) hx hb dX13_read_261 (by decide) ?_
                          refine hend _ _ _ _ _ hS dX13_read_262 ?_
                          subst hch hsz
                          have hRSf : rsS (up2 (up2 (up2 (up2 (up2 V10 0 53 (nI 0)) 0 58 (nI 0)) 42 0 (nI 0)) 42 1 (nI 0)) 42 2 (nI 0)) (1 - lv) bx cx rx := by
                            refine rsS_fr gRS (Eq.trans (hE10 9 (1 - lv) rfl) (Eq.trans (hE9 9 (1 - lv) rfl) (hE8 9 (1 - lv) rfl))) (fun k hk j _ _ => ?_) (fun k hk => ?_) (fun k hk j _ _ => ?_) (fun k j h1 h2 _ _ => ?_) (fun j _ _ => ⟨(Eq.trans (hE10 25 j rfl) (Eq.trans (hE9 25 j rfl) (hE8 25 j rfl))), (Eq.trans (hE10 26 j rfl) (Eq.trans (hE9 26 j rfl) (hE8 26 j rfl)))⟩)
                            · obtain rfl | rfl | rfl := hk
                              · exact (Eq.trans (hE10 10 j rfl) (Eq.trans (hE9 10 j rfl) (hE8 10 j rfl)))
                              · exact (Eq.trans (hE10 11 j rfl) (Eq.trans (hE9 11 j rfl) (hE8 11 j rfl)))
                              · exact (Eq.trans (hE10 12 j rfl) (Eq.trans (hE9 12 j rfl) (hE8 12 j rfl)))
                            · obtain rfl | rfl | rfl := hk
                              · exact (Eq.trans (hE10 15 (1 - lv) rfl) (Eq.trans (hE9 15 (1 - lv) rfl) (hE8 15 (1 - lv) rfl)))
                              · exact (Eq.trans (hE10 16 (1 - lv) rfl) (Eq.trans (hE9 16 (1 - lv) rfl) (hE8 16 (1 - lv) rfl)))
                              · exact (Eq.trans (hE10 17 (1 - lv) rfl) (Eq.trans (hE9 17 (1 - lv) rfl) (hE8 17 (1 - lv) rfl)))
                            · obtain rfl | rfl := hk
                              · exact (Eq.trans (hE10 18 j rfl) (Eq.trans (hE9 18 j rfl) (hE8 18 j rfl)))
                              · exact (Eq.trans (hE10 19 j rfl) (Eq.trans (hE9 19 j rfl) (hE8 19 j rfl)))
                            · obtain rfl | rfl | rfl | rfl | rfl : k = 20 ∨ k = 21 ∨ k = 22 ∨ k = 23 ∨ k = 24 := by omega
                              · exact (Eq.trans (hE10 20 j rfl) (Eq.trans (hE9 20 j rfl) (hE8 20 j rfl)))
                              · exact (Eq.trans (hE10 21 j rfl) (Eq.trans (hE9 21 j rfl) (hE8 21 j rfl)))
                              · exact (Eq.trans (hE10 22 j rfl) (Eq.trans (hE9 22 j rfl) (hE8 22 j rfl)))
                              · exact (Eq.trans (hE10 23 j rfl) (Eq.trans (hE9 23 j rfl) (hE8 23 j rfl)))
                              · exact (Eq.trans (hE10 24 j rfl) (Eq.trans (hE9 24 j rfl) (hE8 24 j rfl)))
                          have hbx := bg_end gRS (fun j => (hE8 10 j rfl)) (fun j => (hE8 11 j rfl)) (hE8 16 (1 - lv) rfl) h319 h459
                          have h42 : ∀ s, s < 3 → (up2 (up2 (up2 (up2 (up2 V10 0 53 (nI 0)) 0 58 (nI 0)) 42 0 (nI 0)) 42 1 (nI 0)) 42 2 (nI 0)) 42 s = nI 0 := by
                            intro s hs
                            obtain rfl | rfl | rfl : s = 0 ∨ s = 1 ∨ s = 2 := by omega
                            all_goals rfl
                          exact ⟨_, rfl, _, _, hG, (EqL.trans (EqL.mono hEL2 P6_PLr) (EqL.mono hE4L P8_PLr)), (Eq.trans (Eq.trans (hE10 0 2 rfl) (Eq.trans (hE9 0 2 rfl) (hE8 0 2 rfl))) h2l), by rw [hFF, rdT_e hRe]; exact rdQ_n ⟨rfl, ((hE10 0 17 rfl).trans (hE9 0 17 rfl)), ((hE10 0 18 rfl).trans (hE9 0 18 rfl)), ⟨bx, cx, hRSf, by omega, by have := gcb.2 rfl; omega⟩, fun j hj => Eq.trans (congrFun h3010 j) (hbx j hj), rfl, rfl, h42, ((((((((((((((((((((((((Eqx.rf.up rfl).trans (hE1.mono PRt_PRs)).up rfl).trans (hE2.mono PTk_PRs)).up rfl).up rfl).up rfl).up rfl).up rfl).up rfl).trans (hE3.mono PPl_PRs)).up rfl).up rfl).trans (hE4.mono PTo_PRs)).trans (hE8.mono PWo_PRs)).up rfl).up rfl).trans (hE9.mono PC_PRs)).trans (hE10.mono PN_PRs)).up rfl).up rfl).up rfl).up rfl).up rfl)⟩⟩
                        · exact absurd c207 (by omega)
                      · exact absurd c195 (by omega)
                    · exact absurd c177 (by omega)
                  · exact absurd c163 (by omega)
                rw [hw] at hwq hFF
                obtain ⟨hq1, hq2, hq3, hq4, hq5⟩ := hwq
                refine lv_aload_n hx hb dX13_read_158 rfl (lv_at hl 1 rfl) ?_
                refine lv_aload_n hx hb dX13_read_159 rfl (lv_at hl 1 rfl) ?_
                refine g_get (v := .int (nI 0)) hx hb hts hown hK hG 0 rfl rfl ok_X13 13 (by decide) q1484 rfl (congrArg Value.int ((hE8 0 13 rfl).trans hps.2.2)) dX13_read_160 ?_
                refine n_if_le (tgt := 173) hx hb dX13_read_163 (by decide) (by omega) (fun c163 => ?_) (fun c163 => ?_)
                · refine lv_aload_n hx hb dX13_read_173 rfl (lv_at hl 1 rfl) ?_
                  refine g_get (v := .int (nI qw.1)) hx hb hts hown hK hG 0 rfl rfl ok_X13 15 (by decide) q1486 rfl (congrArg Value.int hq1) dX13_read_174 ?_
                  refine n_if_le (tgt := 187) hx hb dX13_read_177 (by decide) (by omega) (fun c177 => ?_) (fun c177 => ?_)
                  · exact absurd c177 (by omega)
                  · refine lv_aload_n hx hb dX13_read_180 rfl (lv_at hl 1 rfl) ?_
                    refine g_get (v := .int (nI qw.2)) hx hb hts hown hK hG 0 rfl rfl ok_X13 16 (by decide) q1487 rfl (congrArg Value.int hq4) dX13_read_181 ?_
                    refine lv_goto (tgt := 188) hx hb dX13_read_184 (by decide) ?_
                    refine g_put hx hb hts hown hK hG hS 0 (AM_in 0 (by decide)) rfl rfl ok_X13 17 (by decide) q1488 rfl rfl rfl rfl dX13_read_188 (fun H locs hG hO hS => ?_)
                    refine lv_aload_n hx hb dX13_read_191 rfl (lv_at hl 1 rfl) ?_
                    refine g_get (v := .int (nI 0)) hx hb hts hown hK hG 0 rfl rfl ok_X13 13 (by decide) q1484 rfl (congrArg Value.int ((hE8 0 13 rfl).trans hps.2.2)) dX13_read_192 ?_
                    refine n_if_le (tgt := 203) hx hb dX13_read_195 (by decide) (by omega) (fun c195 => ?_) (fun c195 => ?_)
                    · refine lv_aload_n hx hb dX13_read_203 rfl (lv_at hl 1 rfl) ?_
                      refine g_get (v := .int (nI qw.1)) hx hb hts hown hK hG 0 rfl rfl ok_X13 15 (by decide) q1486 rfl (congrArg Value.int hq1) dX13_read_204 ?_
                      refine n_if_le (tgt := 215) hx hb dX13_read_207 (by decide) (by omega) (fun c207 => ?_) (fun c207 => ?_)
                      · exact absurd c207 (by omega)
                      · refine lv_aload_n hx hb dX13_read_210 rfl (lv_at hl 1 rfl) ?_
                        refine g_get (v := .int (nI qw.1)) hx hb hts hown hK hG 0 rfl rfl ok_X13 15 (by decide) q1486 rfl (congrArg Value.int hq1) dX13_read_211 ?_
                        refine hend _ _ _ _ _ hS dX13_read_214 ?_
                        subst hch hsz
                        have hRSf : rsS (up2 V8 0 17 (nI qw.2)) lv b ce rs := by
                          refine rsS_fr (rsS_other hRS (by omega) hb9 hce9 hsF hbr hlo) (hE8 9 lv rfl) (fun k hk j _ _ => ?_) (fun k hk => ?_) (fun k hk j _ _ => ?_) (fun k j h1 h2 _ _ => ?_) (fun j _ _ => ⟨(hE8 25 j rfl), (hE8 26 j rfl)⟩)
                          · obtain rfl | rfl | rfl := hk
                            · exact (hE8 10 j rfl)
                            · exact (hE8 11 j rfl)
                            · exact (hE8 12 j rfl)
                          · obtain rfl | rfl | rfl := hk
                            · exact (hE8 15 lv rfl)
                            · exact (hE8 16 lv rfl)
                            · exact (hE8 17 lv rfl)
                          · obtain rfl | rfl := hk
                            · exact (hE8 18 j rfl)
                            · exact (hE8 19 j rfl)
                          · obtain rfl | rfl | rfl | rfl | rfl : k = 20 ∨ k = 21 ∨ k = 22 ∨ k = 23 ∨ k = 24 := by omega
                            · exact (hE8 20 j rfl)
                            · exact (hE8 21 j rfl)
                            · exact (hE8 22 j rfl)
                            · exact (hE8 23 j rfl)
                            · exact (hE8 24 j rfl)
                        exact ⟨_, rfl, _, _, hG, (EqL.trans (EqL.mono hEL2 P6_PLr) (EqL.mono hE4L P8_PLr)), (Eq.trans (hE8 0 2 rfl) h2l), by rw [hFF]; exact rdQ_s ⟨rfl, hq2, hq3, rfl, ((((((((((((((((Eqx.rf.up rfl).trans (hE1.mono PRt_PRf)).up rfl).trans (hE2.mono PTk_PRf)).up rfl).up rfl).up rfl).up rfl).up rfl).up rfl).trans (hE3.mono PPl_PRf)).up rfl).up rfl).trans (hE4.mono PTo_PRf)).trans (hE8.mono PWo_PRf)).up rfl), hRSf⟩⟩
                    · exact absurd c195 (by omega)
                · exact absurd c163 (by omega)
            have hkz : kdF ch sz tt ≠ 0 := fun z => bN0 (show bN (isP none (kdF ch sz tt) 0) = 0 by omega) (isP_n.mpr z)
            refine lv_aload_n hx hb dX13_read_127 rfl (lv_at hl 1 rfl) ?_
            refine c_VV hx hb hml hts hown hK hl.1 hS ⟨Nat.le_refl _, Nat.le_refl _⟩ (met_X13_tellOne l D dA hG hTl hps hwo hkz h19l (by omega) g12 g33 g39 gcb gbt gb0 gc0 gRS gRN) (cw_X13_245 hts ⟨by decide, by decide⟩) (hG 0 _ rfl) rfl rfl rfl rfl (Nat.le_of_ble_eq_true rfl) dX13_read_128 (fun _ h => h) (fun H1 locs hq hF hS => ?_)
            obtain ⟨V11, L11, b11, ce11, hG, hE11, hEL11, hps11, hwo11, hsd11, hbr11, hlo11, hok11⟩ := hq
            generalize hHe11 : H1 = H at hG hS ⊢
            clear hHe11
            obtain ⟨t11, fo11, wo11, rs11, he11⟩ : ∃ a b c d, onP (kdF ch sz) (plF ch sz) (vlF ch sz) (nmF ch sz) tt wx rx = (a, b, c, d) := ⟨_, _, _, _, rfl⟩
            have hlt11 : fo11 = none → tt < t11 := fun z => by
              have h1 := onP_lt (kd := kdF ch sz) (pl := plF ch sz) (vl := vlF ch sz) (nm := nmF ch sz) (t := tt) (wo := wx) (r := rx) (by omega) (by rw [he11]; exact z)
              rw [he11] at h1
              exact h1
            rw [he11] at hps11 hwo11 hok11
            have hRn := hR
            obtain ⟨u2, rfl⟩ : ∃ u2, u = u2 + 1 := ⟨u - 1, by have := hn rfl; omega⟩
            rw [rdL_1 hkz he11] at hRn
            refine lv_goto (tgt := 112) hx hb dX13_read_131 (by decide) ?_
            exact ih4 u2 t11 fo11 wo11 rs11 b11 ce11 V11 L11 _ _ _ (by omega) hRn (fun z => by have := hn rfl; have := hlt11 z; omega) (Eqx.trans hE4 hE11) (EqL.trans hE4L hEL11) (tkOK_L (fun j => hEL11 6 j rfl) (tkOK_to (fun j => hE11 3 j rfl) (fun j => hE11 4 j rfl) (fun j => hE11 5 j rfl) hTl)) hps11 hwo11 ((hE11 0 18 rfl).trans h18l) ((hE11 0 19 rfl).trans h19l) ((hE11 0 2 rfl).trans h2l) (sdF.trans hsF hsd11) (brF.trans hbr hbr11) (loF.trans hlo hlo11) hok11 hG hS (lv_sub hl [0, 1] rfl)
        exact loop4 (402 + 1) 402 0 none none rs0 (130 * (1 - lv)) (420 * (1 - lv)) (up2 (up2 V3 0 33 (nI (130 * (1 - lv)))) 0 39 (nI (420 * (1 - lv)))) L2 _ _ _ (Nat.lt_succ_self _) rfl (fun _ => Nat.le_refl _) Eqx.rf EqL.rf (tkOK_to (V := V2) (fun j => (hE3 3 j rfl)) (fun j => (hE3 4 j rfl)) (fun j => (hE3 5 j rfl)) hT) (⟨hT.2.1, (Eq.trans (hE3 0 11 rfl) rfl), (Eq.trans (hE3 0 13 rfl) rfl)⟩) (Eq.trans (hE3 0 15 rfl) rfl) (Eq.trans ((hE3 0 18 rfl).trans ((hE2 0 18 rfl).trans (hE1 0 18 rfl))) h18) (Eq.trans (hE3 0 19 rfl) rfl) (Eq.trans ((hE3 0 2 rfl).trans (hE2 0 2 rfl)) rfl) hsF0 hbr0 hlo0 (fun _ => ⟨(Eq.trans (hE3 0 12 rfl) rfl), rfl, rfl, ⟨by omega, fun _ => by omega⟩, by omega, Nat.le_refl _, Nat.le_refl _, pl_S hpl2, pl_N hpl2 (Eq.trans (hE3 0 20 rfl) rfl)⟩) hG hS (lv_sub hl [0, 1] rfl)
      obtain ⟨y, hy⟩ : ∃ y, tp[k]? = some y := ⟨_, List.getElem?_eq_getElem (by omega)⟩
      have hyv := htp.2.2 k y hy
      have hyn := htb y (List.mem_of_getElem? hy)
      refine lv_aload_n hx hb dX13_read_18 rfl (lv_at hl 1 rfl) ?_
      refine g_get hx hb hts hown hK hG 0 rfl rfl ok_X13 3 (by decide) q1474 rfl rfl dX13_read_19 ?_
      refine lv_iload_n hx hb dX13_read_22 rfl (lv_at hl 0 rfl) ?_
      refine lv_aload_n hx hb dX13_read_23 rfl (lv_at hl 1 rfl) ?_
      refine g_get hx hb hts hown hK hG 0 rfl rfl ok_X13 1 (by decide) q1472 rfl rfl dX13_read_24 ?_
      refine lv_iload_n hx hb dX13_read_27 rfl (lv_at hl 0 rfl) ?_
      refine n_bald hx hb hK hG 1 rfl (by omega) (by decide) dX13_read_28 ?_
      refine iv (y := y) ((hE1 1 k rfl).trans hyv) ?_
      refine n_bast (x2 := y) hx hb hK hG hS 2 (AM_in 2 (by decide)) rfl (by omega) (by decide) hyn dX13_read_29 (fun H locs hG hO hS => ?_)
      refine lv_iinc (v := (nI (k + 1))) (lv' := [(1, .int (nI (k + 1))), (0, .ref o)]) hx hb dX13_read_30 hl (k := 0) rfl (nI_add _ _) (by decide) rfl (fun ls hl => ?_)
      refine lv_goto (tgt := 10) hx hb dX13_read_33 (by decide) ?_
      exact ih1 (k + 1) (up2 V1 2 k y) _ _ _ (by omega) (by omega) (Eqx.up hE1 rfl) (cp_tx hcp (fun y2 h2 => (Option.some.inj (hy.symm.trans h2)).symm)) hG hS (lv_sub hl [0, 1] rfl)
  exact loop1 ((tp.length - 0) + 1) 0 (up2 V 0 4 (nI tp.length)) _ _ _ (Nat.lt_succ_self _) (Nat.zero_le _) Eqx.rf (fun i y hi => absurd hi (Nat.not_lt_zero _)) hG hS (lv_sub hl [0, 1] rfl)
