/-! a text read: the loop's laws, the text at the end -/
section ONLE
variable {kd pl vl nm : Nat → Nat} {t u : Nat} {wo : Fo} {r : Rs} {q : Nat × Nat}
theorem sl_le (hu : u ≤ 400) (h : (slP kd pl vl nm u wo r).2.1 = none) : (slP kd pl vl nm u wo r).1 ≤ 400 := by
  have nn : ∀ {f : Fo}, (∀ q, f = some q → (slP kd pl vl nm u wo r).2.1 = some q) → f = none := fun {f} hq => by
    cases f with
    | none => rfl
    | some q => exact absurd (h.symm.trans (hq q rfl)) (fun z => nomatch z)
  obtain ⟨-, a1, h1⟩ := mu_ok (nn (f := (muP kd pl 1 u none).2) (fun q hq => sl_f1 hq))
  obtain ⟨k2, a2, h2⟩ := bd_ok (nn (f := (bdP kd pl (u + 1) none).2) (fun q hq => sl_f2 h1 hq))
  obtain ⟨k3, a3, h3⟩ := bd_ok (nn (f := (bdP kd pl (u + 2) none).2) (fun q hq => sl_f3 h1 h2 hq))
  have e := sl_ok (vl := vl) (nm := nm) (wo := wo) (r := r) h1 h2 h3 k2 k3
  rw [e] at h ⊢
  obtain ⟨-, a4, h4⟩ := mu_ok h
  show (muP kd pl 4 (u + 3) none).1 ≤ 400
  rw [h4]
  show u + 3 + 1 ≤ 400
  omega
theorem cl_le (hu : u ≤ 400) (h : (clP kd pl vl u wo r).2.1 = none) : (clP kd pl vl u wo r).1 ≤ 400 := by
  have nn : ∀ {f : Fo}, (∀ q, f = some q → (clP kd pl vl u wo r).2.1 = some q) → f = none := fun {f} hq => by
    cases f with
    | none => rfl
    | some q => exact absurd (h.symm.trans (hq q rfl)) (fun z => nomatch z)
  obtain ⟨k1, a1, h1⟩ := bd_ok (nn (f := (bdP kd pl u none).2) (fun q hq => cl_f1 hq))
  obtain ⟨k2, a2, h2⟩ := bd_ok (nn (f := (bdP kd pl (u + 1) none).2) (fun q hq => cl_f2 h1 hq))
  have e := cl_ok (vl := vl) (wo := wo) (r := r) h1 h2 k1 k2
  rw [e] at h ⊢
  obtain ⟨-, a4, h4⟩ := mu_ok h
  show (muP kd pl 4 (u + 2) none).1 ≤ 400
  rw [h4]
  show u + 2 + 1 ≤ 400
  omega
theorem lw_le4 (ht : t ≤ 400) (ok : (lwP kd pl vl t none).2.1 = none) : (lwP kd pl vl t none).1 ≤ 400 := by
  obtain ⟨T, f, A, hL⟩ : ∃ x y z, lwL kd pl vl 4 (muP kd pl 5 t none).1 (muP kd pl 5 t none).2 [] = (x, y, z) := ex3 _
  have h0 := lwX0 ht hL ok
  have hf : f = none := h0.1
  subst hf
  have hm : (muP kd pl 5 t none).2 = none := by
    cases hc : (muP kd pl 5 t none).2 with
    | none => rfl
    | some q => exact absurd (ok.symm.trans (lwY_5 hc)) (fun z => nomatch z)
  obtain ⟨-, n4, hme⟩ := mu_ok hm
  have hL2 : lwL kd pl vl 4 (t + 1) none [] = (T, none, A) := by rw [← hL, hme]
  have g2 := (lwL_ge (by omega) hL2).2
  obtain ⟨t2, f2, el, h2⟩ := ex3 (tmP kd pl vl T none)
  cases f2 with
  | some q => exact absurd (ok.symm.trans (lwY_t hL (by rw [h2]))) (fun z => nomatch z)
  | none =>
    obtain ⟨t9, f9, h9⟩ := ex2 (muP kd pl 4 t2 none)
    have e := lwY_e hL h2 h9
    rw [e] at ok ⊢
    have ok2 : f9 = none := ok
    subst ok2
    have hm9 : (muP kd pl 4 t2 none).2 = none := by rw [h9]
    obtain ⟨-, n9, hme9⟩ := mu_ok hm9
    cases h9.symm.trans hme9
    have a1 := tm_le (by omega) h2 rfl
    show t2 + 1 ≤ 400
    omega
theorem on_le (ht : t ≤ 400) (ok : (onP kd pl vl nm t wo r).2.1 = none) : (onP kd pl vl nm t wo r).1 ≤ 400 := by
  have nn : ∀ {f : Fo}, (∀ q, f = some q → (onP kd pl vl nm t wo r).2.1 = some q) → f = none := fun {f} hq => by
    cases f with
    | none => rfl
    | some q => exact absurd (ok.symm.trans (hq q rfl)) (fun z => nomatch z)
  by_cases h20 : kd t = 20
  · obtain ⟨-, n4, hr⟩ := rm_ok (nn (f := (rmP pl (rN r) 9 t).2) (fun q hq => on_s0 h20 hq))
    rw [on_s h20 hr] at ok ⊢
    exact sl_le (by omega) ok
  by_cases h21 : kd t = 21
  · obtain ⟨-, n4, hr⟩ := rm_ok (nn (f := (rmP pl (rCn r) 9 t).2) (fun q hq => on_c0 h21 hq))
    rw [on_c h21 hr] at ok ⊢
    exact cl_le (by omega) ok
  by_cases h22 : 22 ≤ kd t ∧ kd t ≤ 25
  · have n4 := go_ne (nn (f := (goP pl t none).2) (fun q hq => on_l0 h22 hq))
    rw [on_l h22, goC_n n4] at ok ⊢
    exact lw_le4 (t := t + 1) (by omega) ok
  by_cases h26 : 26 ≤ kd t ∧ kd t ≤ 28
  · have n4 := go_ne (nn (f := (goP pl t none).2) (fun q hq => on_t0 h26 hq))
    obtain ⟨k1, n5, h1⟩ := bd_ok (nn (f := (bdP kd pl (t + 1) none).2) (fun q hq => on_t1 h26 n4 hq))
    have e := on_t2 (vl := vl) (nm := nm) (wo := wo) (r := r) h26 n4 h1 k1
    rw [e] at ok ⊢
    obtain ⟨-, n6, h6⟩ := mu_ok ok
    show (muP kd pl 4 (t + 2) none).1 ≤ 400
    rw [h6]
    show t + 2 + 1 ≤ 400
    omega
  · rw [on_x (by omega)] at ok
    cases ok
theorem on_ge (ht : t ≤ 400) (ok : (onP kd pl vl nm t wo r).2.1 = none) : t ≠ 400 := fun e => by
  have nn : ∀ {f : Fo}, (∀ q, f = some q → (onP kd pl vl nm t wo r).2.1 = some q) → f = none := fun {f} hq => by
    cases f with
    | none => rfl
    | some q => exact absurd (ok.symm.trans (hq q rfl)) (fun z => nomatch z)
  by_cases h20 : kd t = 20
  · exact (rm_ok (nn (f := (rmP pl (rN r) 9 t).2) (fun q hq => on_s0 h20 hq))).2.1 e
  by_cases h21 : kd t = 21
  · exact (rm_ok (nn (f := (rmP pl (rCn r) 9 t).2) (fun q hq => on_c0 h21 hq))).2.1 e
  by_cases h22 : 22 ≤ kd t ∧ kd t ≤ 25
  · exact go_ne (nn (f := (goP pl t none).2) (fun q hq => on_l0 h22 hq)) e
  by_cases h26 : 26 ≤ kd t ∧ kd t ≤ 28
  · exact go_ne (nn (f := (goP pl t none).2) (fun q hq => on_t0 h26 hq)) e
  · rw [on_x (by omega)] at ok
    cases ok
theorem rdL_f {n : Nat} (h : kd t ≠ 0) (hf : (onP kd pl vl nm t wo r).2.1 = some q) : (rdL kd pl vl nm (n + 1) t none wo r).2.1 = some q := by
  obtain ⟨t1, f1, wo1, r1, h1⟩ : ∃ a b c d, onP kd pl vl nm t wo r = (a, b, c, d) := ⟨_, _, _, _, rfl⟩
  rw [rdL_1 h h1]
  rw [h1] at hf
  have hf1 : f1 = some q := hf
  rw [rdL_0 (fun z => by rw [hf1] at z; exact nomatch z.1)]
  exact hf1
end ONLE
theorem rdG_f {kd pl vl nm : Nat → Nat} {q : Nat × Nat} {RX : Nat × Fo × Fo × Rs} (hR : rdX kd pl vl nm = RX) (h : RX.2.1 = some q) : rdF kd pl vl nm = some q := by
  unfold rdF
  rw [hR, h]
theorem rdG_n {kd pl vl nm : Nat → Nat} {RX : Nat × Fo × Fo × Rs} (hR : rdX kd pl vl nm = RX) (h : RX.2.1 = none) : rdF kd pl vl nm = if abA (rHc RX.2.2.2) (rN RX.2.2.2) = true then RX.2.2.1 else woP none RX.2.2.1 6 (pl RX.1) := by
  unfold rdF
  rw [hR, h]
/-- what is thrown of a reading -/
def okR (D : va_G) (dA : Nat → ClassId) (o : Nat) (P : Nat → Nat → Bool) (V : GI) (L : GL) (Rf : GR) (F : Fo) (q : Nat) (H1 : Heap) : Prop := q = o + 1 ∧ ∃ (V1 : GI) (Rf1 : GR), gP D dA o dS V1 L Rf1 H1 ∧ Eqx P V V1 ∧ (∀ k j, k ≠ 9 → Rf1 k j = Rf k j) ∧ ∃ n pl, F = some (n, pl) ∧ V1 1 6 = nI n ∧ V1 1 7 = nI pl
theorem okR_of {D : va_G} {dA : Nat → ClassId} {o : Nat} {P : Nat → Nat → Bool} {V V2 : GI} {L : GL} {Rf Rf2 : GR} {R : Nat × Fo} {F : Fo} {q : Nat} {H1 : Heap} (h : okX D dA o V2 L Rf2 R q H1) (hE : Eqx P V V2) (hP : ∀ k j, P k j = false → PPx k j = false) (hr : ∀ k j, k ≠ 9 → Rf2 k j = Rf k j) (hF : ∀ x, R.2 = some x → F = some x) : okR D dA o P V L Rf F q H1 := by
  obtain ⟨h1, V1, Rf1, g1, g2, g3, n, pl, g4, g5, g6⟩ := h
  exact ⟨h1, V1, Rf1, g1, hE.trans (g2.mono hP), fun k j hk => (g3 k j hk).trans (hr k j hk), n, pl, hF _ g4, g5, g6⟩
theorem wl_ab {VT : GI} {r : Rs} {bs : Nat → Nat} (h : wtS VT r bs none) : wlF bs (rN r) (rCn r) = abA (rHc r) (rN r) := by
  obtain ⟨-, h2⟩ := h
  obtain ⟨-, g2, g3⟩ := h2 rfl
  apply Bool.eq_iff_iff.mpr
  unfold abA
  rw [abF_i]
  constructor
  · intro hw b hb hn
    apply Classical.byContradiction
    intro hne
    obtain ⟨i, q1, q2⟩ := g3 b hb hne
    have := wlF_all _ hw i q1
    omega
  · intro ha
    apply Classical.byContradiction
    intro hw
    have hw2 : wlF bs (rN r) (rCn r) = false := by cases h : wlF bs (rN r) (rCn r); rfl; exact absurd h hw
    have : ∀ m, m ≤ rCn r → wlF bs (rN r) m = true := by
      intro m
      induction m with
      | zero => intro _; rfl
      | succ m ih =>
        intro hm
        refine wlF_s (ih (by omega)) ?_
        obtain ⟨q1, q2⟩ := g2 m (by omega)
        apply Classical.byContradiction
        intro hn
        exact q2 (ha (bs m) (by omega) (by omega))
    rw [this _ (Nat.le_refl _)] at hw2
    cases hw2
abbrev NS (o : Nat) : Nat → Prop := fun q => ¬ AS o q
theorem tt_txA {D : va_G} {dA : Nat → ClassId} {H : Heap} {o ed tx ea hi : Nat} {VT : GI} {LT : GL} {RT : GR} {r : Rs} (hGT : gP D dA tx dT VT LT RT H) (hTT : ttS D dA H o ed tx ea hi VT RT r) : txA D dA H (NS o) tx (txR r) := by
  obtain ⟨⟨h1, -⟩, h2, h3, h4, ⟨cap, g, h5, h6, h7, h8⟩, h9, h10, h11, h12, h13, h14, h15⟩ := hTT
  have hn : ∀ q, tx ≤ q → NS o q := fun q hq z => by have := z.2.1; omega
  have a0 : va_at D CL (tx, .inr (4, [.ref (tx + 1), .ref (tx + 2), .ref (tx + 3), .ref (tx + 4), .int (VT 0 4), .int (VT 0 5), .int (VT 0 6), .int (VT 0 7)])) H := hGT 0 _ rfl
  rw [h12, h13, h14] at a0
  refine ⟨tx + 1, tx + 2, tx + 3, tx + 4, VT 3, RT 2, VT 1 0, ea, VT 0 4, hn _ (by omega), hn _ (by omega), hn _ (by omega), hn _ (by omega), a0, tt_al hGT h3 h4, hGT 2 _ rfl, fun k hk => lwB_m (fun q _ hq => hn q (by have := hq.1; omega)) (h15 k hk), hGT 3 _ rfl, h9, h2⟩
theorem b01_n {x : Nat} (h : x < 2) : b01 (nI x) = x := (by decide : ∀ y : Fin 2, b01 (nI y.val) = y.val) ⟨x, h⟩
theorem tt_slpA {D : va_G} {dA : Nat → ClassId} {H : Heap} {o ed tx ea hi : Nat} {VT : GI} {LT : GL} {RT : GR} {r : Rs} (hGT : gP D dA tx dT VT LT RT H) (hTT : ttS D dA H o ed tx ea hi VT RT r) (hl : ∀ k, k < rN r → rLf r k < 2) : slpA D dA H (NS o) tx (txR r) := by
  obtain ⟨⟨h1, -⟩, h2, h3, h4, ⟨cap, g, h5, h6, h7, h8⟩, h9, h10, h11, h12, h13, h14, h15⟩ := hTT
  have hn : ∀ q, tx ≤ q → NS o q := fun q hq z => by have := z.2.1; omega
  refine ⟨_, tx + 1, VT 1 0, ea, cap, g, hn _ (by omega), hn _ (by omega), fun z => ?_, hGT 0 _ rfl, tt_al hGT h3 h4, h5, by show rN r ≤ cap; omega, by omega, fun k hk => ?_⟩
  · have := z.1; have := z.2.1; omega
  · obtain ⟨a, nm, k1, k2, k3, k4⟩ := h8 k hk
    refine ⟨a, .ref nm, hn _ (by have := k1.1; omega), k3, ?_⟩
    have e : b01 (xF (txR r) k) = rLf r k := b01_n (hl k hk)
    rw [e]
    exact k4.1
