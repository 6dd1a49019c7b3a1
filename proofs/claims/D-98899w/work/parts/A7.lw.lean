/-! a law told by the class: plain laws -/
theorem tm_s {kd pl vl : Nat → Nat} {t : Nat} {fo : Fo} {q : Nat × Nat} (h : fo = some q) : (tmP kd pl vl t fo).2.1 = some q := by
  subst h
  rw [tmP_f (fo := some q) (fun z => nomatch z)]
theorem mu_s {kd pl : Nat → Nat} {k t : Nat} {fo : Fo} {q : Nat × Nat} (h : fo = some q) : (muP kd pl k t fo).2 = some q := by
  subst h
  rw [muP_f (fo := some q) (fun z => nomatch z)]
theorem lwZ_s {kd pl vl : Nat → Nat} {k t : Nat} {fo : Fo} {ac : Ifs} {q : Nat × Nat} (h : fo = some q) : (lwL kd pl vl k t fo ac).2.1 = some q := by
  subst h
  cases k <;> (unfold lwL; rw [if_neg isP_s])
theorem lwZ_n {kd pl vl : Nat → Nat} {k t : Nat} {ac : Ifs} (h : ¬ kd t = 29) : lwL kd pl vl k t none ac = (t, none, ac) := by
  cases k <;> (unfold lwL; rw [if_neg (fun z => h (isP_n.mp z))])
theorem lwZ_4 {kd pl vl : Nat → Nat} {t : Nat} {ac : Ifs} (h : kd t = 29) : lwL kd pl vl 0 t none ac = (t, some (2, pl t), ac) := by
  unfold lwL; rw [if_pos (isP_n.mpr h)]; rfl
theorem ex2 {α β : Type} (x : α × β) : ∃ a b, x = (a, b) := ⟨x.1, x.2, rfl⟩
theorem lwZ_e {kd pl vl : Nat → Nat} {k u t0 t1 t2 t3 t4 t5 t6 : Nat} {f0 f1 f2 f3 f4 f5 f6 : Fo} {e1 e2 e3 : List Sg} {ac : Ifs} (h : kd u = 29) (h1 : goP pl u none = (t0, f0)) (h2 : tmP kd pl vl t0 f0 = (t1, f1, e1)) (h3 : muP kd pl 13 t1 f1 = (t2, f2)) (h4 : tmP kd pl vl t2 f2 = (t3, f3, e2)) (h5 : muP kd pl 30 t3 f3 = (t4, f4)) (h6 : tmP kd pl vl t4 f4 = (t5, f5, e3)) (h7 : muP kd pl 31 t5 f5 = (t6, f6)) : lwL kd pl vl (k + 1) u none ac = lwL kd pl vl k t6 f6 (ac ++ [(e1, e2, e3)]) := by
  rw [lwL, if_pos (isP_n.mpr h)]
  simp only [h1, h2, h3, h4, h5, h6, h7]
theorem lwZ_f0 {kd pl vl : Nat → Nat} {k u  : Nat}  {ac : Ifs} {q : Nat × Nat} (h : kd u = 29)  (hf : (goP pl u none).2 = some q) : (lwL kd pl vl (k + 1) u none ac).2.1 = some q := by
  obtain ⟨t0, f0, h1⟩ := ex2 (goP pl u none)
  obtain ⟨t1, f1, e1, h2⟩ := ex3 (tmP kd pl vl t0 f0)
  obtain ⟨t2, f2, h3⟩ := ex2 (muP kd pl 13 t1 f1)
  obtain ⟨t3, f3, e2, h4⟩ := ex3 (tmP kd pl vl t2 f2)
  obtain ⟨t4, f4, h5⟩ := ex2 (muP kd pl 30 t3 f3)
  obtain ⟨t5, f5, e3, h6⟩ := ex3 (tmP kd pl vl t4 f4)
  obtain ⟨t6, f6, h7⟩ := ex2 (muP kd pl 31 t5 f5)
  rw [h1] at hf
  have g0 : f0 = some q := hf
  have g1 : f1 = some q := by have := tm_s (kd := kd) (pl := pl) (vl := vl) (t := t0) g0; rw [h2] at this; exact this
  have g2 : f2 = some q := by have := mu_s (kd := kd) (pl := pl) (k := 13) (t := t1) g1; rw [h3] at this; exact this
  have g3 : f3 = some q := by have := tm_s (kd := kd) (pl := pl) (vl := vl) (t := t2) g2; rw [h4] at this; exact this
  have g4 : f4 = some q := by have := mu_s (kd := kd) (pl := pl) (k := 30) (t := t3) g3; rw [h5] at this; exact this
  have g5 : f5 = some q := by have := tm_s (kd := kd) (pl := pl) (vl := vl) (t := t4) g4; rw [h6] at this; exact this
  have g6 : f6 = some q := by have := mu_s (kd := kd) (pl := pl) (k := 31) (t := t5) g5; rw [h7] at this; exact this
  rw [lwZ_e h h1 h2 h3 h4 h5 h6 h7]
  exact lwZ_s g6
theorem lwZ_f1 {kd pl vl : Nat → Nat} {k u t0 : Nat} {f0 : Fo} {ac : Ifs} {q : Nat × Nat} (h : kd u = 29) (h1 : goP pl u none = (t0, f0)) (hf : (tmP kd pl vl t0 f0).2.1 = some q) : (lwL kd pl vl (k + 1) u none ac).2.1 = some q := by
  obtain ⟨t1, f1, e1, h2⟩ := ex3 (tmP kd pl vl t0 f0)
  obtain ⟨t2, f2, h3⟩ := ex2 (muP kd pl 13 t1 f1)
  obtain ⟨t3, f3, e2, h4⟩ := ex3 (tmP kd pl vl t2 f2)
  obtain ⟨t4, f4, h5⟩ := ex2 (muP kd pl 30 t3 f3)
  obtain ⟨t5, f5, e3, h6⟩ := ex3 (tmP kd pl vl t4 f4)
  obtain ⟨t6, f6, h7⟩ := ex2 (muP kd pl 31 t5 f5)
  rw [h2] at hf
  have g1 : f1 = some q := hf
  have g2 : f2 = some q := by have := mu_s (kd := kd) (pl := pl) (k := 13) (t := t1) g1; rw [h3] at this; exact this
  have g3 : f3 = some q := by have := tm_s (kd := kd) (pl := pl) (vl := vl) (t := t2) g2; rw [h4] at this; exact this
  have g4 : f4 = some q := by have := mu_s (kd := kd) (pl := pl) (k := 30) (t := t3) g3; rw [h5] at this; exact this
  have g5 : f5 = some q := by have := tm_s (kd := kd) (pl := pl) (vl := vl) (t := t4) g4; rw [h6] at this; exact this
  have g6 : f6 = some q := by have := mu_s (kd := kd) (pl := pl) (k := 31) (t := t5) g5; rw [h7] at this; exact this
  rw [lwZ_e h h1 h2 h3 h4 h5 h6 h7]
  exact lwZ_s g6
theorem lwZ_f2 {kd pl vl : Nat → Nat} {k u t0 t1 : Nat} {f0 f1 : Fo} {e1 : List Sg} {ac : Ifs} {q : Nat × Nat} (h : kd u = 29) (h1 : goP pl u none = (t0, f0)) (h2 : tmP kd pl vl t0 f0 = (t1, f1, e1)) (hf : (muP kd pl 13 t1 f1).2 = some q) : (lwL kd pl vl (k + 1) u none ac).2.1 = some q := by
  obtain ⟨t2, f2, h3⟩ := ex2 (muP kd pl 13 t1 f1)
  obtain ⟨t3, f3, e2, h4⟩ := ex3 (tmP kd pl vl t2 f2)
  obtain ⟨t4, f4, h5⟩ := ex2 (muP kd pl 30 t3 f3)
  obtain ⟨t5, f5, e3, h6⟩ := ex3 (tmP kd pl vl t4 f4)
  obtain ⟨t6, f6, h7⟩ := ex2 (muP kd pl 31 t5 f5)
  rw [h3] at hf
  have g2 : f2 = some q := hf
  have g3 : f3 = some q := by have := tm_s (kd := kd) (pl := pl) (vl := vl) (t := t2) g2; rw [h4] at this; exact this
  have g4 : f4 = some q := by have := mu_s (kd := kd) (pl := pl) (k := 30) (t := t3) g3; rw [h5] at this; exact this
  have g5 : f5 = some q := by have := tm_s (kd := kd) (pl := pl) (vl := vl) (t := t4) g4; rw [h6] at this; exact this
  have g6 : f6 = some q := by have := mu_s (kd := kd) (pl := pl) (k := 31) (t := t5) g5; rw [h7] at this; exact this
  rw [lwZ_e h h1 h2 h3 h4 h5 h6 h7]
  exact lwZ_s g6
theorem lwZ_f3 {kd pl vl : Nat → Nat} {k u t0 t1 t2 : Nat} {f0 f1 f2 : Fo} {e1 : List Sg} {ac : Ifs} {q : Nat × Nat} (h : kd u = 29) (h1 : goP pl u none = (t0, f0)) (h2 : tmP kd pl vl t0 f0 = (t1, f1, e1)) (h3 : muP kd pl 13 t1 f1 = (t2, f2)) (hf : (tmP kd pl vl t2 f2).2.1 = some q) : (lwL kd pl vl (k + 1) u none ac).2.1 = some q := by
  obtain ⟨t3, f3, e2, h4⟩ := ex3 (tmP kd pl vl t2 f2)
  obtain ⟨t4, f4, h5⟩ := ex2 (muP kd pl 30 t3 f3)
  obtain ⟨t5, f5, e3, h6⟩ := ex3 (tmP kd pl vl t4 f4)
  obtain ⟨t6, f6, h7⟩ := ex2 (muP kd pl 31 t5 f5)
  rw [h4] at hf
  have g3 : f3 = some q := hf
  have g4 : f4 = some q := by have := mu_s (kd := kd) (pl := pl) (k := 30) (t := t3) g3; rw [h5] at this; exact this
  have g5 : f5 = some q := by have := tm_s (kd := kd) (pl := pl) (vl := vl) (t := t4) g4; rw [h6] at this; exact this
  have g6 : f6 = some q := by have := mu_s (kd := kd) (pl := pl) (k := 31) (t := t5) g5; rw [h7] at this; exact this
  rw [lwZ_e h h1 h2 h3 h4 h5 h6 h7]
  exact lwZ_s g6
theorem lwZ_f4 {kd pl vl : Nat → Nat} {k u t0 t1 t2 t3 : Nat} {f0 f1 f2 f3 : Fo} {e1 e2 : List Sg} {ac : Ifs} {q : Nat × Nat} (h : kd u = 29) (h1 : goP pl u none = (t0, f0)) (h2 : tmP kd pl vl t0 f0 = (t1, f1, e1)) (h3 : muP kd pl 13 t1 f1 = (t2, f2)) (h4 : tmP kd pl vl t2 f2 = (t3, f3, e2)) (hf : (muP kd pl 30 t3 f3).2 = some q) : (lwL kd pl vl (k + 1) u none ac).2.1 = some q := by
  obtain ⟨t4, f4, h5⟩ := ex2 (muP kd pl 30 t3 f3)
  obtain ⟨t5, f5, e3, h6⟩ := ex3 (tmP kd pl vl t4 f4)
  obtain ⟨t6, f6, h7⟩ := ex2 (muP kd pl 31 t5 f5)
  rw [h5] at hf
  have g4 : f4 = some q := hf
  have g5 : f5 = some q := by have := tm_s (kd := kd) (pl := pl) (vl := vl) (t := t4) g4; rw [h6] at this; exact this
  have g6 : f6 = some q := by have := mu_s (kd := kd) (pl := pl) (k := 31) (t := t5) g5; rw [h7] at this; exact this
  rw [lwZ_e h h1 h2 h3 h4 h5 h6 h7]
  exact lwZ_s g6
theorem lwZ_f5 {kd pl vl : Nat → Nat} {k u t0 t1 t2 t3 t4 : Nat} {f0 f1 f2 f3 f4 : Fo} {e1 e2 : List Sg} {ac : Ifs} {q : Nat × Nat} (h : kd u = 29) (h1 : goP pl u none = (t0, f0)) (h2 : tmP kd pl vl t0 f0 = (t1, f1, e1)) (h3 : muP kd pl 13 t1 f1 = (t2, f2)) (h4 : tmP kd pl vl t2 f2 = (t3, f3, e2)) (h5 : muP kd pl 30 t3 f3 = (t4, f4)) (hf : (tmP kd pl vl t4 f4).2.1 = some q) : (lwL kd pl vl (k + 1) u none ac).2.1 = some q := by
  obtain ⟨t5, f5, e3, h6⟩ := ex3 (tmP kd pl vl t4 f4)
  obtain ⟨t6, f6, h7⟩ := ex2 (muP kd pl 31 t5 f5)
  rw [h6] at hf
  have g5 : f5 = some q := hf
  have g6 : f6 = some q := by have := mu_s (kd := kd) (pl := pl) (k := 31) (t := t5) g5; rw [h7] at this; exact this
  rw [lwZ_e h h1 h2 h3 h4 h5 h6 h7]
  exact lwZ_s g6
theorem lwZ_f6 {kd pl vl : Nat → Nat} {k u t0 t1 t2 t3 t4 t5 : Nat} {f0 f1 f2 f3 f4 f5 : Fo} {e1 e2 e3 : List Sg} {ac : Ifs} {q : Nat × Nat} (h : kd u = 29) (h1 : goP pl u none = (t0, f0)) (h2 : tmP kd pl vl t0 f0 = (t1, f1, e1)) (h3 : muP kd pl 13 t1 f1 = (t2, f2)) (h4 : tmP kd pl vl t2 f2 = (t3, f3, e2)) (h5 : muP kd pl 30 t3 f3 = (t4, f4)) (h6 : tmP kd pl vl t4 f4 = (t5, f5, e3)) (hf : (muP kd pl 31 t5 f5).2 = some q) : (lwL kd pl vl (k + 1) u none ac).2.1 = some q := by
  obtain ⟨t6, f6, h7⟩ := ex2 (muP kd pl 31 t5 f5)
  rw [h7] at hf
  have g6 : f6 = some q := hf
  rw [lwZ_e h h1 h2 h3 h4 h5 h6 h7]
  exact lwZ_s g6
theorem lwY_f {kd pl vl : Nat → Nat} {t : Nat} {q : Nat × Nat} {LX : Nat × Fo × Ifs} (hL : lwL kd pl vl 4 (muP kd pl 5 t none).1 (muP kd pl 5 t none).2 [] = LX) (h : LX.2.1 = some q) : (lwP kd pl vl t none).2.1 = some q := by
  obtain ⟨t1, f1, ac⟩ := LX
  obtain ⟨t2, f2, el, h2⟩ := ex3 (tmP kd pl vl t1 f1)
  obtain ⟨t3, f3, h3⟩ := ex2 (muP kd pl 4 t2 f2)
  have g1 : f2 = some q := by have := tm_s (kd := kd) (pl := pl) (vl := vl) (t := t1) h; rw [h2] at this; exact this
  have g2 : f3 = some q := by have := mu_s (kd := kd) (pl := pl) (k := 4) (t := t2) g1; rw [h3] at this; exact this
  unfold lwP
  simp only [hL, h2, h3]
  exact g2
theorem lwY_e {kd pl vl : Nat → Nat} {t t1 t2 t3 : Nat} {f1 f2 f3 : Fo} {ac : Ifs} {el : List Sg} (hL : lwL kd pl vl 4 (muP kd pl 5 t none).1 (muP kd pl 5 t none).2 [] = (t1, f1, ac)) (h2 : tmP kd pl vl t1 f1 = (t2, f2, el)) (h3 : muP kd pl 4 t2 f2 = (t3, f3)) : lwP kd pl vl t none = (t3, f3, if f3 = none then some (ac, el) else none) := by
  unfold lwP
  simp only [hL, h2, h3]
theorem lwY_t {kd pl vl : Nat → Nat} {t t1 : Nat} {ac : Ifs} {q : Nat × Nat} (hL : lwL kd pl vl 4 (muP kd pl 5 t none).1 (muP kd pl 5 t none).2 [] = (t1, none, ac)) (hf : (tmP kd pl vl t1 none).2.1 = some q) : (lwP kd pl vl t none).2.1 = some q := by
  obtain ⟨t2, f2, el, h2⟩ := ex3 (tmP kd pl vl t1 none)
  obtain ⟨t3, f3, h3⟩ := ex2 (muP kd pl 4 t2 f2)
  rw [h2] at hf
  have g1 : f2 = some q := hf
  have g2 : f3 = some q := by have := mu_s (kd := kd) (pl := pl) (k := 4) (t := t2) g1; rw [h3] at this; exact this
  rw [lwY_e hL h2 h3]
  exact g2
theorem lwY_5 {kd pl vl : Nat → Nat} {t : Nat} {q : Nat × Nat} (hf : (muP kd pl 5 t none).2 = some q) : (lwP kd pl vl t none).2.1 = some q := lwY_f rfl (lwZ_s hf)
theorem tm_of {kd pl vl : Nat → Nat} {t t1 : Nat} {es : List Sg} (ht : t ≤ 400) (h : rdE kd pl vl t = (t1, none, es)) : tmP kd pl vl t none = (t1, none, es) := (tmP_rd ht).1 t1 es h
theorem tm_off {kd pl vl : Nat → Nat} {t : Nat} {q : Nat × Nat} {R4 : Nat × Fo × List Sg} (ht : t ≤ 400) (h : rdE kd pl vl t = R4) (hq : R4.2.1 = some q) : (tmP kd pl vl t none).2.1 = some q := by
  obtain ⟨t1, f1, es⟩ := R4
  have hq2 : f1 = some q := hq
  subst hq2
  exact (tmP_rd ht).2 t1 q es h
/-- places of a descent stay below 401 -/
def leU (U : Nat → Nat × Fo × List Sg) : Prop := ∀ t, t ≤ 400 → (U t).1 ≤ 400
theorem go_le {pl : Nat → Nat} {t : Nat} (h : t ≤ 400) : (goP pl t none).1 ≤ 400 := by
  rcases goP_c pl t with ⟨h4, hg⟩ | ⟨h4, hg⟩ <;> (rw [hg]; show _ ≤ 400; omega)
theorem mu_le4 {kd pl : Nat → Nat} {k t : Nat} (h : t ≤ 400) : (muP kd pl k t none).1 ≤ 400 := by
  unfold muP
  split
  · exact go_le h
  · exact h
theorem jnL_le {kd pl : Nat → Nat} {c1 c2 : Nat} {U : Nat → Nat × Fo × List Sg} (hU : leU U) : ∀ (n t : Nat) (a : List Sg), t ≤ 400 → (jnL kd pl c1 c2 U n t a).1 ≤ 400
  | 0, t, a, h => h
  | n + 1, t, a, h => by
    have hg := go_le (pl := pl) h
    have h1 := hU (goP pl t none).1 hg
    unfold jnL
    split
    · split
      · split
        · exact jnL_le hU _ _ _ h1
        · exact h1
      · exact hg
    · exact h
theorem jnP_le {kd pl : Nat → Nat} {c1 c2 N : Nat} {U : Nat → Nat × Fo × List Sg} (hU : leU U) : leU (jnP kd pl c1 c2 N U) := fun t h => by
  unfold jnP
  split
  · exact jnL_le hU _ _ _ (hU t h)
  · exact hU t h
theorem rdU_le {kd pl vl : Nat → Nat} {N : Nat} : ∀ d, leU (rdU kd pl vl N d) := by
  intro d
  induction d with
  | zero =>
    intro t ht
    by_cases h : unK kd t none = true
    · rw [un_v h]; exact go_le ht
    · by_cases h6 : kd t = 6
      · rw [un_6z h6]; exact ht
      · rw [un_1 h h6]; exact ht
  | succ d ih =>
    intro t ht
    by_cases h : unK kd t none = true
    · rw [un_v h]; exact go_le ht
    · by_cases h6 : kd t = 6
      · rcases goP_c pl t with ⟨h4, hg⟩ | ⟨h4, hg⟩
        · rw [un_6g h6 (by rw [hg]; exact fun z => nomatch z)]; exact go_le ht
        · have h1 := jnP_le (kd := kd) (pl := pl) (c1 := 8) (c2 := 9) (N := N) (jnP_le (kd := kd) (pl := pl) (c1 := 10) (c2 := 15) (N := N) ih) (t + 1) (by omega)
          have h2 : (smP kd pl N (rdU kd pl vl N d) (t + 1)).1 ≤ 400 := h1
          rw [un_6s (R4 := smP kd pl N (rdU kd pl vl N d) (t + 1)) h6 h4 rfl]
          split
          · exact mu_le4 h2
          · exact h2
      · rw [un_1 h h6]; exact ht
theorem rdE_le4 {kd pl vl : Nat → Nat} : leU (rdE kd pl vl) := jnP_le (jnP_le (rdU_le 6))
theorem rdE_mo {kd pl vl : Nat → Nat} : moU (rdE kd pl vl) := rdS_mo
/-- a sum is of a class below Sum -/
theorem smA_cls {D : va_G} {H : Heap} {O : Nat → Prop} {d a : Nat} {es : List Sg} (h : smA D H O d a es) : ∃ (ci : Nat) (fs : List Value) (q : vw_C), va_at D CL (a, .inr (ci, fs)) H ∧ CL[ci]? = some q ∧ Cond.castable q.1 "PartedSide$Sum" ∈ lw_tbl := by
  cases d with
  | zero => exact h.elim
  | succ d =>
    rcases h.2 with ⟨v, _, g⟩ | ⟨k, _, _, g⟩ | ⟨k, x, y, ex, ey, _, _, g, _⟩
    · exact ⟨9, _, _, g, rfl, q2109⟩
    · exact ⟨10, _, _, g, rfl, q2110⟩
    · exact ⟨11, _, _, g, rfl, q2111⟩
abbrev dL : List Dsc := [.inr (8, [.inl 1, .inl 2, .inl 3, .inr 0]), .inl (9, 4), .inl (9, 4), .inl (9, 5)]
theorem gP_nil {D : va_G} {dA : Nat → ClassId} {o : Nat} {V : GI} {L : GL} {Rf : GR} {H : Heap} : gP D dA o [] V L Rf H := fun k d h => by simp at h
theorem gP_snoc {D : va_G} {dA : Nat → ClassId} {o : Nat} {ds : List Dsc} {d : Dsc} {V : GI} {L : GL} {Rf : GR} {H : Heap} (h : gP D dA o ds V L Rf H) (hd : va_at D CL (o + ds.length, gE dA o V L Rf ds.length d) H) : gP D dA o (ds ++ [d]) V L Rf H := fun k d' hk => by
  by_cases hl : k < ds.length
  · rw [List.getElem?_append_left hl] at hk
    exact h k d' hk
  · rw [List.getElem?_append_right (by omega)] at hk
    have hz : k - ds.length < 1 := (List.getElem?_eq_some_iff.mp hk).1
    obtain rfl : k = ds.length := by omega
    rw [Nat.sub_self] at hk
    cases hk
    exact hd
section GAAST
variable {p : Program} {l : Launch} {e : Env} {R : Room} {s : State} {m : MethodId} {args : Array Value} {below : List Frame} {meth : Method} {c : Code} {H : Heap} {locs : List Loc} {cells slots : Nat} {Q : State → Prop}
variable {cc : ByteArray} {pc : Nat} {ls : Array Slot} {rest : List Value} {D : va_G} {dA : Nat → ClassId} {o : Nat} {ds : List Dsc} {V : GI} {L : GL} {Rf : GR} {A : Nat → Prop} {H0 : Heap}
/-- a reference is put into a group's array -/
theorem g_aast (hx : p.tables.exec = Jvm.exec) (hb : c.code = cc) (hK : KK D dA s) (hG : gP D dA o ds V L Rf H) (hS : va_S A H0 H locs) (k : Nat) (hA : A (o + k)) (t : Nat) {n : Nat} {E : String} (hd : ds[k]? = some (.inl (t, n))) (hgA : ∀ Rf, gA V L Rf k t n = (n, .inr (.inr (.inr (.inr (Rf k)))))) (ht : (tysOf dA)[t]? = some (dA t, .object E)) {v ci : Nat} {r : vw_C} {vs : List Value} (hv : va_at D CL (v, .inr (ci, vs)) H) (hc : CL[ci]? = some r) (hca : r.1 = E ∨ Cond.castable r.1 E ∈ lw_tbl) {i : Nat} (hi : i < n) (hn : n < 2 ^ 31) (hdg : decode cc pc = .ok (.aastore, 1))
    (kk : ∀ (H1 : Heap) (locs1 : List Loc), gP D dA o ds V L (up2 Rf k i (some v)) H1 → On (o + k) H H1 → va_S A H0 H1 locs1 → W p l e R s m args below meth c H1 locs1 cells slots Q (F0 m (pc + 1) ls rest)) : W p l e R s m args below meth c H locs cells slots Q (F0 m pc ls (.ref v :: .int (nI i) :: .ref (o + k) :: rest)) := by
  have hat : va_at D CL (o + k, .inl (dA t, n, .inr (.inr (.inr (.inr (Rf k)))))) H := by
    have h := hG k _ hd
    show H[o + k]? = _
    have h2 : H[o + k]? = some (vp_cell (dA t) (gA V L Rf k t n)) := h
    rw [hgA] at h2
    exact h2
  refine x_aast hx hb hK t hat ht hv hc hca hi hn hdg fun H1 j he hO => ?_
  refine kk H1 _ (hG.set hd hO (fun _ _ => rfl) (fun _ _ => rfl) up2_o ?_) hO (hO.S hS hA)
  show H1[o + k]? = some (vp_cell (dA t) (gA V L (up2 Rf k i (some v)) k t n))
  rw [hgA, up2_k]
  exact he
end GAAST
