theorem okX_some {D : va_G} {dA : Nat → ClassId} {o : Nat} {V : GI} {L : GL} {Rf : GR} {R : Nat × Fo} {q : Nat} {H1 : Heap} (h : okX D dA o V L Rf R q H1) : ∃ x, R.2 = some x := by
  obtain ⟨h1, V1, Rf1, hG, hE1, hr, n, pl, h2, h3⟩ := h
  exact ⟨_, h2⟩
theorem lw_rm {kd pl vl : Nat → Nat} {k u : Nat} {ac : Ifs} {q : Nat × Nat} (hk : kd u = 29) (hl : ac.length + k = 4) (h : (rmP pl ac.length 4 u).2 = some q) : (lwL kd pl vl k u none ac).2.1 = some q := by
  by_cases e : ac.length = 4
  · obtain rfl : k = 0 := by omega
    rw [rmC_t e] at h
    rw [lwZ_4 hk]
    exact h
  · obtain ⟨k1, rfl⟩ : ∃ x, k = x + 1 := ⟨k - 1, by omega⟩
    rw [rmC_f e] at h
    exact lwZ_f0 hk h
theorem rm_ok {pl : Nat → Nat} {a b t : Nat} (h : (rmP pl a b t).2 = none) : a ≠ b ∧ t ≠ 400 ∧ rmP pl a b t = (t + 1, none) := by
  by_cases e : a = b
  · rw [rmC_t e] at h
    exact nomatch h
  · rw [rmC_f e] at h
    have h4 := go_ne h
    exact ⟨e, h4, by rw [rmC_f e, goC_n h4]⟩
/-- the branches told so far stand in the law's arrays -/
def lwT (D : va_G) (H : Heap) (n : Nat) (RW : GR) (ac : Ifs) : Prop := ∀ i p q r, ac[i]? = some (p, q, r) → (∃ x, RW 1 i = some x ∧ smA D H (fun z => n ≤ z) 401 x p) ∧ (∃ x, RW 2 i = some x ∧ smA D H (fun z => n ≤ z) 401 x q) ∧ ∃ x, RW 3 i = some x ∧ smA D H (fun z => n ≤ z) 401 x r
theorem lwT_F {D : va_G} {A : Nat → Prop} {H H1 : Heap} {n : Nat} {RW : GR} {ac : Ifs} (h : lwT D H n RW ac) (hF : Fr A H H1) (hA : ∀ q, q < H.size → n ≤ q → ¬ A q) : lwT D H1 n RW ac := fun i p q r hi => by
  obtain ⟨⟨x, a1, a2⟩, ⟨y, b1, b2⟩, ⟨z, c1, c2⟩⟩ := h i p q r hi
  exact ⟨⟨x, a1, smA_F2 a2 hF hA⟩, ⟨y, b1, smA_F2 b2 hF hA⟩, ⟨z, c1, smA_F2 c2 hF hA⟩⟩
theorem lwT_to {D : va_G} {H : Heap} {n : Nat} {RW RW1 : GR} {ac : Ifs} (h : lwT D H n RW ac) (he : ∀ k i, i < ac.length → RW1 k i = RW k i) : lwT D H n RW1 ac := fun i p q r hi => by
  have hl := (List.getElem?_eq_some_iff.mp hi).1
  rw [he _ _ hl, he _ _ hl, he _ _ hl]
  exact h i p q r hi
theorem lwT_add {D : va_G} {H : Heap} {n x y z : Nat} {RW : GR} {ac : Ifs} {p q r : List Sg} (h : lwT D H n RW ac) (h1 : RW 1 ac.length = some x) (h2 : RW 2 ac.length = some y) (h3 : RW 3 ac.length = some z) (s1 : smA D H (fun z => n ≤ z) 401 x p) (s2 : smA D H (fun z => n ≤ z) 401 y q) (s3 : smA D H (fun z => n ≤ z) 401 z r) : lwT D H n RW (ac ++ [(p, q, r)]) := fun i p' q' r' hi => by
  by_cases hl : i < ac.length
  · rw [List.getElem?_append_left hl] at hi
    exact h i p' q' r' hi
  · rw [List.getElem?_append_right (by omega)] at hi
    have hz : i - ac.length < 1 := (List.getElem?_eq_some_iff.mp hi).1
    obtain rfl : i = ac.length := by omega
    rw [Nat.sub_self] at hi
    cases hi
    exact ⟨⟨x, h1, s1⟩, ⟨y, h2, s2⟩, ⟨z, h3, s3⟩⟩
theorem lwA_of {D : va_G} {dA : Nat → ClassId} {H : Heap} {O : Nat → Prop} {na x : Nat} {VW : GI} {LW : GL} {RW : GR} {ac : Ifs} {el : List Sg} (hG : gP D dA na dL VW LW RW H) (hi : VW 0 3 = nI ac.length) (hT : lwT D H (na + 4) RW ac) (hl : ac.length ≤ 4) (hx : RW 3 ac.length = some x) (hs : smA D H (fun z => na + 4 ≤ z) 401 x el) (hO : ∀ q, na ≤ q → O q) : lwA D dA H O na (ac, el) := by
  have hO2 : ∀ q, q < H.size → na + 4 ≤ q → O q := fun q _ h => hO q (by omega)
  refine ⟨na + 1, na + 2, na + 3, RW 1, RW 2, RW 3, hO _ (by omega), hO _ (by omega), hO _ (by omega), hO _ (by omega), ?_, hG 1 _ rfl, hG 2 _ rfl, hG 3 _ rfl, hl, fun i p q r hip => ?_, x, hx, smA_mono hO2 _ _ _ hs⟩
  · have := hG 0 _ rfl
    have e : va_at D CL (na, .inr (8, [.ref (na + 1), .ref (na + 2), .ref (na + 3), .int (VW 0 3)])) H := this
    rw [hi] at e
    exact e
  · obtain ⟨⟨x, a1, a2⟩, ⟨y, b1, b2⟩, ⟨z, c1, c2⟩⟩ := hT i p q r hip
    exact ⟨⟨x, a1, smA_mono hO2 _ _ _ a2⟩, ⟨y, b1, smA_mono hO2 _ _ _ b2⟩, ⟨z, c1, smA_mono hO2 _ _ _ c2⟩⟩
theorem lwL_dec {kd pl vl : Nat → Nat} {k u T : Nat} {ac A : Ifs} (h29 : kd u = 29) (hu : u ≤ 400) (h : lwL kd pl vl (k + 1) u none ac = (T, none, A)) : ∃ t1 t3 t5 e1 e2 e3, tmP kd pl vl (u + 1) none = (t1, none, e1) ∧ tmP kd pl vl (t1 + 1) none = (t3, none, e2) ∧ tmP kd pl vl (t3 + 1) none = (t5, none, e3) ∧ lwL kd pl vl k (t5 + 1) none (ac ++ [(e1, e2, e3)]) = (T, none, A) ∧ u < t1 ∧ t1 < t3 ∧ t3 < t5 ∧ t5 + 1 ≤ 400 := by
  have hf : (lwL kd pl vl (k + 1) u none ac).2.1 = none := by rw [h]
  have nn : ∀ {f : Fo}, (∀ q, f = some q → (lwL kd pl vl (k + 1) u none ac).2.1 = some q) → f = none := fun {f} hq => by
    cases f with
    | none => rfl
    | some q => exact absurd (hf.symm.trans (hq q rfl)) (fun z => nomatch z)
  have g0 : (goP pl u none).2 = none := nn (fun q hq => lwZ_f0 h29 hq)
  have n4 := go_ne g0
  have h1 : goP pl u none = (u + 1, none) := goC_n n4
  obtain ⟨t1, f1, e1, h2⟩ := ex3 (tmP kd pl vl (u + 1) none)
  obtain rfl : f1 = none := nn (fun q hq => lwZ_f1 h29 h1 (by rw [h2]; exact hq))
  have a1 := tm_le (by omega) h2 rfl
  have a2 := (tmP_ok (by omega) h2 a1).2.1
  have m1 : (muP kd pl 13 t1 none).2 = none := nn (fun q hq => lwZ_f2 h29 h1 h2 hq)
  obtain ⟨-, n5, h3⟩ := mu_ok m1
  obtain ⟨t3, f3, e2, h4⟩ := ex3 (tmP kd pl vl (t1 + 1) none)
  obtain rfl : f3 = none := nn (fun q hq => lwZ_f3 h29 h1 h2 h3 (by rw [h4]; exact hq))
  have b1 := tm_le (by omega) h4 rfl
  have b2 := (tmP_ok (by omega) h4 b1).2.1
  have m2 : (muP kd pl 30 t3 none).2 = none := nn (fun q hq => lwZ_f4 h29 h1 h2 h3 h4 hq)
  obtain ⟨-, n6, h5⟩ := mu_ok m2
  obtain ⟨t5, f5, e3, h6⟩ := ex3 (tmP kd pl vl (t3 + 1) none)
  obtain rfl : f5 = none := nn (fun q hq => lwZ_f5 h29 h1 h2 h3 h4 h5 (by rw [h6]; exact hq))
  have c1 := tm_le (by omega) h6 rfl
  have c2 := (tmP_ok (by omega) h6 c1).2.1
  have m3 : (muP kd pl 31 t5 none).2 = none := nn (fun q hq => lwZ_f6 h29 h1 h2 h3 h4 h5 h6 hq)
  obtain ⟨-, n7, h7⟩ := mu_ok m3
  exact ⟨t1, t3, t5, e1, e2, e3, h2, h4, h6, (lwZ_e h29 h1 h2 h3 h4 h5 h6 h7).symm.trans h, by omega, by omega, by omega, by omega⟩
theorem lwL_ge {kd pl vl : Nat → Nat} : ∀ {k u T : Nat} {ac A : Ifs}, u ≤ 400 → lwL kd pl vl k u none ac = (T, none, A) → u ≤ T ∧ T ≤ 400
  | 0, u, T, ac, A, hu, h => by
    by_cases h29 : kd u = 29
    · rw [lwZ_4 h29] at h; cases h
    · rw [lwZ_n h29] at h; cases h; exact ⟨Nat.le_refl _, hu⟩
  | k + 1, u, T, ac, A, hu, h => by
    by_cases h29 : kd u = 29
    · obtain ⟨t1, t3, t5, e1, e2, e3, -, -, -, h4, h5, h6, h7, h8⟩ := lwL_dec h29 hu h
      have := lwL_ge h8 h4
      exact ⟨by omega, this.2⟩
    · rw [lwZ_n h29] at h; cases h; exact ⟨Nat.le_refl _, hu⟩
section LWX
variable {kd pl vl : Nat → Nat} {k u t t1 t3 t5 : Nat} {ac : Ifs} {e1 e2 e3 : List Sg} {LX : Nat × Fo × Ifs}
theorem lwX1 (h29 : kd u = 29) (hu : u ≤ 400) (h : lwL kd pl vl (k + 1) u none ac = LX) (ho : LX.2.1 = none) : (rdE kd pl vl (u + 1)).1 ≤ LX.1 ∧ u + 1 ≤ LX.1 := by
  obtain ⟨T, f, A⟩ := LX
  obtain rfl : f = none := ho
  obtain ⟨s1, s3, s5, e1, e2, e3, g1, g2, g3, g4, g5, g6, g7, g8⟩ := lwL_dec h29 hu h
  have hT := (lwL_ge g8 g4).1
  have := tmP_n (by omega) g1
  rw [this]
  exact ⟨by show s1 ≤ T; omega, by show u + 1 ≤ T; omega⟩
theorem lwX2 (h29 : kd u = 29) (hu : u ≤ 400) (h : lwL kd pl vl (k + 1) u none ac = LX) (ho : LX.2.1 = none) (h2 : tmP kd pl vl (u + 1) none = (t1, none, e1)) : (rdE kd pl vl (t1 + 1)).1 ≤ LX.1 := by
  obtain ⟨T, f, A⟩ := LX
  obtain rfl : f = none := ho
  obtain ⟨s1, s3, s5, d1, d2, d3, g1, g2, g3, g4, g5, g6, g7, g8⟩ := lwL_dec h29 hu h
  cases g1.symm.trans h2
  have hT := (lwL_ge g8 g4).1
  have := tmP_n (by omega) g2
  rw [this]
  show s3 ≤ T; omega
theorem lwX3 (h29 : kd u = 29) (hu : u ≤ 400) (h : lwL kd pl vl (k + 1) u none ac = LX) (ho : LX.2.1 = none) (h2 : tmP kd pl vl (u + 1) none = (t1, none, e1)) (h4 : tmP kd pl vl (t1 + 1) none = (t3, none, e2)) : (rdE kd pl vl (t3 + 1)).1 ≤ LX.1 := by
  obtain ⟨T, f, A⟩ := LX
  obtain rfl : f = none := ho
  obtain ⟨s1, s3, s5, d1, d2, d3, g1, g2, g3, g4, g5, g6, g7, g8⟩ := lwL_dec h29 hu h
  cases g1.symm.trans h2
  cases g2.symm.trans h4
  have hT := (lwL_ge g8 g4).1
  have := tmP_n (by omega) g3
  rw [this]
  show s5 ≤ T; omega
theorem lwX4 (h29 : kd u = 29) (hu : u ≤ 400) (h : lwL kd pl vl (k + 1) u none ac = LX) (ho : LX.2.1 = none) (h2 : tmP kd pl vl (u + 1) none = (t1, none, e1)) (h4 : tmP kd pl vl (t1 + 1) none = (t3, none, e2)) (h6 : tmP kd pl vl (t3 + 1) none = (t5, none, e3)) : t5 + 1 ≤ LX.1 := by
  obtain ⟨T, f, A⟩ := LX
  obtain rfl : f = none := ho
  obtain ⟨s1, s3, s5, d1, d2, d3, g1, g2, g3, g4, g5, g6, g7, g8⟩ := lwL_dec h29 hu h
  cases g1.symm.trans h2
  cases g2.symm.trans h4
  cases g3.symm.trans h6
  exact (lwL_ge g8 g4).1
theorem lwX0 (ht : t ≤ 400) (hL : lwL kd pl vl 4 (muP kd pl 5 t none).1 (muP kd pl 5 t none).2 [] = LX) (ok : (lwP kd pl vl t none).2.1 = none) : LX.2.1 = none ∧ t + 1 ≤ LX.1 ∧ LX.1 + 1 ≤ (lwP kd pl vl t none).1 ∧ (rdE kd pl vl LX.1).1 ≤ (lwP kd pl vl t none).1 := by
  have ho : LX.2.1 = none := by
    cases hc : LX.2.1 with
    | none => rfl
    | some q => exact absurd (ok.symm.trans (lwY_f hL hc)) (fun z => nomatch z)
  have hm : (muP kd pl 5 t none).2 = none := by
    cases hc : (muP kd pl 5 t none).2 with
    | none => rfl
    | some q => exact absurd (ok.symm.trans (lwY_5 hc)) (fun z => nomatch z)
  obtain ⟨-, n4, hme⟩ := mu_ok hm
  obtain ⟨T, f, A⟩ := LX
  obtain rfl : f = none := ho
  have hL2 : lwL kd pl vl 4 (t + 1) none [] = (T, none, A) := by rw [← hL, hme]
  have h4 : t + 1 ≤ 400 := by omega
  obtain ⟨g1, g2⟩ := lwL_ge h4 hL2
  obtain ⟨t2, f2, el, h2⟩ := ex3 (tmP kd pl vl T none)
  cases f2 with
  | some q => exact absurd (ok.symm.trans (lwY_t hL (by rw [h2]))) (fun z => nomatch z)
  | none =>
    obtain ⟨t9, f9, h9⟩ := ex2 (muP kd pl 4 t2 none)
    have e := lwY_e hL h2 h9
    rw [e] at ok
    have ok2 : f9 = none := ok
    subst ok2
    have hm9 : (muP kd pl 4 t2 none).2 = none := by rw [h9]
    obtain ⟨-, -, hme9⟩ := mu_ok hm9
    cases h9.symm.trans hme9
    have a1 := tm_le (by omega) h2 rfl
    have a2 := (tmP_ok (by omega) h2 a1).2.1
    rw [e, tmP_n (by omega) h2]
    exact ⟨rfl, by show t + 1 ≤ T; omega, by show T + 1 ≤ t2 + 1; omega, by show t2 ≤ t2 + 1; omega⟩
end LWX
set_option maxHeartbeats 4000000 in
theorem met_X14_init (l : Launch) (D : va_G) (dA : Nat → ClassId) {H0 : Heap} {a : Nat} (hat : va_at D CL (a, .inr (8, [.null, .null, .null, .int 0])) H0) (hz : H0.size = a + 1) : Ctr l D dA yX14_init cX14_init 1 none (mkRmC 2 60 3 13) [.ref a] H0 (fun z => z = a) (QV (fun H1 => ∃ VW LW RW, gP D dA a dL VW LW RW H1 ∧ VW 0 3 = nI 0 ∧ H1.size = a + 4)) := by
  refine ctr_K (by decide) (Nat.le_of_ble_eq_true rfl) ?_
  intro p e s m args below meth c ls QQ locs hx hb hml hown hts hK hnm hend hS hl
  have hl : lv_has ls 1 [(0, .ref a)] := hl
  refine lv_aload_n hx hb dX14_init_0 rfl (lv_at hl 0 rfl) ?_
  refine x_obj hx hb hml hts hown hl.1 q731 q152 q153 (Nat.le_of_ble_eq_true rfl) ⟨by show _ ≤ 2; omega, by show _ ≤ 60; omega⟩ dX14_init_1 ?_
  refine lv_aload_n hx hb dX14_init_4 rfl (lv_at hl 0 rfl) ?_
  refine lv_iconst (v := (nI 4)) hx hb dX14_init_5 (by decide) ?_
  refine x_anewa hx hb hts hown hK 9 rfl q732 q733 (n := 4) (by decide) (by decide) hS (by show 0 + 1 ≤ 3; omega) (by show 0 + 4 ≤ 13; omega) dX14_init_6 hz (fun H hat1 hz1 hF hS => ?_)
  have hat := hat.kept (hF.2 _ hat.lt (fun z => z))
  have hz1 : H.size = a + 2 := hz1
  refine x_put hx hb hts hown hK hat rfl ok_X14 0 (by decide) q734 (Or.inr ⟨rfl, hnm, rfl⟩) rfl rfl (Nat.le_of_ble_eq_true rfl) dX14_init_9 (fun H i hat2 hO => ?_)
  have hS := hO.S (k := i) hS rfl
  have hat1 := hat1.kept (hO.2 _ (by show ((a + 1) : Nat) ≠ a; omega))
  have hz1 := hO.1.trans hz1
  refine lv_aload_n hx hb dX14_init_12 rfl (lv_at hl 0 rfl) ?_
  refine lv_iconst (v := (nI 4)) hx hb dX14_init_13 (by decide) ?_
  refine x_anewa hx hb hts hown hK 9 rfl q732 q733 (n := 4) (by decide) (by decide) hS (by show 0 + 1 + 1 ≤ 3; omega) (by show 0 + 4 + 4 ≤ 13; omega) dX14_init_14 hz1 (fun H hat3 hz3 hF hS => ?_)
  have hat2 := hat2.kept (hF.2 _ hat2.lt (fun z => z))
  have hat1 := hat1.kept (hF.2 _ hat1.lt (fun z => z))
  have hz3 : H.size = a + 3 := hz3
  refine x_put hx hb hts hown hK hat2 rfl ok_X14 1 (by decide) q736 (Or.inr ⟨rfl, hnm, rfl⟩) rfl rfl (Nat.le_of_ble_eq_true rfl) dX14_init_17 (fun H i hat4 hO => ?_)
  have hS := hO.S (k := i) hS rfl
  have hat1 := hat1.kept (hO.2 _ (by show ((a + 1) : Nat) ≠ a; omega))
  have hat3 := hat3.kept (hO.2 _ (by show ((a + 2) : Nat) ≠ a; omega))
  have hz3 := hO.1.trans hz3
  refine lv_aload_n hx hb dX14_init_20 rfl (lv_at hl 0 rfl) ?_
  refine lv_iconst (v := (nI 5)) hx hb dX14_init_21 (by decide) ?_
  refine x_anewa hx hb hts hown hK 9 rfl q732 q733 (n := 5) (by decide) (by decide) hS (by show 0 + 1 + 1 + 1 ≤ 3; omega) (by show 0 + 4 + 4 + 5 ≤ 13; omega) dX14_init_22 hz3 (fun H hat5 hz5 hF hS => ?_)
  have hat4 := hat4.kept (hF.2 _ hat4.lt (fun z => z))
  have hat1 := hat1.kept (hF.2 _ hat1.lt (fun z => z))
  have hat3 := hat3.kept (hF.2 _ hat3.lt (fun z => z))
  have hz5 : H.size = a + 4 := hz5
  refine x_put hx hb hts hown hK hat4 rfl ok_X14 2 (by decide) q738 (Or.inr ⟨rfl, hnm, rfl⟩) rfl rfl (Nat.le_of_ble_eq_true rfl) dX14_init_25 (fun H i hat6 hO => ?_)
  have hS := hO.S (k := i) hS rfl
  have hat1 := hat1.kept (hO.2 _ (by show ((a + 1) : Nat) ≠ a; omega))
  have hat3 := hat3.kept (hO.2 _ (by show ((a + 2) : Nat) ≠ a; omega))
  have hat5 := hat5.kept (hO.2 _ (by show ((a + 3) : Nat) ≠ a; omega))
  have hz5 := hO.1.trans hz5
  refine W.widen (k := 3) (n := 13) (by show 0 + 1 + 1 + 1 ≤ 3; omega) (by show 0 + 4 + 4 + 5 ≤ 13; omega) ?_
  refine hend _ _ _ _ hS dX14_init_28 ?_
  have hg : gP D dA a [] (fun _ _ => 0) (fun _ _ => 0) (fun _ _ => none) H := gP_nil
  have hg : gP D dA a [.inr (8, [.inl 1, .inl 2, .inl 3, .inr 0])] (fun _ _ => 0) (fun _ _ => 0) (fun _ _ => none) H := gP_snoc (ds := []) (d := .inr (8, [.inl 1, .inl 2, .inl 3, .inr 0])) hg hat6
  have hg : gP D dA a [.inr (8, [.inl 1, .inl 2, .inl 3, .inr 0]), .inl (9, 4)] (fun _ _ => 0) (fun _ _ => 0) (fun _ _ => none) H := gP_snoc (ds := [.inr (8, [.inl 1, .inl 2, .inl 3, .inr 0])]) (d := .inl (9, 4)) hg hat1
  have hg : gP D dA a [.inr (8, [.inl 1, .inl 2, .inl 3, .inr 0]), .inl (9, 4), .inl (9, 4)] (fun _ _ => 0) (fun _ _ => 0) (fun _ _ => none) H := gP_snoc (ds := [.inr (8, [.inl 1, .inl 2, .inl 3, .inr 0]), .inl (9, 4)]) (d := .inl (9, 4)) hg hat3
  have hg : gP D dA a [.inr (8, [.inl 1, .inl 2, .inl 3, .inr 0]), .inl (9, 4), .inl (9, 4), .inl (9, 5)] (fun _ _ => 0) (fun _ _ => 0) (fun _ _ => none) H := gP_snoc (ds := [.inr (8, [.inl 1, .inl 2, .inl 3, .inr 0]), .inl (9, 4), .inl (9, 4)]) (d := .inl (9, 5)) hg hat5
  exact ⟨rfl, _, _, _, hg, rfl, hz5⟩
theorem cw_X3_127 {R : Room} {s : State} {args : Array Value} (hts : ∀ w ∈ lw_all, w.before args s = true) {f w k j : Nat} (hR : f + 1 ≤ R.frames ∧ 8 + (3 + 11) + w ≤ R.locals) : CallW R s args RX3 RX3 127 yX3_begins cX3_begins 3 none (ws_ yX3_begins cX3_begins 3 none) (mkRmC f w k j) k j 2 := cwV 2 hts (lw_V q763 q765 qs17 q114 q766) rfl rfl rfl (by decide +kernel) hR
theorem cw_X3_187 {R : Room} {s : State} {args : Array Value} (hts : ∀ w ∈ lw_all, w.before args s = true) {f w k j : Nat} (hR : f + 1 ≤ R.frames ∧ 8 + (2 + 11) + w ≤ R.locals) : CallW R s args RX3 RX3 187 yX3_word cX3_word 2 none (ws_ yX3_word cX3_word 2 none) (mkRmC f w k j) k j 1 := cwV 1 hts (lw_V q822 q824 qs21 q114 q825) rfl rfl rfl (by decide +kernel) hR
set_option maxHeartbeats 4000000 in
theorem met_X3_law (l : Launch) (D : va_G) (dA : Nat → ClassId) {o : Nat} {V : GI} {L : GL} {Rf : GR} {H0 : Heap} {tp : List Int32} {m0 t : Nat} (hG : gP D dA o dS V L Rf H0) (hPS : psC V tp m0) (ht : V 9 3 = nI t) (htm : t < m0) (ht4 : t ≤ 400) (hop : V 9 4 = nI (6 - 6)) {kc jc : Nat} (hkc : ∀ x, t ≤ x → x ≤ 400 → ((lwP (kdT tp) (plT tp) (vlT tp) t none).2.1 = none → x ≤ (lwP (kdT tp) (plT tp) (vlT tp) t none).1) → 4 + (x - t) ≤ kc ∧ 17 + 3 * (x - t) ≤ jc) : CtrX l D dA yX3_law cX3_law 2 (some (.object "PartedSide$Law")) (mkRmC 42 900 kc jc) [.ref (o + 9)] H0 (AN o H0.size) (QR (fun r H1 => ∃ a t1 w V1, r = some a ∧ gP D dA o dS V1 L Rf H1 ∧ Eqx PPo V V1 ∧ V1 9 4 = nI (6 - 6) ∧ V1 9 3 = nI t1 ∧ t < t1 ∧ t1 ≤ 400 ∧ t1 < m0 ∧ H0.size ≤ a ∧ lwA D dA H1 (fun q => H0.size ≤ q) a w ∧ (lwP (kdT tp) (plT tp) (vlT tp) t none) = ((muP (kdT tp) (plT tp) 4 t1 none).1, (muP (kdT tp) (plT tp) 4 t1 none).2, if (muP (kdT tp) (plT tp) 4 t1 none).2 = none then some w else none))) (fun q H1 => okX D dA o V L Rf ((lwP (kdT tp) (plT tp) (vlT tp) t none).1, (lwP (kdT tp) (plT tp) (vlT tp) t none).2.1) q H1) := by
  have hlo := gP_sz hG
  have hkl2 := hPS.hm9
  have hk00 := hkc t (Nat.le_refl _) ht4 (fun ok => by have := lwX0 ht4 rfl ok; omega)
  rw [Nat.sub_self] at hk00
  refine ctrX_R (by decide) (Nat.le_of_ble_eq_true rfl) (Or.inl ⟨_, rfl⟩) ?_
  intro p e s m args below meth c ls QQ locs hx hb hml hown hts hK hend hthr hS hl
  have hl : lv_has ls 2 [(0, .ref (o + 9))] := hl
  have hthrW : ∀ {pc : Nat} {ls : Array Slot} {rs : List Value} {H : Heap} {locs : List Loc} {q k n : Nat}, k ≤ kc → n ≤ jc → va_S (AN o H0.size) H0 H locs → fltA D H q → (fun q H1 => okX D dA o V L Rf ((lwP (kdT tp) (plT tp) (vlT tp) t none).1, (lwP (kdT tp) (plT tp) (vlT tp) t none).2.1) q H1) q H → xq_W p l e (mkRmC 42 900 kc jc) s m args below meth c H locs k n QQ (F0 m pc ls rs) q := fun h1 h2 hS hf hq => xq_widen h1 h2 (hthr _ _ _ _ _ _  hS hf hq)
  obtain ⟨na1, hna1⟩ : ∃ x, H0.size = x := ⟨_, rfl⟩
  have hnl1 : H0.size ≤ na1 := by have := hS.1; omega
  refine x_new hx hb hts hown hK (ci := 8) (fs := [.null, .null, .null, .int 0]) rfl ok_X14 q726 q727 q133 (by intro j hj; match j, hj with | 0, _ => rfl | 1, _ => rfl | 2, _ => rfl | 3, _ => rfl) hS (by show 0 + 1 ≤ kc; omega) (by show 0 + 4 ≤ jc; omega) dX3_law_0 hna1 (fun H hat1 hz1 hF hS => ?_)
  have hG := hG.fr hF (fun _ _ z => z)
  refine lv_dup hx hb dX3_law_3 rfl ?_
  refine c_IN (host := "PartedSide") (rm := (mkRmC 2 60 3 13)) hx hb hml hts hown hK hl.1 hS (met_X14_init l D dA hat1 hz1) ⟨va_cnB 0 hts (lw_meth q730) rfl rfl rfl (hK.2.1 _ q728 rfl) (hts _ q133) (by decide +kernel) ⟨by show 2 + 1 ≤ 42; omega, by show 8 + (1 + 11) + 60 ≤ 900; omega⟩, rfl, hts _ q729⟩ rfl rfl (Nat.le_of_ble_eq_true rfl) dX3_law_4 (fun q hq => Or.inr (by have z : q = na1 := hq; omega)) ⟨by show 0 + 1 + 3 ≤ kc; omega, by show 0 + 4 + 13 ≤ jc; omega⟩ (fun H locs hq hF hS => ?_)
  obtain ⟨VW, LW, RW, hGL, hifs, hzl⟩ := hq
  have hG := hG.fr hF (fun k hk z => by rw [dS_len] at hk; have z : o + k = na1 := z; omega)
  generalize hnae : na1 = na at *
  have hnl0 : H0.size ≤ na := by omega
  refine lv_astore_n (lv' := [(1, .ref na), (0, .ref (o + 9))]) hx hb dX3_law_7 rfl hl (by decide) rfl (fun ls hl => ?_)
  refine lv_aload_n hx hb dX3_law_8 rfl (lv_at hl 1 rfl) ?_
  refine lv_bipush (v := (nI 61)) hx hb dX3_law_9 (by decide) ?_
  refine c_VXV hx hb hml hts hown hK hl.1 hS ⟨by show 0 + 1 + 3 ≤ kc; omega, by show 0 + 4 + 13 ≤ jc; omega⟩ (met_X3_sign l D dA hG (psC_E (V1 := V) hPS Eqx.rf PPx_ps).hm (psC_E (V1 := V) hPS Eqx.rf PPx_ps).hm9 (psC_E (V1 := V) hPS Eqx.rf PPx_ps).hbF ht htm ht4 61 (by omega)) (cw_X3_102 hts ⟨by show _ ≤ 42; omega, by show _ ≤ 900; omega⟩) (hG 9 _ rfl) rfl rfl rfl rfl (Nat.le_of_ble_eq_true rfl) dX3_law_11 (fun _ h => Or.inl h) (fun q H1 locs hq hF hS => hthrW (by show 0 + 1 + 3 ≤ kc; omega) (by show 0 + 4 + 13 ≤ jc; omega) hS (okX_flt hq) (okX_tr hq Eqx.rf (by rw [mu_sg (tp := tp) (t := t) (y := 61) (K := 5) rfl (by decide)]; obtain ⟨q9, h9⟩ := okX_some hq; rw [mu_sg (tp := tp) (t := t) (y := 61) (K := 5) rfl (by decide)] at h9; exact h9.trans (lwY_5 h9).symm))) (fun H1 locs hq hF hS => ?_)
  obtain ⟨V2, hG, hE2, ho2, ht2⟩ := hq
  generalize hHe2 : H1 = H at hG hS hF ⊢
  clear hHe2
  rw [mu_sg (tp := tp) (t := t) (y := 61) (K := 5) rfl (by decide)] at ho2 ht2
  obtain ⟨hmk2, hmn2, hme2⟩ := mu_ok ho2
  rw [hme2] at ht2
  have hu2 : V2 9 3 = nI (t + 1) := ht2
  have hGL := hGL.fr hF (fun k hk z => by have hk4 : k < 4 := hk; have := z.2.1; omega)
  have htm2 : t + 1 < m0 := hPS.next htm (by omega) (by omega)
  refine W.widen (k := (4 + (t + 1 - t))) (n := (17 + 3 * (t + 1 - t))) (by show 0 + 1 + 3 ≤ _; omega) (by show 0 + 4 + 13 ≤ _; omega) ?_
  obtain ⟨LX, hLX⟩ : ∃ x, lwL (kdT tp) (plT tp) (vlT tp) 4 (muP (kdT tp) (plT tp) 5 t none).1 (muP (kdT tp) (plT tp) 5 t none).2 [] = x := ⟨_, rfl⟩
  have hI0 : lwL (kdT tp) (plT tp) (vlT tp) 4 (t + 1) none [] = LX := by rw [← hLX, hme2]
  have hk10 := hkc (t + 1) (by omega) (by omega) (fun ok => by have h := lwX0 ht4 hLX ok; omega)
  have hop0 : V2 9 4 = nI (6 - 6) := ((hE2 9 4 rfl).trans hop)
  have loop3 : ∀ (fu3 : Nat) (k : Nat) (u : Nat) (ac : Ifs) (VK : GI) (RK : GR) (VL : GI) (H : Heap) (locs : List Loc) (ls : Array Slot), k < fu3 → (lwL (kdT tp) (plT tp) (vlT tp) k u none ac = LX) → (4 + (u - t) ≤ kc ∧ 17 + 3 * (u - t) ≤ jc) → (ac.length + k = 4) → (u ≤ 400) → (u < m0) → (t < u) → (Eqx PPo V2 VL) → (VL 9 3 = nI u) → (VL 9 4 = nI (6 - 6)) → (VK 0 3 = nI ac.length) → (lwT D H (na + 4) RK ac) → (gP D dA na dL VK LW RK H) → gP D dA o dS VL L Rf H → va_S (AN o H0.size) H0 H locs → lv_has ls 2 [(1, .ref na), (0, .ref (o + 9))] → W p l e (mkRmC 42 900 kc jc) s m args below meth c H locs (4 + (u - t)) (17 + 3 * (u - t)) QQ (F0 m 14 ls []) := by
    intro fu3
    induction fu3 with
    | zero => intro k u ac VK RK VL H locs ls hfu; exact absurd hfu (Nat.not_lt_zero _)
    | succ fu3 ih3 =>
      intro k u ac VK RK VL H locs ls hfu hI hku hl4 hu4 hum htu hEL hu ho hif hlt hGL hG hS hl
      refine lv_aload_n hx hb dX3_law_14 rfl (lv_at hl 1 rfl) ?_
      refine lv_bipush (v := (nI 9)) hx hb dX3_law_15 (by decide) ?_
      refine c_VI hx hb hml hts hown hK hl.1 hS ⟨by show (4 + (u - t)) ≤ kc; omega, by show (17 + 3 * (u - t)) ≤ jc; omega⟩ (met_X3_isWord l D dA hG (psC_E (V1 := VL) hPS ((hE2.mono PPs_PPx).trans (hEL.mono PPo_PPx)) PPx_ps).hm (psC_E (V1 := VL) hPS ((hE2.mono PPs_PPx).trans (hEL.mono PPo_PPx)) PPx_ps).hm9 (psC_E (V1 := VL) hPS ((hE2.mono PPs_PPx).trans (hEL.mono PPo_PPx)) PPx_ps).hbF hu hum hu4 9 (by omega)) (cw_X3_62 hts ⟨by show _ ≤ 42; omega, by show _ ≤ 900; omega⟩) (hG 9 _ rfl) rfl rfl rfl rfl (Nat.le_of_ble_eq_true rfl) dX3_law_17 (fun _ h => h.elim) (fun r H1 locs hq hF hS => ?_)
      obtain ⟨rfl, rfl⟩ := hq
      rw [is_wd (tp := tp) (t := u) (w := 9)]
      have hbl := bN_lt (decide (kdT tp u = 20 + 9))
      refine n_if_eq (tgt := 102) hx hb dX3_law_20 (by decide) (by omega) (fun c20 => ?_) (fun c20 => ?_)
      · have hn29 : ¬ kdT tp u = 29 := bN_z.mp c20
        have hLXe : LX = (u, none, ac) := by rw [← hI]; exact lwZ_n hn29
        refine lv_aload_n hx hb dX3_law_102 rfl (lv_at hl 0 rfl) ?_
        refine g_get hx hb hts hown hK hGL 0 rfl rfl ok_X14 2 (by decide) q739 rfl rfl dX3_law_103 ?_
        refine lv_aload_n hx hb dX3_law_106 rfl (lv_at hl 0 rfl) ?_
        refine g_get (v := .int (nI ac.length)) hx hb hts hown hK hGL 0 rfl rfl ok_X14 3 (by decide) q741 rfl (congrArg Value.int hif) dX3_law_107 ?_
        refine lv_aload_n hx hb dX3_law_110 rfl (lv_at hl 1 rfl) ?_
        obtain ⟨R4, hR4⟩ : ∃ x, smP (kdT tp) (plT tp) 402 (rdU (kdT tp) (plT tp) (vlT tp) 402 6) u = x := ⟨_, rfl⟩
        have hge4 : R4.1 ≤ 400 ∧ u ≤ R4.1 := by rw [← hR4]; exact ⟨rdE_le4 (kd := kdT tp) (pl := plT tp) (vl := vlT tp) _ (by omega), rdE_mo (kd := kdT tp) (pl := plT tp) (vl := vlT tp) _⟩
        have hgz := hGL.lt (k := 3) (by decide)
        have hkx4 := hkc (R4.1) (by omega) hge4.1 (fun ok => by have h := lwX0 ht4 hLX ok; have h3 := h.2.2.2; rw [hLXe] at h3; rw [← hR4]; exact h3)
        have hsz4 := hS.1
        refine c_VXRA (rm := mkRmC 40 864 (R4.1 - u) (3 * (R4.1 - u))) hx hb hml hts hown hK hl.1 hS (exS_all l D dA 6 hG (psC_E (V1 := VL) hPS ((hE2.mono PPs_PPx).trans (hEL.mono PPo_PPx)) PPx_ps) hu hum hu4 ho (by omega) hR4) (cw_X3_180 hts ⟨by show _ ≤ 42; omega, by show _ ≤ 900; omega⟩) (hG 9 _ rfl) rfl rfl rfl rfl (Nat.le_of_ble_eq_true rfl) dX3_law_111 (fun q hq => hq.elim Or.inl (fun z => Or.inr (Nat.le_trans hS.1 z))) ⟨by show (4 + (u - t)) + (R4.1 - u) ≤ kc; omega, by show (17 + 3 * (u - t)) + 3 * (R4.1 - u) ≤ jc; omega⟩ (fun q H1 locs hq hF hS => xq_widen (k := kc) (n := jc) (by show (4 + (u - t)) + (R4.1 - u) ≤ kc; omega) (by show (17 + 3 * (u - t)) + 3 * (R4.1 - u) ≤ jc; omega) (hthr _ _ _ _ _ _  hS (okX_flt hq) (okX_tr hq ((hE2.mono PPs_PPx).trans (hEL.mono PPo_PPx)) (by obtain ⟨q9, h9⟩ := okX_some hq; exact h9.trans (lwY_t (hLX.trans hLXe) (tm_off (by omega) hR4 h9)).symm)))) (fun r H locs hq hF hS => ?_)
        obtain ⟨t4, fo4, es4⟩ := R4
        obtain ⟨a4, V4, rfl, hG, hE4, hop4, hfo4, hu4, hlt4, hle4, hlm4, hsm4⟩ := hq
        have hfo4 : fo4 = none := hfo4
        subst hfo4
        have hu4 : V4 9 3 = nI t4 := hu4
        have hlt4 : u < t4 := hlt4
        have hle4 : t4 ≤ 400 := hle4
        have hlm4 : t4 < m0 := hlm4
        have hsm4 : smA D H _ (t4 - (u)) a4 es4 := hsm4
        have hGL := hGL.fr hF (fun k hk z => by have hk4 : k < 4 := hk; have hlt := hGL.lt hk; rcases z with z | z; (have := z.2.1; omega); omega)
        have hlt := lwT_F hlt hF (fun q hqs hq z => by (try dsimp only at hq); rcases z with z | z; (have := z.2.1; omega); omega)
        have hsm4 := smA_mono (O2 := fun q => na + 4 ≤ q) (fun q _ h => by have h2 : _ ≤ q := h; omega) _ _ _ hsm4
        have hop4 : V4 9 4 = nI (6 - 6) := hop4.trans ho
        have hge4 : t4 ≤ 400 ∧ u ≤ t4 := hge4
        have hkx4 : 4 + (t4 - t) ≤ kc ∧ 17 + 3 * (t4 - t) ≤ jc := hkx4
        have htm_4 := tm_of (kd := kdT tp) (pl := plT tp) (vl := vlT tp) (by omega) hR4
        have hsm4 := smA_le (d' := 401) (by omega) hsm4
        obtain ⟨cv5, fv5, qv5, hv5, hcv5, hqv5⟩ := smA_cls hsm4
        refine g_aast hx hb hK hGL hS 3 (Or.inr (by omega)) 9 rfl (fun _ => rfl) rfl hv5 hcv5 (Or.inr hqv5) (i := ac.length) (by omega) (by decide) dX3_law_114 (fun H locs hGL hO hS => ?_)
        have hG := hG.on hO (fun j hj => by rw [dS_len] at hj; omega)
        have hF := hO.fr (A := fun z => z = na + 3) rfl
        have hsm4 := smA_F2 hsm4 hF (fun q hqs hq z => by have hq2 : na + 4 ≤ q := hq; have z2 : q = na + 3 := z; omega)
        have hlt := lwT_F hlt hF (fun q hqs hq z => by have z2 : q = na + 3 := z; omega)
        refine lv_aload_n hx hb dX3_law_115 rfl (lv_at hl 0 rfl) ?_
        refine W.widen (k := kc) (n := jc) (by show (4 + (u - t)) + (t4 - u) ≤ kc; omega) (by show (17 + 3 * (u - t)) + 3 * (t4 - u) ≤ jc; omega) ?_
        refine hend _ _ _ _ _ hS dX3_law_116 (Or.inr ⟨_, rfl⟩) ?_
        exact ⟨some na, rfl, na, t4, (ac, es4), _, rfl, hG, (((hE2.mono PPs_PPo).trans hEL).trans hE4), (hop4), hu4, (by omega), (by omega), hlm4, hnl0, lwA_of hGL hif (lwT_to hlt (fun k i hi => up2_n (fun z => by omega))) (by omega) (up2_s) hsm4 (fun q hq => by omega), lwY_e (hLX.trans hLXe) htm_4 (Prod.eta _).symm⟩
      have hk29 : kdT tp u = 29 := bN_p.mp c20
      refine lv_aload_n hx hb dX3_law_23 rfl (lv_at hl 1 rfl) ?_
      refine lv_aload_n hx hb dX3_law_24 rfl (lv_at hl 0 rfl) ?_
      refine g_get (v := .int (nI ac.length)) hx hb hts hown hK hGL 0 rfl rfl ok_X14 3 (by decide) q741 rfl (congrArg Value.int hif) dX3_law_25 ?_
      refine lv_iconst (v := (nI 4)) hx hb dX3_law_28 (by decide) ?_
      refine c_VXV hx hb hml hts hown hK hl.1 hS ⟨by show (4 + (u - t)) ≤ kc; omega, by show (17 + 3 * (u - t)) ≤ jc; omega⟩ (met_X3_begins l D dA hG (psC_E (V1 := VL) hPS ((hE2.mono PPs_PPx).trans (hEL.mono PPo_PPx)) PPx_ps).hm (psC_E (V1 := VL) hPS ((hE2.mono PPs_PPx).trans (hEL.mono PPo_PPx)) PPx_ps).hm9 hu hum hu4 ac.length 4 (by omega) (by omega)) (cw_X3_127 hts ⟨by show _ ≤ 42; omega, by show _ ≤ 900; omega⟩) (hG 9 _ rfl) rfl rfl rfl rfl (Nat.le_of_ble_eq_true rfl) dX3_law_29 (fun _ h => Or.inl h) (fun q H1 locs hq hF hS => hthrW (by show (4 + (u - t)) ≤ kc; omega) (by show (17 + 3 * (u - t)) ≤ jc; omega) hS (okX_flt hq) (okX_tr hq ((hE2.mono PPs_PPx).trans (hEL.mono PPo_PPx)) (by obtain ⟨q9, h9⟩ := okX_some hq; exact h9.trans (lwY_f hLX (by rw [← hI]; exact lw_rm hk29 hl4 h9)).symm))) (fun H1 locs hq hF hS => ?_)
      obtain ⟨V6, hG, hE6, ho6, ht6⟩ := hq
      generalize hHe6 : H1 = H at hG hS hF ⊢
      clear hHe6
      obtain ⟨hb4, hbn, hbe⟩ := rm_ok ho6
      rw [hbe] at ht6
      have hu6 : V6 9 3 = nI (u + 1) := ht6
      have hGL := hGL.fr hF (fun k hk z => by have hk4 : k < 4 := hk; have := z.2.1; omega)
      have hlt := lwT_F hlt hF (fun q hqs hq z => by (try dsimp only at hq); have := z.2.1; omega)
      have htm6 : u + 1 < m0 := hPS.next hum (by omega) (by omega)
      obtain ⟨k1, rfl⟩ : ∃ x, k = x + 1 := ⟨k - 1, by omega⟩
      have hg0 : goP (plT tp) u none = (u + 1, none) := goC_n hbn
      refine lv_aload_n hx hb dX3_law_32 rfl (lv_at hl 0 rfl) ?_
      refine g_get hx hb hts hown hK hGL 0 rfl rfl ok_X14 0 (by decide) q735 rfl rfl dX3_law_33 ?_
      refine lv_aload_n hx hb dX3_law_36 rfl (lv_at hl 0 rfl) ?_
      refine g_get (v := .int (nI ac.length)) hx hb hts hown hK hGL 0 rfl rfl ok_X14 3 (by decide) q741 rfl (congrArg Value.int hif) dX3_law_37 ?_
      refine lv_aload_n hx hb dX3_law_40 rfl (lv_at hl 1 rfl) ?_
      obtain ⟨R7, hR7⟩ : ∃ x, smP (kdT tp) (plT tp) 402 (rdU (kdT tp) (plT tp) (vlT tp) 402 6) (u + 1) = x := ⟨_, rfl⟩
      have hge7 : R7.1 ≤ 400 ∧ (u + 1) ≤ R7.1 := by rw [← hR7]; exact ⟨rdE_le4 (kd := kdT tp) (pl := plT tp) (vl := vlT tp) _ (by omega), rdE_mo (kd := kdT tp) (pl := plT tp) (vl := vlT tp) _⟩
      have hgz := hGL.lt (k := 3) (by decide)
      have hkx7 := hkc (R7.1) (by omega) hge7.1 (fun ok => by have h := lwX0 ht4 hLX ok; have h2 := lwX1 hk29 hu4 hI h.1 ; rw [← hR7]; exact Nat.le_trans h2.1 (by omega))
      have hsz7 := hS.1
      refine c_VXRA (rm := mkRmC 40 864 (R7.1 - (u + 1)) (3 * (R7.1 - (u + 1)))) hx hb hml hts hown hK hl.1 hS (exS_all l D dA 6 hG (psC_E (V1 := V6) hPS (((hE2.mono PPs_PPx).trans (hEL.mono PPo_PPx)).trans (hE6.mono PPs_PPx)) PPx_ps) hu6 htm6 (by omega) ((hE6 9 4 rfl).trans ho) (by omega) hR7) (cw_X3_180 hts ⟨by show _ ≤ 42; omega, by show _ ≤ 900; omega⟩) (hG 9 _ rfl) rfl rfl rfl rfl (Nat.le_of_ble_eq_true rfl) dX3_law_41 (fun q hq => hq.elim Or.inl (fun z => Or.inr (Nat.le_trans hS.1 z))) ⟨by show (4 + (u - t)) + (R7.1 - (u + 1)) ≤ kc; omega, by show (17 + 3 * (u - t)) + 3 * (R7.1 - (u + 1)) ≤ jc; omega⟩ (fun q H1 locs hq hF hS => xq_widen (k := kc) (n := jc) (by show (4 + (u - t)) + (R7.1 - (u + 1)) ≤ kc; omega) (by show (17 + 3 * (u - t)) + 3 * (R7.1 - (u + 1)) ≤ jc; omega) (hthr _ _ _ _ _ _  hS (okX_flt hq) (okX_tr hq (((hE2.mono PPs_PPx).trans (hEL.mono PPo_PPx)).trans (hE6.mono PPs_PPx)) (by obtain ⟨q9, h9⟩ := okX_some hq; exact h9.trans (lwY_f hLX (by rw [← hI]; exact lwZ_f1 hk29 hg0 (tm_off (by omega) hR7 h9))).symm)))) (fun r H locs hq hF hS => ?_)
      obtain ⟨t7, fo7, es7⟩ := R7
      obtain ⟨a7, V7, rfl, hG, hE7, hop7, hfo7, hu7, hlt7, hle7, hlm7, hsm7⟩ := hq
      have hfo7 : fo7 = none := hfo7
      subst hfo7
      have hu7 : V7 9 3 = nI t7 := hu7
      have hlt7 : u + 1 < t7 := hlt7
      have hle7 : t7 ≤ 400 := hle7
      have hlm7 : t7 < m0 := hlm7
      have hsm7 : smA D H _ (t7 - (u + 1)) a7 es7 := hsm7
      have hGL := hGL.fr hF (fun k hk z => by have hk4 : k < 4 := hk; have hlt := hGL.lt hk; rcases z with z | z; (have := z.2.1; omega); omega)
      have hlt := lwT_F hlt hF (fun q hqs hq z => by (try dsimp only at hq); rcases z with z | z; (have := z.2.1; omega); omega)
      have hsm7 := smA_mono (O2 := fun q => na + 4 ≤ q) (fun q _ h => by have h2 : _ ≤ q := h; omega) _ _ _ hsm7
      have hop7 : V7 9 4 = nI (6 - 6) := hop7.trans ((hE6 9 4 rfl).trans ho)
      have hge7 : t7 ≤ 400 ∧ u + 1 ≤ t7 := hge7
      have hkx7 : 4 + (t7 - t) ≤ kc ∧ 17 + 3 * (t7 - t) ≤ jc := hkx7
      have htm_7 := tm_of (kd := kdT tp) (pl := plT tp) (vl := vlT tp) (by omega) hR7
      have hsm7 := smA_le (d' := 401) (by omega) hsm7
      obtain ⟨cv8, fv8, qv8, hv8, hcv8, hqv8⟩ := smA_cls hsm7
      refine g_aast hx hb hK hGL hS 1 (Or.inr (by omega)) 9 rfl (fun _ => rfl) rfl hv8 hcv8 (Or.inr hqv8) (i := ac.length) (by omega) (by decide) dX3_law_44 (fun H locs hGL hO hS => ?_)
      have hG := hG.on hO (fun j hj => by rw [dS_len] at hj; omega)
      have hF := hO.fr (A := fun z => z = na + 1) rfl
      have hsm7 := smA_F2 hsm7 hF (fun q hqs hq z => by have hq2 : na + 4 ≤ q := hq; have z2 : q = na + 1 := z; omega)
      have hlt := lwT_F hlt hF (fun q hqs hq z => by have z2 : q = na + 1 := z; omega)
      refine lv_aload_n hx hb dX3_law_45 rfl (lv_at hl 1 rfl) ?_
      refine lv_bipush (v := (nI 60)) hx hb dX3_law_46 (by decide) ?_
      refine c_VXV hx hb hml hts hown hK hl.1 hS ⟨by show (4 + (u - t)) + (t7 - (u + 1)) ≤ kc; omega, by show (17 + 3 * (u - t)) + 3 * (t7 - (u + 1)) ≤ jc; omega⟩ (met_X3_sign l D dA hG (psC_E (V1 := V7) hPS ((((hE2.mono PPs_PPx).trans (hEL.mono PPo_PPx)).trans (hE6.mono PPs_PPx)).trans (hE7.mono PPo_PPx)) PPx_ps).hm (psC_E (V1 := V7) hPS ((((hE2.mono PPs_PPx).trans (hEL.mono PPo_PPx)).trans (hE6.mono PPs_PPx)).trans (hE7.mono PPo_PPx)) PPx_ps).hm9 (psC_E (V1 := V7) hPS ((((hE2.mono PPs_PPx).trans (hEL.mono PPo_PPx)).trans (hE6.mono PPs_PPx)).trans (hE7.mono PPo_PPx)) PPx_ps).hbF hu7 hlm7 hle7 60 (by omega)) (cw_X3_102 hts ⟨by show _ ≤ 42; omega, by show _ ≤ 900; omega⟩) (hG 9 _ rfl) rfl rfl rfl rfl (Nat.le_of_ble_eq_true rfl) dX3_law_48 (fun _ h => Or.inl h) (fun q H1 locs hq hF hS => hthrW (by show (4 + (u - t)) + (t7 - (u + 1)) ≤ kc; omega) (by show (17 + 3 * (u - t)) + 3 * (t7 - (u + 1)) ≤ jc; omega) hS (okX_flt hq) (okX_tr hq ((((hE2.mono PPs_PPx).trans (hEL.mono PPo_PPx)).trans (hE6.mono PPs_PPx)).trans (hE7.mono PPo_PPx)) (by rw [mu_sg (tp := tp) (t := t7) (y := 60) (K := 13) rfl (by decide)]; obtain ⟨q9, h9⟩ := okX_some hq; rw [mu_sg (tp := tp) (t := t7) (y := 60) (K := 13) rfl (by decide)] at h9; exact h9.trans ((lwY_f hLX (by rw [← hI]; exact lwZ_f2 hk29 hg0 htm_7 h9))).symm))) (fun H1 locs hq hF hS => ?_)
      obtain ⟨V9, hG, hE9, ho9, ht9⟩ := hq
      generalize hHe9 : H1 = H at hG hS hF ⊢
      clear hHe9
      rw [mu_sg (tp := tp) (t := t7) (y := 60) (K := 13) rfl (by decide)] at ho9 ht9
      obtain ⟨hmk9, hmn9, hme9⟩ := mu_ok ho9
      rw [hme9] at ht9
      have hu9 : V9 9 3 = nI (t7 + 1) := ht9
      have hsm7 := smA_F2 hsm7 hF (fun q hqs hq z => by (try dsimp only at hq); have := z.2.1; omega)
      have hGL := hGL.fr hF (fun k hk z => by have hk4 : k < 4 := hk; have := z.2.1; omega)
      have hlt := lwT_F hlt hF (fun q hqs hq z => by (try dsimp only at hq); have := z.2.1; omega)
      have htm9 : t7 + 1 < m0 := hPS.next hlm7 (by omega) (by omega)
      refine lv_aload_n hx hb dX3_law_51 rfl (lv_at hl 0 rfl) ?_
      refine g_get hx hb hts hown hK hGL 0 rfl rfl ok_X14 1 (by decide) q737 rfl rfl dX3_law_52 ?_
      refine lv_aload_n hx hb dX3_law_55 rfl (lv_at hl 0 rfl) ?_
      refine g_get (v := .int (nI ac.length)) hx hb hts hown hK hGL 0 rfl rfl ok_X14 3 (by decide) q741 rfl (congrArg Value.int hif) dX3_law_56 ?_
      refine lv_aload_n hx hb dX3_law_59 rfl (lv_at hl 1 rfl) ?_
      obtain ⟨R10, hR10⟩ : ∃ x, smP (kdT tp) (plT tp) 402 (rdU (kdT tp) (plT tp) (vlT tp) 402 6) (t7 + 1) = x := ⟨_, rfl⟩
      have hge10 : R10.1 ≤ 400 ∧ (t7 + 1) ≤ R10.1 := by rw [← hR10]; exact ⟨rdE_le4 (kd := kdT tp) (pl := plT tp) (vl := vlT tp) _ (by omega), rdE_mo (kd := kdT tp) (pl := plT tp) (vl := vlT tp) _⟩
      have hgz := hGL.lt (k := 3) (by decide)
      have hkx10 := hkc (R10.1) (by omega) hge10.1 (fun ok => by have h := lwX0 ht4 hLX ok; have h2 := lwX2 hk29 hu4 hI h.1 htm_7; rw [← hR10]; exact Nat.le_trans h2 (by omega))
      have hsz10 := hS.1
      refine c_VXRA (rm := mkRmC 40 864 (R10.1 - (t7 + 1)) (3 * (R10.1 - (t7 + 1)))) hx hb hml hts hown hK hl.1 hS (exS_all l D dA 6 hG (psC_E (V1 := V9) hPS (((((hE2.mono PPs_PPx).trans (hEL.mono PPo_PPx)).trans (hE6.mono PPs_PPx)).trans (hE7.mono PPo_PPx)).trans (hE9.mono PPs_PPx)) PPx_ps) hu9 htm9 (by omega) ((hE9 9 4 rfl).trans hop7) (by omega) hR10) (cw_X3_180 hts ⟨by show _ ≤ 42; omega, by show _ ≤ 900; omega⟩) (hG 9 _ rfl) rfl rfl rfl rfl (Nat.le_of_ble_eq_true rfl) dX3_law_60 (fun q hq => hq.elim Or.inl (fun z => Or.inr (Nat.le_trans hS.1 z))) ⟨by show (4 + (u - t)) + (t7 - (u + 1)) + (R10.1 - (t7 + 1)) ≤ kc; omega, by show (17 + 3 * (u - t)) + 3 * (t7 - (u + 1)) + 3 * (R10.1 - (t7 + 1)) ≤ jc; omega⟩ (fun q H1 locs hq hF hS => xq_widen (k := kc) (n := jc) (by show (4 + (u - t)) + (t7 - (u + 1)) + (R10.1 - (t7 + 1)) ≤ kc; omega) (by show (17 + 3 * (u - t)) + 3 * (t7 - (u + 1)) + 3 * (R10.1 - (t7 + 1)) ≤ jc; omega) (hthr _ _ _ _ _ _  hS (okX_flt hq) (okX_tr hq (((((hE2.mono PPs_PPx).trans (hEL.mono PPo_PPx)).trans (hE6.mono PPs_PPx)).trans (hE7.mono PPo_PPx)).trans (hE9.mono PPs_PPx)) (by obtain ⟨q9, h9⟩ := okX_some hq; exact h9.trans (lwY_f hLX (by rw [← hI]; exact lwZ_f3 hk29 hg0 htm_7 hme9 (tm_off (by omega) hR10 h9))).symm)))) (fun r H locs hq hF hS => ?_)
      obtain ⟨t10, fo10, es10⟩ := R10
      obtain ⟨a10, V10, rfl, hG, hE10, hop10, hfo10, hu10, hlt10, hle10, hlm10, hsm10⟩ := hq
      have hfo10 : fo10 = none := hfo10
      subst hfo10
      have hu10 : V10 9 3 = nI t10 := hu10
      have hlt10 : t7 + 1 < t10 := hlt10
      have hle10 : t10 ≤ 400 := hle10
      have hlm10 : t10 < m0 := hlm10
      have hsm10 : smA D H _ (t10 - (t7 + 1)) a10 es10 := hsm10
      have hsm7 := smA_F2 hsm7 hF (fun q hqs hq z => by (try dsimp only at hq); rcases z with z | z; (have := z.2.1; omega); omega)
      have hGL := hGL.fr hF (fun k hk z => by have hk4 : k < 4 := hk; have hlt := hGL.lt hk; rcases z with z | z; (have := z.2.1; omega); omega)
      have hlt := lwT_F hlt hF (fun q hqs hq z => by (try dsimp only at hq); rcases z with z | z; (have := z.2.1; omega); omega)
      have hsm10 := smA_mono (O2 := fun q => na + 4 ≤ q) (fun q _ h => by have h2 : _ ≤ q := h; omega) _ _ _ hsm10
      have hop10 : V10 9 4 = nI (6 - 6) := hop10.trans ((hE9 9 4 rfl).trans hop7)
      have hge10 : t10 ≤ 400 ∧ t7 + 1 ≤ t10 := hge10
      have hkx10 : 4 + (t10 - t) ≤ kc ∧ 17 + 3 * (t10 - t) ≤ jc := hkx10
      have htm_10 := tm_of (kd := kdT tp) (pl := plT tp) (vl := vlT tp) (by omega) hR10
      have hsm10 := smA_le (d' := 401) (by omega) hsm10
      obtain ⟨cv11, fv11, qv11, hv11, hcv11, hqv11⟩ := smA_cls hsm10
      refine g_aast hx hb hK hGL hS 2 (Or.inr (by omega)) 9 rfl (fun _ => rfl) rfl hv11 hcv11 (Or.inr hqv11) (i := ac.length) (by omega) (by decide) dX3_law_63 (fun H locs hGL hO hS => ?_)
      have hG := hG.on hO (fun j hj => by rw [dS_len] at hj; omega)
      have hF := hO.fr (A := fun z => z = na + 2) rfl
      have hsm7 := smA_F2 hsm7 hF (fun q hqs hq z => by have hq2 : na + 4 ≤ q := hq; have z2 : q = na + 2 := z; omega)
      have hsm10 := smA_F2 hsm10 hF (fun q hqs hq z => by have hq2 : na + 4 ≤ q := hq; have z2 : q = na + 2 := z; omega)
      have hlt := lwT_F hlt hF (fun q hqs hq z => by have z2 : q = na + 2 := z; omega)
      refine lv_aload_n hx hb dX3_law_64 rfl (lv_at hl 1 rfl) ?_
      refine lv_bipush (v := (nI 10)) hx hb dX3_law_65 (by decide) ?_
      refine c_VXV hx hb hml hts hown hK hl.1 hS ⟨by show (4 + (u - t)) + (t7 - (u + 1)) + (t10 - (t7 + 1)) ≤ kc; omega, by show (17 + 3 * (u - t)) + 3 * (t7 - (u + 1)) + 3 * (t10 - (t7 + 1)) ≤ jc; omega⟩ (met_X3_word l D dA hG (psC_E (V1 := V10) hPS ((((((hE2.mono PPs_PPx).trans (hEL.mono PPo_PPx)).trans (hE6.mono PPs_PPx)).trans (hE7.mono PPo_PPx)).trans (hE9.mono PPs_PPx)).trans (hE10.mono PPo_PPx)) PPx_ps).hm (psC_E (V1 := V10) hPS ((((((hE2.mono PPs_PPx).trans (hEL.mono PPo_PPx)).trans (hE6.mono PPs_PPx)).trans (hE7.mono PPo_PPx)).trans (hE9.mono PPs_PPx)).trans (hE10.mono PPo_PPx)) PPx_ps).hm9 (psC_E (V1 := V10) hPS ((((((hE2.mono PPs_PPx).trans (hEL.mono PPo_PPx)).trans (hE6.mono PPs_PPx)).trans (hE7.mono PPo_PPx)).trans (hE9.mono PPs_PPx)).trans (hE10.mono PPo_PPx)) PPx_ps).hbF hu10 hlm10 hle10 10 (by omega)) (cw_X3_187 hts ⟨by show _ ≤ 42; omega, by show _ ≤ 900; omega⟩) (hG 9 _ rfl) rfl rfl rfl rfl (Nat.le_of_ble_eq_true rfl) dX3_law_67 (fun _ h => Or.inl h) (fun q H1 locs hq hF hS => hthrW (by show (4 + (u - t)) + (t7 - (u + 1)) + (t10 - (t7 + 1)) ≤ kc; omega) (by show (17 + 3 * (u - t)) + 3 * (t7 - (u + 1)) + 3 * (t10 - (t7 + 1)) ≤ jc; omega) hS (okX_flt hq) (okX_tr hq ((((((hE2.mono PPs_PPx).trans (hEL.mono PPo_PPx)).trans (hE6.mono PPs_PPx)).trans (hE7.mono PPo_PPx)).trans (hE9.mono PPs_PPx)).trans (hE10.mono PPo_PPx)) (by rw [mu_wd (tp := tp) (t := t10) (w := 10)]; obtain ⟨q9, h9⟩ := okX_some hq; rw [mu_wd (tp := tp) (t := t10) (w := 10)] at h9; exact h9.trans ((lwY_f hLX (by rw [← hI]; exact lwZ_f4 hk29 hg0 htm_7 hme9 htm_10 h9))).symm))) (fun H1 locs hq hF hS => ?_)
      obtain ⟨V12, hG, hE12, ho12, ht12⟩ := hq
      generalize hHe12 : H1 = H at hG hS hF ⊢
      clear hHe12
      rw [mu_wd (tp := tp) (t := t10) (w := 10)] at ho12 ht12
      obtain ⟨hmk12, hmn12, hme12⟩ := mu_ok ho12
      rw [hme12] at ht12
      have hu12 : V12 9 3 = nI (t10 + 1) := ht12
      have hsm7 := smA_F2 hsm7 hF (fun q hqs hq z => by (try dsimp only at hq); have := z.2.1; omega)
      have hsm10 := smA_F2 hsm10 hF (fun q hqs hq z => by (try dsimp only at hq); have := z.2.1; omega)
      have hGL := hGL.fr hF (fun k hk z => by have hk4 : k < 4 := hk; have := z.2.1; omega)
      have hlt := lwT_F hlt hF (fun q hqs hq z => by (try dsimp only at hq); have := z.2.1; omega)
      have htm12 : t10 + 1 < m0 := hPS.next hlm10 (by omega) (by omega)
      refine lv_aload_n hx hb dX3_law_70 rfl (lv_at hl 0 rfl) ?_
      refine g_get hx hb hts hown hK hGL 0 rfl rfl ok_X14 2 (by decide) q739 rfl rfl dX3_law_71 ?_
      refine lv_aload_n hx hb dX3_law_74 rfl (lv_at hl 0 rfl) ?_
      refine g_get (v := .int (nI ac.length)) hx hb hts hown hK hGL 0 rfl rfl ok_X14 3 (by decide) q741 rfl (congrArg Value.int hif) dX3_law_75 ?_
      refine lv_aload_n hx hb dX3_law_78 rfl (lv_at hl 1 rfl) ?_
      obtain ⟨R13, hR13⟩ : ∃ x, smP (kdT tp) (plT tp) 402 (rdU (kdT tp) (plT tp) (vlT tp) 402 6) (t10 + 1) = x := ⟨_, rfl⟩
      have hge13 : R13.1 ≤ 400 ∧ (t10 + 1) ≤ R13.1 := by rw [← hR13]; exact ⟨rdE_le4 (kd := kdT tp) (pl := plT tp) (vl := vlT tp) _ (by omega), rdE_mo (kd := kdT tp) (pl := plT tp) (vl := vlT tp) _⟩
      have hgz := hGL.lt (k := 3) (by decide)
      have hkx13 := hkc (R13.1) (by omega) hge13.1 (fun ok => by have h := lwX0 ht4 hLX ok; have h2 := lwX3 hk29 hu4 hI h.1 htm_7 htm_10; rw [← hR13]; exact Nat.le_trans h2 (by omega))
      have hsz13 := hS.1
      refine c_VXRA (rm := mkRmC 40 864 (R13.1 - (t10 + 1)) (3 * (R13.1 - (t10 + 1)))) hx hb hml hts hown hK hl.1 hS (exS_all l D dA 6 hG (psC_E (V1 := V12) hPS (((((((hE2.mono PPs_PPx).trans (hEL.mono PPo_PPx)).trans (hE6.mono PPs_PPx)).trans (hE7.mono PPo_PPx)).trans (hE9.mono PPs_PPx)).trans (hE10.mono PPo_PPx)).trans (hE12.mono PPs_PPx)) PPx_ps) hu12 htm12 (by omega) ((hE12 9 4 rfl).trans hop10) (by omega) hR13) (cw_X3_180 hts ⟨by show _ ≤ 42; omega, by show _ ≤ 900; omega⟩) (hG 9 _ rfl) rfl rfl rfl rfl (Nat.le_of_ble_eq_true rfl) dX3_law_79 (fun q hq => hq.elim Or.inl (fun z => Or.inr (Nat.le_trans hS.1 z))) ⟨by show (4 + (u - t)) + (t7 - (u + 1)) + (t10 - (t7 + 1)) + (R13.1 - (t10 + 1)) ≤ kc; omega, by show (17 + 3 * (u - t)) + 3 * (t7 - (u + 1)) + 3 * (t10 - (t7 + 1)) + 3 * (R13.1 - (t10 + 1)) ≤ jc; omega⟩ (fun q H1 locs hq hF hS => xq_widen (k := kc) (n := jc) (by show (4 + (u - t)) + (t7 - (u + 1)) + (t10 - (t7 + 1)) + (R13.1 - (t10 + 1)) ≤ kc; omega) (by show (17 + 3 * (u - t)) + 3 * (t7 - (u + 1)) + 3 * (t10 - (t7 + 1)) + 3 * (R13.1 - (t10 + 1)) ≤ jc; omega) (hthr _ _ _ _ _ _  hS (okX_flt hq) (okX_tr hq (((((((hE2.mono PPs_PPx).trans (hEL.mono PPo_PPx)).trans (hE6.mono PPs_PPx)).trans (hE7.mono PPo_PPx)).trans (hE9.mono PPs_PPx)).trans (hE10.mono PPo_PPx)).trans (hE12.mono PPs_PPx)) (by obtain ⟨q9, h9⟩ := okX_some hq; exact h9.trans (lwY_f hLX (by rw [← hI]; exact lwZ_f5 hk29 hg0 htm_7 hme9 htm_10 hme12 (tm_off (by omega) hR13 h9))).symm)))) (fun r H locs hq hF hS => ?_)
      obtain ⟨t13, fo13, es13⟩ := R13
      obtain ⟨a13, V13, rfl, hG, hE13, hop13, hfo13, hu13, hlt13, hle13, hlm13, hsm13⟩ := hq
      have hfo13 : fo13 = none := hfo13
      subst hfo13
      have hu13 : V13 9 3 = nI t13 := hu13
      have hlt13 : t10 + 1 < t13 := hlt13
      have hle13 : t13 ≤ 400 := hle13
      have hlm13 : t13 < m0 := hlm13
      have hsm13 : smA D H _ (t13 - (t10 + 1)) a13 es13 := hsm13
      have hsm7 := smA_F2 hsm7 hF (fun q hqs hq z => by (try dsimp only at hq); rcases z with z | z; (have := z.2.1; omega); omega)
      have hsm10 := smA_F2 hsm10 hF (fun q hqs hq z => by (try dsimp only at hq); rcases z with z | z; (have := z.2.1; omega); omega)
      have hGL := hGL.fr hF (fun k hk z => by have hk4 : k < 4 := hk; have hlt := hGL.lt hk; rcases z with z | z; (have := z.2.1; omega); omega)
      have hlt := lwT_F hlt hF (fun q hqs hq z => by (try dsimp only at hq); rcases z with z | z; (have := z.2.1; omega); omega)
      have hsm13 := smA_mono (O2 := fun q => na + 4 ≤ q) (fun q _ h => by have h2 : _ ≤ q := h; omega) _ _ _ hsm13
      have hop13 : V13 9 4 = nI (6 - 6) := hop13.trans ((hE12 9 4 rfl).trans hop10)
      have hge13 : t13 ≤ 400 ∧ t10 + 1 ≤ t13 := hge13
      have hkx13 : 4 + (t13 - t) ≤ kc ∧ 17 + 3 * (t13 - t) ≤ jc := hkx13
      have htm_13 := tm_of (kd := kdT tp) (pl := plT tp) (vl := vlT tp) (by omega) hR13
      have hsm13 := smA_le (d' := 401) (by omega) hsm13
      obtain ⟨cv14, fv14, qv14, hv14, hcv14, hqv14⟩ := smA_cls hsm13
      refine g_aast hx hb hK hGL hS 3 (Or.inr (by omega)) 9 rfl (fun _ => rfl) rfl hv14 hcv14 (Or.inr hqv14) (i := ac.length) (by omega) (by decide) dX3_law_82 (fun H locs hGL hO hS => ?_)
      have hG := hG.on hO (fun j hj => by rw [dS_len] at hj; omega)
      have hF := hO.fr (A := fun z => z = na + 3) rfl
      have hsm7 := smA_F2 hsm7 hF (fun q hqs hq z => by have hq2 : na + 4 ≤ q := hq; have z2 : q = na + 3 := z; omega)
      have hsm10 := smA_F2 hsm10 hF (fun q hqs hq z => by have hq2 : na + 4 ≤ q := hq; have z2 : q = na + 3 := z; omega)
      have hsm13 := smA_F2 hsm13 hF (fun q hqs hq z => by have hq2 : na + 4 ≤ q := hq; have z2 : q = na + 3 := z; omega)
      have hlt := lwT_F hlt hF (fun q hqs hq z => by have z2 : q = na + 3 := z; omega)
      refine lv_aload_n hx hb dX3_law_83 rfl (lv_at hl 1 rfl) ?_
      refine lv_bipush (v := (nI 11)) hx hb dX3_law_84 (by decide) ?_
      refine c_VXV hx hb hml hts hown hK hl.1 hS ⟨by show (4 + (u - t)) + (t7 - (u + 1)) + (t10 - (t7 + 1)) + (t13 - (t10 + 1)) ≤ kc; omega, by show (17 + 3 * (u - t)) + 3 * (t7 - (u + 1)) + 3 * (t10 - (t7 + 1)) + 3 * (t13 - (t10 + 1)) ≤ jc; omega⟩ (met_X3_word l D dA hG (psC_E (V1 := V13) hPS ((((((((hE2.mono PPs_PPx).trans (hEL.mono PPo_PPx)).trans (hE6.mono PPs_PPx)).trans (hE7.mono PPo_PPx)).trans (hE9.mono PPs_PPx)).trans (hE10.mono PPo_PPx)).trans (hE12.mono PPs_PPx)).trans (hE13.mono PPo_PPx)) PPx_ps).hm (psC_E (V1 := V13) hPS ((((((((hE2.mono PPs_PPx).trans (hEL.mono PPo_PPx)).trans (hE6.mono PPs_PPx)).trans (hE7.mono PPo_PPx)).trans (hE9.mono PPs_PPx)).trans (hE10.mono PPo_PPx)).trans (hE12.mono PPs_PPx)).trans (hE13.mono PPo_PPx)) PPx_ps).hm9 (psC_E (V1 := V13) hPS ((((((((hE2.mono PPs_PPx).trans (hEL.mono PPo_PPx)).trans (hE6.mono PPs_PPx)).trans (hE7.mono PPo_PPx)).trans (hE9.mono PPs_PPx)).trans (hE10.mono PPo_PPx)).trans (hE12.mono PPs_PPx)).trans (hE13.mono PPo_PPx)) PPx_ps).hbF hu13 hlm13 hle13 11 (by omega)) (cw_X3_187 hts ⟨by show _ ≤ 42; omega, by show _ ≤ 900; omega⟩) (hG 9 _ rfl) rfl rfl rfl rfl (Nat.le_of_ble_eq_true rfl) dX3_law_86 (fun _ h => Or.inl h) (fun q H1 locs hq hF hS => hthrW (by show (4 + (u - t)) + (t7 - (u + 1)) + (t10 - (t7 + 1)) + (t13 - (t10 + 1)) ≤ kc; omega) (by show (17 + 3 * (u - t)) + 3 * (t7 - (u + 1)) + 3 * (t10 - (t7 + 1)) + 3 * (t13 - (t10 + 1)) ≤ jc; omega) hS (okX_flt hq) (okX_tr hq ((((((((hE2.mono PPs_PPx).trans (hEL.mono PPo_PPx)).trans (hE6.mono PPs_PPx)).trans (hE7.mono PPo_PPx)).trans (hE9.mono PPs_PPx)).trans (hE10.mono PPo_PPx)).trans (hE12.mono PPs_PPx)).trans (hE13.mono PPo_PPx)) (by rw [mu_wd (tp := tp) (t := t13) (w := 11)]; obtain ⟨q9, h9⟩ := okX_some hq; rw [mu_wd (tp := tp) (t := t13) (w := 11)] at h9; exact h9.trans ((lwY_f hLX (by rw [← hI]; exact lwZ_f6 hk29 hg0 htm_7 hme9 htm_10 hme12 htm_13 h9))).symm))) (fun H1 locs hq hF hS => ?_)
      obtain ⟨V15, hG, hE15, ho15, ht15⟩ := hq
      generalize hHe15 : H1 = H at hG hS hF ⊢
      clear hHe15
      rw [mu_wd (tp := tp) (t := t13) (w := 11)] at ho15 ht15
      obtain ⟨hmk15, hmn15, hme15⟩ := mu_ok ho15
      rw [hme15] at ht15
      have hu15 : V15 9 3 = nI (t13 + 1) := ht15
      have hsm7 := smA_F2 hsm7 hF (fun q hqs hq z => by (try dsimp only at hq); have := z.2.1; omega)
      have hsm10 := smA_F2 hsm10 hF (fun q hqs hq z => by (try dsimp only at hq); have := z.2.1; omega)
      have hsm13 := smA_F2 hsm13 hF (fun q hqs hq z => by (try dsimp only at hq); have := z.2.1; omega)
      have hGL := hGL.fr hF (fun k hk z => by have hk4 : k < 4 := hk; have := z.2.1; omega)
      have hlt := lwT_F hlt hF (fun q hqs hq z => by (try dsimp only at hq); have := z.2.1; omega)
      have htm15 : t13 + 1 < m0 := hPS.next hlm13 (by omega) (by omega)
      refine lv_aload_n hx hb dX3_law_89 rfl (lv_at hl 0 rfl) ?_
      refine lv_dup hx hb dX3_law_90 rfl ?_
      refine g_get (v := .int (nI ac.length)) hx hb hts hown hK hGL 0 rfl rfl ok_X14 3 (by decide) q741 rfl (congrArg Value.int hif) dX3_law_91 ?_
      refine lv_iconst (v := (nI 1)) hx hb dX3_law_94 (by decide) ?_
      refine n_iadd hx hb dX3_law_95 ?_
      refine g_put hx hb hts hown hK hGL hS 0 (Or.inr (by omega)) rfl rfl ok_X14 3 (by decide) q741 rfl rfl rfl rfl dX3_law_96 (fun H locs hGL hO hS => ?_)
      have hG := hG.on hO (fun j hj => by first | (rw [dS_len] at hj; omega) | (have hj4 : j < 4 := hj; omega))
      have hF := hO.fr (A := fun z => z = na + 0) rfl
      have hsm7 := smA_F2 hsm7 hF (fun q hqs hq z => by (try dsimp only at hq); have z2 : q = _ := z; omega)
      have hsm10 := smA_F2 hsm10 hF (fun q hqs hq z => by (try dsimp only at hq); have z2 : q = _ := z; omega)
      have hsm13 := smA_F2 hsm13 hF (fun q hqs hq z => by (try dsimp only at hq); have z2 : q = _ := z; omega)
      have hlt := lwT_F hlt hF (fun q hqs hq z => by (try dsimp only at hq); have z2 : q = _ := z; omega)
      refine lv_goto (tgt := 14) hx hb dX3_law_99 (by decide) ?_
      have hkb := hkc (t13 + 1) (by omega) (by omega) (fun ok => by have h := lwX0 ht4 hLX ok; have h2 := lwX4 hk29 hu4 hI h.1 htm_7 htm_10 htm_13; omega)
      refine W.widen (k := (4 + (t13 + 1 - t))) (n := (17 + 3 * (t13 + 1 - t))) (by show (4 + (u - t)) + (t7 - (u + 1)) + (t10 - (t7 + 1)) + (t13 - (t10 + 1)) ≤ _; omega) (by show (17 + 3 * (u - t)) + 3 * (t7 - (u + 1)) + 3 * (t10 - (t7 + 1)) + 3 * (t13 - (t10 + 1)) ≤ _; omega) ?_
      have hsz3 := hGL.lt (k := 3) (by decide)
      exact ih3 k1 (t13 + 1) (ac ++ [(es7, es10, es13)]) (up2 VK 0 3 (nI (ac.length + 1))) (up2 (up2 (up2 RK 1 ac.length (some a7)) 2 ac.length (some a10)) 3 ac.length (some a13)) V15 _ _ _ (by omega) ((lwZ_e hk29 hg0 htm_7 hme9 htm_10 hme12 htm_13 hme15).symm.trans hI) hkb (by simp only [List.length_append, List.length_cons, List.length_nil]; omega) (by omega) htm15 (by omega) (Eqx.trans (Eqx.trans (Eqx.trans (Eqx.trans (Eqx.trans (Eqx.trans (Eqx.trans hEL (hE6.mono PPs_PPo)) hE7) (hE9.mono PPs_PPo)) hE10) (hE12.mono PPs_PPo)) hE13) (hE15.mono PPs_PPo)) hu15 ((hE15 9 4 rfl).trans hop13) (by rw [List.length_append]; rfl) (lwT_add (lwT_to hlt (fun k i hi => ((up2_n (fun z => by omega)).trans (up2_n (fun z => by omega))).trans (up2_n (fun z => by omega)))) ((up2_n (fun z => by omega)).trans ((up2_n (fun z => by omega)).trans up2_s)) ((up2_n (fun z => by omega)).trans up2_s) (up2_s) hsm7 hsm10 hsm13) hGL hG hS (lv_sub hl [0, 1] rfl)
  exact loop3 (4 + 1) 4 (t + 1) ([]) VW RW V2 _ _ _ (Nat.lt_succ_self _) hI0 hk10 rfl (by omega) htm2 (by omega) Eqx.rf hu2 hop0 hifs (fun i p q r hi => by simp at hi) hGL hG hS (lv_sub hl [0, 1] rfl)
