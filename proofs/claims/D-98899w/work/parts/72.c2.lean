/-! a law of the class -/
def lwI (vars : Nat → Int32) (el : List Sg) (ifs : Ifs) (k : Nat) (nt : Int32) : Prop := (nt = 0 ∧ lwV vars el ifs = lwV vars el (ifs.drop k)) ∨ (nt = 1 ∧ lwV vars el ifs = 0)
theorem lwI_next {vars : Nat → Int32} {el : List Sg} {ifs : Ifs} {k : Nat} {nt r1 r2 : Int32} {p q r : List Sg} (h : lwI vars el ifs k nt) (hi : ifs[k]? = some (p, q, r)) (h1 : ∀ v, tmV vars p = some v → r1 = v) (h2 : ∀ v, tmV vars q = some v → r2 = v) (hge : ¬ r1 < r2) : lwI vars el ifs (k + 1) (brk (brk nt (tmV vars p)) (tmV vars q)) := by
  have hd : ifs.drop k = (p, q, r) :: ifs.drop (k + 1) := by
    obtain ⟨hl, he⟩ := List.getElem?_eq_some_iff.mp hi
    rw [← he]
    exact List.drop_eq_getElem_cons hl
  rcases h with ⟨rfl, h⟩ | ⟨rfl, h⟩
  · rw [hd] at h
    cases hp : tmV vars p with
    | none =>
      have e : lwV vars el ((p, q, r) :: ifs.drop (k + 1)) = 0 := by unfold lwV; rw [hp]
      rw [e] at h
      exact Or.inr ⟨by cases tmV vars q <;> rfl, h⟩
    | some u =>
      cases hq : tmV vars q with
      | none =>
        have e : lwV vars el ((p, q, r) :: ifs.drop (k + 1)) = 0 := by unfold lwV; rw [hp, hq]
        rw [e] at h
        exact Or.inr ⟨rfl, h⟩
      | some v =>
        have e : lwV vars el ((p, q, r) :: ifs.drop (k + 1)) = lwV vars el (ifs.drop (k + 1)) := by
          rw [lwV, hp, hq]
          show (if u < v then _ else _) = _
          rw [if_neg (by rw [← h1 u hp, ← h2 v hq]; exact hge)]
        rw [e] at h
        exact Or.inl ⟨rfl, h⟩
  · exact Or.inr ⟨by cases tmV vars p <;> cases tmV vars q <;> rfl, h⟩
theorem lwI_hit {vars : Nat → Int32} {el : List Sg} {ifs : Ifs} {k : Nat} {nt r1 r2 r3 : Int32} {p q r : List Sg} (h : lwI vars el ifs k nt) (hi : ifs[k]? = some (p, q, r)) (h1 : ∀ v, tmV vars p = some v → r1 = v) (h2 : ∀ v, tmV vars q = some v → r2 = v) (hlt : r1 < r2) (h3 : ∀ v, tmV vars r = some v → r3 = v) : (brk (brk (brk nt (tmV vars p)) (tmV vars q)) (tmV vars r) = 0 ∧ lwV vars el ifs = r3) ∨ (brk (brk (brk nt (tmV vars p)) (tmV vars q)) (tmV vars r) = 1 ∧ lwV vars el ifs = 0) := by
  have hd : ifs.drop k = (p, q, r) :: ifs.drop (k + 1) := by
    obtain ⟨hl, he⟩ := List.getElem?_eq_some_iff.mp hi
    rw [← he]
    exact List.drop_eq_getElem_cons hl
  rcases h with ⟨rfl, h⟩ | ⟨rfl, h⟩
  · rw [hd] at h
    cases hp : tmV vars p with
    | none =>
      have e : lwV vars el ((p, q, r) :: ifs.drop (k + 1)) = 0 := by unfold lwV; rw [hp]
      rw [e] at h
      exact Or.inr ⟨by cases tmV vars q <;> cases tmV vars r <;> rfl, h⟩
    | some u =>
      cases hq : tmV vars q with
      | none =>
        have e : lwV vars el ((p, q, r) :: ifs.drop (k + 1)) = 0 := by unfold lwV; rw [hp, hq]
        rw [e] at h
        exact Or.inr ⟨by cases tmV vars r <;> rfl, h⟩
      | some v =>
        have e : lwV vars el ((p, q, r) :: ifs.drop (k + 1)) = (tmV vars r).getD 0 := by
          rw [lwV, hp, hq]
          show (if u < v then _ else _) = _
          rw [if_pos (by rw [← h1 u hp, ← h2 v hq]; exact hlt)]
        rw [e] at h
        cases hr : tmV vars r with
        | none => rw [hr] at h; exact Or.inr ⟨rfl, h⟩
        | some z => rw [hr] at h; exact Or.inl ⟨rfl, by rw [h3 z hr]; exact h⟩
  · exact Or.inr ⟨by cases tmV vars p <;> cases tmV vars q <;> cases tmV vars r <;> rfl, h⟩
theorem lwI_end {vars : Nat → Int32} {el : List Sg} {ifs : Ifs} {k : Nat} {nt r3 : Int32} (h : lwI vars el ifs k nt) (hk : ifs.length ≤ k) (h3 : ∀ v, tmV vars el = some v → r3 = v) : (brk nt (tmV vars el) = 0 ∧ lwV vars el ifs = r3) ∨ (brk nt (tmV vars el) = 1 ∧ lwV vars el ifs = 0) := by
  have hd : ifs.drop k = [] := List.drop_eq_nil_of_le hk
  rcases h with ⟨rfl, h⟩ | ⟨rfl, h⟩
  · rw [hd] at h
    cases hr : tmV vars el with
    | none => rw [show lwV vars el [] = 0 by unfold lwV; rw [hr]; rfl] at h; exact Or.inr ⟨rfl, h⟩
    | some z => rw [show lwV vars el [] = z by unfold lwV; rw [hr]; rfl] at h; exact Or.inl ⟨rfl, by rw [h3 z hr]; exact h⟩
  · exact Or.inr ⟨by cases tmV vars el <;> rfl, h⟩
def mx0 (v : Int32) : Int32 := if 0 < v then v else 0
/-- the class's law at a -/
def lwA (D : va_G) (dA : Nat → ClassId) (H : Heap) (O : Nat → Prop) (a : Nat) (w : Lw) : Prop := ∃ l1 l2 l3 f1 f2 f3, O a ∧ O l1 ∧ O l2 ∧ O l3 ∧ va_at D CL (a, .inr (8, [.ref l1, .ref l2, .ref l3, .int (nI w.1.length)])) H ∧ va_at D CL (l1, .inl (dA 9, 4, .inr (.inr (.inr (.inr f1))))) H ∧ va_at D CL (l2, .inl (dA 9, 4, .inr (.inr (.inr (.inr f2))))) H ∧ va_at D CL (l3, .inl (dA 9, 5, .inr (.inr (.inr (.inr f3))))) H ∧ w.1.length ≤ 4 ∧ (∀ i p q r, w.1[i]? = some (p, q, r) → (∃ x, f1 i = some x ∧ smA D H O 401 x p) ∧ (∃ x, f2 i = some x ∧ smA D H O 401 x q) ∧ ∃ x, f3 i = some x ∧ smA D H O 401 x r) ∧ ∃ x, f3 w.1.length = some x ∧ smA D H O 401 x w.2
theorem lwA_kept {D : va_G} {dA : Nat → ClassId} {H H1 : Heap} {O : Nat → Prop} {a : Nat} {w : Lw} (hk : ∀ q, O q → q < H.size → H1[q]? = H[q]?) (h : lwA D dA H O a w) : lwA D dA H1 O a w := by
  obtain ⟨l1, l2, l3, f1, f2, f3, o0, o1, o2, o3, h0, h1, h2, h3, h4, h5, x, h6, h7⟩ := h
  refine ⟨l1, l2, l3, f1, f2, f3, o0, o1, o2, o3, h0.kept (hk _ o0 h0.lt), h1.kept (hk _ o1 h1.lt), h2.kept (hk _ o2 h2.lt), h3.kept (hk _ o3 h3.lt), h4, fun i p q r hi => ?_, x, h6, smA_kept hk _ _ _ h7⟩
  obtain ⟨⟨x1, a1, b1⟩, ⟨x2, a2, b2⟩, x3, a3, b3⟩ := h5 i p q r hi
  exact ⟨⟨x1, a1, smA_kept hk _ _ _ b1⟩, ⟨x2, a2, smA_kept hk _ _ _ b2⟩, x3, a3, smA_kept hk _ _ _ b3⟩
theorem lwA_mono {D : va_G} {dA : Nat → ClassId} {H : Heap} {O O2 : Nat → Prop} {a : Nat} {w : Lw} (hO : ∀ q, q < H.size → O q → O2 q) (h : lwA D dA H O a w) : lwA D dA H O2 a w := by
  obtain ⟨l1, l2, l3, f1, f2, f3, o0, o1, o2, o3, h0, h1, h2, h3, h4, h5, x, h6, h7⟩ := h
  refine ⟨l1, l2, l3, f1, f2, f3, hO _ h0.lt o0, hO _ h1.lt o1, hO _ h2.lt o2, hO _ h3.lt o3, h0, h1, h2, h3, h4, fun i p q r hi => ?_, x, h6, smA_mono hO _ _ _ h7⟩
  obtain ⟨⟨x1, a1, b1⟩, ⟨x2, a2, b2⟩, x3, a3, b3⟩ := h5 i p q r hi
  exact ⟨⟨x1, a1, smA_mono hO _ _ _ b1⟩, ⟨x2, a2, smA_mono hO _ _ _ b2⟩, x3, a3, smA_mono hO _ _ _ b3⟩
theorem max_0 (v : Int32) : (if nI 0 < v then v else nI 0) = mx0 v := rfl
set_option maxHeartbeats 4000000 in
theorem met_X14_of (l : Launch) (D : va_G) (dA : Nat → ClassId) {H0 : Heap} {O : Nat → Prop} {a q va : Nat} {vars : Nat → Int32} {nt0 : Int32} {wl : Lw} (hL : lwA D dA H0 O a wl) (hOq : ¬ O q) (has : asA D dA H0 q va vars nt0) : Ctr l D dA yX14_of cX14_of 4 (some .int) (mkRm 402 9246) [.ref a, .ref q] H0 (fun z => z = q) (QI (fun r H1 => r = mx0 (lwV vars wl.2 wl.1) ∧ ∃ nt, asA D dA H1 q va vars nt)) := by
  have hOA : ∀ z, O z → ¬ z = q := fun z h1 h2 => hOq (h2 ▸ h1)
  obtain ⟨l1, l2, l3, f1, f2, f3, o0, o1, o2, o3, h0, h1, h2, h3, h4, h5, xe, he1, he2⟩ := hL
  refine ctr_I (by decide) (Nat.le_of_ble_eq_true rfl) ?_
  intro p e s m args below meth c ls QQ locs hx hb hml hown hts hK hend hS hl
  have hl : lv_has ls 4 [(0, .ref a), (1, .ref q)] := hl
  refine lv_aload_n hx hb dX14_of_0 rfl (lv_at hl 1 rfl) ?_
  refine lv_iconst (v := (nI 0)) hx hb dX14_of_1 (by decide) ?_
  refine x_put hx hb hts hown hK has.1 rfl ok_X9 1 (by decide) q426 (Or.inl rfl) (by decide) (by decide) (Nat.le_of_ble_eq_true rfl) dX14_of_2 (fun H i he hO => ?_)
  have hS := hO.S (k := i) hS rfl
  have hasN : asA D dA H q va vars 0 := ⟨he, has.2.1.kept (hO.2 _ has.2.2), has.2.2⟩
  refine lv_iconst (v := (nI 0)) hx hb dX14_of_5 (by decide) ?_
  refine lv_istore_n (lv' := [(2, .int (nI 0)), (0, .ref a), (1, .ref q)]) hx hb dX14_of_6 rfl hl (by decide) rfl (fun ls hl => ?_)
  have loop1 : ∀ (fu1 : Nat) (k : Nat) (ntk : Int32) (H : Heap) (locs : List Loc) (ls : Array Slot), wl.1.length - k < fu1 → (k ≤ wl.1.length) → (lwI vars wl.2 wl.1 k ntk) → (asA D dA H q va vars ntk) → va_S (fun z => z = q) H0 H locs → lv_has ls 4 [(2, .int (nI k)), (0, .ref a), (1, .ref q)] → W p l e (mkRm 402 9246) s m args below meth c H locs 0 0 QQ (F0 m 7 ls []) := by
    intro fu1
    induction fu1 with
    | zero => intro k ntk H locs ls hfu; exact absurd hfu (Nat.not_lt_zero _)
    | succ fu1 ih1 =>
      intro k ntk H locs ls hfu hk4 hI hask hS hl
      refine lv_iload_n hx hb dX14_of_7 rfl (lv_at hl 0 rfl) ?_
      refine lv_aload_n hx hb dX14_of_8 rfl (lv_at hl 1 rfl) ?_
      refine x_get hx hb hts hown hK (va_at_S h0 hS (hOA _ o0)) rfl ok_X14 3 (by decide) q740 rfl dX14_of_9 ?_
      refine n_icmp_ge (tgt := 44) hx hb dX14_of_12 (by decide) (by omega) (by omega) (fun c12 => ?_) (fun c12 => ?_)
      · obtain rfl : k = wl.1.length := by omega
        refine lv_aload_n hx hb dX14_of_44 rfl (lv_at hl 1 rfl) ?_
        refine x_get hx hb hts hown hK (va_at_S h0 hS (hOA _ o0)) rfl ok_X14 2 (by decide) q738 rfl dX14_of_45 ?_
        refine lv_iload_n hx hb dX14_of_48 rfl (lv_at hl 0 rfl) ?_
        refine xn_aald hx hb hK 9 (va_at_S h3 hS (hOA _ o3)) rfl (by omega) (by decide) he1 dX14_of_49 ?_
        refine lv_aload_n hx hb dX14_of_50 rfl (lv_at hl 2 rfl) ?_
        refine c_sum hx hb hml hts hown hK hl.1 hS ⟨Nat.le_refl _, Nat.le_refl _⟩ (smM_all l D dA O 401) q1151 ⟨by decide, by decide⟩ hOq (smA_S he2 hS hOA) hask (Nat.le_of_ble_eq_true rfl) dX14_of_51 rfl (fun r2 H locs hq hF hS => ?_)
        obtain ⟨hv2, has2⟩ := hq
        refine lv_istore_n (lv' := [(3, .int r2), (2, .int (nI wl.1.length)), (0, .ref a), (1, .ref q)]) hx hb dX14_of_54 rfl hl (by decide) rfl (fun ls hl => ?_)
        refine lv_aload_n hx hb dX14_of_55 rfl (lv_at hl 3 rfl) ?_
        have hE := lwI_end hI (Nat.le_refl _) hv2
        refine x_get hx hb hts hown hK has2.1 rfl ok_X9 1 (by decide) q426 rfl dX14_of_56 ?_
        refine lv_if_eq (tgt := 66) hx hb dX14_of_59 (by decide) (fun c59 => ?_) (fun c59 => ?_)
        · refine lv_iconst (v := (nI 0)) hx hb dX14_of_66 (by decide) ?_
          refine lv_iload_n hx hb dX14_of_67 rfl (lv_at hl 0 rfl) ?_
          refine va_mmax hx hb (hml.trans hl.1.symm) hown (hts _ q1164) (hts _ q890) (hts _ q142) (hts _ q891) (by decide) (Nat.le_of_ble_eq_true rfl) (Nat.le_refl _) (Nat.le_refl _) dX14_of_68 ?_
          refine hend _ _ _ _ _ hS dX14_of_71 ?_
          exact ⟨_, rfl, by rcases hE with hE | hE; rw [hE.2]; rfl; exact absurd (hE.1.symm.trans c59) (by decide), _, has2⟩
        refine lv_iconst (v := (nI 0)) hx hb dX14_of_62 (by decide) ?_
        refine lv_goto (tgt := 71) hx hb dX14_of_63 (by decide) ?_
        refine hend _ _ _ _ _ hS dX14_of_71 ?_
        exact ⟨_, rfl, by rcases hE with hE | hE; exact absurd hE.1 c59; rw [hE.2]; rfl, _, has2⟩
      obtain ⟨⟨p, q2, r⟩, hi⟩ : ∃ z, wl.1[k]? = some z := ⟨_, List.getElem?_eq_getElem (by omega)⟩
      obtain ⟨⟨x1, a1, b1⟩, ⟨x2, a2, b2⟩, x3, a3, b3⟩ := h5 k p q2 r hi
      refine lv_aload_n hx hb dX14_of_15 rfl (lv_at hl 1 rfl) ?_
      refine x_get hx hb hts hown hK (va_at_S h0 hS (hOA _ o0)) rfl ok_X14 0 (by decide) q734 rfl dX14_of_16 ?_
      refine lv_iload_n hx hb dX14_of_19 rfl (lv_at hl 0 rfl) ?_
      refine xn_aald hx hb hK 9 (va_at_S h1 hS (hOA _ o1)) rfl (by omega) (by decide) a1 dX14_of_20 ?_
      refine lv_aload_n hx hb dX14_of_21 rfl (lv_at hl 2 rfl) ?_
      refine c_sum hx hb hml hts hown hK hl.1 hS ⟨Nat.le_refl _, Nat.le_refl _⟩ (smM_all l D dA O 401) q1151 ⟨by decide, by decide⟩ hOq (smA_S b1 hS hOA) hask (Nat.le_of_ble_eq_true rfl) dX14_of_22 rfl (fun r3 H locs hq hF hS => ?_)
      obtain ⟨hv3, has3⟩ := hq
      refine lv_aload_n hx hb dX14_of_25 rfl (lv_at hl 1 rfl) ?_
      refine x_get hx hb hts hown hK (va_at_S h0 hS (hOA _ o0)) rfl ok_X14 1 (by decide) q736 rfl dX14_of_26 ?_
      refine lv_iload_n hx hb dX14_of_29 rfl (lv_at hl 0 rfl) ?_
      refine xn_aald hx hb hK 9 (va_at_S h2 hS (hOA _ o2)) rfl (by omega) (by decide) a2 dX14_of_30 ?_
      refine lv_aload_n hx hb dX14_of_31 rfl (lv_at hl 2 rfl) ?_
      refine c_sum hx hb hml hts hown hK hl.1 hS ⟨Nat.le_refl _, Nat.le_refl _⟩ (smM_all l D dA O 401) q1151 ⟨by decide, by decide⟩ hOq (smA_S b2 hS hOA) has3 (Nat.le_of_ble_eq_true rfl) dX14_of_32 rfl (fun r4 H locs hq hF hS => ?_)
      obtain ⟨hv4, has4⟩ := hq
      refine lv_icmp_lt (tgt := 44) hx hb dX14_of_35 (by decide) (fun c35 => ?_) (fun c35 => ?_)
      · refine lv_aload_n hx hb dX14_of_44 rfl (lv_at hl 1 rfl) ?_
        refine x_get hx hb hts hown hK (va_at_S h0 hS (hOA _ o0)) rfl ok_X14 2 (by decide) q738 rfl dX14_of_45 ?_
        refine lv_iload_n hx hb dX14_of_48 rfl (lv_at hl 0 rfl) ?_
        refine xn_aald hx hb hK 9 (va_at_S h3 hS (hOA _ o3)) rfl (by omega) (by decide) a3 dX14_of_49 ?_
        refine lv_aload_n hx hb dX14_of_50 rfl (lv_at hl 2 rfl) ?_
        refine c_sum hx hb hml hts hown hK hl.1 hS ⟨Nat.le_refl _, Nat.le_refl _⟩ (smM_all l D dA O 401) q1151 ⟨by decide, by decide⟩ hOq (smA_S b3 hS hOA) has4 (Nat.le_of_ble_eq_true rfl) dX14_of_51 rfl (fun r5 H locs hq hF hS => ?_)
        obtain ⟨hv5, has5⟩ := hq
        refine lv_istore_n (lv' := [(3, .int r5), (2, .int (nI k)), (0, .ref a), (1, .ref q)]) hx hb dX14_of_54 rfl hl (by decide) rfl (fun ls hl => ?_)
        refine lv_aload_n hx hb dX14_of_55 rfl (lv_at hl 3 rfl) ?_
        have hE := lwI_hit hI hi hv3 hv4 c35 hv5
        refine x_get hx hb hts hown hK has5.1 rfl ok_X9 1 (by decide) q426 rfl dX14_of_56 ?_
        refine lv_if_eq (tgt := 66) hx hb dX14_of_59 (by decide) (fun c59 => ?_) (fun c59 => ?_)
        · refine lv_iconst (v := (nI 0)) hx hb dX14_of_66 (by decide) ?_
          refine lv_iload_n hx hb dX14_of_67 rfl (lv_at hl 0 rfl) ?_
          refine va_mmax hx hb (hml.trans hl.1.symm) hown (hts _ q1164) (hts _ q890) (hts _ q142) (hts _ q891) (by decide) (Nat.le_of_ble_eq_true rfl) (Nat.le_refl _) (Nat.le_refl _) dX14_of_68 ?_
          refine hend _ _ _ _ _ hS dX14_of_71 ?_
          exact ⟨_, rfl, by rcases hE with hE | hE; rw [hE.2]; rfl; exact absurd (hE.1.symm.trans c59) (by decide), _, has5⟩
        refine lv_iconst (v := (nI 0)) hx hb dX14_of_62 (by decide) ?_
        refine lv_goto (tgt := 71) hx hb dX14_of_63 (by decide) ?_
        refine hend _ _ _ _ _ hS dX14_of_71 ?_
        exact ⟨_, rfl, by rcases hE with hE | hE; exact absurd hE.1 c59; rw [hE.2]; rfl, _, has5⟩
      refine lv_iinc (v := (nI (k + 1))) (lv' := [(2, .int (nI (k + 1))), (0, .ref a), (1, .ref q)]) hx hb dX14_of_38 hl (k := 0) rfl (nI_add _ _) (by decide) rfl (fun ls hl => ?_)
      refine lv_goto (tgt := 7) hx hb dX14_of_41 (by decide) ?_
      exact ih1 (k + 1) (brk (brk ntk (tmV vars p)) (tmV vars q2)) _ _ _ (by omega) (by omega) (lwI_next hI hi hv3 hv4 c35) has4 hS (lv_sub hl [0, 1, 2] rfl)
  exact loop1 ((wl.1.length - 0) + 1) 0 0 _ _ _ (Nat.lt_succ_self _) (Nat.zero_le _) (Or.inl ⟨rfl, rfl⟩) hasN hS (lv_sub hl [0, 1, 2] rfl)
