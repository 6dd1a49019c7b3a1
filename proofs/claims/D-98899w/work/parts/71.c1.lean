/-! sums and laws of the class -/
abbrev yS_of : MethodName := ⟨"PartedSide$Sum", "of", "(LPartedSide$Asked;)I"⟩
theorem va_at_S {D : va_G} {cl : List vw_C} {q : Nat × va_E} {A : Nat → Prop} {H0 H : Heap} {locs : List Loc} (h : va_at D cl q H0) (hS : va_S A H0 H locs) (hn : ¬ A q.1) : va_at D cl q H := h.kept (hS.2.1 _ h.lt hn)
theorem smA_S {D : va_G} {A O : Nat → Prop} {H0 H : Heap} {locs : List Loc} {d a : Nat} {es : List Sg} (h : smA D H0 O d a es) (hS : va_S A H0 H locs) (hO : ∀ q, O q → ¬ A q) : smA D H O d a es := smA_kept (fun q h1 h2 => hS.2.1 q h2 (hO q h1)) d a es h
theorem smA_F {D : va_G} {A O : Nat → Prop} {H0 H : Heap} {d a : Nat} {es : List Sg} (h : smA D H0 O d a es) (hF : Fr A H0 H) (hO : ∀ q, O q → ¬ A q) : smA D H O d a es := smA_kept (fun q h1 h2 => hF.2 q h2 (hO q h1)) d a es h
/-- all sums of depth at most d are asked by contract -/
def smM (l : Launch) (D : va_G) (dA : Nat → ClassId) (O : Nat → Prop) (d : Nat) : Prop := ∀ (H0 : Heap) (a q va : Nat) (vars : Nat → Int32) (nt : Int32) (es : List Sg), ¬ O q → smA D H0 O d a es → asA D dA H0 q va vars nt →
  (∃ fs, va_at D CL (a, .inr (9, fs)) H0 ∧ Ctr l D dA yX16_of cX16_of 2 (some .int) (rmS d) [.ref a, .ref q] H0 (fun z => z = q) (QI (smQ D dA q va vars nt es))) ∨
  (∃ fs, va_at D CL (a, .inr (10, fs)) H0 ∧ Ctr l D dA yX17_of cX17_of 2 (some .int) (rmS d) [.ref a, .ref q] H0 (fun z => z = q) (QI (smQ D dA q va vars nt es))) ∨
  ∃ fs, va_at D CL (a, .inr (11, fs)) H0 ∧ Ctr l D dA yX18_of cX18_of 4 (some .int) (rmS d) [.ref a, .ref q] H0 (fun z => z = q) (QI (smQ D dA q va vars nt es))
section CSUM
variable {p : Program} {l : Launch} {e : Env} {R : Room} {s : State} {m : MethodId} {args : Array Value} {below : List Frame} {meth : Method} {c : Code} {H : Heap} {locs : List Loc} {cells slots : Nat} {Q : State → Prop}
variable {cc : ByteArray} {pc nL : Nat} {ls : Array Slot} {rest : List Value} {D : va_G} {dA : Nat → ClassId} {A O : Nat → Prop} {H0 : Heap} {own : String} {index b q va d : Nat} {vars : Nat → Int32} {nt : Int32} {es : List Sg}
theorem c_sum (hx : p.tables.exec = Jvm.exec) (hb : c.code = cc) (hml : c.maxLocals = nL) (hts : ∀ w ∈ lw_all, w.before args s = true) (hown : s.vm.findClass own = some m.cls) (hK : KK D dA s) (hl : ls.size = nL) (hS : va_S A H0 H locs) (hroom : cells ≤ R.cells ∧ slots ≤ R.slots)
    (hM : smM l D dA O d) (h1 : Cond.methodLink own index yS_of ∈ lw_all) (hR : d + 1 ≤ R.frames ∧ 23 * (d + 1) ≤ R.locals) (hOq : ¬ O q) (hsm : smA D H O d b es) (has : asA D dA H q va vars nt) (hW : (rest.map fun v => v.category).sum ≤ 8) (hdg : decode cc pc = .ok (.invokevirtual index, 3)) (hA : A q)
    (kk : ∀ (r : Int32) (H1 : Heap) (locs1 : List Loc), smQ D dA q va vars nt es r H1 → Fr (fun z => z = q) H H1 → va_S A H0 H1 locs1 → W p l e R s m args below meth c H1 locs1 cells slots Q (F0 m (pc + 3) ls (.int r :: rest))) : W p l e R s m args below meth c H locs cells slots Q (F0 m pc ls (.ref q :: .ref b :: rest)) := by
  have hA2 : ∀ z : Nat, z = q → A z := fun z hz => by rw [hz]; exact hA
  have hf := hR.1
  have hw := hR.2
  rcases hM H b q va vars nt es hOq hsm has with ⟨fs, hat, hC⟩ | ⟨fs, hat, hC⟩ | ⟨fs, hat, hC⟩
  · exact c_UI hx hb hml hts hown hK hl hS hroom hC (va_cwA 1 hts (lw_U h1 q1153 q1162 q1158 q135 q1159) rfl rfl rfl (hK.2.1 _ q1152 rfl) (by decide +kernel) ⟨by show d + 1 ≤ _; omega, by show 8 + (2 + 11) + 23 * d ≤ _; omega⟩) hat rfl rfl rfl rfl hW hdg hA2 kk
  · exact c_UI hx hb hml hts hown hK hl hS hroom hC (va_cwA 1 hts (lw_U h1 q1153 q1163 q1160 q136 q1161) rfl rfl rfl (hK.2.1 _ q1152 rfl) (by decide +kernel) ⟨by show d + 1 ≤ _; omega, by show 8 + (2 + 11) + 23 * d ≤ _; omega⟩) hat rfl rfl rfl rfl hW hdg hA2 kk
  · exact c_UI hx hb hml hts hown hK hl hS hroom hC (va_cwA 1 hts (lw_U h1 q1153 q1154 q1155 q137 q1156) rfl rfl rfl (hK.2.1 _ q1152 rfl) (by decide +kernel) ⟨by show d + 1 ≤ _; omega, by show 8 + (4 + 11) + 23 * d ≤ _; omega⟩) hat rfl rfl rfl rfl hW hdg hA2 kk
end CSUM
theorem brk_n {D : va_G} {dA : Nat → ClassId} {H : Heap} {q va : Nat} {vars : Nat → Int32} {nt : Int32} {o : Option Int32} (h : asA D dA H q va vars (brk (brk nt none) o)) : asA D dA H q va vars 1 := by
  cases o <;> exact h
set_option maxHeartbeats 4000000 in
theorem met_X16_of (l : Launch) (D : va_G) (dA : Nat → ClassId) {H0 : Heap} {d a q va : Nat} {vars : Nat → Int32} {nt : Int32} {v : Int32} (hat : va_at D CL (a, .inr (9, [.int v])) H0) (has : asA D dA H0 q va vars nt) : Ctr l D dA yX16_of cX16_of 2 (some .int) (mkRm d (23 * d)) [.ref a, .ref q] H0 (fun z => z = q) (QI (smQ D dA q va vars nt [(0, v)])) := by
  refine ctr_I (by decide) (Nat.le_of_ble_eq_true rfl) ?_
  intro p e s m args below meth c ls QQ locs hx hb hml hown hts hK hend hS hl
  have hl : lv_has ls 2 [(0, .ref a), (1, .ref q)] := hl
  refine lv_aload_n hx hb dX16_of_0 rfl (lv_at hl 0 rfl) ?_
  refine x_get hx hb hts hown hK hat rfl ok_X16 0 (by decide) q792 rfl dX16_of_1 ?_
  refine hend _ _ _ _ _ hS dX16_of_4 ?_
  exact ⟨_, rfl, fun x h => by injection h, has⟩
set_option maxHeartbeats 4000000 in
theorem met_X17_of (l : Launch) (D : va_G) (dA : Nat → ClassId) {H0 : Heap} {d a q va : Nat} {vars : Nat → Int32} {nt : Int32} {k : Nat} (hk : k < 9) (hat : va_at D CL (a, .inr (10, [.int (nI k)])) H0) (has : asA D dA H0 q va vars nt) : Ctr l D dA yX17_of cX17_of 2 (some .int) (mkRm d (23 * d)) [.ref a, .ref q] H0 (fun z => z = q) (QI (smQ D dA q va vars nt [(1, nI k)])) := by
  refine ctr_I (by decide) (Nat.le_of_ble_eq_true rfl) ?_
  intro p e s m args below meth c ls QQ locs hx hb hml hown hts hK hend hS hl
  have hl : lv_has ls 2 [(0, .ref a), (1, .ref q)] := hl
  refine lv_aload_n hx hb dX17_of_0 rfl (lv_at hl 1 rfl) ?_
  refine x_get hx hb hts hown hK has.1 rfl ok_X9 0 (by decide) q424 rfl dX17_of_1 ?_
  refine lv_aload_n hx hb dX17_of_4 rfl (lv_at hl 0 rfl) ?_
  refine x_get hx hb hts hown hK hat rfl ok_X17 0 (by decide) q802 rfl dX17_of_5 ?_
  refine xn_iald hx hb hK has.2.1 (by omega) (by decide) dX17_of_8 ?_
  refine hend _ _ _ _ _ hS dX17_of_9 ?_
  exact ⟨_, rfl, fun x h => by
    have h2 : some (vars (nI k).toNatClampNeg) = some x := h
    rw [nI_clamp (by omega)] at h2
    injection h2, has⟩
set_option maxHeartbeats 4000000 in
theorem met_X18_of (l : Launch) (D : va_G) (dA : Nat → ClassId) {H0 : Heap} {d a q va : Nat} {vars : Nat → Int32} {nt : Int32} {O : Nat → Prop} (hM : smM l D dA O d) (hOq : ¬ O q) {k x y : Nat} {ex ey : List Sg} (hk3 : k ≤ 3) (hOa : O a) (hat : va_at D CL (a, .inr (11, [.int (nI (opCh k)), .ref x, .ref y])) H0) (hsx : smA D H0 O d x ex) (hsy : smA D H0 O d y ey) (has : asA D dA H0 q va vars nt) : Ctr l D dA yX18_of cX18_of 4 (some .int) (mkRm (d + 1) (23 * (d + 1))) [.ref a, .ref q] H0 (fun z => z = q) (QI (smQ D dA q va vars nt (ex ++ ey ++ [(k + 2, nI 0)]))) := by
  have hOA : ∀ z, O z → ¬ z = q := fun z h1 h2 => hOq (h2 ▸ h1)
  refine ctr_I (by decide) (Nat.le_of_ble_eq_true rfl) ?_
  intro p e s m args below meth c ls QQ locs hx hb hml hown hts hK hend hS hl
  have hl : lv_has ls 4 [(0, .ref a), (1, .ref q)] := hl
  refine lv_aload_n hx hb dX18_of_0 rfl (lv_at hl 0 rfl) ?_
  refine x_get hx hb hts hown hK (va_at_S hat hS (hOA _ hOa)) rfl ok_X18 1 (by decide) q813 rfl dX18_of_1 ?_
  refine lv_aload_n hx hb dX18_of_4 rfl (lv_at hl 1 rfl) ?_
  refine c_sum hx hb hml hts hown hK hl.1 hS ⟨Nat.le_refl _, Nat.le_refl _⟩ hM q1157 ⟨Nat.le_refl _, Nat.le_refl _⟩ hOq hsx has (Nat.le_of_ble_eq_true rfl) dX18_of_5 rfl (fun r1 H locs hq hF hS => ?_)
  obtain ⟨hv1, has1⟩ := hq
  refine lv_istore_n (lv' := [(2, .int r1), (0, .ref a), (1, .ref q)]) hx hb dX18_of_8 rfl hl (by decide) rfl (fun ls hl => ?_)
  refine lv_aload_n hx hb dX18_of_9 rfl (lv_at hl 1 rfl) ?_
  refine x_get hx hb hts hown hK (va_at_S hat hS (hOA _ hOa)) rfl ok_X18 2 (by decide) q814 rfl dX18_of_10 ?_
  refine lv_aload_n hx hb dX18_of_13 rfl (lv_at hl 2 rfl) ?_
  refine c_sum hx hb hml hts hown hK hl.1 hS ⟨Nat.le_refl _, Nat.le_refl _⟩ hM q1157 ⟨Nat.le_refl _, Nat.le_refl _⟩ hOq (smA_S hsy hS hOA) has1 (Nat.le_of_ble_eq_true rfl) dX18_of_14 rfl (fun r2 H locs hq hF hS => ?_)
  obtain ⟨hv2, has2⟩ := hq
  refine lv_istore_n (lv' := [(3, .int r2), (2, .int r1), (0, .ref a), (1, .ref q)]) hx hb dX18_of_17 rfl hl (by decide) rfl (fun ls hl => ?_)
  refine lv_aload_n hx hb dX18_of_18 rfl (lv_at hl 2 rfl) ?_
  refine x_get hx hb hts hown hK (va_at_S hat hS (hOA _ hOa)) rfl ok_X18 0 (by decide) q812 rfl dX18_of_19 ?_
  obtain rfl | rfl | rfl | rfl : k = 0 ∨ k = 1 ∨ k = 2 ∨ k = 3 := by omega
  · refine lv_tableIn (tgt := 52) (off := 30) hx hb dX18_of_22 (by decide) (by decide) rfl (by decide) ?_
    refine lv_iload_n hx hb dX18_of_52 rfl (lv_at hl 1 rfl) ?_
    refine lv_iload_n hx hb dX18_of_53 rfl (lv_at hl 0 rfl) ?_
    refine lv_iadd hx hb dX18_of_54 ?_
    refine hend _ _ _ _ _ hS dX18_of_55 ?_
    have hj := tm_join (k := 0) (i := nI 0) (smA_ev _ _ _ hsx) (smA_ev _ _ _ hsy) vars
    refine ⟨_, rfl, ?_⟩
    show smQ D dA q va vars nt (ex ++ ey ++ [(0 + 2, nI 0)]) _ _
    unfold smQ
    rw [hj]
    have hb2 := has2
    cases hex : tmV vars ex with
    | none => exact ⟨fun x h => (nomatch h), by rw [hex] at hb2; exact brk_n hb2⟩
    | some u =>
      have h1 := hv1 u hex
      rw [hex] at hb2
      cases hey : tmV vars ey with
      | none => exact ⟨fun x h => (nomatch h), by rw [hey] at hb2; exact hb2⟩
      | some w =>
        have h2 := hv2 w hey
        rw [hey] at hb2
        have hc : ¬ (0 = 3 ∧ w = 0) := fun z => absurd z.1 (by decide)
        show (∀ v, (if 0 = 3 ∧ w = 0 then none else some (opI 0 u w)) = some v → _) ∧ asA D dA _ q va vars (brk nt (if 0 = 3 ∧ w = 0 then none else some (opI 0 u w)))
        rw [if_neg hc]
        refine ⟨fun x h => ?_, hb2⟩
        injection h with h
        rw [← h, h1, h2]
        exact opI_0 rfl
  · refine lv_tableIn (tgt := 56) (off := 34) hx hb dX18_of_22 (by decide) (by decide) rfl (by decide) ?_
    refine lv_iload_n hx hb dX18_of_56 rfl (lv_at hl 1 rfl) ?_
    refine lv_iload_n hx hb dX18_of_57 rfl (lv_at hl 0 rfl) ?_
    refine lv_isub hx hb dX18_of_58 ?_
    refine hend _ _ _ _ _ hS dX18_of_59 ?_
    have hj := tm_join (k := 1) (i := nI 0) (smA_ev _ _ _ hsx) (smA_ev _ _ _ hsy) vars
    refine ⟨_, rfl, ?_⟩
    show smQ D dA q va vars nt (ex ++ ey ++ [(1 + 2, nI 0)]) _ _
    unfold smQ
    rw [hj]
    have hb2 := has2
    cases hex : tmV vars ex with
    | none => exact ⟨fun x h => (nomatch h), by rw [hex] at hb2; exact brk_n hb2⟩
    | some u =>
      have h1 := hv1 u hex
      rw [hex] at hb2
      cases hey : tmV vars ey with
      | none => exact ⟨fun x h => (nomatch h), by rw [hey] at hb2; exact hb2⟩
      | some w =>
        have h2 := hv2 w hey
        rw [hey] at hb2
        have hc : ¬ (1 = 3 ∧ w = 0) := fun z => absurd z.1 (by decide)
        show (∀ v, (if 1 = 3 ∧ w = 0 then none else some (opI 1 u w)) = some v → _) ∧ asA D dA _ q va vars (brk nt (if 1 = 3 ∧ w = 0 then none else some (opI 1 u w)))
        rw [if_neg hc]
        refine ⟨fun x h => ?_, hb2⟩
        injection h with h
        rw [← h, h1, h2]
        exact opI_1 rfl
  · refine lv_tableIn (tgt := 60) (off := 38) hx hb dX18_of_22 (by decide) (by decide) rfl (by decide) ?_
    refine lv_iload_n hx hb dX18_of_60 rfl (lv_at hl 1 rfl) ?_
    refine lv_iload_n hx hb dX18_of_61 rfl (lv_at hl 0 rfl) ?_
    refine lv_imul hx hb dX18_of_62 ?_
    refine hend _ _ _ _ _ hS dX18_of_63 ?_
    have hj := tm_join (k := 2) (i := nI 0) (smA_ev _ _ _ hsx) (smA_ev _ _ _ hsy) vars
    refine ⟨_, rfl, ?_⟩
    show smQ D dA q va vars nt (ex ++ ey ++ [(2 + 2, nI 0)]) _ _
    unfold smQ
    rw [hj]
    have hb2 := has2
    cases hex : tmV vars ex with
    | none => exact ⟨fun x h => (nomatch h), by rw [hex] at hb2; exact brk_n hb2⟩
    | some u =>
      have h1 := hv1 u hex
      rw [hex] at hb2
      cases hey : tmV vars ey with
      | none => exact ⟨fun x h => (nomatch h), by rw [hey] at hb2; exact hb2⟩
      | some w =>
        have h2 := hv2 w hey
        rw [hey] at hb2
        have hc : ¬ (2 = 3 ∧ w = 0) := fun z => absurd z.1 (by decide)
        show (∀ v, (if 2 = 3 ∧ w = 0 then none else some (opI 2 u w)) = some v → _) ∧ asA D dA _ q va vars (brk nt (if 2 = 3 ∧ w = 0 then none else some (opI 2 u w)))
        rw [if_neg hc]
        refine ⟨fun x h => ?_, hb2⟩
        injection h with h
        rw [← h, h1, h2]
        exact opI_2 rfl
  refine lv_tableOut (tgt := 64) hx hb dX18_of_22 (by decide) (by decide) ?_
  refine lv_iload_n hx hb dX18_of_64 rfl (lv_at hl 0 rfl) ?_
  refine lv_if_eq (tgt := 72) hx hb dX18_of_65 (by decide) (fun c65 => ?_) (fun c65 => ?_)
  · refine lv_aload_n hx hb dX18_of_72 rfl (lv_at hl 3 rfl) ?_
    refine lv_iconst (v := (nI 1)) hx hb dX18_of_73 (by decide) ?_
    refine x_put hx hb hts hown hK has2.1 rfl ok_X9 1 (by decide) q427 (Or.inl rfl) (by decide) (by decide) (Nat.le_of_ble_eq_true rfl) dX18_of_74 (fun H i he hO => ?_)
    have hS := hO.S (k := i) hS rfl
    have hasN : asA D dA H q va vars 1 := ⟨he, has2.2.1.kept (hO.2 _ has2.2.2), has2.2.2⟩
    refine lv_iconst (v := (nI 0)) hx hb dX18_of_77 (by decide) ?_
    refine hend _ _ _ _ _ hS dX18_of_78 ?_
    have hj := tm_join (k := 3) (i := nI 0) (smA_ev _ _ _ hsx) (smA_ev _ _ _ hsy) vars
    refine ⟨_, rfl, ?_⟩
    show smQ D dA q va vars nt (ex ++ ey ++ [(3 + 2, nI 0)]) _ _
    unfold smQ
    rw [hj]
    have hr0 : r2 = 0 := c65
    cases hex : tmV vars ex with
    | none => exact ⟨fun x h => (nomatch h), hasN⟩
    | some u =>
      cases hey : tmV vars ey with
      | none => exact ⟨fun x h => (nomatch h), hasN⟩
      | some w =>
        have h2 := hv2 w hey
        have hc : 3 = 3 ∧ w = 0 := ⟨rfl, by rw [← h2]; exact hr0⟩
        show (∀ v, (if 3 = 3 ∧ w = 0 then none else some (opI 3 u w)) = some v → _) ∧ asA D dA _ q va vars (brk nt (if 3 = 3 ∧ w = 0 then none else some (opI 3 u w)))
        rw [if_pos hc]
        exact ⟨fun x h => (nomatch h), hasN⟩
  refine lv_iload_n hx hb dX18_of_68 rfl (lv_at hl 1 rfl) ?_
  refine lv_iload_n hx hb dX18_of_69 rfl (lv_at hl 0 rfl) ?_
  refine lv_idiv hx hb dX18_of_70 c65 ?_
  refine hend _ _ _ _ _ hS dX18_of_71 ?_
  have hj := tm_join (k := 3) (i := nI 0) (smA_ev _ _ _ hsx) (smA_ev _ _ _ hsy) vars
  refine ⟨_, rfl, ?_⟩
  show smQ D dA q va vars nt (ex ++ ey ++ [(3 + 2, nI 0)]) _ _
  unfold smQ
  rw [hj]
  have hb2 := has2
  cases hex : tmV vars ex with
  | none => exact ⟨fun x h => (nomatch h), by rw [hex] at hb2; exact brk_n hb2⟩
  | some u =>
    have h1 := hv1 u hex
    rw [hex] at hb2
    cases hey : tmV vars ey with
    | none => exact ⟨fun x h => (nomatch h), by rw [hey] at hb2; exact hb2⟩
    | some w =>
      have h2 := hv2 w hey
      rw [hey] at hb2
      have hc : ¬ (3 = 3 ∧ w = 0) := fun z => c65 (by rw [h2]; exact z.2)
      show (∀ v, (if 3 = 3 ∧ w = 0 then none else some (opI 3 u w)) = some v → _) ∧ asA D dA _ q va vars (brk nt (if 3 = 3 ∧ w = 0 then none else some (opI 3 u w)))
      rw [if_neg hc]
      refine ⟨fun x h => ?_, hb2⟩
      injection h with h
      rw [← h, h1, h2]
      exact opI_3 rfl
theorem smM_all (l : Launch) (D : va_G) (dA : Nat → ClassId) (O : Nat → Prop) : ∀ d, smM l D dA O d
  | 0 => fun H0 a q va vars nt es hO hs ha => hs.elim
  | d + 1 => fun H0 a q va vars nt es hO hs ha => by
    have ih := smM_all l D dA O d
    rcases hs.2 with ⟨v, rfl, g⟩ | ⟨k, hk, rfl, g⟩ | ⟨k, x, y, ex, ey, hk, rfl, g, h1, h2⟩
    · exact Or.inl ⟨_, g, met_X16_of l D dA (d := d + 1) g ha⟩
    · exact Or.inr (Or.inl ⟨_, g, met_X17_of l D dA (d := d + 1) hk g ha⟩)
    · exact Or.inr (Or.inr ⟨_, g, met_X18_of l D dA ih hO hk hs.1 g h1 h2 ha⟩)
