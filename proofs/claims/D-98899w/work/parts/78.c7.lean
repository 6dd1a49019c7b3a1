def PK1 (k _ : Nat) : Bool := k == 1
def PK2 (k _ : Nat) : Bool := k == 2
def PK3 (k _ : Nat) : Bool := k == 3
def PK4 (k _ : Nat) : Bool := k == 4
def PTa (k j : Nat) : Bool := k == 1 || k == 2 || k == 3 || k == 4 || (k == 0 && (j == 4 || j == 5 || j == 6 || j == 7))
def PCh (k j : Nat) : Bool := k == 1 || k == 2 || k == 3 || k == 4 || (k == 0 && (j == 4))
theorem PK1_PTa : ∀ k j, PTa k j = false → PK1 k j = false := by intro k j h; simp only [PK1, PTa, Bool.or_eq_false_iff, Bool.and_eq_false_iff, beq_eq_false_iff_ne, ne_eq] at *; omega
theorem PK1_PCh : ∀ k j, PCh k j = false → PK1 k j = false := by intro k j h; simp only [PK1, PCh, Bool.or_eq_false_iff, Bool.and_eq_false_iff, beq_eq_false_iff_ne, ne_eq] at *; omega
theorem PK2_PTa : ∀ k j, PTa k j = false → PK2 k j = false := by intro k j h; simp only [PK2, PTa, Bool.or_eq_false_iff, Bool.and_eq_false_iff, beq_eq_false_iff_ne, ne_eq] at *; omega
theorem PK2_PCh : ∀ k j, PCh k j = false → PK2 k j = false := by intro k j h; simp only [PK2, PCh, Bool.or_eq_false_iff, Bool.and_eq_false_iff, beq_eq_false_iff_ne, ne_eq] at *; omega
theorem PK3_PTa : ∀ k j, PTa k j = false → PK3 k j = false := by intro k j h; simp only [PK3, PTa, Bool.or_eq_false_iff, Bool.and_eq_false_iff, beq_eq_false_iff_ne, ne_eq] at *; omega
theorem PK3_PCh : ∀ k j, PCh k j = false → PK3 k j = false := by intro k j h; simp only [PK3, PCh, Bool.or_eq_false_iff, Bool.and_eq_false_iff, beq_eq_false_iff_ne, ne_eq] at *; omega
theorem PK4_PTa : ∀ k j, PTa k j = false → PK4 k j = false := by intro k j h; simp only [PK4, PTa, Bool.or_eq_false_iff, Bool.and_eq_false_iff, beq_eq_false_iff_ne, ne_eq] at *; omega
theorem PK4_PCh : ∀ k j, PCh k j = false → PK4 k j = false := by intro k j h; simp only [PK4, PCh, Bool.or_eq_false_iff, Bool.and_eq_false_iff, beq_eq_false_iff_ne, ne_eq] at *; omega
section GROWS3
variable {p : Program} {l : Launch} {e : Env} {R : Room} {s : State} {m : MethodId} {args : Array Value} {below : List Frame} {meth : Method} {c : Code} {H : Heap} {locs : List Loc} {cells slots : Nat} {Q : State → Prop}
variable {cc : ByteArray} {pc : Nat} {ls : Array Slot} {rest : List Value} {D : va_G} {dA : Nat → ClassId} {A : Nat → Prop} {H0 : Heap}
theorem x_iast (hx : p.tables.exec = Jvm.exec) (hb : c.code = cc) (hK : KK D dA s) {a n : Nat} {g : Nat → Int32} (hG : va_at D CL (a, .inl (dA 0, n, .inl g)) H) {i x : Int32} (hin : vp_in i n) (hdg : decode cc pc = .ok (.iastore, 1))
    (kk : ∀ (H1 : Heap) (j : Nat), va_at D CL (a, .inl (dA 0, n, .inl (va_up g i.toNatClampNeg x))) H1 → On a H H1 → W p l e R s m args below meth c H1 (locs ++ [⟨a, j⟩]) cells slots Q (F0 m (pc + 1) ls rest)) : W p l e R s m args below meth c H locs cells slots Q (F0 m pc ls (.int x :: .int i :: .ref a :: rest)) := by
  have ha : H[a]? = some (vp_cell (dA 0) (n, .inl g)) := hG
  have hT : (tysOf dA)[0]? = some (dA 0, .int) := rfl
  refine W.iast hx hb ha ((hK.1.2 0 _ hT).1 n (fun j => .int (g j))) (fun q => by cases q) (by show ¬ (i < 0 ∨ (arrV _ _ _).slots.size ≤ _); rw [arrV_size]; exact hin) rfl rfl hdg fun H1 e z oq => ?_
  refine kk H1 _ ?_ ⟨z, oq⟩
  show H1[a]? = some (vp_cell (dA 0) (n, .inl (va_up g i.toNatClampNeg x)))
  rw [e, vp_cell_i, vp_cell_i, arrV_store]
  congr 2
  funext q
  by_cases hq : q = i.toNatClampNeg
  · subst hq
    simp [updV, va_up]
  · simp [updV, va_up, hq]
theorem xn_iast {i : Nat} (hx : p.tables.exec = Jvm.exec) (hb : c.code = cc) (hK : KK D dA s) {a n : Nat} {g : Nat → Int32} (hG : va_at D CL (a, .inl (dA 0, n, .inl g)) H) {x : Int32} (hi : i < n) (hn : n < 2 ^ 31) (hdg : decode cc pc = .ok (.iastore, 1))
    (kk : ∀ (H1 : Heap) (j : Nat), va_at D CL (a, .inl (dA 0, n, .inl (va_up g i x))) H1 → On a H H1 → W p l e R s m args below meth c H1 (locs ++ [⟨a, j⟩]) cells slots Q (F0 m (pc + 1) ls rest)) : W p l e R s m args below meth c H locs cells slots Q (F0 m pc ls (.int x :: .int (nI i) :: .ref a :: rest)) :=
  x_iast hx hb hK hG (vp_in_nI hi hn) hdg (fun H1 j h1 h2 => kk H1 j (by rw [nI_clamp (Nat.lt_trans hi hn)] at h1; exact h1) h2)
end GROWS3
theorem gP_arr {D : va_G} {dA : Nat → ClassId} {o : Nat} {ds : List Dsc} {V : GI} {L : GL} {Rf : GR} {H H1 : Heap} {A1 : Nat → Prop} {k n : Nat} {g : Nat → Int32} (h : gP D dA o ds V L Rf H) (hd : ds[k]? = some (.inl (0, n))) (hF : Fr A1 H H1) (hA : ∀ i, i < ds.length → i ≠ k → ¬ A1 (o + i)) (he : va_at D CL (o + k, .inl (dA 0, n, .inl g)) H1) : gP D dA o ds (va_up V k g) L Rf H1 := by
  intro i d hd'
  by_cases e : i = k
  · subst e
    rw [hd] at hd'
    cases hd'
    show va_at D CL (o + i, .inl (dA 0, n, .inl (va_up V i g i))) H1
    rw [va_up_s]
    exact he
  · have hi : i < ds.length := (List.getElem?_eq_some_iff.mp hd').1
    have ev : ∀ j, V i j = va_up V k g i j := fun j => by unfold va_up; rw [if_neg e]
    exact gE_congr (V := V) (fun j _ => ev j) (fun _ _ => rfl) (fun _ _ => rfl) ((h i d hd').kept (hF.2 _ (h i d hd').lt (hA i hi e)))
theorem eqx_arr {P : Nat → Nat → Bool} {V : GI} {k : Nat} {g : Nat → Int32} (hP : ∀ i j, P i j = false → i ≠ k) : Eqx P V (va_up V k g) := fun i j q => by
  unfold va_up
  rw [if_neg (hP i j q)]
theorem PK_ne1 : ∀ i j, PK1 i j = false → i ≠ 1 := by intro i j h; simpa [PK1] using h
theorem PK_ne2 : ∀ i j, PK2 i j = false → i ≠ 2 := by intro i j h; simpa [PK2] using h
theorem PK_ne3 : ∀ i j, PK3 i j = false → i ≠ 3 := by intro i j h; simpa [PK3] using h
theorem PK_ne4 : ∀ i j, PK4 i j = false → i ≠ 4 := by intro i j h; simpa [PK4] using h
theorem gP_same {D : va_G} {dA : Nat → ClassId} {o : Nat} {ds : List Dsc} {V : GI} {L : GL} {Rf : GR} {H H1 : Heap} {A1 : Nat → Prop} {k n : Nat} (h : gP D dA o ds V L Rf H) (hd : ds[k]? = some (.inl (0, n))) (hF : Fr A1 H H1) (hA : ∀ i, i < ds.length → i ≠ k → ¬ A1 (o + i)) (he : va_at D CL (o + k, .inl (dA 0, n, .inl (V k))) H1) : gP D dA o ds V L Rf H1 := by
  have := gP_arr h hd hF hA he
  have e : va_up V k (V k) = V := by
    funext i
    unfold va_up
    by_cases h : i = k
    · rw [if_pos h, h]
    · rw [if_neg h]
  rw [e] at this
  exact this
set_option maxHeartbeats 4000000 in
theorem met_X5_copies (l : Launch) (D : va_G) (dA : Nat → ClassId) {H0 : Heap} {a1 a2 : Nat} {g1 g2 : Nat → Int32} (hne : a1 ≠ a2) (h1 : va_at D CL (a1, .inl (dA 0, 9, .inl g1)) H0) (h2 : va_at D CL (a2, .inl (dA 0, 9, .inl g2)) H0) : Ctr l D dA yX5_copies cX5_copies 2 none (mkRm 1 64) [.ref a1, .ref a2] H0 (fun z => z = a2 ∨ z = a1) (QV (fun H1 => va_at D CL (a1, .inl (dA 0, 9, .inl g1)) H1 ∧ va_at D CL (a2, .inl (dA 0, 9, .inl (va_cpy g1 g2 0 0 9))) H1)) := by
  refine ctr_V (by decide) (Nat.le_of_ble_eq_true rfl) ?_
  intro p e s m args below meth c ls QQ locs hx hb hml hown hts hK hend hS hl
  have hl : lv_has ls 2 [(0, .ref a1), (1, .ref a2)] := hl
  refine lv_aload_n hx hb dX5_copies_0 rfl (lv_at hl 0 rfl) ?_
  refine lv_iconst (v := (nI 0)) hx hb dX5_copies_1 (by decide) ?_
  refine lv_aload_n hx hb dX5_copies_2 rfl (lv_at hl 1 rfl) ?_
  refine lv_iconst (v := (nI 0)) hx hb dX5_copies_3 (by decide) ?_
  refine lv_aload_n hx hb dX5_copies_4 rfl (lv_at hl 0 rfl) ?_
  refine x_alen hx hb hK 0 h1 rfl (v := nI 9) rfl dX5_copies_5 ?_
  have hP : va_P D CL [(a1, .inl (dA 0, 9, .inl g1)), (a2, .inl (dA 0, 9, .inl g2))] H0 := fun i q hi => by
    cases i with
    | zero => cases hi; exact h1
    | succ i =>
      cases i with
      | zero => cases hi; exact h2
      | succ i => cases hi
  have hD1 : ∀ (i j : Nat) (p q : Nat × va_E), ([(a1, .inl (dA 0, 9, .inl g1)), (a2, .inl (dA 0, 9, .inl g2))] : va_W)[i]? = some p → ([(a1, .inl (dA 0, 9, .inl g1)), (a2, .inl (dA 0, 9, .inl g2))] : va_W)[j]? = some q → p.1 = q.1 → i = j := by
    intro i j p q hi hj e
    rcases i with _ | _ | i <;> rcases j with _ | _ | j <;> first | rfl | (cases hi; done) | (cases hj; done) | (cases hi; cases hj; first | exact absurd e hne | exact absurd e.symm hne)
  have hD2 : ∀ (i : Nat) (q : Nat × va_E), ([(a1, .inl (dA 0, 9, .inl g1)), (a2, .inl (dA 0, 9, .inl g2))] : va_W)[i]? = some q → (fun z => z = a2 ∨ z = a1) q.1 := by
    intro i q hi
    rcases i with _ | _ | i
    · cases hi; exact Or.inr rfl
    · cases hi; exact Or.inl rfl
    · cases hi
  have hD : va_D (fun z => z = a2 ∨ z = a1) [(a1, .inl (dA 0, 9, .inl g1)), (a2, .inl (dA 0, 9, .inl g2))] := ⟨hD1, hD2⟩
  refine va_copyi hx hb (hml.trans hl.1.symm) hown (hts _ q1193) (hts _ q912) (hts _ q911) (hts _ q144) hK.1 hP hD hS 0 1 0 0 rfl rfl rfl rfl rfl (by decide) (by decide) (by decide) (by decide) (by decide) (fun i _ => rfl) (by decide) (Nat.le_of_ble_eq_true rfl) dX5_copies_6 (fun H locs hP2 hD2 hS => ?_)
  refine hend _ _ _ _ hS dX5_copies_9 ?_
  exact ⟨rfl, hP2 0 _ rfl, hP2 1 _ rfl⟩
theorem cw_X5_92 {R : Room} {s : State} {args : Array Value} (hts : ∀ w ∈ lw_all, w.before args s = true) {f w k j : Nat} (hR : f + 1 ≤ R.frames ∧ 8 + (2 + 11) + w ≤ R.locals) : CallB R s args RX5 92 yX5_copies cX5_copies 2 none (ws_ yX5_copies cX5_copies 2 none) (mkRmC f w k j) k j 2 ∧ (Cond.static yX5_copies).before args s = true := va_cwS 2 hts (lw_S q1190 q1191 q119 q1192) rfl rfl rfl (by decide +kernel) hR
set_option maxHeartbeats 4000000 in
theorem met_X5_takes (l : Launch) (D : va_G) (dA : Nat → ClassId) {b c2 : Nat} {V Vc : GI} {L Lc : GL} {Rf Rfc : GR} {H0 : Heap} (hG : gP D dA b dB V L Rf H0) (hG2 : gP D dA c2 dB Vc Lc Rfc H0) (hap : b + 11 ≤ c2 ∨ c2 + 11 ≤ b) : Ctr l D dA yX5_takes cX5_takes 2 none (mkRm 2 100) [.ref b, .ref c2] H0 (fun z => AB b z ∨ AB c2 z) (QV (fun H1 => ∃ V1, gP D dA b dB V1 L Rf H1 ∧ gP D dA c2 dB Vc Lc Rfc H1 ∧ Eqx PTa V V1 ∧ (∀ j, j < 9 → V1 1 j = Vc 1 j ∧ V1 2 j = Vc 2 j ∧ V1 3 j = Vc 3 j ∧ V1 4 j = Vc 4 j) ∧ V1 0 4 = Vc 0 4 ∧ V1 0 5 = Vc 0 5 ∧ V1 0 6 = Vc 0 6 ∧ V1 0 7 = Vc 0 7)) := by
  refine ctr_V (by decide) (Nat.le_of_ble_eq_true rfl) ?_
  intro p e s m args below meth c ls QQ locs hx hb hml hown hts hK hend hS hl
  have hl : lv_has ls 2 [(0, .ref b), (1, .ref c2)] := hl
  refine lv_aload_n hx hb dX5_takes_0 rfl (lv_at hl 1 rfl) ?_
  refine g_get hx hb hts hown hK hG2 0 rfl rfl ok_X5 0 (by decide) q433 rfl rfl dX5_takes_1 ?_
  refine lv_aload_n hx hb dX5_takes_4 rfl (lv_at hl 0 rfl) ?_
  refine g_get hx hb hts hown hK hG 0 rfl rfl ok_X5 0 (by decide) q433 rfl rfl dX5_takes_5 ?_
  refine c_SV hx hb hml hts hown hK hl.1 hS ⟨Nat.le_refl _, Nat.le_refl _⟩ (met_X5_copies l D dA (by omega) (hG2 1 _ rfl) (hG 1 _ rfl)) (cw_X5_92 hts ⟨Nat.le_of_ble_eq_true rfl, Nat.le_of_ble_eq_true rfl⟩) rfl rfl (Nat.le_of_ble_eq_true rfl) dX5_takes_8 (fun z hz => by rcases hz with rfl | rfl; exact Or.inl (AB_in 1 (by decide)); exact Or.inr (AB_in 1 (by decide))) (fun H1 locs hq hF hS => ?_)
  obtain ⟨hq1, hq2⟩ := hq
  have hGn := gP_arr hG (k := 1) rfl hF (fun i hi hk z => by have hi2 : i < 11 := hi; omega) hq2
  replace hG2 := gP_same hG2 (k := 1) rfl hF (fun i hi hk z => by have hi2 : i < 11 := hi; omega) hq1
  obtain ⟨V1, hV1⟩ : ∃ W, W = va_up V 1 (va_cpy (Vc 1) (V 1) 0 0 9) := ⟨_, rfl⟩
  rw [← hV1] at hGn
  replace hG := hGn
  have hE1 : Eqx PK1 V V1 := by rw [hV1]; exact eqx_arr PK_ne1
  have hc1 : ∀ j, j < 9 → V1 1 j = Vc 1 j := fun j hj => by
    rw [hV1, va_up_s]
    all_goals (unfold va_cpy; rw [if_pos ⟨Nat.zero_le _, by omega⟩, Nat.zero_add, Nat.sub_zero])
  clear hGn hV1
  generalize hHe1 : H1 = H at hG hG2 hS ⊢
  clear hHe1 hF hq1 hq2
  refine lv_aload_n hx hb dX5_takes_11 rfl (lv_at hl 1 rfl) ?_
  refine g_get hx hb hts hown hK hG2 0 rfl rfl ok_X5 1 (by decide) q435 rfl rfl dX5_takes_12 ?_
  refine lv_aload_n hx hb dX5_takes_15 rfl (lv_at hl 0 rfl) ?_
  refine g_get hx hb hts hown hK hG 0 rfl rfl ok_X5 1 (by decide) q435 rfl rfl dX5_takes_16 ?_
  refine c_SV hx hb hml hts hown hK hl.1 hS ⟨Nat.le_refl _, Nat.le_refl _⟩ (met_X5_copies l D dA (by omega) (hG2 2 _ rfl) (hG 2 _ rfl)) (cw_X5_92 hts ⟨Nat.le_of_ble_eq_true rfl, Nat.le_of_ble_eq_true rfl⟩) rfl rfl (Nat.le_of_ble_eq_true rfl) dX5_takes_19 (fun z hz => by rcases hz with rfl | rfl; exact Or.inl (AB_in 2 (by decide)); exact Or.inr (AB_in 2 (by decide))) (fun H1 locs hq hF hS => ?_)
  obtain ⟨hq1, hq2⟩ := hq
  have hGn := gP_arr hG (k := 2) rfl hF (fun i hi hk z => by have hi2 : i < 11 := hi; omega) hq2
  replace hG2 := gP_same hG2 (k := 2) rfl hF (fun i hi hk z => by have hi2 : i < 11 := hi; omega) hq1
  obtain ⟨V2, hV2⟩ : ∃ W, W = va_up V1 2 (va_cpy (Vc 2) (V1 2) 0 0 9) := ⟨_, rfl⟩
  rw [← hV2] at hGn
  replace hG := hGn
  have hE2 : Eqx PK2 V1 V2 := by rw [hV2]; exact eqx_arr PK_ne2
  have hc2 : ∀ j, j < 9 → V2 2 j = Vc 2 j := fun j hj => by
    rw [hV2, va_up_s]
    all_goals (unfold va_cpy; rw [if_pos ⟨Nat.zero_le _, by omega⟩, Nat.zero_add, Nat.sub_zero])
  clear hGn hV2
  generalize hHe2 : H1 = H at hG hG2 hS ⊢
  clear hHe2 hF hq1 hq2
  refine lv_aload_n hx hb dX5_takes_22 rfl (lv_at hl 1 rfl) ?_
  refine g_get hx hb hts hown hK hG2 0 rfl rfl ok_X5 2 (by decide) q437 rfl rfl dX5_takes_23 ?_
  refine lv_aload_n hx hb dX5_takes_26 rfl (lv_at hl 0 rfl) ?_
  refine g_get hx hb hts hown hK hG 0 rfl rfl ok_X5 2 (by decide) q437 rfl rfl dX5_takes_27 ?_
  refine c_SV hx hb hml hts hown hK hl.1 hS ⟨Nat.le_refl _, Nat.le_refl _⟩ (met_X5_copies l D dA (by omega) (hG2 3 _ rfl) (hG 3 _ rfl)) (cw_X5_92 hts ⟨Nat.le_of_ble_eq_true rfl, Nat.le_of_ble_eq_true rfl⟩) rfl rfl (Nat.le_of_ble_eq_true rfl) dX5_takes_30 (fun z hz => by rcases hz with rfl | rfl; exact Or.inl (AB_in 3 (by decide)); exact Or.inr (AB_in 3 (by decide))) (fun H1 locs hq hF hS => ?_)
  obtain ⟨hq1, hq2⟩ := hq
  have hGn := gP_arr hG (k := 3) rfl hF (fun i hi hk z => by have hi2 : i < 11 := hi; omega) hq2
  replace hG2 := gP_same hG2 (k := 3) rfl hF (fun i hi hk z => by have hi2 : i < 11 := hi; omega) hq1
  obtain ⟨V3, hV3⟩ : ∃ W, W = va_up V2 3 (va_cpy (Vc 3) (V2 3) 0 0 9) := ⟨_, rfl⟩
  rw [← hV3] at hGn
  replace hG := hGn
  have hE3 : Eqx PK3 V2 V3 := by rw [hV3]; exact eqx_arr PK_ne3
  have hc3 : ∀ j, j < 9 → V3 3 j = Vc 3 j := fun j hj => by
    rw [hV3, va_up_s]
    all_goals (unfold va_cpy; rw [if_pos ⟨Nat.zero_le _, by omega⟩, Nat.zero_add, Nat.sub_zero])
  clear hGn hV3
  generalize hHe3 : H1 = H at hG hG2 hS ⊢
  clear hHe3 hF hq1 hq2
  refine lv_aload_n hx hb dX5_takes_33 rfl (lv_at hl 1 rfl) ?_
  refine g_get hx hb hts hown hK hG2 0 rfl rfl ok_X5 3 (by decide) q439 rfl rfl dX5_takes_34 ?_
  refine lv_aload_n hx hb dX5_takes_37 rfl (lv_at hl 0 rfl) ?_
  refine g_get hx hb hts hown hK hG 0 rfl rfl ok_X5 3 (by decide) q439 rfl rfl dX5_takes_38 ?_
  refine c_SV hx hb hml hts hown hK hl.1 hS ⟨Nat.le_refl _, Nat.le_refl _⟩ (met_X5_copies l D dA (by omega) (hG2 4 _ rfl) (hG 4 _ rfl)) (cw_X5_92 hts ⟨Nat.le_of_ble_eq_true rfl, Nat.le_of_ble_eq_true rfl⟩) rfl rfl (Nat.le_of_ble_eq_true rfl) dX5_takes_41 (fun z hz => by rcases hz with rfl | rfl; exact Or.inl (AB_in 4 (by decide)); exact Or.inr (AB_in 4 (by decide))) (fun H1 locs hq hF hS => ?_)
  obtain ⟨hq1, hq2⟩ := hq
  have hGn := gP_arr hG (k := 4) rfl hF (fun i hi hk z => by have hi2 : i < 11 := hi; omega) hq2
  replace hG2 := gP_same hG2 (k := 4) rfl hF (fun i hi hk z => by have hi2 : i < 11 := hi; omega) hq1
  obtain ⟨V4, hV4⟩ : ∃ W, W = va_up V3 4 (va_cpy (Vc 4) (V3 4) 0 0 9) := ⟨_, rfl⟩
  rw [← hV4] at hGn
  replace hG := hGn
  have hE4 : Eqx PK4 V3 V4 := by rw [hV4]; exact eqx_arr PK_ne4
  have hc4 : ∀ j, j < 9 → V4 4 j = Vc 4 j := fun j hj => by
    rw [hV4, va_up_s]
    all_goals (unfold va_cpy; rw [if_pos ⟨Nat.zero_le _, by omega⟩, Nat.zero_add, Nat.sub_zero])
  clear hGn hV4
  generalize hHe4 : H1 = H at hG hG2 hS ⊢
  clear hHe4 hF hq1 hq2
  refine lv_aload_n hx hb dX5_takes_44 rfl (lv_at hl 0 rfl) ?_
  refine lv_aload_n hx hb dX5_takes_45 rfl (lv_at hl 1 rfl) ?_
  refine g_get (v := .int (Vc 0 4)) hx hb hts hown hK hG2 0 rfl rfl ok_X5 4 (by decide) q441 rfl rfl dX5_takes_46 ?_
  refine g_put hx hb hts hown hK hG hS 0 (Or.inl (AB_in 0 (by decide))) rfl rfl ok_X5 4 (by decide) q441 rfl rfl rfl rfl dX5_takes_49 (fun H locs hG hO hS => ?_)
  have hG2 := hG2.on hO (fun j hj => by have := hap; simp only [List.length] at hj; omega)
  refine lv_aload_n hx hb dX5_takes_52 rfl (lv_at hl 0 rfl) ?_
  refine lv_aload_n hx hb dX5_takes_53 rfl (lv_at hl 1 rfl) ?_
  refine g_get (v := .int (Vc 0 5)) hx hb hts hown hK hG2 0 rfl rfl ok_X5 5 (by decide) q444 rfl rfl dX5_takes_54 ?_
  refine g_put hx hb hts hown hK hG hS 0 (Or.inl (AB_in 0 (by decide))) rfl rfl ok_X5 5 (by decide) q444 rfl rfl rfl rfl dX5_takes_57 (fun H locs hG hO hS => ?_)
  have hG2 := hG2.on hO (fun j hj => by have := hap; simp only [List.length] at hj; omega)
  refine lv_aload_n hx hb dX5_takes_60 rfl (lv_at hl 0 rfl) ?_
  refine lv_aload_n hx hb dX5_takes_61 rfl (lv_at hl 1 rfl) ?_
  refine g_get (v := .int (Vc 0 6)) hx hb hts hown hK hG2 0 rfl rfl ok_X5 6 (by decide) q446 rfl rfl dX5_takes_62 ?_
  refine g_put hx hb hts hown hK hG hS 0 (Or.inl (AB_in 0 (by decide))) rfl rfl ok_X5 6 (by decide) q446 rfl rfl rfl rfl dX5_takes_65 (fun H locs hG hO hS => ?_)
  have hG2 := hG2.on hO (fun j hj => by have := hap; simp only [List.length] at hj; omega)
  refine lv_aload_n hx hb dX5_takes_68 rfl (lv_at hl 0 rfl) ?_
  refine lv_aload_n hx hb dX5_takes_69 rfl (lv_at hl 1 rfl) ?_
  refine g_get (v := .int (Vc 0 7)) hx hb hts hown hK hG2 0 rfl rfl ok_X5 7 (by decide) q449 rfl rfl dX5_takes_70 ?_
  refine g_put hx hb hts hown hK hG hS 0 (Or.inl (AB_in 0 (by decide))) rfl rfl ok_X5 7 (by decide) q449 rfl rfl rfl rfl dX5_takes_73 (fun H locs hG hO hS => ?_)
  have hG2 := hG2.on hO (fun j hj => by have := hap; simp only [List.length] at hj; omega)
  refine hend _ _ _ _ hS dX5_takes_76 ?_
  exact ⟨rfl, _, hG, hG2, ((((((((hE1.mono PK1_PTa).trans (hE2.mono PK2_PTa)).trans (hE3.mono PK3_PTa)).trans (hE4.mono PK4_PTa)).up rfl).up rfl).up rfl).up rfl), fun j hj => ⟨Eq.trans (Eq.trans (hE4 1 j rfl) (Eq.trans (hE3 1 j rfl) (hE2 1 j rfl))) (hc1 j hj), Eq.trans (Eq.trans (hE4 2 j rfl) (hE3 2 j rfl)) (hc2 j hj), Eq.trans (hE4 3 j rfl) (hc3 j hj), Eq.trans rfl (hc4 j hj)⟩, rfl, rfl, rfl, rfl⟩
set_option maxHeartbeats 4000000 in
theorem met_X5_swaps (l : Launch) (D : va_G) (dA : Nat → ClassId) {H0 : Heap} {a1 : Nat} {g : Nat → Int32} (h1 : va_at D CL (a1, .inl (dA 0, 9, .inl g)) H0) {x y : Nat} (hx9 : x < 9) (hy9 : y < 9) : Ctr l D dA yX5_swaps cX5_swaps 4 none (mkRm 0 0) [.ref a1, .int (nI x), .int (nI y)] H0 (fun z => z = a1) (QV (fun H1 => va_at D CL (a1, .inl (dA 0, 9, .inl (va_up (va_up g x (g y)) y (g x)))) H1)) := by
  refine ctr_V (by decide) (Nat.le_of_ble_eq_true rfl) ?_
  intro p e s m args below meth c ls QQ locs hx hb hml hown hts hK hend hS hl
  have hl : lv_has ls 4 [(0, .ref a1), (1, .int (nI x)), (2, .int (nI y))] := hl
  refine lv_aload_n hx hb dX5_swaps_0 rfl (lv_at hl 0 rfl) ?_
  refine lv_iload_n hx hb dX5_swaps_1 rfl (lv_at hl 1 rfl) ?_
  refine xn_iald hx hb hK h1 (by omega) (by decide) dX5_swaps_2 ?_
  refine lv_istore_n (lv' := [(3, .int (g x)), (0, .ref a1), (1, .int (nI x)), (2, .int (nI y))]) hx hb dX5_swaps_3 rfl hl (by decide) rfl (fun ls hl => ?_)
  refine lv_aload_n hx hb dX5_swaps_4 rfl (lv_at hl 1 rfl) ?_
  refine lv_iload_n hx hb dX5_swaps_5 rfl (lv_at hl 2 rfl) ?_
  refine lv_aload_n hx hb dX5_swaps_6 rfl (lv_at hl 1 rfl) ?_
  refine lv_iload_n hx hb dX5_swaps_7 rfl (lv_at hl 3 rfl) ?_
  refine xn_iald hx hb hK h1 (by omega) (by decide) dX5_swaps_8 ?_
  refine xn_iast hx hb hK h1 (by omega) (by decide) dX5_swaps_9 (fun H i1 hh1 hO => ?_)
  have hS := hO.S (k := i1) hS rfl
  refine lv_aload_n hx hb dX5_swaps_10 rfl (lv_at hl 1 rfl) ?_
  refine lv_iload_n hx hb dX5_swaps_11 rfl (lv_at hl 3 rfl) ?_
  refine lv_iload_n hx hb dX5_swaps_12 rfl (lv_at hl 0 rfl) ?_
  refine xn_iast hx hb hK hh1 (by omega) (by decide) dX5_swaps_13 (fun H i2 hh2 hO => ?_)
  have hS := hO.S (k := i2) hS rfl
  refine hend _ _ _ _ hS dX5_swaps_14 ?_
  exact ⟨rfl, hh2⟩
