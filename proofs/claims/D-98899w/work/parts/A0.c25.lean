def PFt (k j : Nat) : Bool := (k == 1 && j == 6) || (k == 1 && j == 7)
def PAt (k j : Nat) : Bool := (k == 9 && j == 3)
def PPs (k j : Nat) : Bool := (k == 1 && j == 6) || (k == 1 && j == 7) || (k == 9 && j == 3)
def PPx (k _ : Nat) : Bool := k == 1 || k == 9
theorem PFt_PPs : ∀ k j, PPs k j = false → PFt k j = false := by intro k j h; simp only [PFt, PPs, Bool.or_eq_false_iff, Bool.and_eq_false_iff, beq_eq_false_iff_ne, ne_eq] at *; omega
theorem PAt_PPs : ∀ k j, PPs k j = false → PAt k j = false := by intro k j h; simp only [PAt, PPs, Bool.or_eq_false_iff, Bool.and_eq_false_iff, beq_eq_false_iff_ne, ne_eq] at *; omega
theorem PPs_PPx : ∀ k j, PPx k j = false → PPs k j = false := by intro k j h; simp only [PPs, PPx, Bool.or_eq_false_iff, Bool.and_eq_false_iff, beq_eq_false_iff_ne, ne_eq] at *; omega
theorem PFt_PPx : ∀ k j, PPx k j = false → PFt k j = false := by intro k j h; simp only [PFt, PPx, Bool.or_eq_false_iff, Bool.and_eq_false_iff, beq_eq_false_iff_ne, ne_eq] at *; omega
theorem PAt_PPx : ∀ k j, PPx k j = false → PAt k j = false := by intro k j h; simp only [PAt, PPx, Bool.or_eq_false_iff, Bool.and_eq_false_iff, beq_eq_false_iff_ne, ne_eq] at *; omega
theorem tcM_to {V V1 : GI} {F : Nat → Nat × Nat × Nat × Nat} {m : Nat} (h7 : V1 2 7 = V 2 7) (h1 : ∀ j, V1 5 j = V 5 j) (h2 : ∀ j, V1 6 j = V 6 j) (h3 : ∀ j, V1 7 j = V 7 j) (h4 : ∀ j, V1 8 j = V 8 j) (h : tcM V F m) : tcM V1 F m := ⟨h7.trans h.1, fun j hj => by rw [h1, h2, h3, h4]; exact h.2 j hj⟩
def bdF (F : Nat → Nat × Nat × Nat × Nat) (m : Nat) : Prop := ∀ j, j < m → (F j).1 < 128 ∧ (F j).2.1 < 2 ^ 15 ∧ (F j).2.2.2 < 2 ^ 15
abbrev plC (F : Nat → Nat × Nat × Nat × Nat) : Nat → Nat := fun j => (F j).2.1
/-- it went on: the place of the next token; it threw: the fault -/
def okQ (D : va_G) (dA : Nat → ClassId) (o : Nat) (V : GI) (L : GL) (Rf : GR) (R : Nat × Fo) (H1 : Heap) : Prop := ∃ V1, gP D dA o dS V1 L Rf H1 ∧ Eqx PPs V V1 ∧ R.2 = none ∧ V1 9 3 = nI R.1
def okX (D : va_G) (dA : Nat → ClassId) (o : Nat) (V : GI) (L : GL) (Rf : GR) (R : Nat × Fo) (q : Nat) (H1 : Heap) : Prop := q = o + 1 ∧ ∃ (V1 : GI) (Rf1 : GR), gP D dA o dS V1 L Rf1 H1 ∧ Eqx PPx V V1 ∧ (∀ k j, k ≠ 9 → Rf1 k j = Rf k j) ∧ ∃ n pl, R.2 = some (n, pl) ∧ V1 1 6 = nI n ∧ V1 1 7 = nI pl
theorem okX_flt {D : va_G} {dA : Nat → ClassId} {o : Nat} {V : GI} {L : GL} {Rf : GR} {R : Nat × Fo} {q : Nat} {H1 : Heap} (h : okX D dA o V L Rf R q H1) : fltA D H1 q := by
  obtain ⟨rfl, V1, Rf1, hG, _⟩ := h
  exact ⟨_, hG 1 _ rfl⟩
theorem okX_tr {D : va_G} {dA : Nat → ClassId} {o : Nat} {V V2 : GI} {L : GL} {Rf : GR} {R R2 : Nat × Fo} {q : Nat} {H1 : Heap} (h : okX D dA o V2 L Rf R q H1) (hE : Eqx PPx V V2) (hR : R.2 = R2.2) : okX D dA o V L Rf R2 q H1 := by
  obtain ⟨h1, V1, Rf1, hG, hE1, hr, n, pl, h2, h3⟩ := h
  exact ⟨h1, V1, Rf1, hG, hE.trans hE1, hr, n, pl, hR ▸ h2, h3⟩
theorem goC_n {pl : Nat → Nat} {t : Nat} (h : t ≠ 400) : goP pl t none = (t + 1, none) := by unfold goP; rw [if_neg h]
theorem goC_4 {pl : Nat → Nat} {t : Nat} (h : t = 400) : goP pl t none = (t, some (2, pl t)) := by unfold goP; rw [if_pos h]; rfl
def isC (F : Nat → Nat × Nat × Nat × Nat) (t a b : Nat) : Bool := decide ((F t).1 = a ∧ (F t).2.2.2 = b)
def muC (F : Nat → Nat × Nat × Nat × Nat) (a b t : Nat) : Nat × Fo := if isC F t a b = true then goP (plC F) t none else (t, some (1, plC F t))
theorem muC_t {F : Nat → Nat × Nat × Nat × Nat} {a b t : Nat} (h : isC F t a b = true) : muC F a b t = goP (plC F) t none := if_pos h
theorem muC_f {F : Nat → Nat × Nat × Nat × Nat} {a b t : Nat} (h : ¬ isC F t a b = true) : muC F a b t = (t, some (1, plC F t)) := if_neg h
set_option maxHeartbeats 4000000 in
theorem met_X1_of (l : Launch) (D : va_G) (dA : Nat → ClassId) {o : Nat} {V : GI} {L : GL} {Rf : GR} {H0 : Heap} (hG : gP D dA o dS V L Rf H0) (n q : Int32) : Ctr l D dA yX1_of cX1_of 3 (some (.object "PartedSide$Fault")) (mkRm 0 0) [.ref (o + 1), .int n, .int q] H0 (AS o) (QR (fun r H1 => r = some (o + 1) ∧ ∃ V1, gP D dA o dS V1 L Rf H1 ∧ Eqx PFt V V1 ∧ V1 1 6 = n ∧ V1 1 7 = q)) := by
  refine ctr_R (by decide) (Nat.le_of_ble_eq_true rfl) (Or.inl ⟨_, rfl⟩) ?_
  intro p e s m args below meth c ls QQ locs hx hb hml hown hts hK hend hS hl
  have hl : lv_has ls 3 [(0, .ref (o + 1)), (1, .int n), (2, .int q)] := hl
  refine lv_aload_n hx hb dX1_of_0 rfl (lv_at hl 0 rfl) ?_
  refine lv_iload_n hx hb dX1_of_1 rfl (lv_at hl 1 rfl) ?_
  refine g_put hx hb hts hown hK hG hS 1 (AS_in 1 (by decide)) rfl rfl ok_X1 6 (by decide) q206 rfl rfl rfl rfl dX1_of_2 (fun H locs hG hO hS => ?_)
  refine lv_aload_n hx hb dX1_of_5 rfl (lv_at hl 0 rfl) ?_
  refine lv_iload_n hx hb dX1_of_6 rfl (lv_at hl 2 rfl) ?_
  refine g_put hx hb hts hown hK hG hS 1 (AS_in 1 (by decide)) rfl rfl ok_X1 7 (by decide) q208 rfl rfl rfl rfl dX1_of_7 (fun H locs hG hO hS => ?_)
  refine lv_aload_n hx hb dX1_of_10 rfl (lv_at hl 0 rfl) ?_
  refine hend _ _ _ _ _ hS dX1_of_11 (Or.inr ⟨_, rfl⟩) ?_
  exact ⟨some (o + 1), rfl, rfl, _, hG, ((Eqx.rf.up rfl).up rfl), rfl, rfl⟩
theorem cw_X3_25 {R : Room} {s : State} {args : Array Value} (hts : ∀ w ∈ lw_all, w.before args s = true) {f w k j : Nat} (hR : f + 1 ≤ R.frames ∧ 8 + (3 + 11) + w ≤ R.locals) : CallW R s args RX3 RX1 25 yX1_of cX1_of 3 (some (.object "PartedSide$Fault")) (ws_ yX1_of cX1_of 3 (some (.object "PartedSide$Fault"))) (mkRmC f w k j) k j 2 := cwV 2 hts (lw_V q710 q711 q712 q112 q713) rfl rfl rfl (by decide +kernel) hR
set_option maxHeartbeats 4000000 in
theorem met_X3_wrongAt (l : Launch) (D : va_G) (dA : Nat → ClassId) {o : Nat} {V : GI} {L : GL} {Rf : GR} {H0 : Heap} (hG : gP D dA o dS V L Rf H0) {F : Nat → Nat × Nat × Nat × Nat} {m0 : Nat} (hm : tcM V F m0) (hm9 : m0 ≤ 2001) (n : Int32) {q : Nat} (hq9 : q < m0) : Ctr l D dA yX3_wrongAt cX3_wrongAt 3 (some (.object "PartedSide$Fault")) (mkRm 1 30) [.ref (o + 9), .int n, .int (nI q)] H0 (AS o) (QR (fun r H1 => r = some (o + 1) ∧ ∃ V1, gP D dA o dS V1 L Rf H1 ∧ Eqx PFt V V1 ∧ V1 1 6 = n ∧ V1 1 7 = nI (F q).2.1)) := by
  refine ctr_R (by decide) (Nat.le_of_ble_eq_true rfl) (Or.inl ⟨_, rfl⟩) ?_
  intro p e s m args below meth c ls QQ locs hx hb hml hown hts hK hend hS hl
  have hl : lv_has ls 3 [(0, .ref (o + 9)), (1, .int n), (2, .int (nI q))] := hl
  refine lv_aload_n hx hb dX3_wrongAt_0 rfl (lv_at hl 0 rfl) ?_
  refine g_get hx hb hts hown hK hG 9 rfl rfl ok_X3 1 (by decide) q295 rfl rfl dX3_wrongAt_1 ?_
  refine lv_iload_n hx hb dX3_wrongAt_4 rfl (lv_at hl 1 rfl) ?_
  refine lv_aload_n hx hb dX3_wrongAt_5 rfl (lv_at hl 0 rfl) ?_
  refine g_get hx hb hts hown hK hG 9 rfl rfl ok_X3 0 (by decide) q294 rfl rfl dX3_wrongAt_6 ?_
  refine g_get hx hb hts hown hK hG 2 rfl rfl ok_X2 4 (by decide) q265 rfl rfl dX3_wrongAt_9 ?_
  refine lv_iload_n hx hb dX3_wrongAt_12 rfl (lv_at hl 2 rfl) ?_
  refine n_sald hx hb hK hG 6 rfl (by omega) (by decide) dX3_wrongAt_13 ?_
  refine iv (y := (nI ((F q).2.1))) (hm.2 q hq9).2.1 ?_
  refine c_VR hx hb hml hts hown hK hl.1 hS ⟨Nat.le_refl _, Nat.le_refl _⟩ (met_X1_of l D dA hG n (nI ((F q).2.1))) (cw_X3_25 hts ⟨Nat.le_of_ble_eq_true rfl, Nat.le_of_ble_eq_true rfl⟩) (hG 1 _ rfl) rfl rfl rfl rfl (Nat.le_of_ble_eq_true rfl) dX3_wrongAt_14 (fun _ h => h) (fun r H1 locs hq hF hS => ?_)
  obtain ⟨rfl, V1, hG, hE1, h6_1, h7_1⟩ := hq
  generalize hHe1 : H1 = H at hG hS ⊢
  clear hHe1 hF
  refine hend _ _ _ _ _ hS dX3_wrongAt_17 (Or.inr ⟨_, rfl⟩) ?_
  exact ⟨some (o + 1), rfl, rfl, _, hG, hE1, h6_1, h7_1⟩
theorem cw_X3_35 {R : Room} {s : State} {args : Array Value} (hts : ∀ w ∈ lw_all, w.before args s = true) {f w k j : Nat} (hR : f + 1 ≤ R.frames ∧ 8 + (3 + 11) + w ≤ R.locals) : CallW R s args RX3 RX3 35 yX3_wrongAt cX3_wrongAt 3 (some (.object "PartedSide$Fault")) (ws_ yX3_wrongAt cX3_wrongAt 3 (some (.object "PartedSide$Fault"))) (mkRmC f w k j) k j 2 := cwV 2 hts (lw_V q706 q708 qs10 q114 q709) rfl rfl rfl (by decide +kernel) hR
set_option maxHeartbeats 4000000 in
theorem met_X3_wrong (l : Launch) (D : va_G) (dA : Nat → ClassId) {o : Nat} {V : GI} {L : GL} {Rf : GR} {H0 : Heap} (hG : gP D dA o dS V L Rf H0) {F : Nat → Nat × Nat × Nat × Nat} {m0 : Nat} (hm : tcM V F m0) (hm9 : m0 ≤ 2001) {t : Nat} (ht : V 9 3 = nI t) (htm : t < m0) (ht4 : t ≤ 400) (n : Int32) : Ctr l D dA yX3_wrong cX3_wrong 2 (some (.object "PartedSide$Fault")) (mkRm 2 60) [.ref (o + 9), .int n] H0 (AS o) (QR (fun r H1 => r = some (o + 1) ∧ ∃ V1, gP D dA o dS V1 L Rf H1 ∧ Eqx PFt V V1 ∧ V1 1 6 = n ∧ V1 1 7 = nI (F t).2.1)) := by
  refine ctr_R (by decide) (Nat.le_of_ble_eq_true rfl) (Or.inl ⟨_, rfl⟩) ?_
  intro p e s m args below meth c ls QQ locs hx hb hml hown hts hK hend hS hl
  have hl : lv_has ls 2 [(0, .ref (o + 9)), (1, .int n)] := hl
  refine lv_aload_n hx hb dX3_wrong_0 rfl (lv_at hl 0 rfl) ?_
  refine lv_iload_n hx hb dX3_wrong_1 rfl (lv_at hl 1 rfl) ?_
  refine lv_aload_n hx hb dX3_wrong_2 rfl (lv_at hl 0 rfl) ?_
  refine g_get (v := .int (nI t)) hx hb hts hown hK hG 9 rfl rfl ok_X3 3 (by decide) q297 rfl (congrArg Value.int ht) dX3_wrong_3 ?_
  refine c_VR hx hb hml hts hown hK hl.1 hS ⟨Nat.le_refl _, Nat.le_refl _⟩ (met_X3_wrongAt l D dA hG hm hm9 n (q := t) (by omega)) (cw_X3_35 hts ⟨Nat.le_of_ble_eq_true rfl, Nat.le_of_ble_eq_true rfl⟩) (hG 9 _ rfl) rfl rfl rfl rfl (Nat.le_of_ble_eq_true rfl) dX3_wrong_6 (fun _ h => h) (fun r H1 locs hq hF hS => ?_)
  obtain ⟨rfl, V1, hG, hE1, h6_1, h7_1⟩ := hq
  generalize hHe1 : H1 = H at hG hS ⊢
  clear hHe1 hF
  refine hend _ _ _ _ _ hS dX3_wrong_9 (Or.inr ⟨_, rfl⟩) ?_
  exact ⟨some (o + 1), rfl, rfl, _, hG, hE1, h6_1, h7_1⟩
theorem cw_X3_48 {R : Room} {s : State} {args : Array Value} (hts : ∀ w ∈ lw_all, w.before args s = true) {f w k j : Nat} (hR : f + 1 ≤ R.frames ∧ 8 + (2 + 11) + w ≤ R.locals) : CallW R s args RX3 RX3 48 yX3_wrong cX3_wrong 2 (some (.object "PartedSide$Fault")) (ws_ yX3_wrong cX3_wrong 2 (some (.object "PartedSide$Fault"))) (mkRmC f w k j) k j 1 := cwV 1 hts (lw_V q702 q704 qs9 q114 q705) rfl rfl rfl (by decide +kernel) hR
set_option maxHeartbeats 4000000 in
theorem met_X3_pass (l : Launch) (D : va_G) (dA : Nat → ClassId) {o : Nat} {V : GI} {L : GL} {Rf : GR} {H0 : Heap} (hG : gP D dA o dS V L Rf H0) {F : Nat → Nat × Nat × Nat × Nat} {m0 : Nat} (hm : tcM V F m0) (hm9 : m0 ≤ 2001) {t : Nat} (ht : V 9 3 = nI t) (htm : t < m0) (ht4 : t ≤ 400) : CtrX l D dA yX3_pass cX3_pass 1 none (mkRm 3 90) [.ref (o + 9)] H0 (AS o) (QV (okQ D dA o V L Rf (goP (plC F) t none))) (fun q H1 => okX D dA o V L Rf (goP (plC F) t none) q H1) := by
  refine ctrX_V (by decide) (Nat.le_of_ble_eq_true rfl) ?_
  intro p e s m args below meth c ls QQ locs hx hb hml hown hts hK hend hthr hS hl
  have hl : lv_has ls 1 [(0, .ref (o + 9))] := hl
  refine lv_aload_n hx hb dX3_pass_0 rfl (lv_at hl 0 rfl) ?_
  refine g_get (v := .int (nI t)) hx hb hts hown hK hG 9 rfl rfl ok_X3 3 (by decide) q297 rfl (congrArg Value.int ht) dX3_pass_1 ?_
  refine lv_sipush (v := (nI 400)) hx hb dX3_pass_4 (by decide) ?_
  refine n_icmp_lt (tgt := 16) hx hb dX3_pass_7 (by decide) (by omega) (by omega) (fun c7 => ?_) (fun c7 => ?_)
  · refine lv_aload_n hx hb dX3_pass_16 rfl (lv_at hl 0 rfl) ?_
    refine lv_dup hx hb dX3_pass_17 rfl ?_
    refine g_get (v := .int (nI t)) hx hb hts hown hK hG 9 rfl rfl ok_X3 3 (by decide) q297 rfl (congrArg Value.int ht) dX3_pass_18 ?_
    refine lv_iconst (v := (nI 1)) hx hb dX3_pass_21 (by decide) ?_
    refine n_iadd hx hb dX3_pass_22 ?_
    refine g_put hx hb hts hown hK hG hS 9 (AS_in 9 (by decide)) rfl rfl ok_X3 3 (by decide) q297 rfl rfl rfl rfl dX3_pass_23 (fun H locs hG hO hS => ?_)
    refine hend _ _ _ _ hS dX3_pass_26 ?_
    exact ⟨rfl, _, hG, (Eqx.rf.up rfl), by rw [goC_n (by omega)], by rw [goC_n (by omega)]; rfl⟩
  refine lv_aload_n hx hb dX3_pass_10 rfl (lv_at hl 0 rfl) ?_
  refine lv_iconst (v := (nI 2)) hx hb dX3_pass_11 (by decide) ?_
  refine c_VR hx hb hml hts hown hK hl.1 hS ⟨Nat.le_refl _, Nat.le_refl _⟩ (met_X3_wrong l D dA hG hm hm9 ht htm ht4 (nI 2)) (cw_X3_48 hts ⟨Nat.le_of_ble_eq_true rfl, Nat.le_of_ble_eq_true rfl⟩) (hG 9 _ rfl) rfl rfl rfl rfl (Nat.le_of_ble_eq_true rfl) dX3_pass_12 (fun _ h => h) (fun r H1 locs hq hF hS => ?_)
  obtain ⟨rfl, V1, hG, hE1, h6_1, h7_1⟩ := hq
  generalize hHe1 : H1 = H at hG hS ⊢
  clear hHe1 hF
  refine xq_athrow hx hb dX3_pass_15 ?_
  exact hthr _ _ _ _ _ _ hS ⟨_, hG 1 _ rfl⟩ ⟨rfl, _, _, hG, (hE1.mono PFt_PPx), fun _ _ _ => rfl, _, _, (by rw [goC_4 (by omega)]), h6_1, h7_1⟩
set_option maxHeartbeats 4000000 in
theorem met_X3_isSign (l : Launch) (D : va_G) (dA : Nat → ClassId) {o : Nat} {V : GI} {L : GL} {Rf : GR} {H0 : Heap} (hG : gP D dA o dS V L Rf H0) {F : Nat → Nat × Nat × Nat × Nat} {m0 : Nat} (hm : tcM V F m0) (hm9 : m0 ≤ 2001) (hbF : bdF F m0) {t : Nat} (ht : V 9 3 = nI t) (htm : t < m0) (ht4 : t ≤ 400) (y : Nat) (hy : y < 2 ^ 15) : Ctr l D dA yX3_isSign cX3_isSign 2 (some .boolean) (mkRm 0 0) [.ref (o + 9), .int (nI y)] H0 A0 (QI (fun r H1 => H0 = H1 ∧ r = nI (bN (isC F t 2 y)))) := by
  have hFt := hbF t htm
  refine ctr_Z (by decide) (Nat.le_of_ble_eq_true rfl) ?_
  intro p e s m args below meth c ls QQ locs hx hb hml hown hts hK hend hS hl
  have hl : lv_has ls 2 [(0, .ref (o + 9)), (1, .int (nI y))] := hl
  refine lv_aload_n hx hb dX3_isSign_0 rfl (lv_at hl 0 rfl) ?_
  refine g_get hx hb hts hown hK hG 9 rfl rfl ok_X3 0 (by decide) q294 rfl rfl dX3_isSign_1 ?_
  refine g_get hx hb hts hown hK hG 2 rfl rfl ok_X2 3 (by decide) q263 rfl rfl dX3_isSign_4 ?_
  refine lv_aload_n hx hb dX3_isSign_7 rfl (lv_at hl 0 rfl) ?_
  refine g_get (v := .int (nI t)) hx hb hts hown hK hG 9 rfl rfl ok_X3 3 (by decide) q297 rfl (congrArg Value.int ht) dX3_isSign_8 ?_
  refine n_bald hx hb hK hG 5 rfl (by omega) (by decide) dX3_isSign_11 ?_
  refine iv (y := (nI ((F t).1))) (hm.2 t htm).1 ?_
  refine lv_iconst (v := (nI 2)) hx hb dX3_isSign_12 (by decide) ?_
  refine n_icmp_ne (tgt := 36) hx hb dX3_isSign_13 (by decide) (by omega) (by omega) (fun c13 => ?_) (fun c13 => ?_)
  · refine lv_iconst (v := (nI 0)) hx hb dX3_isSign_36 (by decide) ?_
    refine hend _ _ _ _ _ hS dX3_isSign_37 (by decide) ?_
    exact ⟨_, rfl, rfl, (congrArg nI (bN_f (decide_eq_false (fun z => absurd z (by omega))))).symm⟩
  refine lv_aload_n hx hb dX3_isSign_16 rfl (lv_at hl 0 rfl) ?_
  refine g_get hx hb hts hown hK hG 9 rfl rfl ok_X3 0 (by decide) q294 rfl rfl dX3_isSign_17 ?_
  refine g_get hx hb hts hown hK hG 2 rfl rfl ok_X2 6 (by decide) q268 rfl rfl dX3_isSign_20 ?_
  refine lv_aload_n hx hb dX3_isSign_23 rfl (lv_at hl 0 rfl) ?_
  refine g_get (v := .int (nI t)) hx hb hts hown hK hG 9 rfl rfl ok_X3 3 (by decide) q297 rfl (congrArg Value.int ht) dX3_isSign_24 ?_
  refine n_sald hx hb hK hG 8 rfl (by omega) (by decide) dX3_isSign_27 ?_
  refine iv (y := (nI ((F t).2.2.2))) ((hm.2 t htm).2.2.2 (by omega)) ?_
  refine lv_iload_n hx hb dX3_isSign_28 rfl (lv_at hl 1 rfl) ?_
  refine n_icmp_ne (tgt := 36) hx hb dX3_isSign_29 (by decide) (by omega) (by omega) (fun c29 => ?_) (fun c29 => ?_)
  · refine lv_iconst (v := (nI 0)) hx hb dX3_isSign_36 (by decide) ?_
    refine hend _ _ _ _ _ hS dX3_isSign_37 (by decide) ?_
    exact ⟨_, rfl, rfl, (congrArg nI (bN_f (decide_eq_false (fun z => absurd z (by omega))))).symm⟩
  refine lv_iconst (v := (nI 1)) hx hb dX3_isSign_32 (by decide) ?_
  refine lv_goto (tgt := 37) hx hb dX3_isSign_33 (by decide) ?_
  refine hend _ _ _ _ _ hS dX3_isSign_37 (by decide) ?_
  exact ⟨_, rfl, rfl, (congrArg nI (bN_t (decide_eq_true ⟨by omega, by omega⟩))).symm⟩
set_option maxHeartbeats 4000000 in
theorem met_X3_isWord (l : Launch) (D : va_G) (dA : Nat → ClassId) {o : Nat} {V : GI} {L : GL} {Rf : GR} {H0 : Heap} (hG : gP D dA o dS V L Rf H0) {F : Nat → Nat × Nat × Nat × Nat} {m0 : Nat} (hm : tcM V F m0) (hm9 : m0 ≤ 2001) (hbF : bdF F m0) {t : Nat} (ht : V 9 3 = nI t) (htm : t < m0) (ht4 : t ≤ 400) (y : Nat) (hy : y < 2 ^ 15) : Ctr l D dA yX3_isWord cX3_isWord 2 (some .boolean) (mkRm 0 0) [.ref (o + 9), .int (nI y)] H0 A0 (QI (fun r H1 => H0 = H1 ∧ r = nI (bN (isC F t 3 y)))) := by
  have hFt := hbF t htm
  refine ctr_Z (by decide) (Nat.le_of_ble_eq_true rfl) ?_
  intro p e s m args below meth c ls QQ locs hx hb hml hown hts hK hend hS hl
  have hl : lv_has ls 2 [(0, .ref (o + 9)), (1, .int (nI y))] := hl
  refine lv_aload_n hx hb dX3_isWord_0 rfl (lv_at hl 0 rfl) ?_
  refine g_get hx hb hts hown hK hG 9 rfl rfl ok_X3 0 (by decide) q294 rfl rfl dX3_isWord_1 ?_
  refine g_get hx hb hts hown hK hG 2 rfl rfl ok_X2 3 (by decide) q263 rfl rfl dX3_isWord_4 ?_
  refine lv_aload_n hx hb dX3_isWord_7 rfl (lv_at hl 0 rfl) ?_
  refine g_get (v := .int (nI t)) hx hb hts hown hK hG 9 rfl rfl ok_X3 3 (by decide) q297 rfl (congrArg Value.int ht) dX3_isWord_8 ?_
  refine n_bald hx hb hK hG 5 rfl (by omega) (by decide) dX3_isWord_11 ?_
  refine iv (y := (nI ((F t).1))) (hm.2 t htm).1 ?_
  refine lv_iconst (v := (nI 3)) hx hb dX3_isWord_12 (by decide) ?_
  refine n_icmp_ne (tgt := 36) hx hb dX3_isWord_13 (by decide) (by omega) (by omega) (fun c13 => ?_) (fun c13 => ?_)
  · refine lv_iconst (v := (nI 0)) hx hb dX3_isWord_36 (by decide) ?_
    refine hend _ _ _ _ _ hS dX3_isWord_37 (by decide) ?_
    exact ⟨_, rfl, rfl, (congrArg nI (bN_f (decide_eq_false (fun z => absurd z (by omega))))).symm⟩
  refine lv_aload_n hx hb dX3_isWord_16 rfl (lv_at hl 0 rfl) ?_
  refine g_get hx hb hts hown hK hG 9 rfl rfl ok_X3 0 (by decide) q294 rfl rfl dX3_isWord_17 ?_
  refine g_get hx hb hts hown hK hG 2 rfl rfl ok_X2 6 (by decide) q268 rfl rfl dX3_isWord_20 ?_
  refine lv_aload_n hx hb dX3_isWord_23 rfl (lv_at hl 0 rfl) ?_
  refine g_get (v := .int (nI t)) hx hb hts hown hK hG 9 rfl rfl ok_X3 3 (by decide) q297 rfl (congrArg Value.int ht) dX3_isWord_24 ?_
  refine n_sald hx hb hK hG 8 rfl (by omega) (by decide) dX3_isWord_27 ?_
  refine iv (y := (nI ((F t).2.2.2))) ((hm.2 t htm).2.2.2 (by omega)) ?_
  refine lv_iload_n hx hb dX3_isWord_28 rfl (lv_at hl 1 rfl) ?_
  refine n_icmp_ne (tgt := 36) hx hb dX3_isWord_29 (by decide) (by omega) (by omega) (fun c29 => ?_) (fun c29 => ?_)
  · refine lv_iconst (v := (nI 0)) hx hb dX3_isWord_36 (by decide) ?_
    refine hend _ _ _ _ _ hS dX3_isWord_37 (by decide) ?_
    exact ⟨_, rfl, rfl, (congrArg nI (bN_f (decide_eq_false (fun z => absurd z (by omega))))).symm⟩
  refine lv_iconst (v := (nI 1)) hx hb dX3_isWord_32 (by decide) ?_
  refine lv_goto (tgt := 37) hx hb dX3_isWord_33 (by decide) ?_
  refine hend _ _ _ _ _ hS dX3_isWord_37 (by decide) ?_
  exact ⟨_, rfl, rfl, (congrArg nI (bN_t (decide_eq_true ⟨by omega, by omega⟩))).symm⟩
set_option maxHeartbeats 4000000 in
theorem met_X3_sort (l : Launch) (D : va_G) (dA : Nat → ClassId) {o : Nat} {V : GI} {L : GL} {Rf : GR} {H0 : Heap} (hG : gP D dA o dS V L Rf H0) {F : Nat → Nat × Nat × Nat × Nat} {m0 : Nat} (hm : tcM V F m0) (hm9 : m0 ≤ 2001) (hbF : bdF F m0) {t : Nat} (ht : V 9 3 = nI t) (htm : t < m0) (ht4 : t ≤ 400) : CtrX l D dA yX3_sort cX3_sort 1 (some .int) (mkRm 3 90) [.ref (o + 9)] H0 (AS o) (QI (fun r H1 => H0 = H1 ∧ r = nI (F t).1 ∧ (F t).1 ≠ 5)) (fun q H1 => okX D dA o V L Rf ((t, some (1, plC F t))) q H1 ∧ (F t).1 = 5) := by
  have hFt := hbF t htm
  refine ctrX_I (by decide) (Nat.le_of_ble_eq_true rfl) ?_
  intro p e s m args below meth c ls QQ locs hx hb hml hown hts hK hend hthr hS hl
  have hl : lv_has ls 1 [(0, .ref (o + 9))] := hl
  refine lv_aload_n hx hb dX3_sort_0 rfl (lv_at hl 0 rfl) ?_
  refine g_get hx hb hts hown hK hG 9 rfl rfl ok_X3 0 (by decide) q294 rfl rfl dX3_sort_1 ?_
  refine g_get hx hb hts hown hK hG 2 rfl rfl ok_X2 3 (by decide) q263 rfl rfl dX3_sort_4 ?_
  refine lv_aload_n hx hb dX3_sort_7 rfl (lv_at hl 0 rfl) ?_
  refine g_get (v := .int (nI t)) hx hb hts hown hK hG 9 rfl rfl ok_X3 3 (by decide) q297 rfl (congrArg Value.int ht) dX3_sort_8 ?_
  refine n_bald hx hb hK hG 5 rfl (by omega) (by decide) dX3_sort_11 ?_
  refine iv (y := (nI ((F t).1))) (hm.2 t htm).1 ?_
  refine lv_iconst (v := (nI 5)) hx hb dX3_sort_12 (by decide) ?_
  refine n_icmp_ne (tgt := 22) hx hb dX3_sort_13 (by decide) (by omega) (by omega) (fun c13 => ?_) (fun c13 => ?_)
  · refine lv_aload_n hx hb dX3_sort_22 rfl (lv_at hl 0 rfl) ?_
    refine g_get hx hb hts hown hK hG 9 rfl rfl ok_X3 0 (by decide) q294 rfl rfl dX3_sort_23 ?_
    refine g_get hx hb hts hown hK hG 2 rfl rfl ok_X2 3 (by decide) q263 rfl rfl dX3_sort_26 ?_
    refine lv_aload_n hx hb dX3_sort_29 rfl (lv_at hl 0 rfl) ?_
    refine g_get (v := .int (nI t)) hx hb hts hown hK hG 9 rfl rfl ok_X3 3 (by decide) q297 rfl (congrArg Value.int ht) dX3_sort_30 ?_
    refine n_bald hx hb hK hG 5 rfl (by omega) (by decide) dX3_sort_33 ?_
    refine iv (y := (nI ((F t).1))) (hm.2 t htm).1 ?_
    refine hend _ _ _ _ _ hS dX3_sort_34 ?_
    exact ⟨_, rfl, rfl, rfl, by omega⟩
  refine lv_aload_n hx hb dX3_sort_16 rfl (lv_at hl 0 rfl) ?_
  refine lv_iconst (v := (nI 1)) hx hb dX3_sort_17 (by decide) ?_
  refine c_VR hx hb hml hts hown hK hl.1 hS ⟨Nat.le_refl _, Nat.le_refl _⟩ (met_X3_wrong l D dA hG hm hm9 ht htm ht4 (nI 1)) (cw_X3_48 hts ⟨Nat.le_of_ble_eq_true rfl, Nat.le_of_ble_eq_true rfl⟩) (hG 9 _ rfl) rfl rfl rfl rfl (Nat.le_of_ble_eq_true rfl) dX3_sort_18 (fun _ h => h) (fun r H1 locs hq hF hS => ?_)
  obtain ⟨rfl, V1, hG, hE1, h6_1, h7_1⟩ := hq
  generalize hHe1 : H1 = H at hG hS ⊢
  clear hHe1 hF
  refine xq_athrow hx hb dX3_sort_21 ?_
  exact hthr _ _ _ _ _ _ hS ⟨_, hG 1 _ rfl⟩ ⟨⟨rfl, _, _, hG, (hE1.mono PFt_PPx), fun _ _ _ => rfl, _, _, rfl, h6_1, h7_1⟩, by omega⟩
theorem cw_X3_55 {R : Room} {s : State} {args : Array Value} (hts : ∀ w ∈ lw_all, w.before args s = true) {f w k j : Nat} (hR : f + 1 ≤ R.frames ∧ 8 + (2 + 11) + w ≤ R.locals) : CallW R s args RX3 RX3 55 yX3_isSign cX3_isSign 2 (some .boolean) (ws_ yX3_isSign cX3_isSign 2 (some .boolean)) (mkRmC f w k j) k j 1 := cwV 1 hts (lw_V q755 q757 qs15 q114 q758) rfl rfl rfl (by decide +kernel) hR
theorem cw_X3_59 {R : Room} {s : State} {args : Array Value} (hts : ∀ w ∈ lw_all, w.before args s = true) {f w k j : Nat} (hR : f + 1 ≤ R.frames ∧ 8 + (1 + 11) + w ≤ R.locals) : CallW R s args RX3 RX3 59 yX3_pass cX3_pass 1 none (ws_ yX3_pass cX3_pass 1 none) (mkRmC f w k j) k j 0 := cwV 0 hts (lw_V q718 q720 qs12 q114 q721) rfl rfl rfl (by decide +kernel) hR
set_option maxHeartbeats 4000000 in
theorem met_X3_sign (l : Launch) (D : va_G) (dA : Nat → ClassId) {o : Nat} {V : GI} {L : GL} {Rf : GR} {H0 : Heap} (hG : gP D dA o dS V L Rf H0) {F : Nat → Nat × Nat × Nat × Nat} {m0 : Nat} (hm : tcM V F m0) (hm9 : m0 ≤ 2001) (hbF : bdF F m0) {t : Nat} (ht : V 9 3 = nI t) (htm : t < m0) (ht4 : t ≤ 400) (y : Nat) (hy : y < 2 ^ 15) : CtrX l D dA yX3_sign cX3_sign 2 none (mkRm 4 120) [.ref (o + 9), .int (nI y)] H0 (AS o) (QV (okQ D dA o V L Rf (muC F 2 y t))) (fun q H1 => okX D dA o V L Rf (muC F 2 y t) q H1) := by
  have hFt := hbF t htm
  refine ctrX_V (by decide) (Nat.le_of_ble_eq_true rfl) ?_
  intro p e s m args below meth c ls QQ locs hx hb hml hown hts hK hend hthr hS hl
  have hl : lv_has ls 2 [(0, .ref (o + 9)), (1, .int (nI y))] := hl
  refine lv_aload_n hx hb dX3_sign_0 rfl (lv_at hl 0 rfl) ?_
  refine lv_iload_n hx hb dX3_sign_1 rfl (lv_at hl 1 rfl) ?_
  refine c_VI hx hb hml hts hown hK hl.1 hS ⟨Nat.le_refl _, Nat.le_refl _⟩ (met_X3_isSign l D dA hG hm hm9 hbF ht htm ht4 y (by omega)) (cw_X3_55 hts ⟨Nat.le_of_ble_eq_true rfl, Nat.le_of_ble_eq_true rfl⟩) (hG 9 _ rfl) rfl rfl rfl rfl (Nat.le_of_ble_eq_true rfl) dX3_sign_2 (fun _ h => h.elim) (fun r H1 locs hq hF hS => ?_)
  obtain ⟨rfl, rfl⟩ := hq
  have hbl := bN_lt (isC F t 2 y)
  refine n_if_ne (tgt := 14) hx hb dX3_sign_5 (by decide) (by omega) (fun c5 => ?_) (fun c5 => ?_)
  · refine lv_aload_n hx hb dX3_sign_14 rfl (lv_at hl 0 rfl) ?_
    refine c_VXV hx hb hml hts hown hK hl.1 hS ⟨Nat.le_refl _, Nat.le_refl _⟩ (met_X3_pass l D dA hG hm hm9 ht htm ht4) (cw_X3_59 hts ⟨Nat.le_of_ble_eq_true rfl, Nat.le_of_ble_eq_true rfl⟩) (hG 9 _ rfl) rfl rfl rfl rfl (Nat.le_of_ble_eq_true rfl) dX3_sign_15 (fun _ h => h) (fun q H1 locs hq hF hS => hthr _ _ _ _ _ _ hS (okX_flt hq) (okX_tr hq Eqx.rf (by rw [muC_t (bN1 (by omega))]))) (fun H1 locs hq hF hS => ?_)
    obtain ⟨V1, hG, hE1, ho1, ht1⟩ := hq
    generalize hHe1 : H1 = H at hG hS ⊢
    clear hHe1 hF
    refine hend _ _ _ _ hS dX3_sign_18 ?_
    exact ⟨rfl, _, hG, hE1, by rw [muC_t (bN1 (by omega))]; exact ho1, by rw [muC_t (bN1 (by omega))]; exact ht1⟩
  refine lv_aload_n hx hb dX3_sign_8 rfl (lv_at hl 0 rfl) ?_
  refine lv_iconst (v := (nI 1)) hx hb dX3_sign_9 (by decide) ?_
  refine c_VR hx hb hml hts hown hK hl.1 hS ⟨Nat.le_refl _, Nat.le_refl _⟩ (met_X3_wrong l D dA hG hm hm9 ht htm ht4 (nI 1)) (cw_X3_48 hts ⟨Nat.le_of_ble_eq_true rfl, Nat.le_of_ble_eq_true rfl⟩) (hG 9 _ rfl) rfl rfl rfl rfl (Nat.le_of_ble_eq_true rfl) dX3_sign_10 (fun _ h => h) (fun r H1 locs hq hF hS => ?_)
  obtain ⟨rfl, V2, hG, hE2, h6_2, h7_2⟩ := hq
  generalize hHe2 : H1 = H at hG hS ⊢
  clear hHe2 hF
  refine xq_athrow hx hb dX3_sign_13 ?_
  exact hthr _ _ _ _ _ _ hS ⟨_, hG 1 _ rfl⟩ ⟨rfl, _, _, hG, (hE2.mono PFt_PPx), fun _ _ _ => rfl, _, _, (by rw [muC_f (bN0 (by omega))]), h6_2, h7_2⟩
theorem cw_X3_62 {R : Room} {s : State} {args : Array Value} (hts : ∀ w ∈ lw_all, w.before args s = true) {f w k j : Nat} (hR : f + 1 ≤ R.frames ∧ 8 + (2 + 11) + w ≤ R.locals) : CallW R s args RX3 RX3 62 yX3_isWord cX3_isWord 2 (some .boolean) (ws_ yX3_isWord cX3_isWord 2 (some .boolean)) (mkRmC f w k j) k j 1 := cwV 1 hts (lw_V q759 q761 qs16 q114 q762) rfl rfl rfl (by decide +kernel) hR
set_option maxHeartbeats 4000000 in
theorem met_X3_word (l : Launch) (D : va_G) (dA : Nat → ClassId) {o : Nat} {V : GI} {L : GL} {Rf : GR} {H0 : Heap} (hG : gP D dA o dS V L Rf H0) {F : Nat → Nat × Nat × Nat × Nat} {m0 : Nat} (hm : tcM V F m0) (hm9 : m0 ≤ 2001) (hbF : bdF F m0) {t : Nat} (ht : V 9 3 = nI t) (htm : t < m0) (ht4 : t ≤ 400) (y : Nat) (hy : y < 2 ^ 15) : CtrX l D dA yX3_word cX3_word 2 none (mkRm 4 120) [.ref (o + 9), .int (nI y)] H0 (AS o) (QV (okQ D dA o V L Rf (muC F 3 y t))) (fun q H1 => okX D dA o V L Rf (muC F 3 y t) q H1) := by
  have hFt := hbF t htm
  refine ctrX_V (by decide) (Nat.le_of_ble_eq_true rfl) ?_
  intro p e s m args below meth c ls QQ locs hx hb hml hown hts hK hend hthr hS hl
  have hl : lv_has ls 2 [(0, .ref (o + 9)), (1, .int (nI y))] := hl
  refine lv_aload_n hx hb dX3_word_0 rfl (lv_at hl 0 rfl) ?_
  refine lv_iload_n hx hb dX3_word_1 rfl (lv_at hl 1 rfl) ?_
  refine c_VI hx hb hml hts hown hK hl.1 hS ⟨Nat.le_refl _, Nat.le_refl _⟩ (met_X3_isWord l D dA hG hm hm9 hbF ht htm ht4 y (by omega)) (cw_X3_62 hts ⟨Nat.le_of_ble_eq_true rfl, Nat.le_of_ble_eq_true rfl⟩) (hG 9 _ rfl) rfl rfl rfl rfl (Nat.le_of_ble_eq_true rfl) dX3_word_2 (fun _ h => h.elim) (fun r H1 locs hq hF hS => ?_)
  obtain ⟨rfl, rfl⟩ := hq
  have hbl := bN_lt (isC F t 3 y)
  refine n_if_ne (tgt := 14) hx hb dX3_word_5 (by decide) (by omega) (fun c5 => ?_) (fun c5 => ?_)
  · refine lv_aload_n hx hb dX3_word_14 rfl (lv_at hl 0 rfl) ?_
    refine c_VXV hx hb hml hts hown hK hl.1 hS ⟨Nat.le_refl _, Nat.le_refl _⟩ (met_X3_pass l D dA hG hm hm9 ht htm ht4) (cw_X3_59 hts ⟨Nat.le_of_ble_eq_true rfl, Nat.le_of_ble_eq_true rfl⟩) (hG 9 _ rfl) rfl rfl rfl rfl (Nat.le_of_ble_eq_true rfl) dX3_word_15 (fun _ h => h) (fun q H1 locs hq hF hS => hthr _ _ _ _ _ _ hS (okX_flt hq) (okX_tr hq Eqx.rf (by rw [muC_t (bN1 (by omega))]))) (fun H1 locs hq hF hS => ?_)
    obtain ⟨V1, hG, hE1, ho1, ht1⟩ := hq
    generalize hHe1 : H1 = H at hG hS ⊢
    clear hHe1 hF
    refine hend _ _ _ _ hS dX3_word_18 ?_
    exact ⟨rfl, _, hG, hE1, by rw [muC_t (bN1 (by omega))]; exact ho1, by rw [muC_t (bN1 (by omega))]; exact ht1⟩
  refine lv_aload_n hx hb dX3_word_8 rfl (lv_at hl 0 rfl) ?_
  refine lv_iconst (v := (nI 1)) hx hb dX3_word_9 (by decide) ?_
  refine c_VR hx hb hml hts hown hK hl.1 hS ⟨Nat.le_refl _, Nat.le_refl _⟩ (met_X3_wrong l D dA hG hm hm9 ht htm ht4 (nI 1)) (cw_X3_48 hts ⟨Nat.le_of_ble_eq_true rfl, Nat.le_of_ble_eq_true rfl⟩) (hG 9 _ rfl) rfl rfl rfl rfl (Nat.le_of_ble_eq_true rfl) dX3_word_10 (fun _ h => h) (fun r H1 locs hq hF hS => ?_)
  obtain ⟨rfl, V2, hG, hE2, h6_2, h7_2⟩ := hq
  generalize hHe2 : H1 = H at hG hS ⊢
  clear hHe2 hF
  refine xq_athrow hx hb dX3_word_13 ?_
  exact hthr _ _ _ _ _ _ hS ⟨_, hG 1 _ rfl⟩ ⟨rfl, _, _, hG, (hE2.mono PFt_PPx), fun _ _ _ => rfl, _, _, (by rw [muC_f (bN0 (by omega))]), h6_2, h7_2⟩
