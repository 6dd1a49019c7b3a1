def PD (k j : Nat) : Bool := k == 30 || (k == 0 && (j == 53))
def PHd (k _ : Nat) : Bool := k == 42 || k == 43
def PH43 (k _ : Nat) : Bool := k == 43
def PTp (k j : Nat) : Bool := k == 1 || (k == 0 && (j == 2))
def PTl (k j : Nat) : Bool := k == 38 || k == 39 || k == 40 || (k == 0 && (j == 58))
theorem PN_PD : ∀ k j, PD k j = false → PN k j = false := by intro k j h; simp only [PN, PD, Bool.or_eq_false_iff, Bool.and_eq_false_iff, beq_eq_false_iff_ne, ne_eq] at *; omega
theorem PD_PA : ∀ k j, PA k j = false → PD k j = false := by intro k j h; simp only [PD, PA, Bool.or_eq_false_iff, Bool.and_eq_false_iff, beq_eq_false_iff_ne, ne_eq] at *; omega
theorem PD_PAW : ∀ k j, PAW k j = false → PD k j = false := by intro k j h; simp only [PD, PAW, Bool.or_eq_false_iff, Bool.and_eq_false_iff, beq_eq_false_iff_ne, ne_eq] at *; omega
theorem PH43_PHd : ∀ k j, PHd k j = false → PH43 k j = false := by intro k j h; simp only [PH43, PHd, Bool.or_eq_false_iff, Bool.and_eq_false_iff, beq_eq_false_iff_ne, ne_eq] at *; omega
theorem isT_PD : ∀ k j, isT k j = true → PD k j = false := by
  intro k j h
  simp only [isT, PD, Bool.or_eq_true, Bool.and_eq_true, decide_eq_true_eq, beq_iff_eq, Bool.or_eq_false_iff, Bool.and_eq_false_iff, beq_eq_false_iff_ne, ne_eq] at *
  omega
theorem txM_PD {V V1 : GI} {lv : Nat} {t : Txt} (h : Eqx PD V V1) (hX : txM V lv t) : txM V1 lv t := txM_to (fun k j q => h k j (isT_PD k j q)) hX
theorem isT_PHd : ∀ k j, isT k j = true → PHd k j = false := by
  intro k j h
  simp only [isT, PHd, Bool.or_eq_true, Bool.and_eq_true, decide_eq_true_eq, beq_iff_eq, Bool.or_eq_false_iff, Bool.and_eq_false_iff, beq_eq_false_iff_ne, ne_eq] at *
  omega
theorem txM_PHd {V V1 : GI} {lv : Nat} {t : Txt} (h : Eqx PHd V V1) (hX : txM V lv t) : txM V1 lv t := txM_to (fun k j q => h k j (isT_PHd k j q)) hX
theorem isT_PH43 : ∀ k j, isT k j = true → PH43 k j = false := by
  intro k j h
  simp only [isT, PH43, Bool.or_eq_true, Bool.and_eq_true, decide_eq_true_eq, beq_iff_eq, Bool.or_eq_false_iff, Bool.and_eq_false_iff, beq_eq_false_iff_ne, ne_eq] at *
  omega
theorem txM_PH43 {V V1 : GI} {lv : Nat} {t : Txt} (h : Eqx PH43 V V1) (hX : txM V lv t) : txM V1 lv t := txM_to (fun k j q => h k j (isT_PH43 k j q)) hX
theorem isT_PTp : ∀ k j, isT k j = true → PTp k j = false := by
  intro k j h
  simp only [isT, PTp, Bool.or_eq_true, Bool.and_eq_true, decide_eq_true_eq, beq_iff_eq, Bool.or_eq_false_iff, Bool.and_eq_false_iff, beq_eq_false_iff_ne, ne_eq] at *
  omega
theorem txM_PTp {V V1 : GI} {lv : Nat} {t : Txt} (h : Eqx PTp V V1) (hX : txM V lv t) : txM V1 lv t := txM_to (fun k j q => h k j (isT_PTp k j q)) hX
theorem isT_PTl : ∀ k j, isT k j = true → PTl k j = false := by
  intro k j h
  simp only [isT, PTl, Bool.or_eq_true, Bool.and_eq_true, decide_eq_true_eq, beq_iff_eq, Bool.or_eq_false_iff, Bool.and_eq_false_iff, beq_eq_false_iff_ne, ne_eq] at *
  omega
theorem txM_PTl {V V1 : GI} {lv : Nat} {t : Txt} (h : Eqx PTl V V1) (hX : txM V lv t) : txM V1 lv t := txM_to (fun k j q => h k j (isT_PTl k j q)) hX
theorem nI_len_pos {α : Type} {l : List α} (h : 0 < l.length) : ∃ g, l.getLast? = some g ∧ l[l.length - 1]? = some g := by
  obtain ⟨g, hg⟩ : ∃ g, l[l.length - 1]? = some g := ⟨_, List.getElem?_eq_getElem (by omega)⟩
  exact ⟨g, by rw [List.getLast?_eq_getElem?]; exact hg, hg⟩
theorem hi_drop {V V1 : GI} {hs : List Rw} (h : hiM V hs) (h1 : V1 0 53 = nI (hs.length - 1)) (h2 : V1 34 = V 34) : hiM V1 hs.dropLast := by
  refine ⟨by have := h.1; simp; omega, by rw [h1]; simp, fun i g hi j hj => ?_⟩
  rw [h2]
  rw [List.getElem?_dropLast] at hi
  split at hi
  · exact h.2.2 i g hi j hj
  · cases hi
theorem hd_set {V V1 : GI} {hd : Nat → Option Rw} {s : Nat} {f : Rw} (h : hdM V hd) (hs : s < 3) (h1 : V1 42 = va_up (V 42) s (nI 1)) (hold : ∀ j, ¬ (48 * s ≤ j ∧ j < 48 * s + 48) → V1 43 j = V 43 j) (hnew : ∀ j, j < 48 → V1 43 (48 * s + j) = f j) : hdM V1 (va_up hd s (some f)) := by
  intro x hx
  rw [h1]
  by_cases e : x = s
  · subst e
    refine ⟨by rw [va_up_s2]; unfold va_up; rw [if_pos rfl]; rfl, fun g hg => ?_⟩
    unfold va_up at hg
    rw [if_pos rfl] at hg
    cases hg
    exact hnew
  · refine ⟨by rw [va_up_n e]; unfold va_up; rw [if_neg e]; exact (h x hx).1, fun g hg j hj => ?_⟩
    unfold va_up at hg
    rw [if_neg e] at hg
    rw [hold _ (by omega)]
    exact (h x hx).2 g hg j hj
set_option maxHeartbeats 4000000 in
theorem met_X13_undo (l : Launch) (D : va_G) (dA : Nat → ClassId) {o : Nat} {V : GI} {L : GL} {Rf : GR} {H0 : Heap} (hG : gP D dA o dM V L Rf H0) (hs : List Rw) (hh : hiM V hs) : Ctr l D dA yX13_undo cX13_undo 2 (some .boolean) (mkRm 0 0) [.ref o] H0 (AM o) (QI (fun r H1 => ∃ V1, gP D dA o dM V1 L Rf H1 ∧ Eqx PD V V1 ∧ r = (undoS (V 30) hs).1 ∧ V1 30 = (undoS (V 30) hs).2.1 ∧ hiM V1 (undoS (V 30) hs).2.2)) := by
  have hh40 := hh.1
  refine ctr_Z (by decide) (Nat.le_of_ble_eq_true rfl) ?_
  intro p e s m args below meth c ls QQ locs hx hb hml hown hts hK hend hS hl
  have hl : lv_has ls 2 [(0, .ref o)] := hl
  refine lv_aload_n hx hb dX13_undo_0 rfl (lv_at hl 0 rfl) ?_
  refine g_get (v := .int (nI hs.length)) hx hb hts hown hK hG 0 rfl rfl ok_X13 53 (by decide) q1524 rfl (congrArg Value.int hh.2.1) dX13_undo_1 ?_
  refine n_if_ne (tgt := 9) hx hb dX13_undo_4 (by decide) (by omega) (fun c4 => ?_) (fun c4 => ?_)
  · obtain ⟨g, hg, hg2⟩ := nI_len_pos c4
    refine lv_aload_n hx hb dX13_undo_9 rfl (lv_at hl 0 rfl) ?_
    refine lv_dup hx hb dX13_undo_10 rfl ?_
    refine g_get (v := .int (nI hs.length)) hx hb hts hown hK hG 0 rfl rfl ok_X13 53 (by decide) q1524 rfl (congrArg Value.int hh.2.1) dX13_undo_11 ?_
    refine lv_iconst (v := (nI 1)) hx hb dX13_undo_14 (by decide) ?_
    refine n_isub hx hb dX13_undo_15 (by omega) ?_
    refine g_put hx hb hts hown hK hG hS 0 (AM_in 0 (by decide)) rfl rfl ok_X13 53 (by decide) q1524 rfl rfl rfl rfl dX13_undo_16 (fun H locs hG hO hS => ?_)
    refine lv_iconst (v := (nI 0)) hx hb dX13_undo_19 (by decide) ?_
    refine lv_istore_n (lv' := [(1, .int (nI 0)), (0, .ref o)]) hx hb dX13_undo_20 rfl hl (by decide) rfl (fun ls hl => ?_)
    have loop1 : ∀ (fu1 : Nat) (k : Nat) (V1 : GI) (H : Heap) (locs : List Loc) (ls : Array Slot), 48 - k < fu1 → (k ≤ 48) → (Eqx PN (up2 V 0 53 (nI (hs.length - 1))) V1) → (∀ j, j < k → V1 30 j = g j) → gP D dA o dM V1 L Rf H → va_S (AM o) H0 H locs → lv_has ls 2 [(1, .int (nI k)), (0, .ref o)] → W p l e (mkRm 0 0) s m args below meth c H locs 0 0 QQ (F0 m 21 ls []) := by
      intro fu1
      induction fu1 with
      | zero => intro k V1 H locs ls hfu; exact absurd hfu (Nat.not_lt_zero _)
      | succ fu1 ih1 =>
        intro k V1 H locs ls hfu hk hE1 hcp hG hS hl
        refine lv_iload_n hx hb dX13_undo_21 rfl (lv_at hl 0 rfl) ?_
        refine lv_bipush (v := (nI 48)) hx hb dX13_undo_22 (by decide) ?_
        refine n_icmp_ge (tgt := 53) hx hb dX13_undo_24 (by decide) (by omega) (by omega) (fun c24 => ?_) (fun c24 => ?_)
        · refine lv_iconst (v := (nI 1)) hx hb dX13_undo_53 (by decide) ?_
          refine hend _ _ _ _ _ hS dX13_undo_54 (by decide) ?_
          obtain rfl : k = 48 := by omega
          have hG2 := hG.setcell (k := 30) (f := g) rfl (fun j hj => hcp j hj)
          have hR : undoS (V 30) hs = (nI 1, g, hs.dropLast) := by unfold undoS; rw [hg]
          exact ⟨_, rfl, _, hG2, Eqx.cell ((Eqx.rf.up rfl).trans (hE1.mono PN_PD)) (fun _ => rfl), (congrArg (fun z : Ac => z.1) hR).symm, va_up_s.trans (congrArg (fun z : Ac => z.2.1) hR).symm, by rw [hR]; exact hi_drop (V1 := va_up V1 30 g) hh ((show va_up V1 30 g 0 53 = V1 0 53 from rfl).trans (hE1 0 53 rfl)) (show va_up V1 30 g 34 = V 34 from ((funext (fun j => hE1 34 j rfl))))⟩
        have hgk := hh.2.2 (hs.length - 1) g hg2 k (by omega)
        refine lv_aload_n hx hb dX13_undo_27 rfl (lv_at hl 1 rfl) ?_
        refine g_get hx hb hts hown hK hG 0 rfl rfl ok_X13 47 (by decide) q1518 rfl rfl dX13_undo_28 ?_
        refine lv_iload_n hx hb dX13_undo_31 rfl (lv_at hl 0 rfl) ?_
        refine lv_aload_n hx hb dX13_undo_32 rfl (lv_at hl 1 rfl) ?_
        refine g_get hx hb hts hown hK hG 0 rfl rfl ok_X13 54 (by decide) q1525 rfl rfl dX13_undo_33 ?_
        refine lv_bipush (v := (nI 48)) hx hb dX13_undo_36 (by decide) ?_
        refine lv_aload_n hx hb dX13_undo_38 rfl (lv_at hl 1 rfl) ?_
        refine g_get (v := .int (nI (hs.length - 1))) hx hb hts hown hK hG 0 rfl rfl ok_X13 53 (by decide) q1524 rfl (congrArg Value.int (hE1 0 53 rfl)) dX13_undo_39 ?_
        refine n_imul hx hb dX13_undo_42 ?_
        refine lv_iload_n hx hb dX13_undo_43 rfl (lv_at hl 0 rfl) ?_
        refine n_iadd hx hb dX13_undo_44 ?_
        refine n_iald hx hb hK hG 34 rfl (by omega) (by decide) dX13_undo_45 ?_
        refine iv (y := (g k)) ((hE1 34 ((48 * (hs.length - 1)) + k) rfl).trans hgk) ?_
        refine n_iast hx hb hK hG hS 30 (AM_in 30 (by decide)) rfl (by omega) (by decide) dX13_undo_46 (fun H locs hG hO hS => ?_)
        refine lv_iinc (v := (nI (k + 1))) (lv' := [(1, .int (nI (k + 1))), (0, .ref o)]) hx hb dX13_undo_47 hl (k := 0) rfl (nI_add _ _) (by decide) rfl (fun ls hl => ?_)
        refine lv_goto (tgt := 21) hx hb dX13_undo_50 (by decide) ?_
        have hc30_1 : (up2 V1 30 k (g k)) 30 = va_up (V1 30) k (g k) := rfl
        have hc30 : (up2 V1 30 k (g k)) 30 = va_up (V1 30) k (g k) := hc30_1
        exact ih1 (k + 1) (up2 V1 30 k (g k)) _ _ _ (by omega) (by omega) (Eqx.up hE1 rfl) (by rw [hc30]; exact va_step hcp rfl) hG hS (lv_sub hl [0, 1] rfl)
    exact loop1 ((48 - 0) + 1) 0 (up2 V 0 53 (nI (hs.length - 1))) _ _ _ (Nat.lt_succ_self _) (by omega) Eqx.rf (fun j hj => absurd hj (Nat.not_lt_zero _)) hG hS (lv_sub hl [0, 1] rfl)
  refine lv_iconst (v := (nI 0)) hx hb dX13_undo_7 (by decide) ?_
  refine hend _ _ _ _ _ hS dX13_undo_8 (by decide) ?_
  have hs0 : hs = [] := List.eq_nil_of_length_eq_zero c4
  subst hs0
  exact ⟨_, rfl, _, hG, Eqx.rf, rfl, rfl, hh⟩
set_option maxHeartbeats 4000000 in
theorem met_X13_hold (l : Launch) (D : va_G) (dA : Nat → ClassId) {o : Nat} {V : GI} {L : GL} {Rf : GR} {H0 : Heap} (hG : gP D dA o dM V L Rf H0) (hd : Nat → Option Rw) (hhd : hdM V hd) (v1 : Int32) : Ctr l D dA yX13_hold cX13_hold 3 (some .boolean) (mkRm 1 22) [.ref o, .int v1] H0 (AM o) (QI (fun r H1 => ∃ V1, gP D dA o dM V1 L Rf H1 ∧ Eqx PHd V V1 ∧ r = (holdS (V 30) hd v1).1 ∧ hdM V1 (holdS (V 30) hd v1).2)) := by
  refine ctr_Z (by decide) (Nat.le_of_ble_eq_true rfl) ?_
  intro p e s m args below meth c ls QQ locs hx hb hml hown hts hK hend hS hl
  have hl : lv_has ls 3 [(0, .ref o), (1, .int v1)] := hl
  refine lv_iload_n hx hb dX13_hold_0 rfl (lv_at hl 1 rfl) ?_
  refine lv_iconst (v := (nI 0)) hx hb dX13_hold_1 (by decide) ?_
  refine lv_iconst (v := (nI 2)) hx hb dX13_hold_2 (by decide) ?_
  refine c_SI hx hb hml hts hown hK hl.1 hS ⟨Nat.le_refl _, Nat.le_refl _⟩ (met_X13_in l D dA v1 (nI 0) (nI 2)) (cw_X13_308 hts ⟨by decide, by decide⟩) rfl rfl (Nat.le_of_ble_eq_true rfl) dX13_hold_3 (fun _ h => h.elim) (fun r H1 locs hq hF hS => ?_)
  obtain ⟨rfl, rfl⟩ := hq
  rcases (inZ_cases v1 0 2 (by decide) (by decide)).symm with ⟨hz3, ho3⟩ | ⟨x1, hlo_x1, hhi_x1, rfl, hz3⟩
  · refine iv (y := nI 0) hz3 ?_
    refine n_if_ne (tgt := 11) hx hb dX13_hold_6 (by decide) (by decide) (fun z => absurd z (by decide)) (fun _ => ?_)
    refine lv_iconst (v := (nI 0)) hx hb dX13_hold_9 (by decide) ?_
    refine hend _ _ _ _ _ hS dX13_hold_10 (by decide) ?_
    have hR : holdS (V 30) hd v1 = (nI 0, hd) := (ho3.2 _ _ _)
    exact ⟨_, rfl, _, hG, Eqx.rf, by rw [hR], by rw [hR]; exact hhd⟩
  refine iv (y := nI 1) hz3 ?_
  have hl : lv_has ls 3 [(0, .ref o), (1, .int (nI x1))] := hl
  refine n_if_ne (tgt := 11) hx hb dX13_hold_6 (by decide) (by decide) (fun _ => ?_) (fun z => absurd z (by decide))
  refine lv_aload_n hx hb dX13_hold_11 rfl (lv_at hl 0 rfl) ?_
  refine g_get hx hb hts hown hK hG 0 rfl rfl ok_X13 63 (by decide) q1534 rfl rfl dX13_hold_12 ?_
  refine lv_iload_n hx hb dX13_hold_15 rfl (lv_at hl 1 rfl) ?_
  refine lv_iconst (v := (nI 1)) hx hb dX13_hold_16 (by decide) ?_
  refine n_zast (x2 := (nI 1)) hx hb hK hG hS 42 (AM_in 42 (by decide)) rfl (by omega) (by decide) (by decide) dX13_hold_17 (fun H locs hG hO hS => ?_)
  refine lv_iconst (v := (nI 0)) hx hb dX13_hold_18 (by decide) ?_
  refine lv_istore_n (lv' := [(2, .int (nI 0)), (0, .ref o), (1, .int (nI x1))]) hx hb dX13_hold_19 rfl hl (by decide) rfl (fun ls hl => ?_)
  have loop1 : ∀ (fu1 : Nat) (k : Nat) (V1 : GI) (H : Heap) (locs : List Loc) (ls : Array Slot), 48 - k < fu1 → (k ≤ 48) → (Eqx PH43 (up2 V 42 x1 (nI 1)) V1) → (∀ j, ¬ (48 * x1 ≤ j ∧ j < 48 * x1 + 48) → V1 43 j = V 43 j) → (∀ j, j < k → V1 43 (48 * x1 + j) = V 30 j) → gP D dA o dM V1 L Rf H → va_S (AM o) H0 H locs → lv_has ls 3 [(2, .int (nI k)), (0, .ref o), (1, .int (nI x1))] → W p l e (mkRm 1 22) s m args below meth c H locs 0 0 QQ (F0 m 20 ls []) := by
    intro fu1
    induction fu1 with
    | zero => intro k V1 H locs ls hfu; exact absurd hfu (Nat.not_lt_zero _)
    | succ fu1 ih1 =>
      intro k V1 H locs ls hfu hk hE1 hold hnew hG hS hl
      refine lv_iload_n hx hb dX13_hold_20 rfl (lv_at hl 0 rfl) ?_
      refine lv_bipush (v := (nI 48)) hx hb dX13_hold_21 (by decide) ?_
      refine n_icmp_ge (tgt := 49) hx hb dX13_hold_23 (by decide) (by omega) (by omega) (fun c23 => ?_) (fun c23 => ?_)
      · refine lv_iconst (v := (nI 1)) hx hb dX13_hold_49 (by decide) ?_
        refine hend _ _ _ _ _ hS dX13_hold_50 (by decide) ?_
        obtain rfl : k = 48 := by omega
        have hR : holdS (V 30) hd (nI x1) = (nI 1, va_up hd x1 (some (V 30))) := (rnp_in hlo_x1 hhi_x1 (by omega)).trans (rfl)
        exact ⟨_, rfl, _, hG, ((Eqx.rf.up rfl).trans (hE1.mono PH43_PHd)), by rw [hR], by rw [hR]; exact hd_set hhd hhi_x1 ((funext (fun j => hE1 42 j rfl))) hold hnew⟩
      refine lv_aload_n hx hb dX13_hold_26 rfl (lv_at hl 1 rfl) ?_
      refine g_get hx hb hts hown hK hG 0 rfl rfl ok_X13 64 (by decide) q1535 rfl rfl dX13_hold_27 ?_
      refine lv_bipush (v := (nI 48)) hx hb dX13_hold_30 (by decide) ?_
      refine lv_iload_n hx hb dX13_hold_32 rfl (lv_at hl 2 rfl) ?_
      refine n_imul hx hb dX13_hold_33 ?_
      refine lv_iload_n hx hb dX13_hold_34 rfl (lv_at hl 0 rfl) ?_
      refine n_iadd hx hb dX13_hold_35 ?_
      refine lv_aload_n hx hb dX13_hold_36 rfl (lv_at hl 1 rfl) ?_
      refine g_get hx hb hts hown hK hG 0 rfl rfl ok_X13 47 (by decide) q1518 rfl rfl dX13_hold_37 ?_
      refine lv_iload_n hx hb dX13_hold_40 rfl (lv_at hl 0 rfl) ?_
      refine n_iald hx hb hK hG 30 rfl (by omega) (by decide) dX13_hold_41 ?_
      refine iv (y := (V 30 k)) (hE1 30 k rfl) ?_
      refine n_iast hx hb hK hG hS 43 (AM_in 43 (by decide)) rfl (by omega) (by decide) dX13_hold_42 (fun H locs hG hO hS => ?_)
      refine lv_iinc (v := (nI (k + 1))) (lv' := [(2, .int (nI (k + 1))), (0, .ref o), (1, .int (nI x1))]) hx hb dX13_hold_43 hl (k := 0) rfl (nI_add _ _) (by decide) rfl (fun ls hl => ?_)
      refine lv_goto (tgt := 20) hx hb dX13_hold_46 (by decide) ?_
      have hc43_1 : (up2 V1 43 ((48 * x1) + k) (V 30 k)) 43 = va_up (V1 43) ((48 * x1) + k) (V 30 k) := rfl
      have hc43 : (up2 V1 43 ((48 * x1) + k) (V 30 k)) 43 = va_up (V1 43) ((48 * x1) + k) (V 30 k) := hc43_1
      exact ih1 (k + 1) (up2 V1 43 ((48 * x1) + k) (V 30 k)) _ _ _ (by omega) (by omega) (Eqx.up hE1 rfl) (by rw [hc43]; exact fun j hj => (va_up_n (by omega)).trans (hold j hj)) (by rw [hc43]; exact hn_step hnew) hG hS (lv_sub hl [0, 1, 2] rfl)
  exact loop1 ((48 - 0) + 1) 0 (up2 V 42 x1 (nI 1)) _ _ _ (Nat.lt_succ_self _) (by omega) Eqx.rf (fun _ _ => rfl) (fun j hj => absurd hj (Nat.not_lt_zero _)) hG hS (lv_sub hl [0, 1, 2] rfl)
set_option maxHeartbeats 4000000 in
theorem met_X13_restore (l : Launch) (D : va_G) (dA : Nat → ClassId) {o : Nat} {V : GI} {L : GL} {Rf : GR} {H0 : Heap} (hG : gP D dA o dM V L Rf H0) (hs : List Rw) (hh : hiM V hs) (hd : Nat → Option Rw) (hhd : hdM V hd) (v1 : Int32) : Ctr l D dA yX13_restore cX13_restore 3 (some .boolean) (mkRm 1 22) [.ref o, .int v1] H0 (AM o) (QI (fun r H1 => ∃ V1, gP D dA o dM V1 L Rf H1 ∧ Eqx PD V V1 ∧ r = (restoreS (V 30) hs hd v1).1 ∧ V1 30 = (restoreS (V 30) hs hd v1).2.1 ∧ hiM V1 (restoreS (V 30) hs hd v1).2.2)) := by
  refine ctr_Z (by decide) (Nat.le_of_ble_eq_true rfl) ?_
  intro p e s m args below meth c ls QQ locs hx hb hml hown hts hK hend hS hl
  have hl : lv_has ls 3 [(0, .ref o), (1, .int v1)] := hl
  refine lv_iload_n hx hb dX13_restore_0 rfl (lv_at hl 1 rfl) ?_
  refine lv_iconst (v := (nI 0)) hx hb dX13_restore_1 (by decide) ?_
  refine lv_iconst (v := (nI 2)) hx hb dX13_restore_2 (by decide) ?_
  refine c_SI hx hb hml hts hown hK hl.1 hS ⟨Nat.le_refl _, Nat.le_refl _⟩ (met_X13_in l D dA v1 (nI 0) (nI 2)) (cw_X13_308 hts ⟨by decide, by decide⟩) rfl rfl (Nat.le_of_ble_eq_true rfl) dX13_restore_3 (fun _ h => h.elim) (fun r H1 locs hq hF hS => ?_)
  obtain ⟨rfl, rfl⟩ := hq
  rcases (inZ_cases v1 0 2 (by decide) (by decide)).symm with ⟨hz3, ho3⟩ | ⟨x1, hlo_x1, hhi_x1, rfl, hz3⟩
  · refine iv (y := nI 0) hz3 ?_
    refine n_if_eq (tgt := 18) hx hb dX13_restore_6 (by decide) (by decide) (fun _ => ?_) (fun z => absurd z (by decide))
    refine lv_iconst (v := (nI 0)) hx hb dX13_restore_18 (by decide) ?_
    refine hend _ _ _ _ _ hS dX13_restore_19 (by decide) ?_
    have hR : restoreS (V 30) hs hd v1 = (nI 0, V 30, hs) := (ho3.2 _ _ _)
    exact ⟨_, rfl, _, hG, Eqx.rf, by rw [hR], by rw [hR], by rw [hR]; exact hh⟩
  refine iv (y := nI 1) hz3 ?_
  have hl : lv_has ls 3 [(0, .ref o), (1, .int (nI x1))] := hl
  refine n_if_eq (tgt := 18) hx hb dX13_restore_6 (by decide) (by decide) (fun z => absurd z (by decide)) (fun _ => ?_)
  have hr1 := (hhd x1 hhi_x1).1
  rcases hx1 : hd x1 with _ | g
  · rw [hx1] at hr1
    refine lv_aload_n hx hb dX13_restore_9 rfl (lv_at hl 0 rfl) ?_
    refine g_get hx hb hts hown hK hG 0 rfl rfl ok_X13 63 (by decide) q1534 rfl rfl dX13_restore_10 ?_
    refine lv_iload_n hx hb dX13_restore_13 rfl (lv_at hl 1 rfl) ?_
    refine n_zald hx hb hK hG 42 rfl (by omega) (by decide) dX13_restore_14 ?_
    refine iv (y := (nI 0)) hr1 ?_
    refine n_if_ne (tgt := 20) hx hb dX13_restore_15 (by decide) (by decide) (fun z => absurd z (by decide)) (fun _ => ?_)
    refine lv_iconst (v := (nI 0)) hx hb dX13_restore_18 (by decide) ?_
    refine hend _ _ _ _ _ hS dX13_restore_19 (by decide) ?_
    have hR : restoreS (V 30) hs hd (nI x1) = (nI 0, V 30, hs) := (rnp_in hlo_x1 hhi_x1 (by omega)).trans ((by simp only [hx1]))
    exact ⟨_, rfl, _, hG, Eqx.rf, by rw [hR], by rw [hR], by rw [hR]; exact hh⟩
  rw [hx1] at hr1
  have hg2 := (hhd x1 hhi_x1).2 g hx1
  refine lv_aload_n hx hb dX13_restore_9 rfl (lv_at hl 0 rfl) ?_
  refine g_get hx hb hts hown hK hG 0 rfl rfl ok_X13 63 (by decide) q1534 rfl rfl dX13_restore_10 ?_
  refine lv_iload_n hx hb dX13_restore_13 rfl (lv_at hl 1 rfl) ?_
  refine n_zald hx hb hK hG 42 rfl (by omega) (by decide) dX13_restore_14 ?_
  refine iv (y := (nI 1)) hr1 ?_
  refine n_if_ne (tgt := 20) hx hb dX13_restore_15 (by decide) (by decide) (fun _ => ?_) (fun z => absurd z (by decide))
  refine lv_iconst (v := (nI 0)) hx hb dX13_restore_20 (by decide) ?_
  refine lv_istore_n (lv' := [(2, .int (nI 0)), (0, .ref o), (1, .int (nI x1))]) hx hb dX13_restore_21 rfl hl (by decide) rfl (fun ls hl => ?_)
  have loop1 : ∀ (fu1 : Nat) (k : Nat) (V1 : GI) (H : Heap) (locs : List Loc) (ls : Array Slot), 48 - k < fu1 → (k ≤ 48) → (Eqx PN V V1) → (∀ j, j < k → V1 30 j = g j) → gP D dA o dM V1 L Rf H → va_S (AM o) H0 H locs → lv_has ls 3 [(2, .int (nI k)), (0, .ref o), (1, .int (nI x1))] → W p l e (mkRm 1 22) s m args below meth c H locs 0 0 QQ (F0 m 22 ls []) := by
    intro fu1
    induction fu1 with
    | zero => intro k V1 H locs ls hfu; exact absurd hfu (Nat.not_lt_zero _)
    | succ fu1 ih1 =>
      intro k V1 H locs ls hfu hk hE1 hcp hG hS hl
      refine lv_iload_n hx hb dX13_restore_22 rfl (lv_at hl 0 rfl) ?_
      refine lv_bipush (v := (nI 48)) hx hb dX13_restore_23 (by decide) ?_
      refine n_icmp_ge (tgt := 51) hx hb dX13_restore_25 (by decide) (by omega) (by omega) (fun c25 => ?_) (fun c25 => ?_)
      · refine lv_aload_n hx hb dX13_restore_51 rfl (lv_at hl 1 rfl) ?_
        refine lv_iconst (v := (nI 0)) hx hb dX13_restore_52 (by decide) ?_
        refine g_put hx hb hts hown hK hG hS 0 (AM_in 0 (by decide)) rfl rfl ok_X13 53 (by decide) q1524 rfl rfl rfl rfl dX13_restore_53 (fun H locs hG hO hS => ?_)
        refine lv_iconst (v := (nI 1)) hx hb dX13_restore_56 (by decide) ?_
        refine hend _ _ _ _ _ hS dX13_restore_57 (by decide) ?_
        obtain rfl : k = 48 := by omega
        have hG2 := hG.setcell (k := 30) (f := g) rfl (fun j hj => hcp j hj)
        have hR : restoreS (V 30) hs hd (nI x1) = (nI 1, g, []) := (rnp_in hlo_x1 hhi_x1 (by omega)).trans ((by simp only [hx1]))
        exact ⟨_, rfl, _, hG2, Eqx.cell ((hE1.mono PN_PD).up rfl) (fun _ => rfl), (congrArg (fun z : Ac => z.1) hR).symm, va_up_s.trans (congrArg (fun z : Ac => z.2.1) hR).symm, by rw [hR]; exact ⟨by simp, rfl, fun i g hi => by simp at hi⟩⟩
      refine lv_aload_n hx hb dX13_restore_28 rfl (lv_at hl 1 rfl) ?_
      refine g_get hx hb hts hown hK hG 0 rfl rfl ok_X13 47 (by decide) q1518 rfl rfl dX13_restore_29 ?_
      refine lv_iload_n hx hb dX13_restore_32 rfl (lv_at hl 0 rfl) ?_
      refine lv_aload_n hx hb dX13_restore_33 rfl (lv_at hl 1 rfl) ?_
      refine g_get hx hb hts hown hK hG 0 rfl rfl ok_X13 64 (by decide) q1535 rfl rfl dX13_restore_34 ?_
      refine lv_bipush (v := (nI 48)) hx hb dX13_restore_37 (by decide) ?_
      refine lv_iload_n hx hb dX13_restore_39 rfl (lv_at hl 2 rfl) ?_
      refine n_imul hx hb dX13_restore_40 ?_
      refine lv_iload_n hx hb dX13_restore_41 rfl (lv_at hl 0 rfl) ?_
      refine n_iadd hx hb dX13_restore_42 ?_
      refine n_iald hx hb hK hG 43 rfl (by omega) (by decide) dX13_restore_43 ?_
      refine iv (y := (g k)) ((hE1 43 ((48 * x1) + k) rfl).trans (hg2 k (by omega))) ?_
      refine n_iast hx hb hK hG hS 30 (AM_in 30 (by decide)) rfl (by omega) (by decide) dX13_restore_44 (fun H locs hG hO hS => ?_)
      refine lv_iinc (v := (nI (k + 1))) (lv' := [(2, .int (nI (k + 1))), (0, .ref o), (1, .int (nI x1))]) hx hb dX13_restore_45 hl (k := 0) rfl (nI_add _ _) (by decide) rfl (fun ls hl => ?_)
      refine lv_goto (tgt := 22) hx hb dX13_restore_48 (by decide) ?_
      have hc30_1 : (up2 V1 30 k (g k)) 30 = va_up (V1 30) k (g k) := rfl
      have hc30 : (up2 V1 30 k (g k)) 30 = va_up (V1 30) k (g k) := hc30_1
      exact ih1 (k + 1) (up2 V1 30 k (g k)) _ _ _ (by omega) (by omega) (Eqx.up hE1 rfl) (by rw [hc30]; exact va_step hcp rfl) hG hS (lv_sub hl [0, 1, 2] rfl)
  exact loop1 ((48 - 0) + 1) 0 V _ _ _ (Nat.lt_succ_self _) (by omega) Eqx.rf (fun j hj => absurd hj (Nat.not_lt_zero _)) hG hS (lv_sub hl [0, 1, 2] rfl)
set_option maxHeartbeats 4000000 in
theorem met_X13_place (l : Launch) (D : va_G) (dA : Nat → ClassId) {o : Nat} {V : GI} {L : GL} {Rf : GR} {H0 : Heap} (hG : gP D dA o dM V L Rf H0)  : Ctr l D dA yX13_place cX13_place 1 (some .int) (mkRm 0 0) [.ref o] H0 A0 (QI (fun r H1 => H0 = H1 ∧ r = V 0 17)) := by
  refine ctr_I (by decide) (Nat.le_of_ble_eq_true rfl) ?_
  intro p e s m args below meth c ls QQ locs hx hb hml hown hts hK hend hS hl
  have hl : lv_has ls 1 [(0, .ref o)] := hl
  refine lv_aload_n hx hb dX13_place_0 rfl (lv_at hl 0 rfl) ?_
  refine g_get (v := .int (V 0 17)) hx hb hts hown hK hG 0 rfl rfl ok_X13 17 (by decide) q1488 rfl rfl dX13_place_1 ?_
  refine hend _ _ _ _ _ hS dX13_place_4 ?_
  exact ⟨_, rfl, rfl, rfl⟩
set_option maxHeartbeats 4000000 in
theorem met_X13_put (l : Launch) (D : va_G) (dA : Nat → ClassId) {o : Nat} {V : GI} {L : GL} {Rf : GR} {H0 : Heap} (hG : gP D dA o dM V L Rf H0) (tp : List Int32) (htp : tpM V tp) (ht9 : tp.length + 4 ≤ 2000) (x : Int32) : Ctr l D dA yX13_put cX13_put 3 none (mkRm 0 0) [.ref o, .int x] H0 (AM o) (QV (fun H1 => ∃ V1, gP D dA o dM V1 L Rf H1 ∧ Eqx PTp V V1 ∧ tpM V1 (tp ++ by4 x))) := by
  refine ctr_V (by decide) (Nat.le_of_ble_eq_true rfl) ?_
  intro p e s m args below meth c ls QQ locs hx hb hml hown hts hK hend hS hl
  have hl : lv_has ls 3 [(0, .ref o), (1, .int x)] := hl
  refine lv_bipush (v := (nI 24)) hx hb dX13_put_0 (by decide) ?_
  refine lv_istore_n (lv' := [(2, .int (nI 24)), (0, .ref o), (1, .int x)]) hx hb dX13_put_2 rfl hl (by decide) rfl (fun ls hl => ?_)
  refine lv_iload_n hx hb dX13_put_3 rfl (lv_at hl 0 rfl) ?_
  refine n_if_lt (tgt := 36) hx hb dX13_put_4 (by decide) (by decide) ?_
  refine lv_aload_n hx hb dX13_put_7 rfl (lv_at hl 1 rfl) ?_
  refine g_get hx hb hts hown hK hG 0 rfl rfl ok_X13 1 (by decide) q1472 rfl rfl dX13_put_8 ?_
  refine lv_aload_n hx hb dX13_put_11 rfl (lv_at hl 1 rfl) ?_
  refine g_get (v := .int (nI tp.length)) hx hb hts hown hK hG 0 rfl rfl ok_X13 2 (by decide) q1473 rfl (congrArg Value.int htp.2.1) dX13_put_12 ?_
  refine lv_iload_n hx hb dX13_put_15 rfl (lv_at hl 2 rfl) ?_
  refine lv_iload_n hx hb dX13_put_16 rfl (lv_at hl 0 rfl) ?_
  refine lv_ishr hx hb dX13_put_17 ?_
  refine lv_i2b (v := (x >>> ((nI 24) &&& 31)).toInt8.toInt32) hx hb dX13_put_18 rfl ?_
  refine n_bast (x2 := (x >>> ((nI 24) &&& 31)).toInt8.toInt32) hx hb hK hG hS 1 (AM_in 1 (by decide)) rfl (by omega) (by decide) (pk_vb _) dX13_put_19 (fun H locs hG hO hS => ?_)
  refine lv_aload_n hx hb dX13_put_20 rfl (lv_at hl 1 rfl) ?_
  refine lv_dup hx hb dX13_put_21 rfl ?_
  refine g_get (v := .int (nI tp.length)) hx hb hts hown hK hG 0 rfl rfl ok_X13 2 (by decide) q1473 rfl (congrArg Value.int htp.2.1) dX13_put_22 ?_
  refine lv_iconst (v := (nI 1)) hx hb dX13_put_25 (by decide) ?_
  refine n_iadd hx hb dX13_put_26 ?_
  refine g_put hx hb hts hown hK hG hS 0 (AM_in 0 (by decide)) rfl rfl ok_X13 2 (by decide) q1473 rfl rfl rfl rfl dX13_put_27 (fun H locs hG hO hS => ?_)
  obtain ⟨VT1, hET1, hTPT1, hG⟩ : ∃ X, Eqx PTp V X ∧ tpM X (tp ++ [byF x 24]) ∧ gP D dA o dM X L Rf H := ⟨_, ((Eqx.rf.up rfl).up rfl), tpM_app htp (by omega), hG⟩
  have hlnT1 : (tp ++ [byF x 24]).length = tp.length + 1 := by simp
  refine lv_iinc (v := (nI 16)) (lv' := [(2, .int (nI 16)), (0, .ref o), (1, .int x)]) hx hb dX13_put_30 hl (k := 0) rfl (by decide) (by decide) rfl (fun ls hl => ?_)
  refine lv_goto (tgt := 3) hx hb dX13_put_33 (by decide) ?_
  refine lv_iload_n hx hb dX13_put_3 rfl (lv_at hl 0 rfl) ?_
  refine n_if_lt (tgt := 36) hx hb dX13_put_4 (by decide) (by decide) ?_
  refine lv_aload_n hx hb dX13_put_7 rfl (lv_at hl 1 rfl) ?_
  refine g_get hx hb hts hown hK hG 0 rfl rfl ok_X13 1 (by decide) q1472 rfl rfl dX13_put_8 ?_
  refine lv_aload_n hx hb dX13_put_11 rfl (lv_at hl 1 rfl) ?_
  refine g_get (v := .int (nI ((tp ++ [byF x 24]).length))) hx hb hts hown hK hG 0 rfl rfl ok_X13 2 (by decide) q1473 rfl (congrArg Value.int hTPT1.2.1) dX13_put_12 ?_
  refine lv_iload_n hx hb dX13_put_15 rfl (lv_at hl 2 rfl) ?_
  refine lv_iload_n hx hb dX13_put_16 rfl (lv_at hl 0 rfl) ?_
  refine lv_ishr hx hb dX13_put_17 ?_
  refine lv_i2b (v := (x >>> ((nI 16) &&& 31)).toInt8.toInt32) hx hb dX13_put_18 rfl ?_
  refine n_bast (x2 := (x >>> ((nI 16) &&& 31)).toInt8.toInt32) hx hb hK hG hS 1 (AM_in 1 (by decide)) rfl (by omega) (by decide) (pk_vb _) dX13_put_19 (fun H locs hG hO hS => ?_)
  refine lv_aload_n hx hb dX13_put_20 rfl (lv_at hl 1 rfl) ?_
  refine lv_dup hx hb dX13_put_21 rfl ?_
  refine g_get (v := .int (nI ((tp ++ [byF x 24]).length))) hx hb hts hown hK hG 0 rfl rfl ok_X13 2 (by decide) q1473 rfl (congrArg Value.int hTPT1.2.1) dX13_put_22 ?_
  refine lv_iconst (v := (nI 1)) hx hb dX13_put_25 (by decide) ?_
  refine n_iadd hx hb dX13_put_26 ?_
  refine g_put hx hb hts hown hK hG hS 0 (AM_in 0 (by decide)) rfl rfl ok_X13 2 (by decide) q1473 rfl rfl rfl rfl dX13_put_27 (fun H locs hG hO hS => ?_)
  obtain ⟨VT2, hET2, hTPT2, hG⟩ : ∃ X, Eqx PTp V X ∧ tpM X ((tp ++ [byF x 24]) ++ [byF x 16]) ∧ gP D dA o dM X L Rf H := ⟨_, ((hET1.up rfl).up rfl), tpM_app hTPT1 (by omega), hG⟩
  have hlnT2 : ((tp ++ [byF x 24]) ++ [byF x 16]).length = tp.length + 2 := by simp
  refine lv_iinc (v := (nI 8)) (lv' := [(2, .int (nI 8)), (0, .ref o), (1, .int x)]) hx hb dX13_put_30 hl (k := 0) rfl (by decide) (by decide) rfl (fun ls hl => ?_)
  refine lv_goto (tgt := 3) hx hb dX13_put_33 (by decide) ?_
  refine lv_iload_n hx hb dX13_put_3 rfl (lv_at hl 0 rfl) ?_
  refine n_if_lt (tgt := 36) hx hb dX13_put_4 (by decide) (by decide) ?_
  refine lv_aload_n hx hb dX13_put_7 rfl (lv_at hl 1 rfl) ?_
  refine g_get hx hb hts hown hK hG 0 rfl rfl ok_X13 1 (by decide) q1472 rfl rfl dX13_put_8 ?_
  refine lv_aload_n hx hb dX13_put_11 rfl (lv_at hl 1 rfl) ?_
  refine g_get (v := .int (nI (((tp ++ [byF x 24]) ++ [byF x 16]).length))) hx hb hts hown hK hG 0 rfl rfl ok_X13 2 (by decide) q1473 rfl (congrArg Value.int hTPT2.2.1) dX13_put_12 ?_
  refine lv_iload_n hx hb dX13_put_15 rfl (lv_at hl 2 rfl) ?_
  refine lv_iload_n hx hb dX13_put_16 rfl (lv_at hl 0 rfl) ?_
  refine lv_ishr hx hb dX13_put_17 ?_
  refine lv_i2b (v := (x >>> ((nI 8) &&& 31)).toInt8.toInt32) hx hb dX13_put_18 rfl ?_
  refine n_bast (x2 := (x >>> ((nI 8) &&& 31)).toInt8.toInt32) hx hb hK hG hS 1 (AM_in 1 (by decide)) rfl (by omega) (by decide) (pk_vb _) dX13_put_19 (fun H locs hG hO hS => ?_)
  refine lv_aload_n hx hb dX13_put_20 rfl (lv_at hl 1 rfl) ?_
  refine lv_dup hx hb dX13_put_21 rfl ?_
  refine g_get (v := .int (nI (((tp ++ [byF x 24]) ++ [byF x 16]).length))) hx hb hts hown hK hG 0 rfl rfl ok_X13 2 (by decide) q1473 rfl (congrArg Value.int hTPT2.2.1) dX13_put_22 ?_
  refine lv_iconst (v := (nI 1)) hx hb dX13_put_25 (by decide) ?_
  refine n_iadd hx hb dX13_put_26 ?_
  refine g_put hx hb hts hown hK hG hS 0 (AM_in 0 (by decide)) rfl rfl ok_X13 2 (by decide) q1473 rfl rfl rfl rfl dX13_put_27 (fun H locs hG hO hS => ?_)
  obtain ⟨VT3, hET3, hTPT3, hG⟩ : ∃ X, Eqx PTp V X ∧ tpM X (((tp ++ [byF x 24]) ++ [byF x 16]) ++ [byF x 8]) ∧ gP D dA o dM X L Rf H := ⟨_, ((hET2.up rfl).up rfl), tpM_app hTPT2 (by omega), hG⟩
  have hlnT3 : (((tp ++ [byF x 24]) ++ [byF x 16]) ++ [byF x 8]).length = tp.length + 3 := by simp
  refine lv_iinc (v := (nI 0)) (lv' := [(2, .int (nI 0)), (0, .ref o), (1, .int x)]) hx hb dX13_put_30 hl (k := 0) rfl (by decide) (by decide) rfl (fun ls hl => ?_)
  refine lv_goto (tgt := 3) hx hb dX13_put_33 (by decide) ?_
  refine lv_iload_n hx hb dX13_put_3 rfl (lv_at hl 0 rfl) ?_
  refine n_if_lt (tgt := 36) hx hb dX13_put_4 (by decide) (by decide) ?_
  refine lv_aload_n hx hb dX13_put_7 rfl (lv_at hl 1 rfl) ?_
  refine g_get hx hb hts hown hK hG 0 rfl rfl ok_X13 1 (by decide) q1472 rfl rfl dX13_put_8 ?_
  refine lv_aload_n hx hb dX13_put_11 rfl (lv_at hl 1 rfl) ?_
  refine g_get (v := .int (nI ((((tp ++ [byF x 24]) ++ [byF x 16]) ++ [byF x 8]).length))) hx hb hts hown hK hG 0 rfl rfl ok_X13 2 (by decide) q1473 rfl (congrArg Value.int hTPT3.2.1) dX13_put_12 ?_
  refine lv_iload_n hx hb dX13_put_15 rfl (lv_at hl 2 rfl) ?_
  refine lv_iload_n hx hb dX13_put_16 rfl (lv_at hl 0 rfl) ?_
  refine lv_ishr hx hb dX13_put_17 ?_
  refine lv_i2b (v := (x >>> ((nI 0) &&& 31)).toInt8.toInt32) hx hb dX13_put_18 rfl ?_
  refine n_bast (x2 := (x >>> ((nI 0) &&& 31)).toInt8.toInt32) hx hb hK hG hS 1 (AM_in 1 (by decide)) rfl (by omega) (by decide) (pk_vb _) dX13_put_19 (fun H locs hG hO hS => ?_)
  refine lv_aload_n hx hb dX13_put_20 rfl (lv_at hl 1 rfl) ?_
  refine lv_dup hx hb dX13_put_21 rfl ?_
  refine g_get (v := .int (nI ((((tp ++ [byF x 24]) ++ [byF x 16]) ++ [byF x 8]).length))) hx hb hts hown hK hG 0 rfl rfl ok_X13 2 (by decide) q1473 rfl (congrArg Value.int hTPT3.2.1) dX13_put_22 ?_
  refine lv_iconst (v := (nI 1)) hx hb dX13_put_25 (by decide) ?_
  refine n_iadd hx hb dX13_put_26 ?_
  refine g_put hx hb hts hown hK hG hS 0 (AM_in 0 (by decide)) rfl rfl ok_X13 2 (by decide) q1473 rfl rfl rfl rfl dX13_put_27 (fun H locs hG hO hS => ?_)
  obtain ⟨VT4, hET4, hTPT4, hG⟩ : ∃ X, Eqx PTp V X ∧ tpM X ((((tp ++ [byF x 24]) ++ [byF x 16]) ++ [byF x 8]) ++ [byF x 0]) ∧ gP D dA o dM X L Rf H := ⟨_, ((hET3.up rfl).up rfl), tpM_app hTPT3 (by omega), hG⟩
  have hlnT4 : ((((tp ++ [byF x 24]) ++ [byF x 16]) ++ [byF x 8]) ++ [byF x 0]).length = tp.length + 4 := by simp
  refine lv_iinc (v := (-8)) (lv' := [(2, .int (-8)), (0, .ref o), (1, .int x)]) hx hb dX13_put_30 hl (k := 0) rfl (by decide) (by decide) rfl (fun ls hl => ?_)
  refine lv_goto (tgt := 3) hx hb dX13_put_33 (by decide) ?_
  refine lv_iload_n hx hb dX13_put_3 rfl (lv_at hl 0 rfl) ?_
  refine lv_if_lt (tgt := 36) hx hb dX13_put_4 (by decide) (fun _ => ?_) (fun z => absurd (by decide) z)
  refine hend _ _ _ _ hS dX13_put_36 ?_
  exact ⟨rfl, _, hG, hET4, by simpa [by4] using hTPT4⟩
