theorem psM_to {V V1 : GI} {m t : Nat} {fo : Fo} (h1 : V1 0 11 = V 0 11) (h2 : V1 0 13 = V 0 13) (h3 : V1 0 14 = V 0 14) (h : psM V m t fo) : psM V1 m t fo := ⟨h.1, h1.trans h.2.1, foM_to h2 h3 h.2.2⟩
theorem woM_to {V V1 : GI} {wo : Fo} (h1 : V1 0 15 = V 0 15) (h2 : V1 0 16 = V 0 16) (h : woM V wo) : woM V1 wo := by
  cases wo with
  | none => exact h1.trans h
  | some q => exact ⟨h1.trans h.1, h.2.1, h.2.2.1, h2.trans h.2.2.2.1, h.2.2.2.2⟩
theorem wo_z {V : GI} {wo : Fo} (h : woM V wo) : ∃ wk wp, wk < 10 ∧ V 0 15 = nI wk ∧ (wk = 0 ↔ wo = none) ∧ (¬ wk = 0 → V 0 16 = nI wp) ∧ wp ≤ 2000 ∧ (¬ wk = 0 → wo = some (wk, wp)) := by
  cases wo with
  | none => exact ⟨0, 0, by decide, h, by simp, fun z => absurd rfl z, by decide, fun z => absurd rfl z⟩
  | some q => exact ⟨q.1, q.2, h.2.2.1, h.1, by have := h.2.1; simp; omega, fun _ => h.2.2.2.1, h.2.2.2.2, fun _ => rfl⟩
theorem woP_keep {fo wo : Fo} {ft wk wp k p : Nat} (hfz : ft = 0 ↔ fo = none) (hws : ¬ wk = 0 → wo = some (wk, wp)) (h : ft ≠ 0 ∨ (wk ≠ 0 ∧ (wp < p ∨ p = wp ∧ wk ≤ k))) : woP fo wo k p = wo := by
  rcases h with h | h
  · cases fo with
    | none => exact absurd (hfz.mpr rfl) h
    | some q => rfl
  · obtain rfl := hws h.1
    cases fo with
    | some q => rfl
    | none => exact if_pos h.2
theorem woP_new {fo wo : Fo} {ft wk wp k p : Nat} (hfz : ft = 0 ↔ fo = none) (hwz : wk = 0 ↔ wo = none) (hws : ¬ wk = 0 → wo = some (wk, wp)) (hf : ft = 0) (h : wk = 0 ∨ ¬ (wp < p ∨ p = wp ∧ wk ≤ k)) : woP fo wo k p = some (k, p) := by
  obtain rfl := hfz.mp hf
  by_cases hz : wk = 0
  · obtain rfl := hwz.mp hz; rfl
  · obtain rfl := hws hz
    rcases h with h | h
    · exact absurd h hz
    · exact if_neg h
/-- room for one more: (has, most) -/
def rmP (pl : Nat → Nat) (has most t : Nat) : Nat × Fo := if has = most then (t, some (2, pl t)) else goP pl t none
/-- an int told: the value, the place, the fault, the worst -/
def bdV (kd vl : Nat → Nat) (lo t : Nat) (fo : Fo) : Nat := if isP fo (kd t) 2 = true then vl t else lo
def bdP (kd pl : Nat → Nat) (t : Nat) (fo : Fo) : Nat × Fo := if isP fo (kd t) 2 = true then goP pl t fo else (t, flP fo 1 (pl t))
def bdW (kd pl vl : Nat → Nat) (lo hi t : Nat) (fo wo : Fo) : Fo := if isP fo (kd t) 2 = true ∧ (vl t < lo ∨ hi < vl t) then woP fo wo 5 (pl t) else wo
theorem isP_1 {fo : Fo} {a k ft : Nat} (hfz : ft = 0 ↔ fo = none) (h : isP fo a k = true) : fo = none ∧ a = k ∧ ft = 0 := by
  unfold isP at h
  simp only [Bool.and_eq_true, decide_eq_true_eq, Option.isNone_iff_eq_none] at h
  exact ⟨h.1, h.2, hfz.mpr h.1⟩
set_option maxHeartbeats 4000000 in
theorem met_X13_wrong (l : Launch) (D : va_G) (dA : Nat → ClassId) {o : Nat} {V : GI} {L : GL} {Rf : GR} {H0 : Heap} (hG : gP D dA o dM V L Rf H0) {ch : Nat → Nat} {sz m0 : Nat} (hT : tkOK V L ch sz m0) {t : Nat} {fo : Fo} (hps : psM V m0 t fo) {wo : Fo} (hwo : woM V wo) (k tk : Nat) (hk0 : 0 < k) (hk9 : k < 10) (htk : tk < m0) : Ctr l D dA yX13_wrong cX13_wrong 4 none (mkRm 0 0) [.ref o, .int (nI k), .int (nI tk)] H0 (AM o) (QV (fun H1 => ∃ V1, gP D dA o dM V1 L Rf H1 ∧ Eqx PWo V V1 ∧ woM V1 (woP fo wo k (plF ch sz tk)))) := by
  have hm9 := hT.2.2.1
  refine ctr_V (by decide) (Nat.le_of_ble_eq_true rfl) ?_
  intro p e s m args below meth c ls QQ locs hx hb hml hown hts hK hend hS hl
  have hl : lv_has ls 4 [(0, .ref o), (1, .int (nI k)), (2, .int (nI tk))] := hl
  obtain ⟨ft, hft9, hft, hfz⟩ := fo_z hps.2.2
  have htm := hps.1
  obtain ⟨hk3, hk4, hk5, hk6⟩ := hT.1 t htm
  have hkd9 := kd_lt ch sz t
  have hb3 := (hT.2.2.2.2.2 t htm).1
  have hb5 := (hT.2.2.2.2.2 t htm).2.1
  have htmk := htk
  obtain ⟨hk3k, hk4k, hk5k, hk6k⟩ := hT.1 tk htmk
  have hkd9k := kd_lt ch sz tk
  have hb3k := (hT.2.2.2.2.2 tk htmk).1
  have hb5k := (hT.2.2.2.2.2 tk htmk).2.1
  obtain ⟨wk, wp, hwk9, hwk, hwz, hwp, hwp9, hws⟩ := wo_z hwo
  refine lv_aload_n hx hb dX13_wrong_0 rfl (lv_at hl 0 rfl) ?_
  refine g_get hx hb hts hown hK hG 0 rfl rfl ok_X13 6 (by decide) q1477 rfl rfl dX13_wrong_1 ?_
  refine lv_iload_n hx hb dX13_wrong_4 rfl (lv_at hl 2 rfl) ?_
  refine n_iald hx hb hK hG 4 rfl (by omega) (by decide) dX13_wrong_5 ?_
  refine iv (y := (nI (plF ch sz tk))) hk4k ?_
  refine lv_istore_n (lv' := [(3, .int (nI (plF ch sz tk))), (0, .ref o), (1, .int (nI k)), (2, .int (nI tk))]) hx hb dX13_wrong_6 rfl hl (by decide) rfl (fun ls hl => ?_)
  refine lv_aload_n hx hb dX13_wrong_7 rfl (lv_at hl 1 rfl) ?_
  refine g_get (v := .int (nI ft)) hx hb hts hown hK hG 0 rfl rfl ok_X13 13 (by decide) q1484 rfl (congrArg Value.int hft) dX13_wrong_8 ?_
  refine n_if_gt (tgt := 45) hx hb dX13_wrong_11 (by decide) (by omega) (fun c11 => ?_) (fun c11 => ?_)
  · refine hend _ _ _ _ hS dX13_wrong_45 ?_
    exact ⟨rfl, _, hG, Eqx.rf, by rw [woP_keep (wk := wk) (wp := wp) hfz hws (by omega)]; exact hwo⟩
  refine lv_aload_n hx hb dX13_wrong_14 rfl (lv_at hl 1 rfl) ?_
  refine g_get (v := .int (nI wk)) hx hb hts hown hK hG 0 rfl rfl ok_X13 15 (by decide) q1486 rfl (congrArg Value.int hwk) dX13_wrong_15 ?_
  refine n_if_eq (tgt := 46) hx hb dX13_wrong_18 (by decide) (by omega) (fun c18 => ?_) (fun c18 => ?_)
  · refine lv_aload_n hx hb dX13_wrong_46 rfl (lv_at hl 1 rfl) ?_
    refine lv_iload_n hx hb dX13_wrong_47 rfl (lv_at hl 2 rfl) ?_
    refine g_put hx hb hts hown hK hG hS 0 (AM_in 0 (by decide)) rfl rfl ok_X13 15 (by decide) q1486 rfl rfl rfl rfl dX13_wrong_48 (fun H locs hG hO hS => ?_)
    refine lv_aload_n hx hb dX13_wrong_51 rfl (lv_at hl 1 rfl) ?_
    refine lv_iload_n hx hb dX13_wrong_52 rfl (lv_at hl 0 rfl) ?_
    refine g_put hx hb hts hown hK hG hS 0 (AM_in 0 (by decide)) rfl rfl ok_X13 16 (by decide) q1487 rfl rfl rfl rfl dX13_wrong_53 (fun H locs hG hO hS => ?_)
    refine hend _ _ _ _ hS dX13_wrong_56 ?_
    exact ⟨rfl, _, hG, ((Eqx.rf.up rfl).up rfl), by rw [woP_new (wk := wk) (wp := wp) hfz hwz hws (by omega) (by omega)]; exact ⟨rfl, hk0, hk9, rfl, hb3k⟩⟩
  refine lv_iload_n hx hb dX13_wrong_21 rfl (lv_at hl 0 rfl) ?_
  refine lv_aload_n hx hb dX13_wrong_22 rfl (lv_at hl 1 rfl) ?_
  refine g_get (v := .int (nI wp)) hx hb hts hown hK hG 0 rfl rfl ok_X13 16 (by decide) q1487 rfl (congrArg Value.int (hwp (by omega))) dX13_wrong_23 ?_
  refine n_icmp_gt (tgt := 45) hx hb dX13_wrong_26 (by decide) (by omega) (by omega) (fun c26 => ?_) (fun c26 => ?_)
  · refine hend _ _ _ _ hS dX13_wrong_45 ?_
    exact ⟨rfl, _, hG, Eqx.rf, by rw [woP_keep (wk := wk) (wp := wp) hfz hws (by omega)]; exact hwo⟩
  refine lv_iload_n hx hb dX13_wrong_29 rfl (lv_at hl 0 rfl) ?_
  refine lv_aload_n hx hb dX13_wrong_30 rfl (lv_at hl 1 rfl) ?_
  refine g_get (v := .int (nI wp)) hx hb hts hown hK hG 0 rfl rfl ok_X13 16 (by decide) q1487 rfl (congrArg Value.int (hwp (by omega))) dX13_wrong_31 ?_
  refine n_icmp_ne (tgt := 46) hx hb dX13_wrong_34 (by decide) (by omega) (by omega) (fun c34 => ?_) (fun c34 => ?_)
  · refine lv_aload_n hx hb dX13_wrong_46 rfl (lv_at hl 1 rfl) ?_
    refine lv_iload_n hx hb dX13_wrong_47 rfl (lv_at hl 2 rfl) ?_
    refine g_put hx hb hts hown hK hG hS 0 (AM_in 0 (by decide)) rfl rfl ok_X13 15 (by decide) q1486 rfl rfl rfl rfl dX13_wrong_48 (fun H locs hG hO hS => ?_)
    refine lv_aload_n hx hb dX13_wrong_51 rfl (lv_at hl 1 rfl) ?_
    refine lv_iload_n hx hb dX13_wrong_52 rfl (lv_at hl 0 rfl) ?_
    refine g_put hx hb hts hown hK hG hS 0 (AM_in 0 (by decide)) rfl rfl ok_X13 16 (by decide) q1487 rfl rfl rfl rfl dX13_wrong_53 (fun H locs hG hO hS => ?_)
    refine hend _ _ _ _ hS dX13_wrong_56 ?_
    exact ⟨rfl, _, hG, ((Eqx.rf.up rfl).up rfl), by rw [woP_new (wk := wk) (wp := wp) hfz hwz hws (by omega) (by omega)]; exact ⟨rfl, hk0, hk9, rfl, hb3k⟩⟩
  refine lv_iload_n hx hb dX13_wrong_37 rfl (lv_at hl 2 rfl) ?_
  refine lv_aload_n hx hb dX13_wrong_38 rfl (lv_at hl 1 rfl) ?_
  refine g_get (v := .int (nI wk)) hx hb hts hown hK hG 0 rfl rfl ok_X13 15 (by decide) q1486 rfl (congrArg Value.int hwk) dX13_wrong_39 ?_
  refine n_icmp_lt (tgt := 46) hx hb dX13_wrong_42 (by decide) (by omega) (by omega) (fun c42 => ?_) (fun c42 => ?_)
  · refine lv_aload_n hx hb dX13_wrong_46 rfl (lv_at hl 1 rfl) ?_
    refine lv_iload_n hx hb dX13_wrong_47 rfl (lv_at hl 2 rfl) ?_
    refine g_put hx hb hts hown hK hG hS 0 (AM_in 0 (by decide)) rfl rfl ok_X13 15 (by decide) q1486 rfl rfl rfl rfl dX13_wrong_48 (fun H locs hG hO hS => ?_)
    refine lv_aload_n hx hb dX13_wrong_51 rfl (lv_at hl 1 rfl) ?_
    refine lv_iload_n hx hb dX13_wrong_52 rfl (lv_at hl 0 rfl) ?_
    refine g_put hx hb hts hown hK hG hS 0 (AM_in 0 (by decide)) rfl rfl ok_X13 16 (by decide) q1487 rfl rfl rfl rfl dX13_wrong_53 (fun H locs hG hO hS => ?_)
    refine hend _ _ _ _ hS dX13_wrong_56 ?_
    exact ⟨rfl, _, hG, ((Eqx.rf.up rfl).up rfl), by rw [woP_new (wk := wk) (wp := wp) hfz hwz hws (by omega) (by omega)]; exact ⟨rfl, hk0, hk9, rfl, hb3k⟩⟩
  refine hend _ _ _ _ hS dX13_wrong_45 ?_
  exact ⟨rfl, _, hG, Eqx.rf, by rw [woP_keep (wk := wk) (wp := wp) hfz hws (by omega)]; exact hwo⟩
set_option maxHeartbeats 4000000 in
theorem met_X13_roomFor (l : Launch) (D : va_G) (dA : Nat → ClassId) {o : Nat} {V : GI} {L : GL} {Rf : GR} {H0 : Heap} (hG : gP D dA o dM V L Rf H0) {ch : Nat → Nat} {sz m0 : Nat} (hT : tkOK V L ch sz m0) {t : Nat} (hps : psM V m0 t none) (hnz : kdF ch sz t ≠ 0) (has most : Nat) (hh : has < 1000) (hm : most < 1000) : Ctr l D dA yX13_roomFor cX13_roomFor 3 none (mkRm 2 41) [.ref o, .int (nI has), .int (nI most)] H0 (AM o) (QV (fun H1 => ∃ V1, gP D dA o dM V1 L Rf H1 ∧ Eqx PGo V V1 ∧ psM V1 m0 (rmP (plF ch sz) has most t).1 (rmP (plF ch sz) has most t).2)) := by
  have hm9 := hT.2.2.1
  refine ctr_V (by decide) (Nat.le_of_ble_eq_true rfl) ?_
  intro p e s m args below meth c ls QQ locs hx hb hml hown hts hK hend hS hl
  have hl : lv_has ls 3 [(0, .ref o), (1, .int (nI has)), (2, .int (nI most))] := hl
  generalize hfo : (none : Fo) = fo at hps
  obtain ⟨ft, hft9, hft, hfz⟩ := fo_z hps.2.2
  have htm := hps.1
  obtain ⟨hk3, hk4, hk5, hk6⟩ := hT.1 t htm
  have hkd9 := kd_lt ch sz t
  have hb3 := (hT.2.2.2.2.2 t htm).1
  have hb5 := (hT.2.2.2.2.2 t htm).2.1
  refine lv_iload_n hx hb dX13_roomFor_0 rfl (lv_at hl 1 rfl) ?_
  refine lv_iload_n hx hb dX13_roomFor_1 rfl (lv_at hl 2 rfl) ?_
  refine n_icmp_ne (tgt := 10) hx hb dX13_roomFor_2 (by decide) (by omega) (by omega) (fun c2 => ?_) (fun c2 => ?_)
  · refine lv_aload_n hx hb dX13_roomFor_10 rfl (lv_at hl 0 rfl) ?_
    refine g_get (v := .int (nI ft)) hx hb hts hown hK hG 0 rfl rfl ok_X13 13 (by decide) q1484 rfl (congrArg Value.int hft) dX13_roomFor_11 ?_
    refine n_if_ne (tgt := 21) hx hb dX13_roomFor_14 (by decide) (by omega) (fun c14 => ?_) (fun c14 => ?_)
    · refine hend _ _ _ _ hS dX13_roomFor_21 ?_
      exact absurd (hfz.mpr hfo.symm) (by omega)
    refine lv_aload_n hx hb dX13_roomFor_17 rfl (lv_at hl 0 rfl) ?_
    refine c_VV hx hb hml hts hown hK hl.1 hS ⟨Nat.le_refl _, Nat.le_refl _⟩ (met_X13_goesOn l D dA hG hT hps (by omega)) (cw_X13_221 hts ⟨by decide, by decide⟩) (hG 0 _ rfl) rfl rfl rfl rfl (Nat.le_of_ble_eq_true rfl) dX13_roomFor_18 (fun _ h => h) (fun H1 locs hq hF hS => ?_)
    obtain ⟨V1, hG, hE1, hps1⟩ := hq
    generalize hHe1 : H1 = H at hG hS ⊢
    clear hHe1
    obtain ⟨t1, fo1, he1⟩ : ∃ a b, goP (plF ch sz) t fo = (a, b) := ⟨_, _, rfl⟩
    replace hps1 : psM V1 m0 t1 fo1 := by rw [he1] at hps1; exact hps1
    obtain ⟨ft1, hft91, hft1, hfz1⟩ := fo_z hps1.2.2
    have htm1 := hps1.1
    obtain ⟨hk31, hk41, hk51, hk61⟩ := hT.1 t1 htm1
    have hkd91 := kd_lt ch sz t1
    have hb31 := (hT.2.2.2.2.2 t1 htm1).1
    have hb51 := (hT.2.2.2.2.2 t1 htm1).2.1
    refine hend _ _ _ _ hS dX13_roomFor_21 ?_
    have hR : rmP (plF ch sz) has most t = (t1, fo1) := by
      unfold rmP; rw [if_neg c2, hfo]; exact he1
    exact ⟨rfl, _, hG, hE1, by rw [hR]; exact hps1⟩
  refine lv_aload_n hx hb dX13_roomFor_5 rfl (lv_at hl 0 rfl) ?_
  refine lv_iconst (v := (nI 2)) hx hb dX13_roomFor_6 (by decide) ?_
  refine c_VV hx hb hml hts hown hK hl.1 hS ⟨Nat.le_refl _, Nat.le_refl _⟩ (met_X13_fail l D dA hG hT hps 2 (by omega) (by omega)) (cw_X13_215 hts ⟨by decide, by decide⟩) (hG 0 _ rfl) rfl rfl rfl rfl (Nat.le_of_ble_eq_true rfl) dX13_roomFor_7 (fun _ h => h) (fun H1 locs hq hF hS => ?_)
  obtain ⟨V2, hG, hE2, hps2⟩ := hq
  generalize hHe2 : H1 = H at hG hS ⊢
  clear hHe2
  obtain ⟨fo2, he2⟩ : ∃ a, flP fo 2 (plF ch sz t) = a := ⟨_, rfl⟩
  replace hps2 : psM V2 m0 t fo2 := by rw [he2] at hps2; exact hps2
  obtain ⟨ft2, hft92, hft2, hfz2⟩ := fo_z hps2.2.2
  have htm2 := hps2.1
  obtain ⟨hk32, hk42, hk52, hk62⟩ := hT.1 t htm2
  have hkd92 := kd_lt ch sz t
  have hb32 := (hT.2.2.2.2.2 t htm2).1
  have hb52 := (hT.2.2.2.2.2 t htm2).2.1
  refine lv_aload_n hx hb dX13_roomFor_10 rfl (lv_at hl 0 rfl) ?_
  refine g_get (v := .int (nI ft2)) hx hb hts hown hK hG 0 rfl rfl ok_X13 13 (by decide) q1484 rfl (congrArg Value.int hft2) dX13_roomFor_11 ?_
  refine n_if_ne (tgt := 21) hx hb dX13_roomFor_14 (by decide) (by omega) (fun c14 => ?_) (fun c14 => ?_)
  · refine hend _ _ _ _ hS dX13_roomFor_21 ?_
    have hR : rmP (plF ch sz) has most t = (t, fo2) := by
      unfold rmP; rw [if_pos (by omega), ← he2, ← hfo]; rfl
    exact ⟨rfl, _, hG, (hE2.mono PFl_PGo), by rw [hR]; exact hps2⟩
  refine lv_aload_n hx hb dX13_roomFor_17 rfl (lv_at hl 0 rfl) ?_
  refine c_VV hx hb hml hts hown hK hl.1 hS ⟨Nat.le_refl _, Nat.le_refl _⟩ (met_X13_goesOn l D dA hG (tkOK_to (V := V) (fun j => (hE2 3 j rfl)) (fun j => (hE2 4 j rfl)) (fun j => (hE2 5 j rfl)) hT) hps2 (by omega)) (cw_X13_221 hts ⟨by decide, by decide⟩) (hG 0 _ rfl) rfl rfl rfl rfl (Nat.le_of_ble_eq_true rfl) dX13_roomFor_18 (fun _ h => h) (fun H1 locs hq hF hS => ?_)
  obtain ⟨V3, hG, hE3, hps3⟩ := hq
  generalize hHe3 : H1 = H at hG hS ⊢
  clear hHe3
  obtain ⟨t3, fo3, he3⟩ : ∃ a b, goP (plF ch sz) t fo2 = (a, b) := ⟨_, _, rfl⟩
  replace hps3 : psM V3 m0 t3 fo3 := by rw [he3] at hps3; exact hps3
  obtain ⟨ft3, hft93, hft3, hfz3⟩ := fo_z hps3.2.2
  have htm3 := hps3.1
  obtain ⟨hk33, hk43, hk53, hk63⟩ := hT.1 t3 htm3
  have hkd93 := kd_lt ch sz t3
  have hb33 := (hT.2.2.2.2.2 t3 htm3).1
  have hb53 := (hT.2.2.2.2.2 t3 htm3).2.1
  refine hend _ _ _ _ hS dX13_roomFor_21 ?_
  exfalso
  have hz := hfz2.mp (by omega)
  rw [hz, ← hfo] at he2
  cases he2
set_option maxHeartbeats 4000000 in
theorem met_X13_emit (l : Launch) (D : va_G) (dA : Nat → ClassId) {o : Nat} {V : GI} {L : GL} {Rf : GR} {H0 : Heap} (hG : gP D dA o dM V L Rf H0) (cc : Nat) (hcc : cc < 840) (h39 : V 0 39 = nI cc) (k : Nat) (v : Int32) : Ctr l D dA yX13_emit cX13_emit 3 none (mkRm 0 0) [.ref o, .int (nI k), .int v] H0 (AM o) (QV (fun H1 => gP D dA o dM (up2 (up2 (up2 V 25 cc (nI k)) 26 cc v) 0 39 (nI (cc + 1))) L Rf H1)) := by
  refine ctr_V (by decide) (Nat.le_of_ble_eq_true rfl) ?_
  intro p e s m args below meth c ls QQ locs hx hb hml hown hts hK hend hS hl
  have hl : lv_has ls 3 [(0, .ref o), (1, .int (nI k)), (2, .int v)] := hl
  refine lv_aload_n hx hb dX13_emit_0 rfl (lv_at hl 0 rfl) ?_
  refine g_get hx hb hts hown hK hG 0 rfl rfl ok_X13 40 (by decide) q1511 rfl rfl dX13_emit_1 ?_
  refine lv_aload_n hx hb dX13_emit_4 rfl (lv_at hl 0 rfl) ?_
  refine g_get (v := .int (nI cc)) hx hb hts hown hK hG 0 rfl rfl ok_X13 39 (by decide) q1510 rfl (congrArg Value.int h39) dX13_emit_5 ?_
  refine lv_iload_n hx hb dX13_emit_8 rfl (lv_at hl 1 rfl) ?_
  refine n_iast hx hb hK hG hS 25 (AM_in 25 (by decide)) rfl (by omega) (by decide) dX13_emit_9 (fun H locs hG hO hS => ?_)
  refine lv_aload_n hx hb dX13_emit_10 rfl (lv_at hl 0 rfl) ?_
  refine g_get hx hb hts hown hK hG 0 rfl rfl ok_X13 41 (by decide) q1512 rfl rfl dX13_emit_11 ?_
  refine lv_aload_n hx hb dX13_emit_14 rfl (lv_at hl 0 rfl) ?_
  refine g_get (v := .int (nI cc)) hx hb hts hown hK hG 0 rfl rfl ok_X13 39 (by decide) q1510 rfl (congrArg Value.int h39) dX13_emit_15 ?_
  refine lv_iload_n hx hb dX13_emit_18 rfl (lv_at hl 2 rfl) ?_
  refine n_iast hx hb hK hG hS 26 (AM_in 26 (by decide)) rfl (by omega) (by decide) dX13_emit_19 (fun H locs hG hO hS => ?_)
  refine lv_aload_n hx hb dX13_emit_20 rfl (lv_at hl 0 rfl) ?_
  refine lv_dup hx hb dX13_emit_21 rfl ?_
  refine g_get (v := .int (nI cc)) hx hb hts hown hK hG 0 rfl rfl ok_X13 39 (by decide) q1510 rfl (congrArg Value.int h39) dX13_emit_22 ?_
  refine lv_iconst (v := (nI 1)) hx hb dX13_emit_25 (by decide) ?_
  refine n_iadd hx hb dX13_emit_26 ?_
  refine g_put hx hb hts hown hK hG hS 0 (AM_in 0 (by decide)) rfl rfl ok_X13 39 (by decide) q1510 rfl rfl rfl rfl dX13_emit_27 (fun H locs hG hO hS => ?_)
  refine hend _ _ _ _ hS dX13_emit_30 ?_
  exact ⟨rfl, hG⟩
