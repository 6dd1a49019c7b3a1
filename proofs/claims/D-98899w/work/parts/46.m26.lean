def PFl (k j : Nat) : Bool := (k == 0 && (j == 13 || j == 14))
def PGo (k j : Nat) : Bool := (k == 0 && (j == 11 || j == 13 || j == 14))
def PWo (k j : Nat) : Bool := (k == 0 && (j == 15 || j == 16))
def PBd (k j : Nat) : Bool := (k == 0 && (j == 11 || j == 13 || j == 14 || j == 15 || j == 16))
def PEm (k j : Nat) : Bool := k == 25 || k == 26 || (k == 0 && (j == 39))
theorem PFl_PGo : ∀ k j, PGo k j = false → PFl k j = false := by intro k j h; simp only [PFl, PGo, Bool.or_eq_false_iff, Bool.and_eq_false_iff, beq_eq_false_iff_ne, ne_eq] at *; omega
theorem PFl_PBd : ∀ k j, PBd k j = false → PFl k j = false := by intro k j h; simp only [PFl, PBd, Bool.or_eq_false_iff, Bool.and_eq_false_iff, beq_eq_false_iff_ne, ne_eq] at *; omega
theorem PGo_PBd : ∀ k j, PBd k j = false → PGo k j = false := by intro k j h; simp only [PGo, PBd, Bool.or_eq_false_iff, Bool.and_eq_false_iff, beq_eq_false_iff_ne, ne_eq] at *; omega
theorem PWo_PBd : ∀ k j, PBd k j = false → PWo k j = false := by intro k j h; simp only [PWo, PBd, Bool.or_eq_false_iff, Bool.and_eq_false_iff, beq_eq_false_iff_ne, ne_eq] at *; omega
/-! the reader's state: where it stands, its fault, its worst -/
abbrev Fo : Type := Option (Nat × Nat)
def tkOK (V : GI) (L : GL) (ch : Nat → Nat) (sz m : Nat) : Prop := tkM V L ch sz m ∧ 0 < m ∧ m ≤ 401 ∧ (∀ j, j + 1 < m → kdF ch sz j ≠ 0) ∧ (m = 401 ∨ kdF ch sz (m - 1) = 0) ∧ ∀ j, j < m → plF ch sz j ≤ 2000 ∧ vlF ch sz j < 16777216 ∧ nmF ch sz j < 2 ^ 62
theorem tk_next {V : GI} {L : GL} {ch : Nat → Nat} {sz m t : Nat} (h : tkOK V L ch sz m) (ht : t < m) (hk : kdF ch sz t ≠ 0) (h4 : t ≠ 400) : t + 1 < m := by
  apply Classical.byContradiction
  intro hn
  have e : m - 1 = t := by omega
  rcases h.2.2.2.2.1 with h1 | h1
  · omega
  · rw [e] at h1; exact hk h1
def foM (V : GI) : Fo → Prop
  | none => V 0 13 = nI 0
  | some q => V 0 13 = nI q.1 ∧ 0 < q.1 ∧ q.1 < 10 ∧ V 0 14 = nI q.2
def woM (V : GI) : Fo → Prop
  | none => V 0 15 = nI 0
  | some q => V 0 15 = nI q.1 ∧ 0 < q.1 ∧ q.1 < 10 ∧ V 0 16 = nI q.2 ∧ q.2 ≤ 2000
def psM (V : GI) (m t : Nat) (fo : Fo) : Prop := t < m ∧ V 0 11 = nI t ∧ foM V fo
def isP (fo : Fo) (a k : Nat) : Bool := fo.isNone && decide (a = k)
def flP (fo : Fo) (n p : Nat) : Fo := match fo with
  | none => some (n, p)
  | some q => some q
/-- going on from t: the new place, the new fault -/
def goP (pl : Nat → Nat) (t : Nat) (fo : Fo) : Nat × Fo := if t = 400 then (t, flP fo 2 (pl t)) else (t + 1, fo)
def muP (kd pl : Nat → Nat) (k t : Nat) (fo : Fo) : Nat × Fo := if isP fo (kd t) k = true then goP pl t fo else (t, flP fo 1 (pl t))
def woP (fo wo : Fo) (k p : Nat) : Fo := if fo.isSome = true then wo else match wo with
  | none => some (k, p)
  | some q => if q.2 < p ∨ (p = q.2 ∧ q.1 ≤ k) then some q else some (k, p)
theorem foM_to {V V1 : GI} {fo : Fo} (h1 : V1 0 13 = V 0 13) (h2 : V1 0 14 = V 0 14) (h : foM V fo) : foM V1 fo := by
  cases fo with
  | none => exact h1.trans h
  | some q => exact ⟨h1.trans h.1, h.2.1, h.2.2.1, h2.trans h.2.2.2⟩
theorem kd_lt (ch : Nat → Nat) (sz k : Nat) : kdF ch sz k < 100 := by
  have hl : ∀ p, (lxF ch sz p).1 < 100 := by
    intro p
    unfold lxF
    by_cases h1 : isL (ch p) = true
    · rw [if_pos h1]
      have h3 := (kwF_pos (nmN ch p (rnN isL ch (sz - p) p)) 21).2
      show (if 8 < rnN isL ch (sz - p) p then 3 else kwF (nmN ch p (rnN isL ch (sz - p) p)) 21) < 100
      generalize kwF (nmN ch p (rnN isL ch (sz - p) p)) 21 = z at h3 ⊢
      split <;> omega
    · rw [if_neg h1]
      by_cases h2 : isD (ch p) = true
      · rw [if_pos h2]
        show (if _ then 3 else 2) < 100
        split <;> omega
      · rw [if_neg h2]
        exact Nat.lt_trans (sgK_pos _).2 (by decide)
  unfold kdF tkF
  split
  · show (0:Nat) < 100; decide
  · exact hl _
theorem fo_z {V : GI} {fo : Fo} (h : foM V fo) : ∃ n, n < 10 ∧ V 0 13 = nI n ∧ (n = 0 ↔ fo = none) := by
  cases fo with
  | none => exact ⟨0, by decide, h, by simp⟩
  | some q => exact ⟨q.1, h.2.2.1, h.1, by have := h.2.1; simp; omega⟩
theorem tkOK_to {V V1 : GI} {L : GL} {ch : Nat → Nat} {sz m : Nat} (h3 : ∀ j, V1 3 j = V 3 j) (h4 : ∀ j, V1 4 j = V 4 j) (h5 : ∀ j, V1 5 j = V 5 j) (h : tkOK V L ch sz m) : tkOK V1 L ch sz m :=
  ⟨fun j hj => by obtain ⟨a, b, c, d⟩ := h.1 j hj; exact ⟨(h3 j).trans a, (h4 j).trans b, (h5 j).trans c, d⟩, h.2⟩
set_option maxHeartbeats 4000000 in
theorem met_X13_is (l : Launch) (D : va_G) (dA : Nat → ClassId) {o : Nat} {V : GI} {L : GL} {Rf : GR} {H0 : Heap} (hG : gP D dA o dM V L Rf H0) {ch : Nat → Nat} {sz m0 : Nat} (hT : tkOK V L ch sz m0) {t : Nat} {fo : Fo} (hps : psM V m0 t fo) (k : Nat) (hk9 : k < 1000) : Ctr l D dA yX13_is cX13_is 2 (some .boolean) (mkRm 0 0) [.ref o, .int (nI k)] H0 A0 (QI (fun r H1 => H0 = H1 ∧ r = nI (bN (isP fo (kdF ch sz t) k)))) := by
  have htm := hps.1
  have h11 := hps.2.1
  have hm9 := hT.2.2.1
  obtain ⟨ft, hft9, hft, hfz⟩ := fo_z hps.2.2
  obtain ⟨hk3, hk4, hk5, hk6⟩ := hT.1 t htm
  have hkd9 := kd_lt ch sz t
  refine ctr_Z (by decide) (Nat.le_of_ble_eq_true rfl) ?_
  intro p e s m args below meth c ls QQ locs hx hb hml hown hts hK hend hS hl
  have hl : lv_has ls 2 [(0, .ref o), (1, .int (nI k))] := hl
  refine lv_aload_n hx hb dX13_is_0 rfl (lv_at hl 0 rfl) ?_
  refine g_get (v := .int (nI ft)) hx hb hts hown hK hG 0 rfl rfl ok_X13 13 (by decide) q1484 rfl (congrArg Value.int hft) dX13_is_1 ?_
  refine n_if_ne (tgt := 24) hx hb dX13_is_4 (by decide) (by omega) (fun c4 => ?_) (fun c4 => ?_)
  · refine lv_iconst (v := (nI 0)) hx hb dX13_is_24 (by decide) ?_
    refine hend _ _ _ _ _ hS dX13_is_25 (by decide) ?_
    exact ⟨_, rfl, rfl, congrArg nI (by
      cases fo with
      | none => first | (simp [isP, bN]; exact c17) | (have := hfz.mpr rfl; omega)
      | some q => rfl)⟩
  refine lv_aload_n hx hb dX13_is_7 rfl (lv_at hl 0 rfl) ?_
  refine g_get hx hb hts hown hK hG 0 rfl rfl ok_X13 5 (by decide) q1476 rfl rfl dX13_is_8 ?_
  refine lv_aload_n hx hb dX13_is_11 rfl (lv_at hl 0 rfl) ?_
  refine g_get (v := .int (nI t)) hx hb hts hown hK hG 0 rfl rfl ok_X13 11 (by decide) q1482 rfl (congrArg Value.int h11) dX13_is_12 ?_
  refine n_iald hx hb hK hG 3 rfl (by omega) (by decide) dX13_is_15 ?_
  refine iv (y := (nI (kdF ch sz t))) hk3 ?_
  refine lv_iload_n hx hb dX13_is_16 rfl (lv_at hl 1 rfl) ?_
  refine n_icmp_ne (tgt := 24) hx hb dX13_is_17 (by decide) (by omega) (by omega) (fun c17 => ?_) (fun c17 => ?_)
  · refine lv_iconst (v := (nI 0)) hx hb dX13_is_24 (by decide) ?_
    refine hend _ _ _ _ _ hS dX13_is_25 (by decide) ?_
    exact ⟨_, rfl, rfl, congrArg nI (by
      cases fo with
      | none => first | (simp [isP, bN]; exact c17) | (have := hfz.mpr rfl; omega)
      | some q => rfl)⟩
  refine lv_iconst (v := (nI 1)) hx hb dX13_is_20 (by decide) ?_
  refine lv_goto (tgt := 25) hx hb dX13_is_21 (by decide) ?_
  refine hend _ _ _ _ _ hS dX13_is_25 (by decide) ?_
  exact ⟨_, rfl, rfl, congrArg nI (by
    cases fo with
    | none => simp [isP, bN, c17]
    | some q => have := (hfz.mp c4); cases this)⟩
set_option maxHeartbeats 4000000 in
theorem met_X13_fail (l : Launch) (D : va_G) (dA : Nat → ClassId) {o : Nat} {V : GI} {L : GL} {Rf : GR} {H0 : Heap} (hG : gP D dA o dM V L Rf H0) {ch : Nat → Nat} {sz m0 : Nat} (hT : tkOK V L ch sz m0) {t : Nat} {fo : Fo} (hps : psM V m0 t fo) (k : Nat) (hk0 : 0 < k) (hk9 : k < 10) : Ctr l D dA yX13_fail cX13_fail 2 none (mkRm 0 0) [.ref o, .int (nI k)] H0 (AM o) (QV (fun H1 => ∃ V1, gP D dA o dM V1 L Rf H1 ∧ Eqx PFl V V1 ∧ psM V1 m0 t (flP fo k (plF ch sz t)))) := by
  have htm := hps.1
  have h11 := hps.2.1
  have hm9 := hT.2.2.1
  obtain ⟨ft, hft9, hft, hfz⟩ := fo_z hps.2.2
  obtain ⟨hk3, hk4, hk5, hk6⟩ := hT.1 t htm
  have hkd9 := kd_lt ch sz t
  refine ctr_V (by decide) (Nat.le_of_ble_eq_true rfl) ?_
  intro p e s m args below meth c ls QQ locs hx hb hml hown hts hK hend hS hl
  have hl : lv_has ls 2 [(0, .ref o), (1, .int (nI k))] := hl
  refine lv_aload_n hx hb dX13_fail_0 rfl (lv_at hl 0 rfl) ?_
  refine g_get (v := .int (nI ft)) hx hb hts hown hK hG 0 rfl rfl ok_X13 13 (by decide) q1484 rfl (congrArg Value.int hft) dX13_fail_1 ?_
  refine n_if_le (tgt := 8) hx hb dX13_fail_4 (by decide) (by omega) (fun c4 => ?_) (fun c4 => ?_)
  · refine lv_aload_n hx hb dX13_fail_8 rfl (lv_at hl 0 rfl) ?_
    refine lv_iload_n hx hb dX13_fail_9 rfl (lv_at hl 1 rfl) ?_
    refine g_put hx hb hts hown hK hG hS 0 (AM_in 0 (by decide)) rfl rfl ok_X13 13 (by decide) q1484 rfl rfl rfl rfl dX13_fail_10 (fun H locs hG hO hS => ?_)
    refine lv_aload_n hx hb dX13_fail_13 rfl (lv_at hl 0 rfl) ?_
    refine lv_aload_n hx hb dX13_fail_14 rfl (lv_at hl 0 rfl) ?_
    refine g_get hx hb hts hown hK hG 0 rfl rfl ok_X13 6 (by decide) q1477 rfl rfl dX13_fail_15 ?_
    refine lv_aload_n hx hb dX13_fail_18 rfl (lv_at hl 0 rfl) ?_
    refine g_get (v := .int (nI t)) hx hb hts hown hK hG 0 rfl rfl ok_X13 11 (by decide) q1482 rfl (congrArg Value.int h11) dX13_fail_19 ?_
    refine n_iald hx hb hK hG 4 rfl (by omega) (by decide) dX13_fail_22 ?_
    refine iv (y := (nI (plF ch sz t))) hk4 ?_
    refine g_put hx hb hts hown hK hG hS 0 (AM_in 0 (by decide)) rfl rfl ok_X13 14 (by decide) q1485 rfl rfl rfl rfl dX13_fail_23 (fun H locs hG hO hS => ?_)
    refine hend _ _ _ _ hS dX13_fail_26 ?_
    obtain rfl : fo = none := hfz.mp c4
    exact ⟨rfl, _, hG, ((Eqx.rf.up rfl).up rfl), hps.1, h11, ⟨(show up2 (up2 V 0 13 (nI k)) 0 14 _ 0 13 = _ from rfl), hk0, hk9, rfl⟩⟩
  refine hend _ _ _ _ hS dX13_fail_7 ?_
  obtain ⟨q, rfl⟩ : ∃ q, fo = some q := by
    cases fo with
    | none => have := hfz.mpr rfl; omega
    | some q => exact ⟨q, rfl⟩
  exact ⟨rfl, _, hG, Eqx.rf, hps.1, hps.2.1, hps.2.2⟩
theorem cw_X13_215 {R : Room} {s : State} {args : Array Value} (hts : ∀ w ∈ lw_all, w.before args s = true) {f w k j : Nat} (hR : f + 1 ≤ R.frames ∧ 8 + (2 + 11) + w ≤ R.locals) : CallW R s args RX13 RX13 215 yX13_fail cX13_fail 2 none (ws_ yX13_fail cX13_fail 2 none) (mkRmC f w k j) k j 1 := cwV 1 hts (lw_V q1718 q1720 qs59 q129 q1721) rfl rfl rfl (by decide +kernel) hR
set_option maxHeartbeats 4000000 in
theorem met_X13_goesOn (l : Launch) (D : va_G) (dA : Nat → ClassId) {o : Nat} {V : GI} {L : GL} {Rf : GR} {H0 : Heap} (hG : gP D dA o dM V L Rf H0) {ch : Nat → Nat} {sz m0 : Nat} (hT : tkOK V L ch sz m0) {t : Nat} {fo : Fo} (hps : psM V m0 t fo) (hnz : kdF ch sz t ≠ 0) : Ctr l D dA yX13_goesOn cX13_goesOn 1 none (mkRm 1 21) [.ref o] H0 (AM o) (QV (fun H1 => ∃ V1, gP D dA o dM V1 L Rf H1 ∧ Eqx PGo V V1 ∧ psM V1 m0 (goP (plF ch sz) t fo).1 (goP (plF ch sz) t fo).2)) := by
  have htm := hps.1
  have h11 := hps.2.1
  have hm9 := hT.2.2.1
  obtain ⟨ft, hft9, hft, hfz⟩ := fo_z hps.2.2
  obtain ⟨hk3, hk4, hk5, hk6⟩ := hT.1 t htm
  have hkd9 := kd_lt ch sz t
  refine ctr_V (by decide) (Nat.le_of_ble_eq_true rfl) ?_
  intro p e s m args below meth c ls QQ locs hx hb hml hown hts hK hend hS hl
  have hl : lv_has ls 1 [(0, .ref o)] := hl
  refine lv_aload_n hx hb dX13_goesOn_0 rfl (lv_at hl 0 rfl) ?_
  refine g_get (v := .int (nI t)) hx hb hts hown hK hG 0 rfl rfl ok_X13 11 (by decide) q1482 rfl (congrArg Value.int h11) dX13_goesOn_1 ?_
  refine lv_sipush (v := (nI 400)) hx hb dX13_goesOn_4 (by decide) ?_
  refine n_icmp_ne (tgt := 18) hx hb dX13_goesOn_7 (by decide) (by omega) (by omega) (fun c7 => ?_) (fun c7 => ?_)
  · refine lv_aload_n hx hb dX13_goesOn_18 rfl (lv_at hl 0 rfl) ?_
    refine lv_dup hx hb dX13_goesOn_19 rfl ?_
    refine g_get (v := .int (nI t)) hx hb hts hown hK hG 0 rfl rfl ok_X13 11 (by decide) q1482 rfl (congrArg Value.int h11) dX13_goesOn_20 ?_
    refine lv_iconst (v := (nI 1)) hx hb dX13_goesOn_23 (by decide) ?_
    refine n_iadd hx hb dX13_goesOn_24 ?_
    refine g_put hx hb hts hown hK hG hS 0 (AM_in 0 (by decide)) rfl rfl ok_X13 11 (by decide) q1482 rfl rfl rfl rfl dX13_goesOn_25 (fun H locs hG hO hS => ?_)
    refine hend _ _ _ _ hS dX13_goesOn_28 ?_
    have hnx := tk_next hT htm hnz c7
    exact ⟨rfl, _, hG, (Eqx.rf.up rfl), by unfold goP; rw [if_neg c7]; exact ⟨hnx, up2_s, foM_to rfl rfl hps.2.2⟩⟩
  refine lv_aload_n hx hb dX13_goesOn_10 rfl (lv_at hl 0 rfl) ?_
  refine lv_iconst (v := (nI 2)) hx hb dX13_goesOn_11 (by decide) ?_
  refine c_VV hx hb hml hts hown hK hl.1 hS ⟨Nat.le_refl _, Nat.le_refl _⟩ (met_X13_fail l D dA hG hT hps 2 (by omega) (by omega)) (cw_X13_215 hts ⟨by decide, by decide⟩) (hG 0 _ rfl) rfl rfl rfl rfl (Nat.le_of_ble_eq_true rfl) dX13_goesOn_12 (fun _ h => h) (fun H1 locs hq hF hS => ?_)
  obtain ⟨V1, hG, hE1, hps1⟩ := hq
  generalize hHe1 : H1 = H at hG hS ⊢
  clear hHe1
  refine lv_goto (tgt := 28) hx hb dX13_goesOn_15 (by decide) ?_
  refine hend _ _ _ _ hS dX13_goesOn_28 ?_
  exact ⟨rfl, _, hG, (hE1.mono PFl_PGo), by unfold goP; rw [if_pos c7]; exact hps1⟩
theorem cw_X13_218 {R : Room} {s : State} {args : Array Value} (hts : ∀ w ∈ lw_all, w.before args s = true) {f w k j : Nat} (hR : f + 1 ≤ R.frames ∧ 8 + (2 + 11) + w ≤ R.locals) : CallW R s args RX13 RX13 218 yX13_is cX13_is 2 (some .boolean) (ws_ yX13_is cX13_is 2 (some .boolean)) (mkRmC f w k j) k j 1 := cwV 1 hts (lw_V q1706 q1708 qs56 q129 q1709) rfl rfl rfl (by decide +kernel) hR
theorem cw_X13_221 {R : Room} {s : State} {args : Array Value} (hts : ∀ w ∈ lw_all, w.before args s = true) {f w k j : Nat} (hR : f + 1 ≤ R.frames ∧ 8 + (1 + 11) + w ≤ R.locals) : CallW R s args RX13 RX13 221 yX13_goesOn cX13_goesOn 1 none (ws_ yX13_goesOn cX13_goesOn 1 none) (mkRmC f w k j) k j 0 := cwV 0 hts (lw_V q1722 q1724 qs60 q129 q1725) rfl rfl rfl (by decide +kernel) hR
set_option maxHeartbeats 4000000 in
theorem met_X13_must (l : Launch) (D : va_G) (dA : Nat → ClassId) {o : Nat} {V : GI} {L : GL} {Rf : GR} {H0 : Heap} (hG : gP D dA o dM V L Rf H0) {ch : Nat → Nat} {sz m0 : Nat} (hT : tkOK V L ch sz m0) {t : Nat} {fo : Fo} (hps : psM V m0 t fo) (k : Nat) (hk0 : 0 < k) (hk9 : k < 1000) : Ctr l D dA yX13_must cX13_must 2 none (mkRm 2 41) [.ref o, .int (nI k)] H0 (AM o) (QV (fun H1 => ∃ V1, gP D dA o dM V1 L Rf H1 ∧ Eqx PGo V V1 ∧ psM V1 m0 (muP (kdF ch sz) (plF ch sz) k t fo).1 (muP (kdF ch sz) (plF ch sz) k t fo).2)) := by
  have htm := hps.1
  have h11 := hps.2.1
  have hm9 := hT.2.2.1
  obtain ⟨ft, hft9, hft, hfz⟩ := fo_z hps.2.2
  obtain ⟨hk3, hk4, hk5, hk6⟩ := hT.1 t htm
  have hkd9 := kd_lt ch sz t
  refine ctr_V (by decide) (Nat.le_of_ble_eq_true rfl) ?_
  intro p e s m args below meth c ls QQ locs hx hb hml hown hts hK hend hS hl
  have hl : lv_has ls 2 [(0, .ref o), (1, .int (nI k))] := hl
  refine lv_aload_n hx hb dX13_must_0 rfl (lv_at hl 0 rfl) ?_
  refine lv_iload_n hx hb dX13_must_1 rfl (lv_at hl 1 rfl) ?_
  refine c_VI hx hb hml hts hown hK hl.1 hS ⟨Nat.le_refl _, Nat.le_refl _⟩ (met_X13_is l D dA hG hT hps k (by omega)) (cw_X13_218 hts ⟨by decide, by decide⟩) (hG 0 _ rfl) rfl rfl rfl rfl (Nat.le_of_ble_eq_true rfl) dX13_must_2 (fun _ h => h.elim) (fun r H1 locs hq hF hS => ?_)
  obtain ⟨rfl, rfl⟩ := hq
  have hbb2 := bN_lt (isP fo (kdF ch sz t) k)
  refine n_if_eq (tgt := 15) hx hb dX13_must_5 (by decide) (by omega) (fun c5 => ?_) (fun c5 => ?_)
  · refine lv_aload_n hx hb dX13_must_15 rfl (lv_at hl 0 rfl) ?_
    refine lv_iconst (v := (nI 1)) hx hb dX13_must_16 (by decide) ?_
    refine c_VV hx hb hml hts hown hK hl.1 hS ⟨Nat.le_refl _, Nat.le_refl _⟩ (met_X13_fail l D dA hG hT hps 1 (by omega) (by omega)) (cw_X13_215 hts ⟨by decide, by decide⟩) (hG 0 _ rfl) rfl rfl rfl rfl (Nat.le_of_ble_eq_true rfl) dX13_must_17 (fun _ h => h) (fun H1 locs hq hF hS => ?_)
    obtain ⟨V1, hG, hE1, hps1⟩ := hq
    generalize hHe1 : H1 = H at hG hS ⊢
    clear hHe1
    refine hend _ _ _ _ hS dX13_must_20 ?_
    exact ⟨rfl, _, hG, (hE1.mono PFl_PGo), by unfold muP; rw [if_neg (bN0 c5)]; exact hps1⟩
  refine lv_aload_n hx hb dX13_must_8 rfl (lv_at hl 0 rfl) ?_
  refine c_VV hx hb hml hts hown hK hl.1 hS ⟨Nat.le_refl _, Nat.le_refl _⟩ (met_X13_goesOn l D dA hG hT hps (by have h1 := bN1 (show ¬ bN (isP fo (kdF ch sz t) k) = 0 by omega); unfold isP at h1; simp only [Bool.and_eq_true, decide_eq_true_eq] at h1; omega)) (cw_X13_221 hts ⟨by decide, by decide⟩) (hG 0 _ rfl) rfl rfl rfl rfl (Nat.le_of_ble_eq_true rfl) dX13_must_9 (fun _ h => h) (fun H1 locs hq hF hS => ?_)
  obtain ⟨V2, hG, hE2, hps2⟩ := hq
  generalize hHe2 : H1 = H at hG hS ⊢
  clear hHe2
  refine lv_goto (tgt := 20) hx hb dX13_must_12 (by decide) ?_
  refine hend _ _ _ _ hS dX13_must_20 ?_
  exact ⟨rfl, _, hG, hE2, by unfold muP; rw [if_pos (bN1 (by omega))]; exact hps2⟩
