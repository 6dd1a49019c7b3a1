def PTe (k j : Nat) : Bool := k == 23 || k == 24 || k == 25 || k == 26 || k == 27 || (k == 0 && (j == 11 || j == 12 || j == 13 || j == 14 || j == 33 || j == 39 || j == 43))
theorem PFl_PTe : ∀ k j, PTe k j = false → PFl k j = false := by intro k j h; simp only [PFl, PTe, Bool.or_eq_false_iff, Bool.and_eq_false_iff, beq_eq_false_iff_ne, ne_eq] at *; omega
theorem PGo_PTe : ∀ k j, PTe k j = false → PGo k j = false := by intro k j h; simp only [PGo, PTe, Bool.or_eq_false_iff, Bool.and_eq_false_iff, beq_eq_false_iff_ne, ne_eq] at *; omega
theorem PUn_PTe : ∀ k j, PTe k j = false → PUn k j = false := by intro k j h; simp only [PUn, PTe, Bool.or_eq_false_iff, Bool.and_eq_false_iff, beq_eq_false_iff_ne, ne_eq] at *; omega
theorem PCo_PTe : ∀ k j, PTe k j = false → PCo k j = false := by intro k j h; simp only [PCo, PTe, Bool.or_eq_false_iff, Bool.and_eq_false_iff, beq_eq_false_iff_ne, ne_eq] at *; omega
theorem PEx_PTe : ∀ k j, PTe k j = false → PEx k j = false := by intro k j h; simp only [PEx, PTe, Bool.or_eq_false_iff, Bool.and_eq_false_iff, beq_eq_false_iff_ne, ne_eq] at *; omega
/-- an expression where no fault stands -/
def tmP (kd pl vl : Nat → Nat) (t : Nat) (fo : Fo) : Nat × Fo × List Sg := if fo = none then exM kd pl vl 402 t none 0 [] [] else (t, fo, [])
/-- codes end at ce, no more than the tokens allow -/
def cbM (cm ce t : Nat) (fo : Fo) : Prop := ce + 420 ≤ cm + 1 + t ∧ (fo = none → ce + 420 ≤ cm + t)
def cmM (cm c0 : Nat) : Prop := 420 ≤ cm ∧ cm ≤ 840 ∧ (c0 < 420 → cm ≤ 420)
/-- the rows k agree but at b -/
def atM (V V1 : GI) (k b : Nat) : Prop := ∀ j, j ≠ b → V1 k j = V k j
theorem ex3 {α β γ : Type} (x : α × β × γ) : ∃ a b c, x = (a, b, c) := ⟨x.1, x.2.1, x.2.2, rfl⟩
theorem emM_nil {V : GI} {c0 : Nat} (h : V 0 39 = nI c0) (hc : c0 ≤ 840) : emM V c0 [] := ⟨h, hc, fun i k v hi => by simp at hi⟩
theorem cw_X13_281 {R : Room} {s : State} {args : Array Value} (hts : ∀ w ∈ lw_all, w.before args s = true) {f w k j : Nat} (hR : f + 1 ≤ R.frames ∧ 8 + (3 + 11) + w ≤ R.locals) : CallW R s args RX13 RX13 281 yX13_expression cX13_expression 3 none (ws_ yX13_expression cX13_expression 3 none) (mkRmC f w k j) k j 0 := cwV 0 hts (lw_V q1750 q1752 qs67 q129 q1753) rfl rfl rfl (by decide +kernel) hR
set_option maxHeartbeats 4000000 in
theorem met_X13_term (l : Launch) (D : va_G) (dA : Nat → ClassId) {o : Nat} {V : GI} {L : GL} {Rf : GR} {H0 : Heap} (hG : gP D dA o dM V L Rf H0) {ch : Nat → Nat} {sz m0 : Nat} (hT : tkOK V L ch sz m0) {t : Nat} {fo : Fo} (hps : psM V m0 t fo) {c0 b o0 : Nat} (h39 : V 0 39 = nI c0) (h33 : V 0 33 = nI b) (hb9 : b < 260) (ho0 : V 0 12 = nI o0) (hoz : fo = none → o0 = 0) {cm : Nat} (hcm : 420 ≤ cm ∧ cm ≤ 840 ∧ (c0 < 420 → cm ≤ 420)) (hcb : cbM cm c0 t fo) : Ctr l D dA yX13_term cX13_term 1 none (mkRm 4 83) [.ref o] H0 (AM o) (QV (fun H1 => ∃ V1 o1, gP D dA o dM V1 L Rf H1 ∧ Eqx PTe V V1 ∧ psM V1 m0 (tmP (kdF ch sz) (plF ch sz) (vlF ch sz) t fo).1 (tmP (kdF ch sz) (plF ch sz) (vlF ch sz) t fo).2.1 ∧ V1 0 12 = nI o1 ∧ ((tmP (kdF ch sz) (plF ch sz) (vlF ch sz) t fo).2.1 = none → o1 = 0) ∧ emM V1 c0 (tmP (kdF ch sz) (plF ch sz) (vlF ch sz) t fo).2.2 ∧ loF V V1 c0 ∧ cbM cm (c0 + (tmP (kdF ch sz) (plF ch sz) (vlF ch sz) t fo).2.2.length) (tmP (kdF ch sz) (plF ch sz) (vlF ch sz) t fo).1 (tmP (kdF ch sz) (plF ch sz) (vlF ch sz) t fo).2.1 ∧ V1 0 33 = nI (b + 1) ∧ V1 23 b = nI c0 ∧ V1 24 b = nI (c0 + (tmP (kdF ch sz) (plF ch sz) (vlF ch sz) t fo).2.2.length) ∧ atM V V1 23 b ∧ atM V V1 24 b)) := by
  have hm9 := hT.2.2.1
  refine ctr_V (by decide) (Nat.le_of_ble_eq_true rfl) ?_
  intro p e s m args below meth c ls QQ locs hx hb hml hown hts hK hend hS hl
  have hl : lv_has ls 1 [(0, .ref o)] := hl
  obtain ⟨ft, hft9, hft, hfz⟩ := fo_z hps.2.2
  have htm := hps.1
  obtain ⟨hk3, hk4, hk5, hk6⟩ := hT.1 t htm
  have hkd9 := kd_lt ch sz t
  have hb3 := (hT.2.2.2.2.2 t htm).1
  have hb5 := (hT.2.2.2.2.2 t htm).2.1
  have hcb1 := hcb.1
  refine lv_aload_n hx hb dX13_term_0 rfl (lv_at hl 0 rfl) ?_
  refine g_get hx hb hts hown hK hG 0 rfl rfl ok_X13 37 (by decide) q1508 rfl rfl dX13_term_1 ?_
  refine lv_aload_n hx hb dX13_term_4 rfl (lv_at hl 0 rfl) ?_
  refine g_get (v := .int (nI b)) hx hb hts hown hK hG 0 rfl rfl ok_X13 33 (by decide) q1504 rfl (congrArg Value.int h33) dX13_term_5 ?_
  refine lv_aload_n hx hb dX13_term_8 rfl (lv_at hl 0 rfl) ?_
  refine g_get (v := .int (nI c0)) hx hb hts hown hK hG 0 rfl rfl ok_X13 39 (by decide) q1510 rfl (congrArg Value.int h39) dX13_term_9 ?_
  refine n_iast hx hb hK hG hS 23 (AM_in 23 (by decide)) rfl (by omega) (by decide) dX13_term_12 (fun H locs hG hO hS => ?_)
  refine lv_aload_n hx hb dX13_term_13 rfl (lv_at hl 0 rfl) ?_
  refine g_get (v := .int (nI ft)) hx hb hts hown hK hG 0 rfl rfl ok_X13 13 (by decide) q1484 rfl (congrArg Value.int hft) dX13_term_14 ?_
  refine n_if_ne (tgt := 24) hx hb dX13_term_17 (by decide) (by omega) (fun c17 => ?_) (fun c17 => ?_)
  · refine lv_aload_n hx hb dX13_term_24 rfl (lv_at hl 0 rfl) ?_
    refine g_get hx hb hts hown hK hG 0 rfl rfl ok_X13 38 (by decide) q1509 rfl rfl dX13_term_25 ?_
    refine lv_aload_n hx hb dX13_term_28 rfl (lv_at hl 0 rfl) ?_
    refine g_get (v := .int (nI b)) hx hb hts hown hK hG 0 rfl rfl ok_X13 33 (by decide) q1504 rfl (congrArg Value.int h33) dX13_term_29 ?_
    refine lv_aload_n hx hb dX13_term_32 rfl (lv_at hl 0 rfl) ?_
    refine g_get (v := .int (nI c0)) hx hb hts hown hK hG 0 rfl rfl ok_X13 39 (by decide) q1510 rfl (congrArg Value.int h39) dX13_term_33 ?_
    refine n_iast hx hb hK hG hS 24 (AM_in 24 (by decide)) rfl (by omega) (by decide) dX13_term_36 (fun H locs hG hO hS => ?_)
    refine lv_aload_n hx hb dX13_term_37 rfl (lv_at hl 0 rfl) ?_
    refine lv_dup hx hb dX13_term_38 rfl ?_
    refine g_get (v := .int (nI b)) hx hb hts hown hK hG 0 rfl rfl ok_X13 33 (by decide) q1504 rfl (congrArg Value.int h33) dX13_term_39 ?_
    refine lv_iconst (v := (nI 1)) hx hb dX13_term_42 (by decide) ?_
    refine n_iadd hx hb dX13_term_43 ?_
    refine g_put hx hb hts hown hK hG hS 0 (AM_in 0 (by decide)) rfl rfl ok_X13 33 (by decide) q1504 rfl rfl rfl rfl dX13_term_44 (fun H locs hG hO hS => ?_)
    refine hend _ _ _ _ hS dX13_term_47 ?_
    have hRR : tmP (kdF ch sz) (plF ch sz) (vlF ch sz) t fo = (t, fo, []) := if_neg (fun z => absurd (hfz.mpr z) (by omega))
    rw [hRR]
    exact ⟨rfl, _, o0, hG, (((Eqx.rf.up rfl).up rfl).up rfl), (psM_to (V := V) rfl rfl rfl hps), ho0, hoz, (emM_nil h39 (by omega)), (loF_to (V1 := V) (fun j => rfl) (fun j => rfl) loF.rf), hcb, rfl, (show up2 _ 23 _ _ 23 _ = _ from up2_s), (show up2 _ 24 _ _ 24 _ = _ from up2_s), (fun j hj => (show up2 _ 23 _ _ 23 _ = _ from up2_n (fun z => hj z.2))), (fun j hj => (show up2 _ 24 _ _ 24 _ = _ from up2_n (fun z => hj z.2)))⟩
  obtain rfl : fo = none := hfz.mp (by omega)
  obtain rfl := hoz rfl
  have hcb2 := hcb.2 rfl
  refine lv_aload_n hx hb dX13_term_20 rfl (lv_at hl 0 rfl) ?_
  refine c_VV hx hb hml hts hown hK hl.1 hS ⟨Nat.le_refl _, Nat.le_refl _⟩ (met_X13_expression l D dA hG (tkOK_to (V := V) (fun j => rfl) (fun j => rfl) (fun j => rfl) hT) (psM_to (V := V) rfl rfl rfl hps) c0 h39 ho0 hcm (by omega) (fun z => by omega)) (cw_X13_281 hts ⟨by decide, by decide⟩) (hG 0 _ rfl) rfl rfl rfl rfl (Nat.le_of_ble_eq_true rfl) dX13_term_21 (fun _ h => h) (fun H1 locs hq hF hS => ?_)
  have hloB : loF V (up2 V 23 b (nI c0)) c0 := (loF_to (V1 := V) (fun j => rfl) (fun j => rfl) loF.rf)
  obtain ⟨V1, o1, hG, hE1, hps1, ho121, hoz1, hem1, hlo1, hbA1, hbB1⟩ := hq
  generalize hHe1 : H1 = H at hG hS ⊢
  clear hHe1
  obtain ⟨t1, fo1, em1, he1⟩ := ex3 (exM (kdF ch sz) (plF ch sz) (vlF ch sz) 402 t none 0 [] [])
  rw [he1] at hps1 hoz1 hem1 hbA1 hbB1
  replace hps1 : psM V1 m0 t1 fo1 := hps1
  replace hoz1 : fo1 = none → o1 = 0 := hoz1
  replace hem1 : emM V1 c0 em1 := hem1
  have hcb1 : cbM cm (c0 + em1.length) t1 fo1 := ⟨hbA1, hbB1⟩
  have hcx1 := hcb1.1
  have hcy1 := hem1.2.1
  obtain ⟨ft1, hft91, hft1, hfz1⟩ := fo_z hps1.2.2
  have htm1 := hps1.1
  obtain ⟨hk31, hk41, hk51, hk61⟩ := hT.1 t1 htm1
  have hkd91 := kd_lt ch sz t1
  have hb31 := (hT.2.2.2.2.2 t1 htm1).1
  have hb51 := (hT.2.2.2.2.2 t1 htm1).2.1
  have hw391 := hem1.1
  replace hlo1 : loF V V1 c0 := loF.trans hloB hlo1
  refine lv_aload_n hx hb dX13_term_24 rfl (lv_at hl 0 rfl) ?_
  refine g_get hx hb hts hown hK hG 0 rfl rfl ok_X13 38 (by decide) q1509 rfl rfl dX13_term_25 ?_
  refine lv_aload_n hx hb dX13_term_28 rfl (lv_at hl 0 rfl) ?_
  refine g_get (v := .int (nI b)) hx hb hts hown hK hG 0 rfl rfl ok_X13 33 (by decide) q1504 rfl (congrArg Value.int ((hE1 0 33 rfl).trans h33)) dX13_term_29 ?_
  refine lv_aload_n hx hb dX13_term_32 rfl (lv_at hl 0 rfl) ?_
  refine g_get (v := .int (nI (c0 + em1.length))) hx hb hts hown hK hG 0 rfl rfl ok_X13 39 (by decide) q1510 rfl (congrArg Value.int hw391) dX13_term_33 ?_
  refine n_iast hx hb hK hG hS 24 (AM_in 24 (by decide)) rfl (by omega) (by decide) dX13_term_36 (fun H locs hG hO hS => ?_)
  refine lv_aload_n hx hb dX13_term_37 rfl (lv_at hl 0 rfl) ?_
  refine lv_dup hx hb dX13_term_38 rfl ?_
  refine g_get (v := .int (nI b)) hx hb hts hown hK hG 0 rfl rfl ok_X13 33 (by decide) q1504 rfl (congrArg Value.int ((hE1 0 33 rfl).trans h33)) dX13_term_39 ?_
  refine lv_iconst (v := (nI 1)) hx hb dX13_term_42 (by decide) ?_
  refine n_iadd hx hb dX13_term_43 ?_
  refine g_put hx hb hts hown hK hG hS 0 (AM_in 0 (by decide)) rfl rfl ok_X13 33 (by decide) q1504 rfl rfl rfl rfl dX13_term_44 (fun H locs hG hO hS => ?_)
  refine hend _ _ _ _ hS dX13_term_47 ?_
  have hRR : tmP (kdF ch sz) (plF ch sz) (vlF ch sz) t none = (t1, fo1, em1) := (if_pos rfl).trans he1
  rw [hRR]
  exact ⟨rfl, _, o1, hG, ((((Eqx.rf.up rfl).trans (hE1.mono PEx_PTe)).up rfl).up rfl), (psM_to (V := V1) rfl rfl rfl hps1), ho121, hoz1, (emM_to (V := V1) rfl (fun j => rfl) (fun j => rfl) hem1), (loF_to (V1 := V1) (fun j => rfl) (fun j => rfl) hlo1), hcb1, rfl, (Eq.trans (hE1 23 _ rfl) (show up2 _ 23 _ _ 23 _ = _ from up2_s)), (show up2 _ 24 _ _ 24 _ = _ from up2_s), (fun j hj => (Eq.trans (hE1 23 j rfl) (show up2 _ 23 _ _ 23 _ = _ from up2_n (fun z => hj z.2)))), (fun j hj => (Eq.trans (show up2 _ 24 _ _ 24 _ = _ from up2_n (fun z => hj z.2)) (hE1 24 j rfl)))⟩
