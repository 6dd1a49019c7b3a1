def PEx (k j : Nat) : Bool := k == 25 || k == 26 || k == 27 || (k == 0 && (j == 11 || j == 12 || j == 13 || j == 14 || j == 39 || j == 43))
def PXb (k j : Nat) : Bool := k == 27 || (k == 0 && (j == 11 || j == 12 || j == 13 || j == 14 || j == 43))
def PXc (k j : Nat) : Bool := k == 25 || k == 26 || (k == 0 && (j == 11 || j == 12 || j == 13 || j == 14 || j == 39 || j == 43))
theorem PFl_PEx : ∀ k j, PEx k j = false → PFl k j = false := by intro k j h; simp only [PFl, PEx, Bool.or_eq_false_iff, Bool.and_eq_false_iff, beq_eq_false_iff_ne, ne_eq] at *; omega
theorem PFl_PXb : ∀ k j, PXb k j = false → PFl k j = false := by intro k j h; simp only [PFl, PXb, Bool.or_eq_false_iff, Bool.and_eq_false_iff, beq_eq_false_iff_ne, ne_eq] at *; omega
theorem PFl_PXc : ∀ k j, PXc k j = false → PFl k j = false := by intro k j h; simp only [PFl, PXc, Bool.or_eq_false_iff, Bool.and_eq_false_iff, beq_eq_false_iff_ne, ne_eq] at *; omega
theorem PGo_PEx : ∀ k j, PEx k j = false → PGo k j = false := by intro k j h; simp only [PGo, PEx, Bool.or_eq_false_iff, Bool.and_eq_false_iff, beq_eq_false_iff_ne, ne_eq] at *; omega
theorem PGo_PXb : ∀ k j, PXb k j = false → PGo k j = false := by intro k j h; simp only [PGo, PXb, Bool.or_eq_false_iff, Bool.and_eq_false_iff, beq_eq_false_iff_ne, ne_eq] at *; omega
theorem PGo_PXc : ∀ k j, PXc k j = false → PGo k j = false := by intro k j h; simp only [PGo, PXc, Bool.or_eq_false_iff, Bool.and_eq_false_iff, beq_eq_false_iff_ne, ne_eq] at *; omega
theorem PUn_PEx : ∀ k j, PEx k j = false → PUn k j = false := by intro k j h; simp only [PUn, PEx, Bool.or_eq_false_iff, Bool.and_eq_false_iff, beq_eq_false_iff_ne, ne_eq] at *; omega
theorem PUn_PXc : ∀ k j, PXc k j = false → PUn k j = false := by intro k j h; simp only [PUn, PXc, Bool.or_eq_false_iff, Bool.and_eq_false_iff, beq_eq_false_iff_ne, ne_eq] at *; omega
theorem PCo_PEx : ∀ k j, PEx k j = false → PCo k j = false := by intro k j h; simp only [PCo, PEx, Bool.or_eq_false_iff, Bool.and_eq_false_iff, beq_eq_false_iff_ne, ne_eq] at *; omega
theorem PCo_PXc : ∀ k j, PXc k j = false → PCo k j = false := by intro k j h; simp only [PCo, PXc, Bool.or_eq_false_iff, Bool.and_eq_false_iff, beq_eq_false_iff_ne, ne_eq] at *; omega
theorem PXb_PEx : ∀ k j, PEx k j = false → PXb k j = false := by intro k j h; simp only [PXb, PEx, Bool.or_eq_false_iff, Bool.and_eq_false_iff, beq_eq_false_iff_ne, ne_eq] at *; omega
theorem PXc_PEx : ∀ k j, PEx k j = false → PXc k j = false := by intro k j h; simp only [PXc, PEx, Bool.or_eq_false_iff, Bool.and_eq_false_iff, beq_eq_false_iff_ne, ne_eq] at *; omega
theorem opT_k {kd : Nat → Nat} {t : Nat} {fo : Fo} (h : opT kd t fo = true) : fo = none ∧ (kd t = 8 ∨ kd t = 9 ∨ kd t = 10 ∨ kd t = 15) := by
  unfold opT isP at h
  simp only [Bool.or_eq_true, Bool.and_eq_true, decide_eq_true_eq, Option.isNone_iff_eq_none] at h
  rcases h with ((h | h) | h) | h <;> exact ⟨h.1, by omega⟩
theorem opT_t {kd : Nat → Nat} {t k : Nat} {fo : Fo} (h : isP fo (kd t) k = true) (hk : k = 8 ∨ k = 9 ∨ k = 10 ∨ k = 15) : opT kd t fo = true := by
  unfold opT
  rcases hk with rfl | rfl | rfl | rfl <;> simp [h]
theorem opT_n {kd : Nat → Nat} {t : Nat} {fo : Fo} (h1 : ¬ isP fo (kd t) 8 = true) (h2 : ¬ isP fo (kd t) 9 = true) (h3 : ¬ isP fo (kd t) 10 = true) (h4 : ¬ isP fo (kd t) 15 = true) : ¬ opT kd t fo = true := by
  unfold opT
  simp [h1, h2, h3, h4]
theorem opS_1 {kd : Nat → Nat} {t k : Nat} {fo : Fo} (h : isP fo (kd t) k = true) (hk : k = 10 ∨ k = 15) : opS kd t fo = 1 := by
  unfold opS
  rcases hk with rfl | rfl <;> simp [h]
theorem opS_0 {kd : Nat → Nat} {t : Nat} {fo : Fo} (h3 : ¬ isP fo (kd t) 10 = true) (h4 : ¬ isP fo (kd t) 15 = true) : opS kd t fo = 0 := by
  unfold opS
  simp [h3, h4]
theorem opS_w {kd : Nat → Nat} {t x : Nat} {fo : Fo} {ws wp : List Nat} {em ep : List Sg} (hm : opT kd t fo = true) (hx : opS kd t fo = x) (hP : coO x ws em = (wp, ep)) (hok : wsOK ws) : wsOK (kd t :: wp) := by
  obtain ⟨h1, h2⟩ := opT_k hm
  obtain ⟨_, h3, _, h4, h5⟩ := coO_inv _ _ _ _ _ hP
  have hx2 : (kd t = 10 ∨ kd t = 15) ∨ x = 0 := by
    by_cases hk : kd t = 10 ∨ kd t = 15
    · exact Or.inl hk
    · refine Or.inr ?_
      rw [← hx]
      refine opS_0 ?_ ?_ <;> (unfold isP; simp; intro _; omega)
  refine ⟨h3 hok, ?_, by omega⟩
  rcases hx2 with h6 | h6
  · rcases h5 with h7 | h7 | h7
    · exact Or.inr (Or.inl h7)
    · exact Or.inr (Or.inr ⟨h6, Or.inl h7⟩)
    · exact Or.inr (Or.inr ⟨h6, Or.inr h7⟩)
  · exact Or.inr (Or.inl (h4 h6))
theorem loF_to {V V1 V2 : GI} {c0 : Nat} (h1 : ∀ j, V2 25 j = V1 25 j) (h2 : ∀ j, V2 26 j = V1 26 j) (h : loF V V1 c0) : loF V V2 c0 := fun j hj => ⟨(h1 j).trans (h j hj).1, (h2 j).trans (h j hj).2⟩
theorem ws_len2 {ws : List Nat} (h : wsOK ws) : ws.length ≤ 3 * cnt6 ws + 2 := by
  have := ws_len h
  (repeat' split at this) <;> omega
theorem unK_n {kd : Nat → Nat} {t : Nat} {fo : Fo} (h : unK kd t fo = true) : fo = none := by
  unfold unK isP at h
  simp only [Bool.or_eq_true, Bool.and_eq_true, decide_eq_true_eq, Option.isNone_iff_eq_none] at h
  rcases h with h | h
  · exact h.1
  · exact h.1.1
theorem flP_n {fo : Fo} {k p : Nat} (h : flP fo k p = none) : False := by cases fo <;> cases h
theorem cw_X13_293 {R : Room} {s : State} {args : Array Value} (hts : ∀ w ∈ lw_all, w.before args s = true) {f w k j : Nat} (hR : f + 1 ≤ R.frames ∧ 8 + (1 + 11) + w ≤ R.locals) : CallW R s args RX13 RX13 293 yX13_unit cX13_unit 1 none (ws_ yX13_unit cX13_unit 1 none) (mkRmC f w k j) k j 0 := cwV 0 hts (lw_V q1754 q1756 qs68 q129 q1757) rfl rfl rfl (by decide +kernel) hR
theorem cw_X13_296 {R : Room} {s : State} {args : Array Value} (hts : ∀ w ∈ lw_all, w.before args s = true) {f w k j : Nat} (hR : f + 1 ≤ R.frames ∧ 8 + (3 + 11) + w ≤ R.locals) : CallW R s args RX13 RX13 296 yX13_comesOut cX13_comesOut 3 none (ws_ yX13_comesOut cX13_comesOut 3 none) (mkRmC f w k j) k j 1 := cwV 1 hts (lw_V q1762 q1764 qs70 q129 q1765) rfl rfl rfl (by decide +kernel) hR
set_option maxHeartbeats 4000000 in
theorem met_X13_expression (l : Launch) (D : va_G) (dA : Nat → ClassId) {o : Nat} {V : GI} {L : GL} {Rf : GR} {H0 : Heap} (hG : gP D dA o dM V L Rf H0) {ch : Nat → Nat} {sz m0 : Nat} (hT : tkOK V L ch sz m0) {t0 : Nat} {fo0 : Fo} (hps0 : psM V m0 t0 fo0) (c0 : Nat) (h39 : V 0 39 = nI c0) (ho0 : V 0 12 = nI 0) {cm : Nat} (hcm : 420 ≤ cm ∧ cm ≤ 840 ∧ (c0 < 420 → cm ≤ 420)) (hcA : c0 + 420 ≤ cm + 1 + t0) (hcB : fo0 = none → c0 + 420 ≤ cm + t0) : Ctr l D dA yX13_expression cX13_expression 3 none (mkRm 3 61) [.ref o] H0 (AM o) (QV (fun H1 => ∃ V1 o1, gP D dA o dM V1 L Rf H1 ∧ Eqx PEx V V1 ∧ psM V1 m0 (exM (kdF ch sz) (plF ch sz) (vlF ch sz) 402 t0 fo0 0 [] []).1 (exM (kdF ch sz) (plF ch sz) (vlF ch sz) 402 t0 fo0 0 [] []).2.1 ∧ V1 0 12 = nI o1 ∧ ((exM (kdF ch sz) (plF ch sz) (vlF ch sz) 402 t0 fo0 0 [] []).2.1 = none → o1 = 0) ∧ emM V1 c0 (exM (kdF ch sz) (plF ch sz) (vlF ch sz) 402 t0 fo0 0 [] []).2.2 ∧ loF V V1 c0 ∧ c0 + (exM (kdF ch sz) (plF ch sz) (vlF ch sz) 402 t0 fo0 0 [] []).2.2.length + 420 ≤ cm + 1 + (exM (kdF ch sz) (plF ch sz) (vlF ch sz) 402 t0 fo0 0 [] []).1 ∧ ((exM (kdF ch sz) (plF ch sz) (vlF ch sz) 402 t0 fo0 0 [] []).2.1 = none → c0 + (exM (kdF ch sz) (plF ch sz) (vlF ch sz) 402 t0 fo0 0 [] []).2.2.length + 420 ≤ cm + (exM (kdF ch sz) (plF ch sz) (vlF ch sz) 402 t0 fo0 0 [] []).1))) := by
  have hm9 := hT.2.2.1
  have ht09 := hps0.1
  refine ctr_V (by decide) (Nat.le_of_ble_eq_true rfl) ?_
  intro p e s m args below meth c ls QQ locs hx hb hml hown hts hK hend hS hl
  have hl : lv_has ls 3 [(0, .ref o)] := hl
  refine lv_aload_n hx hb dX13_expression_0 rfl (lv_at hl 0 rfl) ?_
  refine lv_iconst (v := (nI 0)) hx hb dX13_expression_1 (by decide) ?_
  refine g_put hx hb hts hown hK hG hS 0 (AM_in 0 (by decide)) rfl rfl ok_X13 43 (by decide) q1514 rfl rfl rfl rfl dX13_expression_2 (fun H locs hG hO hS => ?_)
  refine lv_aload_n hx hb dX13_expression_5 rfl (lv_at hl 0 rfl) ?_
  refine g_get (v := .int (nI 0)) hx hb hts hown hK hG 0 rfl rfl ok_X13 12 (by decide) q1483 rfl (congrArg Value.int ho0) dX13_expression_6 ?_
  refine lv_istore_n (lv' := [(1, .int (nI 0)), (0, .ref o)]) hx hb dX13_expression_9 rfl hl (by decide) rfl (fun ls hl => ?_)
  refine lv_iconst (v := (nI 1)) hx hb dX13_expression_10 (by decide) ?_
  refine lv_istore_n (lv' := [(2, .int (nI 1)), (1, .int (nI 0)), (0, .ref o)]) hx hb dX13_expression_11 rfl hl (by decide) rfl (fun ls hl => ?_)
  have loop1 : ∀ (fu1 : Nat) (n : Nat) (t : Nat) (fo : Fo) (og : Nat) (ws : List Nat) (em : List Sg) (V1 : GI) (H : Heap) (locs : List Loc) (ls : Array Slot), n < fu1 → (exM (kdF ch sz) (plF ch sz) (vlF ch sz) n t fo og ws em = exM (kdF ch sz) (plF ch sz) (vlF ch sz) 402 t0 fo0 0 [] []) → (wsOK ws) → (cnt6 ws = og) → (og ≤ 7) → (fo = none → og ≤ 6) → (fo = none → 402 ≤ n + t) → (c0 + em.length + ws.length + 420 ≤ cm + 1 + t) → (fo = none → c0 + em.length + ws.length + 420 ≤ cm + t) → (Eqx PEx (up2 V 0 43 (nI 0)) V1) → (psM V1 m0 t fo) → (V1 0 12 = nI og) → (wtM V1 ws) → (emM V1 c0 em) → (loF V V1 c0) → gP D dA o dM V1 L Rf H → va_S (AM o) H0 H locs → lv_has ls 3 [(2, .int (nI 1)), (1, .int (nI 0)), (0, .ref o)] → W p l e (mkRm 3 61) s m args below meth c H locs 0 0 QQ (F0 m 12 ls []) := by
    intro fu1
    induction fu1 with
    | zero => intro n t fo og ws em V1 H locs ls hfu; exact absurd hfu (Nat.not_lt_zero _)
    | succ fu1 ih1 =>
      intro n t fo og ws em V1 H locs ls hfu hR hok hc6 ho7 ho6 hn h84 h85 hE1 hps ho12 hwt hem hlo hG hS hl
      obtain ⟨ft_2, hft9_2, hft_2, hfz_2⟩ := fo_z hps.2.2
      have htm_2 := hps.1
      obtain ⟨hk3_2, hk4_2, hk5_2, hk6_2⟩ := hT.1 t htm_2
      have hkd9_2 := kd_lt ch sz t
      have hb3_2 := (hT.2.2.2.2.2 t htm_2).1
      have hb5_2 := (hT.2.2.2.2.2 t htm_2).2.1
      have hwsl := ws_len2 hok
      refine lv_iload_n hx hb dX13_expression_12 rfl (lv_at hl 0 rfl) ?_
      refine n_if_eq (tgt := 272) hx hb dX13_expression_13 (by decide) (by decide) (fun z => absurd z (by decide)) (fun _ => ?_)
      refine lv_aload_n hx hb dX13_expression_16 rfl (lv_at hl 2 rfl) ?_
      refine g_get (v := .int (nI ft_2)) hx hb hts hown hK hG 0 rfl rfl ok_X13 13 (by decide) q1484 rfl (congrArg Value.int hft_2) dX13_expression_17 ?_
      refine n_if_ne (tgt := 272) hx hb dX13_expression_20 (by decide) (by omega) (fun c20 => ?_) (fun c20 => ?_)
      · refine hend _ _ _ _ hS dX13_expression_272 ?_
        have hRR : exM (kdF ch sz) (plF ch sz) (vlF ch sz) 402 t0 fo0 0 [] [] = (t, fo, em) := hR.symm.trans (exM_f (fun z => by have := hfz_2.mpr z; omega))
        exact ⟨rfl, _, og, hG, ((Eqx.rf.up rfl).trans hE1), by rw [hRR]; exact hps, ho12, fun z => by rw [hRR] at z; exact absurd (hfz_2.mpr z) (by omega), by rw [hRR]; exact hem, hlo, by rw [hRR]; show c0 + em.length + 420 ≤ cm + 1 + t; omega, fun z => by rw [hRR] at z; exact absurd (hfz_2.mpr z) (by omega)⟩
      obtain rfl : fo = none := hfz_2.mp (by omega)
      have hn0 := hn rfl
      have hRA := hR
      have h84z := h84
      have h85z := h85 rfl
      have hnz0 : 402 ≤ n + t := hn rfl
      clear hn
      have loop3 : ∀ (fu3 : Nat) (na : Nat) (ta : Nat) (foa : Fo) (oa : Nat) (wsa : List Nat) (V3 : GI) (H : Heap) (locs : List Loc) (ls : Array Slot), na < fu3 → (exO (kdF ch sz) (plF ch sz) na ta foa oa wsa = exO (kdF ch sz) (plF ch sz) 402 t none og ws) → (wsOK wsa) → (cnt6 wsa = oa) → (oa ≤ 7) → (foa = none → oa ≤ 6) → (foa = none → 402 ≤ na + ta) → (c0 + em.length + wsa.length + 420 ≤ cm + 1 + ta) → (foa = none → c0 + em.length + wsa.length + 420 ≤ cm + ta) → (t ≤ ta) → (Eqx PXb V1 V3) → (psM V3 m0 ta foa) → (V3 0 12 = nI oa) → (wtM V3 wsa) → gP D dA o dM V3 L Rf H → va_S (AM o) H0 H locs → lv_has ls 3 [(2, .int (nI 1)), (1, .int (nI 0)), (0, .ref o)] → W p l e (mkRm 3 61) s m args below meth c H locs 0 0 QQ (F0 m 23 ls []) := by
        intro fu3
        induction fu3 with
        | zero => intro na ta foa oa wsa V3 H locs ls hfu; exact absurd hfu (Nat.not_lt_zero _)
        | succ fu3 ih3 =>
          intro na ta foa oa wsa V3 H locs ls hfu hR hok hc6 ho7 ho6 hn h84 h85 hta hE3 hps ho12 hwt hG hS hl
          obtain ⟨ft_4, hft9_4, hft_4, hfz_4⟩ := fo_z hps.2.2
          have htm_4 := hps.1
          obtain ⟨hk3_4, hk4_4, hk5_4, hk6_4⟩ := hT.1 ta htm_4
          have hkd9_4 := kd_lt ch sz ta
          have hb3_4 := (hT.2.2.2.2.2 ta htm_4).1
          have hb5_4 := (hT.2.2.2.2.2 ta htm_4).2.1
          have hwsl := ws_len2 hok
          refine lv_aload_n hx hb dX13_expression_23 rfl (lv_at hl 2 rfl) ?_
          refine lv_bipush (v := (nI 6)) hx hb dX13_expression_24 (by decide) ?_
          refine c_VI hx hb hml hts hown hK hl.1 hS ⟨Nat.le_refl _, Nat.le_refl _⟩ (met_X13_is l D dA hG (tkOK_to (V := V) (fun j => (Eq.trans (hE3 3 j rfl) (hE1 3 j rfl))) (fun j => (Eq.trans (hE3 4 j rfl) (hE1 4 j rfl))) (fun j => (Eq.trans (hE3 5 j rfl) (hE1 5 j rfl))) hT) hps 6 (by omega)) (cw_X13_218 hts ⟨by decide, by decide⟩) (hG 0 _ rfl) rfl rfl rfl rfl (Nat.le_of_ble_eq_true rfl) dX13_expression_26 (fun _ h => h.elim) (fun r H1 locs hq hF hS => ?_)
          obtain ⟨rfl, rfl⟩ := hq
          have hbb26 := bN_lt (isP foa (kdF ch sz ta) 6)
          refine n_if_eq (tgt := 84) hx hb dX13_expression_29 (by decide) (by omega) (fun c29 => ?_) (fun c29 => ?_)
          · have hA : exO (kdF ch sz) (plF ch sz) 402 t none og ws = (ta, foa, oa, wsa) := hR.symm.trans (exO_0 (bN0 (by omega)))
            have hokA := hok
            have hc6A := hc6
            have ho7A := ho7
            have ho6A := ho6
            have hnA2 := hn
            have h84A := h84
            have h85A := h85
            refine lv_aload_n hx hb dX13_expression_84 rfl (lv_at hl 2 rfl) ?_
            refine c_VV hx hb hml hts hown hK hl.1 hS ⟨Nat.le_refl _, Nat.le_refl _⟩ (met_X13_unit l D dA hG (tkOK_to (V := V) (fun j => (Eq.trans (hE3 3 j rfl) (hE1 3 j rfl))) (fun j => (Eq.trans (hE3 4 j rfl) (hE1 4 j rfl))) (fun j => (Eq.trans (hE3 5 j rfl) (hE1 5 j rfl))) hT) hps (emM_to (V := V1) (hE3 0 39 rfl) (fun j => (hE3 25 j rfl)) (fun j => (hE3 26 j rfl)) hem) hcm.2 (by omega)) (cw_X13_293 hts ⟨by decide, by decide⟩) (hG 0 _ rfl) rfl rfl rfl rfl (Nat.le_of_ble_eq_true rfl) dX13_expression_85 (fun _ h => h) (fun H1 locs hq hF hS => ?_)
            have hloB := (loF_to (V1 := V1) (fun j => (hE3 25 j rfl)) (fun j => (hE3 26 j rfl)) hlo)
            obtain ⟨V5, hG, hE5, hps5, hem5, hlo5⟩ := hq
            generalize hHe5 : H1 = H at hG hS ⊢
            clear hHe5
            replace hlo5 := loF.trans hloB hlo5
            obtain ⟨em5, hee5⟩ : ∃ a, unE (kdF ch sz) (vlF ch sz) ta foa em = a := ⟨_, rfl⟩
            rw [hee5] at hem5
            have hel5 : em.length ≤ em5.length ∧ em5.length ≤ em.length + 1 := by rw [← hee5]; exact unE_l
            obtain ⟨t5, fo5, he5⟩ : ∃ a b, unP (kdF ch sz) (plF ch sz) ta foa = (a, b) := ⟨_, _, rfl⟩
            replace hps5 : psM V5 m0 t5 fo5 := by rw [he5] at hps5; exact hps5
            obtain ⟨ft5, hft95, hft5, hfz5⟩ := fo_z hps5.2.2
            have htm5 := hps5.1
            obtain ⟨hk35, hk45, hk55, hk65⟩ := hT.1 t5 htm5
            have hkd95 := kd_lt ch sz t5
            have hb35 := (hT.2.2.2.2.2 t5 htm5).1
            have hb55 := (hT.2.2.2.2.2 t5 htm5).2.1
            have hup5 := unP_f he5
            refine lv_aload_n hx hb dX13_expression_88 rfl (lv_at hl 2 rfl) ?_
            refine g_get (v := .int (nI ft5)) hx hb hts hown hK hG 0 rfl rfl ok_X13 13 (by decide) q1484 rfl (congrArg Value.int hft5) dX13_expression_89 ?_
            refine n_if_le (tgt := 96) hx hb dX13_expression_92 (by decide) (by omega) (fun c92 => ?_) (fun c92 => ?_)
            · obtain rfl : fo5 = none := hfz5.mp (by omega)
              have hup9 := (hup5.2.2 rfl).2
              have hfa9 := unK_n (hup5.2.2 rfl).1
              have h86 := h85A hfa9
              have ho61 := ho6A hfa9
              have loop6 : ∀ (fu6 : Nat) (nc : Nat) (tc : Nat) (foc : Fo) (oc : Nat) (wsc : List Nat) (emc : List Sg) (V6 : GI) (H : Heap) (locs : List Loc) (ls : Array Slot), nc < fu6 → (exC (kdF ch sz) (plF ch sz) nc tc foc oc wsc emc = exC (kdF ch sz) (plF ch sz) 402 t5 none oa wsa em5) → (wsOK wsc) → (cnt6 wsc = oc) → (oc ≤ 7) → (foc = none → oc ≤ 6) → (foc = none → 402 ≤ nc + tc) → (c0 + emc.length + wsc.length + 420 ≤ cm + 1 + tc) → (foc = none → c0 + emc.length + wsc.length + 420 ≤ cm + tc) → (t ≤ tc) → (Eqx PXc V5 V6) → (psM V6 m0 tc foc) → (V6 0 12 = nI oc) → (wtM V6 wsc) → (emM V6 c0 emc) → (loF V V6 c0) → gP D dA o dM V6 L Rf H → va_S (AM o) H0 H locs → lv_has ls 3 [(2, .int (nI 1)), (1, .int (nI 0)), (0, .ref o)] → W p l e (mkRm 3 61) s m args below meth c H locs 0 0 QQ (F0 m 96 ls []) := by
                intro fu6
                induction fu6 with
                | zero => intro nc tc foc oc wsc emc V6 H locs ls hfu; exact absurd hfu (Nat.not_lt_zero _)
                | succ fu6 ih6 =>
                  intro nc tc foc oc wsc emc V6 H locs ls hfu hR hok hc6 ho7 ho6 hn h84 h85 htc hE6 hps ho12 hwt hem hlo hG hS hl
                  obtain ⟨ft_7, hft9_7, hft_7, hfz_7⟩ := fo_z hps.2.2
                  have htm_7 := hps.1
                  obtain ⟨hk3_7, hk4_7, hk5_7, hk6_7⟩ := hT.1 tc htm_7
                  have hkd9_7 := kd_lt ch sz tc
                  have hb3_7 := (hT.2.2.2.2.2 tc htm_7).1
                  have hb5_7 := (hT.2.2.2.2.2 tc htm_7).2.1
                  have hwsl := ws_len2 hok
                  refine lv_aload_n hx hb dX13_expression_96 rfl (lv_at hl 2 rfl) ?_
                  refine lv_bipush (v := (nI 7)) hx hb dX13_expression_97 (by decide) ?_
                  refine c_VI hx hb hml hts hown hK hl.1 hS ⟨Nat.le_refl _, Nat.le_refl _⟩ (met_X13_is l D dA hG (tkOK_to (V := V) (fun j => (Eq.trans (hE6 3 j rfl) (Eq.trans (hE5 3 j rfl) (Eq.trans (hE3 3 j rfl) (hE1 3 j rfl))))) (fun j => (Eq.trans (hE6 4 j rfl) (Eq.trans (hE5 4 j rfl) (Eq.trans (hE3 4 j rfl) (hE1 4 j rfl))))) (fun j => (Eq.trans (hE6 5 j rfl) (Eq.trans (hE5 5 j rfl) (Eq.trans (hE3 5 j rfl) (hE1 5 j rfl))))) hT) hps 7 (by omega)) (cw_X13_218 hts ⟨by decide, by decide⟩) (hG 0 _ rfl) rfl rfl rfl rfl (Nat.le_of_ble_eq_true rfl) dX13_expression_99 (fun _ h => h.elim) (fun r H1 locs hq hF hS => ?_)
                  obtain ⟨rfl, rfl⟩ := hq
                  have hbb99 := bN_lt (isP foc (kdF ch sz tc) 7)
                  refine n_if_eq (tgt := 145) hx hb dX13_expression_102 (by decide) (by omega) (fun c102 => ?_) (fun c102 => ?_)
                  · have hC : exC (kdF ch sz) (plF ch sz) 402 t5 none oa wsa em5 = (tc, foc, oc, wsc, emc) := hR.symm.trans (exC_0 (fun z => bN0 (by omega) z.1))
                    refine lv_aload_n hx hb dX13_expression_145 rfl (lv_at hl 2 rfl) ?_
                    refine lv_bipush (v := (nI 8)) hx hb dX13_expression_146 (by decide) ?_
                    refine c_VI hx hb hml hts hown hK hl.1 hS ⟨Nat.le_refl _, Nat.le_refl _⟩ (met_X13_is l D dA hG (tkOK_to (V := V) (fun j => (Eq.trans (hE6 3 j rfl) (Eq.trans (hE5 3 j rfl) (Eq.trans (hE3 3 j rfl) (hE1 3 j rfl))))) (fun j => (Eq.trans (hE6 4 j rfl) (Eq.trans (hE5 4 j rfl) (Eq.trans (hE3 4 j rfl) (hE1 4 j rfl))))) (fun j => (Eq.trans (hE6 5 j rfl) (Eq.trans (hE5 5 j rfl) (Eq.trans (hE3 5 j rfl) (hE1 5 j rfl))))) hT) hps 8 (by omega)) (cw_X13_218 hts ⟨by decide, by decide⟩) (hG 0 _ rfl) rfl rfl rfl rfl (Nat.le_of_ble_eq_true rfl) dX13_expression_148 (fun _ h => h.elim) (fun r H1 locs hq hF hS => ?_)
                    obtain ⟨rfl, rfl⟩ := hq
                    have hbb148 := bN_lt (isP foc (kdF ch sz tc) 8)
                    refine n_if_ne (tgt := 181) hx hb dX13_expression_151 (by decide) (by omega) (fun c151 => ?_) (fun c151 => ?_)
                    · have hm : opT (kdF ch sz) tc foc = true := opT_t (bN1 (show ¬ bN (isP foc (kdF ch sz tc) 8) = 0 by omega)) (by decide)
                      obtain ⟨hmf, hmk⟩ := opT_k hm
                      have hn1 := hn hmf
                      have h86 := h85 hmf
                      refine lv_iconst (v := (nI 1)) hx hb dX13_expression_181 (by decide) ?_
                      refine lv_goto (tgt := 186) hx hb dX13_expression_182 (by decide) ?_
                      refine lv_istore_n (lv' := [(2, .int (nI 1)), (1, .int (nI 0)), (0, .ref o)]) hx hb dX13_expression_186 rfl hl (by decide) rfl (fun ls hl => ?_)
                      refine lv_iload_n hx hb dX13_expression_187 rfl (lv_at hl 0 rfl) ?_
                      refine n_if_ne (tgt := 210) hx hb dX13_expression_188 (by decide) (by decide) (fun _ => ?_) (fun z => absurd z (by decide))
                      refine lv_aload_n hx hb dX13_expression_210 rfl (lv_at hl 2 rfl) ?_
                      refine lv_aload_n hx hb dX13_expression_211 rfl (lv_at hl 2 rfl) ?_
                      refine lv_bipush (v := (nI 10)) hx hb dX13_expression_212 (by decide) ?_
                      refine c_VI hx hb hml hts hown hK hl.1 hS ⟨Nat.le_refl _, Nat.le_refl _⟩ (met_X13_is l D dA hG (tkOK_to (V := V) (fun j => (Eq.trans (hE6 3 j rfl) (Eq.trans (hE5 3 j rfl) (Eq.trans (hE3 3 j rfl) (hE1 3 j rfl))))) (fun j => (Eq.trans (hE6 4 j rfl) (Eq.trans (hE5 4 j rfl) (Eq.trans (hE3 4 j rfl) (hE1 4 j rfl))))) (fun j => (Eq.trans (hE6 5 j rfl) (Eq.trans (hE5 5 j rfl) (Eq.trans (hE3 5 j rfl) (hE1 5 j rfl))))) hT) hps 10 (by omega)) (cw_X13_218 hts ⟨by decide, by decide⟩) (hG 0 _ rfl) rfl rfl rfl rfl (Nat.le_of_ble_eq_true rfl) dX13_expression_214 (fun _ h => h.elim) (fun r H1 locs hq hF hS => ?_)
                      obtain ⟨rfl, rfl⟩ := hq
                      have hbb214 := bN_lt (isP foc (kdF ch sz tc) 10)
                      refine n_if_ne (tgt := 229) hx hb dX13_expression_217 (by decide) (by omega) (fun c217 => ?_) (fun c217 => ?_)
                      · have hx1 : opS (kdF ch sz) tc foc = 1 := opS_1 (bN1 (show ¬ bN (isP foc (kdF ch sz tc) 10) = 0 by omega)) (by decide)
                        refine lv_iconst (v := (nI 1)) hx hb dX13_expression_229 (by decide) ?_
                        refine lv_goto (tgt := 234) hx hb dX13_expression_230 (by decide) ?_
                        refine c_VV hx hb hml hts hown hK hl.1 hS ⟨Nat.le_refl _, Nat.le_refl _⟩ (met_X13_comesOut l D dA hG hwt hem hcm.2 (by omega) 1 (by omega)) (cw_X13_296 hts ⟨by decide, by decide⟩) (hG 0 _ rfl) rfl rfl rfl rfl (Nat.le_of_ble_eq_true rfl) dX13_expression_234 (fun _ h => h) (fun H1 locs hq hF hS => ?_)
                        have hloB := hlo
                        obtain ⟨V8, hG, hE8, hwt8, hem8, hlo8⟩ := hq
                        generalize hHe8 : H1 = H at hG hS ⊢
                        clear hHe8
                        replace hlo8 := loF.trans hloB hlo8
                        obtain ⟨wp8, ep8, hco8⟩ : ∃ a b, coO 1 wsc emc = (a, b) := ⟨_, _, rfl⟩
                        rw [hco8] at hwt8 hem8
                        have hci8 := coO_inv _ _ _ _ _ hco8
                        replace hwt8 : wtM V8 wp8 := hwt8
                        replace hem8 : emM V8 c0 ep8 := hem8
                        have hokw := hci8.2.1 hok
                        have hwl2 := ws_len2 hokw
                        have hc62 := hci8.2.2.1
                        have hlen2 := hci8.1
                        have ho61 := ho6 hmf
                        have hwl3 : wp8.length < 64 := by omega
                        refine lv_aload_n hx hb dX13_expression_237 rfl (lv_at hl 2 rfl) ?_
                        refine g_get hx hb hts hown hK hG 0 rfl rfl ok_X13 42 (by decide) q1513 rfl rfl dX13_expression_238 ?_
                        refine lv_aload_n hx hb dX13_expression_241 rfl (lv_at hl 2 rfl) ?_
                        refine g_get (v := .int (nI wp8.length)) hx hb hts hown hK hG 0 rfl rfl ok_X13 43 (by decide) q1514 rfl (congrArg Value.int hwt8.1) dX13_expression_242 ?_
                        refine lv_aload_n hx hb dX13_expression_245 rfl (lv_at hl 2 rfl) ?_
                        refine g_get hx hb hts hown hK hG 0 rfl rfl ok_X13 5 (by decide) q1476 rfl rfl dX13_expression_246 ?_
                        refine lv_aload_n hx hb dX13_expression_249 rfl (lv_at hl 2 rfl) ?_
                        refine g_get (v := .int (nI tc)) hx hb hts hown hK hG 0 rfl rfl ok_X13 11 (by decide) q1482 rfl (congrArg Value.int ((hE8 0 11 rfl).trans hps.2.1)) dX13_expression_250 ?_
                        refine n_iald hx hb hK hG 3 rfl (by omega) (by decide) dX13_expression_253 ?_
                        refine iv (y := (nI (kdF ch sz tc))) (((hE8 3 tc rfl).trans ((hE6 3 tc rfl).trans ((hE5 3 tc rfl).trans ((hE3 3 tc rfl).trans (hE1 3 tc rfl))))).trans hk3_7) ?_
                        refine n_iast hx hb hK hG hS 27 (AM_in 27 (by decide)) rfl (by omega) (by decide) dX13_expression_254 (fun H locs hG hO hS => ?_)
                        refine lv_aload_n hx hb dX13_expression_255 rfl (lv_at hl 2 rfl) ?_
                        refine lv_dup hx hb dX13_expression_256 rfl ?_
                        refine g_get (v := .int (nI wp8.length)) hx hb hts hown hK hG 0 rfl rfl ok_X13 43 (by decide) q1514 rfl (congrArg Value.int hwt8.1) dX13_expression_257 ?_
                        refine lv_iconst (v := (nI 1)) hx hb dX13_expression_260 (by decide) ?_
                        refine n_iadd hx hb dX13_expression_261 ?_
                        refine g_put hx hb hts hown hK hG hS 0 (AM_in 0 (by decide)) rfl rfl ok_X13 43 (by decide) q1514 rfl rfl rfl rfl dX13_expression_262 (fun H locs hG hO hS => ?_)
                        have hwtp : wtM (up2 (up2 V8 27 wp8.length (nI (kdF ch sz tc))) 0 43 (nI (wp8.length + 1))) ((kdF ch sz tc) :: wp8) := wt_push hwt8 (by omega) (by omega) (show up2 _ 27 _ _ 27 _ = _ from up2_s) (fun j hj => Eq.trans (show up2 _ 27 _ _ 27 j = _ from up2_n (fun z => by have := z.2; omega)) rfl) rfl
                        refine lv_aload_n hx hb dX13_expression_265 rfl (lv_at hl 2 rfl) ?_
                        refine c_VV hx hb hml hts hown hK hl.1 hS ⟨Nat.le_refl _, Nat.le_refl _⟩ (met_X13_goesOn l D dA hG (tkOK_to (V := V) (fun j => (Eq.trans (hE8 3 j rfl) (Eq.trans (hE6 3 j rfl) (Eq.trans (hE5 3 j rfl) (Eq.trans (hE3 3 j rfl) (hE1 3 j rfl)))))) (fun j => (Eq.trans (hE8 4 j rfl) (Eq.trans (hE6 4 j rfl) (Eq.trans (hE5 4 j rfl) (Eq.trans (hE3 4 j rfl) (hE1 4 j rfl)))))) (fun j => (Eq.trans (hE8 5 j rfl) (Eq.trans (hE6 5 j rfl) (Eq.trans (hE5 5 j rfl) (Eq.trans (hE3 5 j rfl) (hE1 5 j rfl)))))) hT) (psM_to (V := V6) (hE8 0 11 rfl) (hE8 0 13 rfl) (hE8 0 14 rfl) hps) (by omega)) (cw_X13_221 hts ⟨by decide, by decide⟩) (hG 0 _ rfl) rfl rfl rfl rfl (Nat.le_of_ble_eq_true rfl) dX13_expression_266 (fun _ h => h) (fun H1 locs hq hF hS => ?_)
                        obtain ⟨V9, hG, hE9, hps9⟩ := hq
                        generalize hHe9 : H1 = H at hG hS ⊢
                        clear hHe9
                        obtain ⟨t9, fo9, he9⟩ : ∃ a b, goP (plF ch sz) tc foc = (a, b) := ⟨_, _, rfl⟩
                        replace hps9 : psM V9 m0 t9 fo9 := by rw [he9] at hps9; exact hps9
                        obtain ⟨ft9, hft99, hft9, hfz9⟩ := fo_z hps9.2.2
                        have htm9 := hps9.1
                        obtain ⟨hk39, hk49, hk59, hk69⟩ := hT.1 t9 htm9
                        have hkd99 := kd_lt ch sz t9
                        have hb39 := (hT.2.2.2.2.2 t9 htm9).1
                        have hb59 := (hT.2.2.2.2.2 t9 htm9).2.1
                        refine lv_goto (tgt := 12) hx hb dX13_expression_269 (by decide) ?_
                        have hgf := goP_f he9
                        have hokn := opS_w hm hx1 hco8 hok
                        exact ih1 (n - 1) t9 fo9 oc (kdF ch sz tc :: wp8) ep8 V9 _ _ _ (by omega) (by rw [← hRA]; obtain ⟨n2, rfl⟩ : ∃ n2, n = n2 + 1 := ⟨n - 1, by omega⟩; exact (exM_go hA he5 hee5 hC hm hx1 hco8 he9).symm) hokn (by show (if kdF ch sz tc = 6 then 1 else 0) + cnt6 wp8 = _; rw [if_neg (by omega)]; omega) (by omega) (fun _ => by omega) (fun z => by have h9 := (hgf.2.2 z).2; omega) (by rw [List.length_cons]; omega) (fun z => by have h9 := (hgf.2.2 z).2; rw [List.length_cons]; omega) (Eqx.trans (Eqx.up (Eqx.up (Eqx.trans (Eqx.trans (Eqx.trans (Eqx.trans hE1 (hE3.mono PXb_PEx)) (hE5.mono PUn_PEx)) (hE6.mono PXc_PEx)) (hE8.mono PCo_PEx)) rfl) rfl) (hE9.mono PGo_PEx)) hps9 (Eq.trans ((hE9 0 12 rfl).trans (hE8 0 12 rfl)) ho12) (wtM_to (V := up2 (up2 V8 27 wp8.length (nI (kdF ch sz tc))) 0 43 (nI (wp8.length + 1))) (hE9 0 43 rfl) (fun j => (hE9 27 j rfl)) hwtp) (emM_to (V := V8) (hE9 0 39 rfl) (fun j => (hE9 25 j rfl)) (fun j => (hE9 26 j rfl)) hem8) (loF_to (V1 := V8) (fun j => (hE9 25 j rfl)) (fun j => (hE9 26 j rfl)) hlo8) hG hS (lv_sub hl [0, 1, 2] rfl)
                      refine lv_aload_n hx hb dX13_expression_220 rfl (lv_at hl 2 rfl) ?_
                      refine lv_bipush (v := (nI 15)) hx hb dX13_expression_221 (by decide) ?_
                      refine c_VI hx hb hml hts hown hK hl.1 hS ⟨Nat.le_refl _, Nat.le_refl _⟩ (met_X13_is l D dA hG (tkOK_to (V := V) (fun j => (Eq.trans (hE6 3 j rfl) (Eq.trans (hE5 3 j rfl) (Eq.trans (hE3 3 j rfl) (hE1 3 j rfl))))) (fun j => (Eq.trans (hE6 4 j rfl) (Eq.trans (hE5 4 j rfl) (Eq.trans (hE3 4 j rfl) (hE1 4 j rfl))))) (fun j => (Eq.trans (hE6 5 j rfl) (Eq.trans (hE5 5 j rfl) (Eq.trans (hE3 5 j rfl) (hE1 5 j rfl))))) hT) hps 15 (by omega)) (cw_X13_218 hts ⟨by decide, by decide⟩) (hG 0 _ rfl) rfl rfl rfl rfl (Nat.le_of_ble_eq_true rfl) dX13_expression_223 (fun _ h => h.elim) (fun r H1 locs hq hF hS => ?_)
                      obtain ⟨rfl, rfl⟩ := hq
                      have hbb223 := bN_lt (isP foc (kdF ch sz tc) 15)
                      refine n_if_eq (tgt := 233) hx hb dX13_expression_226 (by decide) (by omega) (fun c226 => ?_) (fun c226 => ?_)
                      · have hx1 : opS (kdF ch sz) tc foc = 0 := opS_0 (bN0 (show bN (isP foc (kdF ch sz tc) 10) = 0 by omega)) (bN0 (show bN (isP foc (kdF ch sz tc) 15) = 0 by omega))
                        refine lv_iconst (v := (nI 0)) hx hb dX13_expression_233 (by decide) ?_
                        refine c_VV hx hb hml hts hown hK hl.1 hS ⟨Nat.le_refl _, Nat.le_refl _⟩ (met_X13_comesOut l D dA hG hwt hem hcm.2 (by omega) 0 (by omega)) (cw_X13_296 hts ⟨by decide, by decide⟩) (hG 0 _ rfl) rfl rfl rfl rfl (Nat.le_of_ble_eq_true rfl) dX13_expression_234 (fun _ h => h) (fun H1 locs hq hF hS => ?_)
                        have hloB := hlo
                        obtain ⟨V10, hG, hE10, hwt10, hem10, hlo10⟩ := hq
                        generalize hHe10 : H1 = H at hG hS ⊢
                        clear hHe10
                        replace hlo10 := loF.trans hloB hlo10
                        obtain ⟨wp10, ep10, hco10⟩ : ∃ a b, coO 0 wsc emc = (a, b) := ⟨_, _, rfl⟩
                        rw [hco10] at hwt10 hem10
                        have hci10 := coO_inv _ _ _ _ _ hco10
                        replace hwt10 : wtM V10 wp10 := hwt10
                        replace hem10 : emM V10 c0 ep10 := hem10
                        have hokw := hci10.2.1 hok
                        have hwl2 := ws_len2 hokw
                        have hc62 := hci10.2.2.1
                        have hlen2 := hci10.1
                        have ho61 := ho6 hmf
                        have hwl3 : wp10.length < 64 := by omega
                        refine lv_aload_n hx hb dX13_expression_237 rfl (lv_at hl 2 rfl) ?_
                        refine g_get hx hb hts hown hK hG 0 rfl rfl ok_X13 42 (by decide) q1513 rfl rfl dX13_expression_238 ?_
                        refine lv_aload_n hx hb dX13_expression_241 rfl (lv_at hl 2 rfl) ?_
                        refine g_get (v := .int (nI wp10.length)) hx hb hts hown hK hG 0 rfl rfl ok_X13 43 (by decide) q1514 rfl (congrArg Value.int hwt10.1) dX13_expression_242 ?_
                        refine lv_aload_n hx hb dX13_expression_245 rfl (lv_at hl 2 rfl) ?_
                        refine g_get hx hb hts hown hK hG 0 rfl rfl ok_X13 5 (by decide) q1476 rfl rfl dX13_expression_246 ?_
                        refine lv_aload_n hx hb dX13_expression_249 rfl (lv_at hl 2 rfl) ?_
                        refine g_get (v := .int (nI tc)) hx hb hts hown hK hG 0 rfl rfl ok_X13 11 (by decide) q1482 rfl (congrArg Value.int ((hE10 0 11 rfl).trans hps.2.1)) dX13_expression_250 ?_
                        refine n_iald hx hb hK hG 3 rfl (by omega) (by decide) dX13_expression_253 ?_
                        refine iv (y := (nI (kdF ch sz tc))) (((hE10 3 tc rfl).trans ((hE6 3 tc rfl).trans ((hE5 3 tc rfl).trans ((hE3 3 tc rfl).trans (hE1 3 tc rfl))))).trans hk3_7) ?_
                        refine n_iast hx hb hK hG hS 27 (AM_in 27 (by decide)) rfl (by omega) (by decide) dX13_expression_254 (fun H locs hG hO hS => ?_)
                        refine lv_aload_n hx hb dX13_expression_255 rfl (lv_at hl 2 rfl) ?_
                        refine lv_dup hx hb dX13_expression_256 rfl ?_
                        refine g_get (v := .int (nI wp10.length)) hx hb hts hown hK hG 0 rfl rfl ok_X13 43 (by decide) q1514 rfl (congrArg Value.int hwt10.1) dX13_expression_257 ?_
                        refine lv_iconst (v := (nI 1)) hx hb dX13_expression_260 (by decide) ?_
                        refine n_iadd hx hb dX13_expression_261 ?_
                        refine g_put hx hb hts hown hK hG hS 0 (AM_in 0 (by decide)) rfl rfl ok_X13 43 (by decide) q1514 rfl rfl rfl rfl dX13_expression_262 (fun H locs hG hO hS => ?_)
                        have hwtp : wtM (up2 (up2 V10 27 wp10.length (nI (kdF ch sz tc))) 0 43 (nI (wp10.length + 1))) ((kdF ch sz tc) :: wp10) := wt_push hwt10 (by omega) (by omega) (show up2 _ 27 _ _ 27 _ = _ from up2_s) (fun j hj => Eq.trans (show up2 _ 27 _ _ 27 j = _ from up2_n (fun z => by have := z.2; omega)) rfl) rfl
                        refine lv_aload_n hx hb dX13_expression_265 rfl (lv_at hl 2 rfl) ?_
                        refine c_VV hx hb hml hts hown hK hl.1 hS ⟨Nat.le_refl _, Nat.le_refl _⟩ (met_X13_goesOn l D dA hG (tkOK_to (V := V) (fun j => (Eq.trans (hE10 3 j rfl) (Eq.trans (hE6 3 j rfl) (Eq.trans (hE5 3 j rfl) (Eq.trans (hE3 3 j rfl) (hE1 3 j rfl)))))) (fun j => (Eq.trans (hE10 4 j rfl) (Eq.trans (hE6 4 j rfl) (Eq.trans (hE5 4 j rfl) (Eq.trans (hE3 4 j rfl) (hE1 4 j rfl)))))) (fun j => (Eq.trans (hE10 5 j rfl) (Eq.trans (hE6 5 j rfl) (Eq.trans (hE5 5 j rfl) (Eq.trans (hE3 5 j rfl) (hE1 5 j rfl)))))) hT) (psM_to (V := V6) (hE10 0 11 rfl) (hE10 0 13 rfl) (hE10 0 14 rfl) hps) (by omega)) (cw_X13_221 hts ⟨by decide, by decide⟩) (hG 0 _ rfl) rfl rfl rfl rfl (Nat.le_of_ble_eq_true rfl) dX13_expression_266 (fun _ h => h) (fun H1 locs hq hF hS => ?_)
                        obtain ⟨V11, hG, hE11, hps11⟩ := hq
                        generalize hHe11 : H1 = H at hG hS ⊢
                        clear hHe11
                        obtain ⟨t11, fo11, he11⟩ : ∃ a b, goP (plF ch sz) tc foc = (a, b) := ⟨_, _, rfl⟩
                        replace hps11 : psM V11 m0 t11 fo11 := by rw [he11] at hps11; exact hps11
                        obtain ⟨ft11, hft911, hft11, hfz11⟩ := fo_z hps11.2.2
                        have htm11 := hps11.1
                        obtain ⟨hk311, hk411, hk511, hk611⟩ := hT.1 t11 htm11
                        have hkd911 := kd_lt ch sz t11
                        have hb311 := (hT.2.2.2.2.2 t11 htm11).1
                        have hb511 := (hT.2.2.2.2.2 t11 htm11).2.1
                        refine lv_goto (tgt := 12) hx hb dX13_expression_269 (by decide) ?_
                        have hgf := goP_f he11
                        have hokn := opS_w hm hx1 hco10 hok
                        exact ih1 (n - 1) t11 fo11 oc (kdF ch sz tc :: wp10) ep10 V11 _ _ _ (by omega) (by rw [← hRA]; obtain ⟨n2, rfl⟩ : ∃ n2, n = n2 + 1 := ⟨n - 1, by omega⟩; exact (exM_go hA he5 hee5 hC hm hx1 hco10 he11).symm) hokn (by show (if kdF ch sz tc = 6 then 1 else 0) + cnt6 wp10 = _; rw [if_neg (by omega)]; omega) (by omega) (fun _ => by omega) (fun z => by have h9 := (hgf.2.2 z).2; omega) (by rw [List.length_cons]; omega) (fun z => by have h9 := (hgf.2.2 z).2; rw [List.length_cons]; omega) (Eqx.trans (Eqx.up (Eqx.up (Eqx.trans (Eqx.trans (Eqx.trans (Eqx.trans hE1 (hE3.mono PXb_PEx)) (hE5.mono PUn_PEx)) (hE6.mono PXc_PEx)) (hE10.mono PCo_PEx)) rfl) rfl) (hE11.mono PGo_PEx)) hps11 (Eq.trans ((hE11 0 12 rfl).trans (hE10 0 12 rfl)) ho12) (wtM_to (V := up2 (up2 V10 27 wp10.length (nI (kdF ch sz tc))) 0 43 (nI (wp10.length + 1))) (hE11 0 43 rfl) (fun j => (hE11 27 j rfl)) hwtp) (emM_to (V := V10) (hE11 0 39 rfl) (fun j => (hE11 25 j rfl)) (fun j => (hE11 26 j rfl)) hem10) (loF_to (V1 := V10) (fun j => (hE11 25 j rfl)) (fun j => (hE11 26 j rfl)) hlo10) hG hS (lv_sub hl [0, 1, 2] rfl)
                      have hx1 : opS (kdF ch sz) tc foc = 1 := opS_1 (bN1 (show ¬ bN (isP foc (kdF ch sz tc) 15) = 0 by omega)) (by decide)
                      refine lv_iconst (v := (nI 1)) hx hb dX13_expression_229 (by decide) ?_
                      refine lv_goto (tgt := 234) hx hb dX13_expression_230 (by decide) ?_
                      refine c_VV hx hb hml hts hown hK hl.1 hS ⟨Nat.le_refl _, Nat.le_refl _⟩ (met_X13_comesOut l D dA hG hwt hem hcm.2 (by omega) 1 (by omega)) (cw_X13_296 hts ⟨by decide, by decide⟩) (hG 0 _ rfl) rfl rfl rfl rfl (Nat.le_of_ble_eq_true rfl) dX13_expression_234 (fun _ h => h) (fun H1 locs hq hF hS => ?_)
                      have hloB := hlo
                      obtain ⟨V12, hG, hE12, hwt12, hem12, hlo12⟩ := hq
                      generalize hHe12 : H1 = H at hG hS ⊢
                      clear hHe12
                      replace hlo12 := loF.trans hloB hlo12
                      obtain ⟨wp12, ep12, hco12⟩ : ∃ a b, coO 1 wsc emc = (a, b) := ⟨_, _, rfl⟩
                      rw [hco12] at hwt12 hem12
                      have hci12 := coO_inv _ _ _ _ _ hco12
                      replace hwt12 : wtM V12 wp12 := hwt12
                      replace hem12 : emM V12 c0 ep12 := hem12
                      have hokw := hci12.2.1 hok
                      have hwl2 := ws_len2 hokw
                      have hc62 := hci12.2.2.1
                      have hlen2 := hci12.1
                      have ho61 := ho6 hmf
                      have hwl3 : wp12.length < 64 := by omega
                      refine lv_aload_n hx hb dX13_expression_237 rfl (lv_at hl 2 rfl) ?_
                      refine g_get hx hb hts hown hK hG 0 rfl rfl ok_X13 42 (by decide) q1513 rfl rfl dX13_expression_238 ?_
                      refine lv_aload_n hx hb dX13_expression_241 rfl (lv_at hl 2 rfl) ?_
                      refine g_get (v := .int (nI wp12.length)) hx hb hts hown hK hG 0 rfl rfl ok_X13 43 (by decide) q1514 rfl (congrArg Value.int hwt12.1) dX13_expression_242 ?_
                      refine lv_aload_n hx hb dX13_expression_245 rfl (lv_at hl 2 rfl) ?_
                      refine g_get hx hb hts hown hK hG 0 rfl rfl ok_X13 5 (by decide) q1476 rfl rfl dX13_expression_246 ?_
                      refine lv_aload_n hx hb dX13_expression_249 rfl (lv_at hl 2 rfl) ?_
                      refine g_get (v := .int (nI tc)) hx hb hts hown hK hG 0 rfl rfl ok_X13 11 (by decide) q1482 rfl (congrArg Value.int ((hE12 0 11 rfl).trans hps.2.1)) dX13_expression_250 ?_
                      refine n_iald hx hb hK hG 3 rfl (by omega) (by decide) dX13_expression_253 ?_
                      refine iv (y := (nI (kdF ch sz tc))) (((hE12 3 tc rfl).trans ((hE6 3 tc rfl).trans ((hE5 3 tc rfl).trans ((hE3 3 tc rfl).trans (hE1 3 tc rfl))))).trans hk3_7) ?_
                      refine n_iast hx hb hK hG hS 27 (AM_in 27 (by decide)) rfl (by omega) (by decide) dX13_expression_254 (fun H locs hG hO hS => ?_)
                      refine lv_aload_n hx hb dX13_expression_255 rfl (lv_at hl 2 rfl) ?_
                      refine lv_dup hx hb dX13_expression_256 rfl ?_
                      refine g_get (v := .int (nI wp12.length)) hx hb hts hown hK hG 0 rfl rfl ok_X13 43 (by decide) q1514 rfl (congrArg Value.int hwt12.1) dX13_expression_257 ?_
                      refine lv_iconst (v := (nI 1)) hx hb dX13_expression_260 (by decide) ?_
                      refine n_iadd hx hb dX13_expression_261 ?_
                      refine g_put hx hb hts hown hK hG hS 0 (AM_in 0 (by decide)) rfl rfl ok_X13 43 (by decide) q1514 rfl rfl rfl rfl dX13_expression_262 (fun H locs hG hO hS => ?_)
                      have hwtp : wtM (up2 (up2 V12 27 wp12.length (nI (kdF ch sz tc))) 0 43 (nI (wp12.length + 1))) ((kdF ch sz tc) :: wp12) := wt_push hwt12 (by omega) (by omega) (show up2 _ 27 _ _ 27 _ = _ from up2_s) (fun j hj => Eq.trans (show up2 _ 27 _ _ 27 j = _ from up2_n (fun z => by have := z.2; omega)) rfl) rfl
                      refine lv_aload_n hx hb dX13_expression_265 rfl (lv_at hl 2 rfl) ?_
                      refine c_VV hx hb hml hts hown hK hl.1 hS ⟨Nat.le_refl _, Nat.le_refl _⟩ (met_X13_goesOn l D dA hG (tkOK_to (V := V) (fun j => (Eq.trans (hE12 3 j rfl) (Eq.trans (hE6 3 j rfl) (Eq.trans (hE5 3 j rfl) (Eq.trans (hE3 3 j rfl) (hE1 3 j rfl)))))) (fun j => (Eq.trans (hE12 4 j rfl) (Eq.trans (hE6 4 j rfl) (Eq.trans (hE5 4 j rfl) (Eq.trans (hE3 4 j rfl) (hE1 4 j rfl)))))) (fun j => (Eq.trans (hE12 5 j rfl) (Eq.trans (hE6 5 j rfl) (Eq.trans (hE5 5 j rfl) (Eq.trans (hE3 5 j rfl) (hE1 5 j rfl)))))) hT) (psM_to (V := V6) (hE12 0 11 rfl) (hE12 0 13 rfl) (hE12 0 14 rfl) hps) (by omega)) (cw_X13_221 hts ⟨by decide, by decide⟩) (hG 0 _ rfl) rfl rfl rfl rfl (Nat.le_of_ble_eq_true rfl) dX13_expression_266 (fun _ h => h) (fun H1 locs hq hF hS => ?_)
                      obtain ⟨V13, hG, hE13, hps13⟩ := hq
                      generalize hHe13 : H1 = H at hG hS ⊢
                      clear hHe13
                      obtain ⟨t13, fo13, he13⟩ : ∃ a b, goP (plF ch sz) tc foc = (a, b) := ⟨_, _, rfl⟩
                      replace hps13 : psM V13 m0 t13 fo13 := by rw [he13] at hps13; exact hps13
                      obtain ⟨ft13, hft913, hft13, hfz13⟩ := fo_z hps13.2.2
                      have htm13 := hps13.1
                      obtain ⟨hk313, hk413, hk513, hk613⟩ := hT.1 t13 htm13
                      have hkd913 := kd_lt ch sz t13
                      have hb313 := (hT.2.2.2.2.2 t13 htm13).1
                      have hb513 := (hT.2.2.2.2.2 t13 htm13).2.1
                      refine lv_goto (tgt := 12) hx hb dX13_expression_269 (by decide) ?_
                      have hgf := goP_f he13
                      have hokn := opS_w hm hx1 hco12 hok
                      exact ih1 (n - 1) t13 fo13 oc (kdF ch sz tc :: wp12) ep12 V13 _ _ _ (by omega) (by rw [← hRA]; obtain ⟨n2, rfl⟩ : ∃ n2, n = n2 + 1 := ⟨n - 1, by omega⟩; exact (exM_go hA he5 hee5 hC hm hx1 hco12 he13).symm) hokn (by show (if kdF ch sz tc = 6 then 1 else 0) + cnt6 wp12 = _; rw [if_neg (by omega)]; omega) (by omega) (fun _ => by omega) (fun z => by have h9 := (hgf.2.2 z).2; omega) (by rw [List.length_cons]; omega) (fun z => by have h9 := (hgf.2.2 z).2; rw [List.length_cons]; omega) (Eqx.trans (Eqx.up (Eqx.up (Eqx.trans (Eqx.trans (Eqx.trans (Eqx.trans hE1 (hE3.mono PXb_PEx)) (hE5.mono PUn_PEx)) (hE6.mono PXc_PEx)) (hE12.mono PCo_PEx)) rfl) rfl) (hE13.mono PGo_PEx)) hps13 (Eq.trans ((hE13 0 12 rfl).trans (hE12 0 12 rfl)) ho12) (wtM_to (V := up2 (up2 V12 27 wp12.length (nI (kdF ch sz tc))) 0 43 (nI (wp12.length + 1))) (hE13 0 43 rfl) (fun j => (hE13 27 j rfl)) hwtp) (emM_to (V := V12) (hE13 0 39 rfl) (fun j => (hE13 25 j rfl)) (fun j => (hE13 26 j rfl)) hem12) (loF_to (V1 := V12) (fun j => (hE13 25 j rfl)) (fun j => (hE13 26 j rfl)) hlo12) hG hS (lv_sub hl [0, 1, 2] rfl)
                    refine lv_aload_n hx hb dX13_expression_154 rfl (lv_at hl 2 rfl) ?_
                    refine lv_bipush (v := (nI 9)) hx hb dX13_expression_155 (by decide) ?_
                    refine c_VI hx hb hml hts hown hK hl.1 hS ⟨Nat.le_refl _, Nat.le_refl _⟩ (met_X13_is l D dA hG (tkOK_to (V := V) (fun j => (Eq.trans (hE6 3 j rfl) (Eq.trans (hE5 3 j rfl) (Eq.trans (hE3 3 j rfl) (hE1 3 j rfl))))) (fun j => (Eq.trans (hE6 4 j rfl) (Eq.trans (hE5 4 j rfl) (Eq.trans (hE3 4 j rfl) (hE1 4 j rfl))))) (fun j => (Eq.trans (hE6 5 j rfl) (Eq.trans (hE5 5 j rfl) (Eq.trans (hE3 5 j rfl) (hE1 5 j rfl))))) hT) hps 9 (by omega)) (cw_X13_218 hts ⟨by decide, by decide⟩) (hG 0 _ rfl) rfl rfl rfl rfl (Nat.le_of_ble_eq_true rfl) dX13_expression_157 (fun _ h => h.elim) (fun r H1 locs hq hF hS => ?_)
                    obtain ⟨rfl, rfl⟩ := hq
                    have hbb157 := bN_lt (isP foc (kdF ch sz tc) 9)
                    refine n_if_ne (tgt := 181) hx hb dX13_expression_160 (by decide) (by omega) (fun c160 => ?_) (fun c160 => ?_)
                    · have hm : opT (kdF ch sz) tc foc = true := opT_t (bN1 (show ¬ bN (isP foc (kdF ch sz tc) 9) = 0 by omega)) (by decide)
                      obtain ⟨hmf, hmk⟩ := opT_k hm
                      have hn1 := hn hmf
                      have h86 := h85 hmf
                      refine lv_iconst (v := (nI 1)) hx hb dX13_expression_181 (by decide) ?_
                      refine lv_goto (tgt := 186) hx hb dX13_expression_182 (by decide) ?_
                      refine lv_istore_n (lv' := [(2, .int (nI 1)), (1, .int (nI 0)), (0, .ref o)]) hx hb dX13_expression_186 rfl hl (by decide) rfl (fun ls hl => ?_)
                      refine lv_iload_n hx hb dX13_expression_187 rfl (lv_at hl 0 rfl) ?_
                      refine n_if_ne (tgt := 210) hx hb dX13_expression_188 (by decide) (by decide) (fun _ => ?_) (fun z => absurd z (by decide))
                      refine lv_aload_n hx hb dX13_expression_210 rfl (lv_at hl 2 rfl) ?_
                      refine lv_aload_n hx hb dX13_expression_211 rfl (lv_at hl 2 rfl) ?_
                      refine lv_bipush (v := (nI 10)) hx hb dX13_expression_212 (by decide) ?_
                      refine c_VI hx hb hml hts hown hK hl.1 hS ⟨Nat.le_refl _, Nat.le_refl _⟩ (met_X13_is l D dA hG (tkOK_to (V := V) (fun j => (Eq.trans (hE6 3 j rfl) (Eq.trans (hE5 3 j rfl) (Eq.trans (hE3 3 j rfl) (hE1 3 j rfl))))) (fun j => (Eq.trans (hE6 4 j rfl) (Eq.trans (hE5 4 j rfl) (Eq.trans (hE3 4 j rfl) (hE1 4 j rfl))))) (fun j => (Eq.trans (hE6 5 j rfl) (Eq.trans (hE5 5 j rfl) (Eq.trans (hE3 5 j rfl) (hE1 5 j rfl))))) hT) hps 10 (by omega)) (cw_X13_218 hts ⟨by decide, by decide⟩) (hG 0 _ rfl) rfl rfl rfl rfl (Nat.le_of_ble_eq_true rfl) dX13_expression_214 (fun _ h => h.elim) (fun r H1 locs hq hF hS => ?_)
                      obtain ⟨rfl, rfl⟩ := hq
                      have hbb214 := bN_lt (isP foc (kdF ch sz tc) 10)
                      refine n_if_ne (tgt := 229) hx hb dX13_expression_217 (by decide) (by omega) (fun c217 => ?_) (fun c217 => ?_)
                      · have hx1 : opS (kdF ch sz) tc foc = 1 := opS_1 (bN1 (show ¬ bN (isP foc (kdF ch sz tc) 10) = 0 by omega)) (by decide)
                        refine lv_iconst (v := (nI 1)) hx hb dX13_expression_229 (by decide) ?_
                        refine lv_goto (tgt := 234) hx hb dX13_expression_230 (by decide) ?_
                        refine c_VV hx hb hml hts hown hK hl.1 hS ⟨Nat.le_refl _, Nat.le_refl _⟩ (met_X13_comesOut l D dA hG hwt hem hcm.2 (by omega) 1 (by omega)) (cw_X13_296 hts ⟨by decide, by decide⟩) (hG 0 _ rfl) rfl rfl rfl rfl (Nat.le_of_ble_eq_true rfl) dX13_expression_234 (fun _ h => h) (fun H1 locs hq hF hS => ?_)
                        have hloB := hlo
                        obtain ⟨V14, hG, hE14, hwt14, hem14, hlo14⟩ := hq
                        generalize hHe14 : H1 = H at hG hS ⊢
                        clear hHe14
                        replace hlo14 := loF.trans hloB hlo14
                        obtain ⟨wp14, ep14, hco14⟩ : ∃ a b, coO 1 wsc emc = (a, b) := ⟨_, _, rfl⟩
                        rw [hco14] at hwt14 hem14
                        have hci14 := coO_inv _ _ _ _ _ hco14
                        replace hwt14 : wtM V14 wp14 := hwt14
                        replace hem14 : emM V14 c0 ep14 := hem14
                        have hokw := hci14.2.1 hok
                        have hwl2 := ws_len2 hokw
                        have hc62 := hci14.2.2.1
                        have hlen2 := hci14.1
                        have ho61 := ho6 hmf
                        have hwl3 : wp14.length < 64 := by omega
                        refine lv_aload_n hx hb dX13_expression_237 rfl (lv_at hl 2 rfl) ?_
                        refine g_get hx hb hts hown hK hG 0 rfl rfl ok_X13 42 (by decide) q1513 rfl rfl dX13_expression_238 ?_
                        refine lv_aload_n hx hb dX13_expression_241 rfl (lv_at hl 2 rfl) ?_
                        refine g_get (v := .int (nI wp14.length)) hx hb hts hown hK hG 0 rfl rfl ok_X13 43 (by decide) q1514 rfl (congrArg Value.int hwt14.1) dX13_expression_242 ?_
                        refine lv_aload_n hx hb dX13_expression_245 rfl (lv_at hl 2 rfl) ?_
                        refine g_get hx hb hts hown hK hG 0 rfl rfl ok_X13 5 (by decide) q1476 rfl rfl dX13_expression_246 ?_
                        refine lv_aload_n hx hb dX13_expression_249 rfl (lv_at hl 2 rfl) ?_
                        refine g_get (v := .int (nI tc)) hx hb hts hown hK hG 0 rfl rfl ok_X13 11 (by decide) q1482 rfl (congrArg Value.int ((hE14 0 11 rfl).trans hps.2.1)) dX13_expression_250 ?_
                        refine n_iald hx hb hK hG 3 rfl (by omega) (by decide) dX13_expression_253 ?_
                        refine iv (y := (nI (kdF ch sz tc))) (((hE14 3 tc rfl).trans ((hE6 3 tc rfl).trans ((hE5 3 tc rfl).trans ((hE3 3 tc rfl).trans (hE1 3 tc rfl))))).trans hk3_7) ?_
                        refine n_iast hx hb hK hG hS 27 (AM_in 27 (by decide)) rfl (by omega) (by decide) dX13_expression_254 (fun H locs hG hO hS => ?_)
                        refine lv_aload_n hx hb dX13_expression_255 rfl (lv_at hl 2 rfl) ?_
                        refine lv_dup hx hb dX13_expression_256 rfl ?_
                        refine g_get (v := .int (nI wp14.length)) hx hb hts hown hK hG 0 rfl rfl ok_X13 43 (by decide) q1514 rfl (congrArg Value.int hwt14.1) dX13_expression_257 ?_
                        refine lv_iconst (v := (nI 1)) hx hb dX13_expression_260 (by decide) ?_
                        refine n_iadd hx hb dX13_expression_261 ?_
                        refine g_put hx hb hts hown hK hG hS 0 (AM_in 0 (by decide)) rfl rfl ok_X13 43 (by decide) q1514 rfl rfl rfl rfl dX13_expression_262 (fun H locs hG hO hS => ?_)
                        have hwtp : wtM (up2 (up2 V14 27 wp14.length (nI (kdF ch sz tc))) 0 43 (nI (wp14.length + 1))) ((kdF ch sz tc) :: wp14) := wt_push hwt14 (by omega) (by omega) (show up2 _ 27 _ _ 27 _ = _ from up2_s) (fun j hj => Eq.trans (show up2 _ 27 _ _ 27 j = _ from up2_n (fun z => by have := z.2; omega)) rfl) rfl
                        refine lv_aload_n hx hb dX13_expression_265 rfl (lv_at hl 2 rfl) ?_
                        refine c_VV hx hb hml hts hown hK hl.1 hS ⟨Nat.le_refl _, Nat.le_refl _⟩ (met_X13_goesOn l D dA hG (tkOK_to (V := V) (fun j => (Eq.trans (hE14 3 j rfl) (Eq.trans (hE6 3 j rfl) (Eq.trans (hE5 3 j rfl) (Eq.trans (hE3 3 j rfl) (hE1 3 j rfl)))))) (fun j => (Eq.trans (hE14 4 j rfl) (Eq.trans (hE6 4 j rfl) (Eq.trans (hE5 4 j rfl) (Eq.trans (hE3 4 j rfl) (hE1 4 j rfl)))))) (fun j => (Eq.trans (hE14 5 j rfl) (Eq.trans (hE6 5 j rfl) (Eq.trans (hE5 5 j rfl) (Eq.trans (hE3 5 j rfl) (hE1 5 j rfl)))))) hT) (psM_to (V := V6) (hE14 0 11 rfl) (hE14 0 13 rfl) (hE14 0 14 rfl) hps) (by omega)) (cw_X13_221 hts ⟨by decide, by decide⟩) (hG 0 _ rfl) rfl rfl rfl rfl (Nat.le_of_ble_eq_true rfl) dX13_expression_266 (fun _ h => h) (fun H1 locs hq hF hS => ?_)
                        obtain ⟨V15, hG, hE15, hps15⟩ := hq
                        generalize hHe15 : H1 = H at hG hS ⊢
                        clear hHe15
                        obtain ⟨t15, fo15, he15⟩ : ∃ a b, goP (plF ch sz) tc foc = (a, b) := ⟨_, _, rfl⟩
                        replace hps15 : psM V15 m0 t15 fo15 := by rw [he15] at hps15; exact hps15
                        obtain ⟨ft15, hft915, hft15, hfz15⟩ := fo_z hps15.2.2
                        have htm15 := hps15.1
                        obtain ⟨hk315, hk415, hk515, hk615⟩ := hT.1 t15 htm15
                        have hkd915 := kd_lt ch sz t15
                        have hb315 := (hT.2.2.2.2.2 t15 htm15).1
                        have hb515 := (hT.2.2.2.2.2 t15 htm15).2.1
                        refine lv_goto (tgt := 12) hx hb dX13_expression_269 (by decide) ?_
                        have hgf := goP_f he15
                        have hokn := opS_w hm hx1 hco14 hok
                        exact ih1 (n - 1) t15 fo15 oc (kdF ch sz tc :: wp14) ep14 V15 _ _ _ (by omega) (by rw [← hRA]; obtain ⟨n2, rfl⟩ : ∃ n2, n = n2 + 1 := ⟨n - 1, by omega⟩; exact (exM_go hA he5 hee5 hC hm hx1 hco14 he15).symm) hokn (by show (if kdF ch sz tc = 6 then 1 else 0) + cnt6 wp14 = _; rw [if_neg (by omega)]; omega) (by omega) (fun _ => by omega) (fun z => by have h9 := (hgf.2.2 z).2; omega) (by rw [List.length_cons]; omega) (fun z => by have h9 := (hgf.2.2 z).2; rw [List.length_cons]; omega) (Eqx.trans (Eqx.up (Eqx.up (Eqx.trans (Eqx.trans (Eqx.trans (Eqx.trans hE1 (hE3.mono PXb_PEx)) (hE5.mono PUn_PEx)) (hE6.mono PXc_PEx)) (hE14.mono PCo_PEx)) rfl) rfl) (hE15.mono PGo_PEx)) hps15 (Eq.trans ((hE15 0 12 rfl).trans (hE14 0 12 rfl)) ho12) (wtM_to (V := up2 (up2 V14 27 wp14.length (nI (kdF ch sz tc))) 0 43 (nI (wp14.length + 1))) (hE15 0 43 rfl) (fun j => (hE15 27 j rfl)) hwtp) (emM_to (V := V14) (hE15 0 39 rfl) (fun j => (hE15 25 j rfl)) (fun j => (hE15 26 j rfl)) hem14) (loF_to (V1 := V14) (fun j => (hE15 25 j rfl)) (fun j => (hE15 26 j rfl)) hlo14) hG hS (lv_sub hl [0, 1, 2] rfl)
                      refine lv_aload_n hx hb dX13_expression_220 rfl (lv_at hl 2 rfl) ?_
                      refine lv_bipush (v := (nI 15)) hx hb dX13_expression_221 (by decide) ?_
                      refine c_VI hx hb hml hts hown hK hl.1 hS ⟨Nat.le_refl _, Nat.le_refl _⟩ (met_X13_is l D dA hG (tkOK_to (V := V) (fun j => (Eq.trans (hE6 3 j rfl) (Eq.trans (hE5 3 j rfl) (Eq.trans (hE3 3 j rfl) (hE1 3 j rfl))))) (fun j => (Eq.trans (hE6 4 j rfl) (Eq.trans (hE5 4 j rfl) (Eq.trans (hE3 4 j rfl) (hE1 4 j rfl))))) (fun j => (Eq.trans (hE6 5 j rfl) (Eq.trans (hE5 5 j rfl) (Eq.trans (hE3 5 j rfl) (hE1 5 j rfl))))) hT) hps 15 (by omega)) (cw_X13_218 hts ⟨by decide, by decide⟩) (hG 0 _ rfl) rfl rfl rfl rfl (Nat.le_of_ble_eq_true rfl) dX13_expression_223 (fun _ h => h.elim) (fun r H1 locs hq hF hS => ?_)
                      obtain ⟨rfl, rfl⟩ := hq
                      have hbb223 := bN_lt (isP foc (kdF ch sz tc) 15)
                      refine n_if_eq (tgt := 233) hx hb dX13_expression_226 (by decide) (by omega) (fun c226 => ?_) (fun c226 => ?_)
                      · have hx1 : opS (kdF ch sz) tc foc = 0 := opS_0 (bN0 (show bN (isP foc (kdF ch sz tc) 10) = 0 by omega)) (bN0 (show bN (isP foc (kdF ch sz tc) 15) = 0 by omega))
                        refine lv_iconst (v := (nI 0)) hx hb dX13_expression_233 (by decide) ?_
                        refine c_VV hx hb hml hts hown hK hl.1 hS ⟨Nat.le_refl _, Nat.le_refl _⟩ (met_X13_comesOut l D dA hG hwt hem hcm.2 (by omega) 0 (by omega)) (cw_X13_296 hts ⟨by decide, by decide⟩) (hG 0 _ rfl) rfl rfl rfl rfl (Nat.le_of_ble_eq_true rfl) dX13_expression_234 (fun _ h => h) (fun H1 locs hq hF hS => ?_)
                        have hloB := hlo
                        obtain ⟨V16, hG, hE16, hwt16, hem16, hlo16⟩ := hq
                        generalize hHe16 : H1 = H at hG hS ⊢
                        clear hHe16
                        replace hlo16 := loF.trans hloB hlo16
                        obtain ⟨wp16, ep16, hco16⟩ : ∃ a b, coO 0 wsc emc = (a, b) := ⟨_, _, rfl⟩
                        rw [hco16] at hwt16 hem16
                        have hci16 := coO_inv _ _ _ _ _ hco16
                        replace hwt16 : wtM V16 wp16 := hwt16
                        replace hem16 : emM V16 c0 ep16 := hem16
                        have hokw := hci16.2.1 hok
                        have hwl2 := ws_len2 hokw
                        have hc62 := hci16.2.2.1
                        have hlen2 := hci16.1
                        have ho61 := ho6 hmf
                        have hwl3 : wp16.length < 64 := by omega
                        refine lv_aload_n hx hb dX13_expression_237 rfl (lv_at hl 2 rfl) ?_
                        refine g_get hx hb hts hown hK hG 0 rfl rfl ok_X13 42 (by decide) q1513 rfl rfl dX13_expression_238 ?_
                        refine lv_aload_n hx hb dX13_expression_241 rfl (lv_at hl 2 rfl) ?_
                        refine g_get (v := .int (nI wp16.length)) hx hb hts hown hK hG 0 rfl rfl ok_X13 43 (by decide) q1514 rfl (congrArg Value.int hwt16.1) dX13_expression_242 ?_
                        refine lv_aload_n hx hb dX13_expression_245 rfl (lv_at hl 2 rfl) ?_
                        refine g_get hx hb hts hown hK hG 0 rfl rfl ok_X13 5 (by decide) q1476 rfl rfl dX13_expression_246 ?_
                        refine lv_aload_n hx hb dX13_expression_249 rfl (lv_at hl 2 rfl) ?_
                        refine g_get (v := .int (nI tc)) hx hb hts hown hK hG 0 rfl rfl ok_X13 11 (by decide) q1482 rfl (congrArg Value.int ((hE16 0 11 rfl).trans hps.2.1)) dX13_expression_250 ?_
                        refine n_iald hx hb hK hG 3 rfl (by omega) (by decide) dX13_expression_253 ?_
                        refine iv (y := (nI (kdF ch sz tc))) (((hE16 3 tc rfl).trans ((hE6 3 tc rfl).trans ((hE5 3 tc rfl).trans ((hE3 3 tc rfl).trans (hE1 3 tc rfl))))).trans hk3_7) ?_
                        refine n_iast hx hb hK hG hS 27 (AM_in 27 (by decide)) rfl (by omega) (by decide) dX13_expression_254 (fun H locs hG hO hS => ?_)
                        refine lv_aload_n hx hb dX13_expression_255 rfl (lv_at hl 2 rfl) ?_
                        refine lv_dup hx hb dX13_expression_256 rfl ?_
                        refine g_get (v := .int (nI wp16.length)) hx hb hts hown hK hG 0 rfl rfl ok_X13 43 (by decide) q1514 rfl (congrArg Value.int hwt16.1) dX13_expression_257 ?_
                        refine lv_iconst (v := (nI 1)) hx hb dX13_expression_260 (by decide) ?_
                        refine n_iadd hx hb dX13_expression_261 ?_
                        refine g_put hx hb hts hown hK hG hS 0 (AM_in 0 (by decide)) rfl rfl ok_X13 43 (by decide) q1514 rfl rfl rfl rfl dX13_expression_262 (fun H locs hG hO hS => ?_)
                        have hwtp : wtM (up2 (up2 V16 27 wp16.length (nI (kdF ch sz tc))) 0 43 (nI (wp16.length + 1))) ((kdF ch sz tc) :: wp16) := wt_push hwt16 (by omega) (by omega) (show up2 _ 27 _ _ 27 _ = _ from up2_s) (fun j hj => Eq.trans (show up2 _ 27 _ _ 27 j = _ from up2_n (fun z => by have := z.2; omega)) rfl) rfl
                        refine lv_aload_n hx hb dX13_expression_265 rfl (lv_at hl 2 rfl) ?_
                        refine c_VV hx hb hml hts hown hK hl.1 hS ⟨Nat.le_refl _, Nat.le_refl _⟩ (met_X13_goesOn l D dA hG (tkOK_to (V := V) (fun j => (Eq.trans (hE16 3 j rfl) (Eq.trans (hE6 3 j rfl) (Eq.trans (hE5 3 j rfl) (Eq.trans (hE3 3 j rfl) (hE1 3 j rfl)))))) (fun j => (Eq.trans (hE16 4 j rfl) (Eq.trans (hE6 4 j rfl) (Eq.trans (hE5 4 j rfl) (Eq.trans (hE3 4 j rfl) (hE1 4 j rfl)))))) (fun j => (Eq.trans (hE16 5 j rfl) (Eq.trans (hE6 5 j rfl) (Eq.trans (hE5 5 j rfl) (Eq.trans (hE3 5 j rfl) (hE1 5 j rfl)))))) hT) (psM_to (V := V6) (hE16 0 11 rfl) (hE16 0 13 rfl) (hE16 0 14 rfl) hps) (by omega)) (cw_X13_221 hts ⟨by decide, by decide⟩) (hG 0 _ rfl) rfl rfl rfl rfl (Nat.le_of_ble_eq_true rfl) dX13_expression_266 (fun _ h => h) (fun H1 locs hq hF hS => ?_)
                        obtain ⟨V17, hG, hE17, hps17⟩ := hq
                        generalize hHe17 : H1 = H at hG hS ⊢
                        clear hHe17
                        obtain ⟨t17, fo17, he17⟩ : ∃ a b, goP (plF ch sz) tc foc = (a, b) := ⟨_, _, rfl⟩
                        replace hps17 : psM V17 m0 t17 fo17 := by rw [he17] at hps17; exact hps17
                        obtain ⟨ft17, hft917, hft17, hfz17⟩ := fo_z hps17.2.2
                        have htm17 := hps17.1
                        obtain ⟨hk317, hk417, hk517, hk617⟩ := hT.1 t17 htm17
                        have hkd917 := kd_lt ch sz t17
                        have hb317 := (hT.2.2.2.2.2 t17 htm17).1
                        have hb517 := (hT.2.2.2.2.2 t17 htm17).2.1
                        refine lv_goto (tgt := 12) hx hb dX13_expression_269 (by decide) ?_
                        have hgf := goP_f he17
                        have hokn := opS_w hm hx1 hco16 hok
                        exact ih1 (n - 1) t17 fo17 oc (kdF ch sz tc :: wp16) ep16 V17 _ _ _ (by omega) (by rw [← hRA]; obtain ⟨n2, rfl⟩ : ∃ n2, n = n2 + 1 := ⟨n - 1, by omega⟩; exact (exM_go hA he5 hee5 hC hm hx1 hco16 he17).symm) hokn (by show (if kdF ch sz tc = 6 then 1 else 0) + cnt6 wp16 = _; rw [if_neg (by omega)]; omega) (by omega) (fun _ => by omega) (fun z => by have h9 := (hgf.2.2 z).2; omega) (by rw [List.length_cons]; omega) (fun z => by have h9 := (hgf.2.2 z).2; rw [List.length_cons]; omega) (Eqx.trans (Eqx.up (Eqx.up (Eqx.trans (Eqx.trans (Eqx.trans (Eqx.trans hE1 (hE3.mono PXb_PEx)) (hE5.mono PUn_PEx)) (hE6.mono PXc_PEx)) (hE16.mono PCo_PEx)) rfl) rfl) (hE17.mono PGo_PEx)) hps17 (Eq.trans ((hE17 0 12 rfl).trans (hE16 0 12 rfl)) ho12) (wtM_to (V := up2 (up2 V16 27 wp16.length (nI (kdF ch sz tc))) 0 43 (nI (wp16.length + 1))) (hE17 0 43 rfl) (fun j => (hE17 27 j rfl)) hwtp) (emM_to (V := V16) (hE17 0 39 rfl) (fun j => (hE17 25 j rfl)) (fun j => (hE17 26 j rfl)) hem16) (loF_to (V1 := V16) (fun j => (hE17 25 j rfl)) (fun j => (hE17 26 j rfl)) hlo16) hG hS (lv_sub hl [0, 1, 2] rfl)
                      have hx1 : opS (kdF ch sz) tc foc = 1 := opS_1 (bN1 (show ¬ bN (isP foc (kdF ch sz tc) 15) = 0 by omega)) (by decide)
                      refine lv_iconst (v := (nI 1)) hx hb dX13_expression_229 (by decide) ?_
                      refine lv_goto (tgt := 234) hx hb dX13_expression_230 (by decide) ?_
                      refine c_VV hx hb hml hts hown hK hl.1 hS ⟨Nat.le_refl _, Nat.le_refl _⟩ (met_X13_comesOut l D dA hG hwt hem hcm.2 (by omega) 1 (by omega)) (cw_X13_296 hts ⟨by decide, by decide⟩) (hG 0 _ rfl) rfl rfl rfl rfl (Nat.le_of_ble_eq_true rfl) dX13_expression_234 (fun _ h => h) (fun H1 locs hq hF hS => ?_)
                      have hloB := hlo
                      obtain ⟨V18, hG, hE18, hwt18, hem18, hlo18⟩ := hq
                      generalize hHe18 : H1 = H at hG hS ⊢
                      clear hHe18
                      replace hlo18 := loF.trans hloB hlo18
                      obtain ⟨wp18, ep18, hco18⟩ : ∃ a b, coO 1 wsc emc = (a, b) := ⟨_, _, rfl⟩
                      rw [hco18] at hwt18 hem18
                      have hci18 := coO_inv _ _ _ _ _ hco18
                      replace hwt18 : wtM V18 wp18 := hwt18
                      replace hem18 : emM V18 c0 ep18 := hem18
                      have hokw := hci18.2.1 hok
                      have hwl2 := ws_len2 hokw
                      have hc62 := hci18.2.2.1
                      have hlen2 := hci18.1
                      have ho61 := ho6 hmf
                      have hwl3 : wp18.length < 64 := by omega
                      refine lv_aload_n hx hb dX13_expression_237 rfl (lv_at hl 2 rfl) ?_
                      refine g_get hx hb hts hown hK hG 0 rfl rfl ok_X13 42 (by decide) q1513 rfl rfl dX13_expression_238 ?_
                      refine lv_aload_n hx hb dX13_expression_241 rfl (lv_at hl 2 rfl) ?_
                      refine g_get (v := .int (nI wp18.length)) hx hb hts hown hK hG 0 rfl rfl ok_X13 43 (by decide) q1514 rfl (congrArg Value.int hwt18.1) dX13_expression_242 ?_
                      refine lv_aload_n hx hb dX13_expression_245 rfl (lv_at hl 2 rfl) ?_
                      refine g_get hx hb hts hown hK hG 0 rfl rfl ok_X13 5 (by decide) q1476 rfl rfl dX13_expression_246 ?_
                      refine lv_aload_n hx hb dX13_expression_249 rfl (lv_at hl 2 rfl) ?_
                      refine g_get (v := .int (nI tc)) hx hb hts hown hK hG 0 rfl rfl ok_X13 11 (by decide) q1482 rfl (congrArg Value.int ((hE18 0 11 rfl).trans hps.2.1)) dX13_expression_250 ?_
                      refine n_iald hx hb hK hG 3 rfl (by omega) (by decide) dX13_expression_253 ?_
                      refine iv (y := (nI (kdF ch sz tc))) (((hE18 3 tc rfl).trans ((hE6 3 tc rfl).trans ((hE5 3 tc rfl).trans ((hE3 3 tc rfl).trans (hE1 3 tc rfl))))).trans hk3_7) ?_
                      refine n_iast hx hb hK hG hS 27 (AM_in 27 (by decide)) rfl (by omega) (by decide) dX13_expression_254 (fun H locs hG hO hS => ?_)
                      refine lv_aload_n hx hb dX13_expression_255 rfl (lv_at hl 2 rfl) ?_
                      refine lv_dup hx hb dX13_expression_256 rfl ?_
                      refine g_get (v := .int (nI wp18.length)) hx hb hts hown hK hG 0 rfl rfl ok_X13 43 (by decide) q1514 rfl (congrArg Value.int hwt18.1) dX13_expression_257 ?_
                      refine lv_iconst (v := (nI 1)) hx hb dX13_expression_260 (by decide) ?_
                      refine n_iadd hx hb dX13_expression_261 ?_
                      refine g_put hx hb hts hown hK hG hS 0 (AM_in 0 (by decide)) rfl rfl ok_X13 43 (by decide) q1514 rfl rfl rfl rfl dX13_expression_262 (fun H locs hG hO hS => ?_)
                      have hwtp : wtM (up2 (up2 V18 27 wp18.length (nI (kdF ch sz tc))) 0 43 (nI (wp18.length + 1))) ((kdF ch sz tc) :: wp18) := wt_push hwt18 (by omega) (by omega) (show up2 _ 27 _ _ 27 _ = _ from up2_s) (fun j hj => Eq.trans (show up2 _ 27 _ _ 27 j = _ from up2_n (fun z => by have := z.2; omega)) rfl) rfl
                      refine lv_aload_n hx hb dX13_expression_265 rfl (lv_at hl 2 rfl) ?_
                      refine c_VV hx hb hml hts hown hK hl.1 hS ⟨Nat.le_refl _, Nat.le_refl _⟩ (met_X13_goesOn l D dA hG (tkOK_to (V := V) (fun j => (Eq.trans (hE18 3 j rfl) (Eq.trans (hE6 3 j rfl) (Eq.trans (hE5 3 j rfl) (Eq.trans (hE3 3 j rfl) (hE1 3 j rfl)))))) (fun j => (Eq.trans (hE18 4 j rfl) (Eq.trans (hE6 4 j rfl) (Eq.trans (hE5 4 j rfl) (Eq.trans (hE3 4 j rfl) (hE1 4 j rfl)))))) (fun j => (Eq.trans (hE18 5 j rfl) (Eq.trans (hE6 5 j rfl) (Eq.trans (hE5 5 j rfl) (Eq.trans (hE3 5 j rfl) (hE1 5 j rfl)))))) hT) (psM_to (V := V6) (hE18 0 11 rfl) (hE18 0 13 rfl) (hE18 0 14 rfl) hps) (by omega)) (cw_X13_221 hts ⟨by decide, by decide⟩) (hG 0 _ rfl) rfl rfl rfl rfl (Nat.le_of_ble_eq_true rfl) dX13_expression_266 (fun _ h => h) (fun H1 locs hq hF hS => ?_)
                      obtain ⟨V19, hG, hE19, hps19⟩ := hq
                      generalize hHe19 : H1 = H at hG hS ⊢
                      clear hHe19
                      obtain ⟨t19, fo19, he19⟩ : ∃ a b, goP (plF ch sz) tc foc = (a, b) := ⟨_, _, rfl⟩
                      replace hps19 : psM V19 m0 t19 fo19 := by rw [he19] at hps19; exact hps19
                      obtain ⟨ft19, hft919, hft19, hfz19⟩ := fo_z hps19.2.2
                      have htm19 := hps19.1
                      obtain ⟨hk319, hk419, hk519, hk619⟩ := hT.1 t19 htm19
                      have hkd919 := kd_lt ch sz t19
                      have hb319 := (hT.2.2.2.2.2 t19 htm19).1
                      have hb519 := (hT.2.2.2.2.2 t19 htm19).2.1
                      refine lv_goto (tgt := 12) hx hb dX13_expression_269 (by decide) ?_
                      have hgf := goP_f he19
                      have hokn := opS_w hm hx1 hco18 hok
                      exact ih1 (n - 1) t19 fo19 oc (kdF ch sz tc :: wp18) ep18 V19 _ _ _ (by omega) (by rw [← hRA]; obtain ⟨n2, rfl⟩ : ∃ n2, n = n2 + 1 := ⟨n - 1, by omega⟩; exact (exM_go hA he5 hee5 hC hm hx1 hco18 he19).symm) hokn (by show (if kdF ch sz tc = 6 then 1 else 0) + cnt6 wp18 = _; rw [if_neg (by omega)]; omega) (by omega) (fun _ => by omega) (fun z => by have h9 := (hgf.2.2 z).2; omega) (by rw [List.length_cons]; omega) (fun z => by have h9 := (hgf.2.2 z).2; rw [List.length_cons]; omega) (Eqx.trans (Eqx.up (Eqx.up (Eqx.trans (Eqx.trans (Eqx.trans (Eqx.trans hE1 (hE3.mono PXb_PEx)) (hE5.mono PUn_PEx)) (hE6.mono PXc_PEx)) (hE18.mono PCo_PEx)) rfl) rfl) (hE19.mono PGo_PEx)) hps19 (Eq.trans ((hE19 0 12 rfl).trans (hE18 0 12 rfl)) ho12) (wtM_to (V := up2 (up2 V18 27 wp18.length (nI (kdF ch sz tc))) 0 43 (nI (wp18.length + 1))) (hE19 0 43 rfl) (fun j => (hE19 27 j rfl)) hwtp) (emM_to (V := V18) (hE19 0 39 rfl) (fun j => (hE19 25 j rfl)) (fun j => (hE19 26 j rfl)) hem18) (loF_to (V1 := V18) (fun j => (hE19 25 j rfl)) (fun j => (hE19 26 j rfl)) hlo18) hG hS (lv_sub hl [0, 1, 2] rfl)
                    refine lv_aload_n hx hb dX13_expression_163 rfl (lv_at hl 2 rfl) ?_
                    refine lv_bipush (v := (nI 10)) hx hb dX13_expression_164 (by decide) ?_
                    refine c_VI hx hb hml hts hown hK hl.1 hS ⟨Nat.le_refl _, Nat.le_refl _⟩ (met_X13_is l D dA hG (tkOK_to (V := V) (fun j => (Eq.trans (hE6 3 j rfl) (Eq.trans (hE5 3 j rfl) (Eq.trans (hE3 3 j rfl) (hE1 3 j rfl))))) (fun j => (Eq.trans (hE6 4 j rfl) (Eq.trans (hE5 4 j rfl) (Eq.trans (hE3 4 j rfl) (hE1 4 j rfl))))) (fun j => (Eq.trans (hE6 5 j rfl) (Eq.trans (hE5 5 j rfl) (Eq.trans (hE3 5 j rfl) (hE1 5 j rfl))))) hT) hps 10 (by omega)) (cw_X13_218 hts ⟨by decide, by decide⟩) (hG 0 _ rfl) rfl rfl rfl rfl (Nat.le_of_ble_eq_true rfl) dX13_expression_166 (fun _ h => h.elim) (fun r H1 locs hq hF hS => ?_)
                    obtain ⟨rfl, rfl⟩ := hq
                    have hbb166 := bN_lt (isP foc (kdF ch sz tc) 10)
                    refine n_if_ne (tgt := 181) hx hb dX13_expression_169 (by decide) (by omega) (fun c169 => ?_) (fun c169 => ?_)
                    · have hm : opT (kdF ch sz) tc foc = true := opT_t (bN1 (show ¬ bN (isP foc (kdF ch sz tc) 10) = 0 by omega)) (by decide)
                      obtain ⟨hmf, hmk⟩ := opT_k hm
                      have hn1 := hn hmf
                      have h86 := h85 hmf
                      refine lv_iconst (v := (nI 1)) hx hb dX13_expression_181 (by decide) ?_
                      refine lv_goto (tgt := 186) hx hb dX13_expression_182 (by decide) ?_
                      refine lv_istore_n (lv' := [(2, .int (nI 1)), (1, .int (nI 0)), (0, .ref o)]) hx hb dX13_expression_186 rfl hl (by decide) rfl (fun ls hl => ?_)
                      refine lv_iload_n hx hb dX13_expression_187 rfl (lv_at hl 0 rfl) ?_
                      refine n_if_ne (tgt := 210) hx hb dX13_expression_188 (by decide) (by decide) (fun _ => ?_) (fun z => absurd z (by decide))
                      refine lv_aload_n hx hb dX13_expression_210 rfl (lv_at hl 2 rfl) ?_
                      refine lv_aload_n hx hb dX13_expression_211 rfl (lv_at hl 2 rfl) ?_
                      refine lv_bipush (v := (nI 10)) hx hb dX13_expression_212 (by decide) ?_
                      refine c_VI hx hb hml hts hown hK hl.1 hS ⟨Nat.le_refl _, Nat.le_refl _⟩ (met_X13_is l D dA hG (tkOK_to (V := V) (fun j => (Eq.trans (hE6 3 j rfl) (Eq.trans (hE5 3 j rfl) (Eq.trans (hE3 3 j rfl) (hE1 3 j rfl))))) (fun j => (Eq.trans (hE6 4 j rfl) (Eq.trans (hE5 4 j rfl) (Eq.trans (hE3 4 j rfl) (hE1 4 j rfl))))) (fun j => (Eq.trans (hE6 5 j rfl) (Eq.trans (hE5 5 j rfl) (Eq.trans (hE3 5 j rfl) (hE1 5 j rfl))))) hT) hps 10 (by omega)) (cw_X13_218 hts ⟨by decide, by decide⟩) (hG 0 _ rfl) rfl rfl rfl rfl (Nat.le_of_ble_eq_true rfl) dX13_expression_214 (fun _ h => h.elim) (fun r H1 locs hq hF hS => ?_)
                      obtain ⟨rfl, rfl⟩ := hq
                      have hbb214 := bN_lt (isP foc (kdF ch sz tc) 10)
                      refine n_if_ne (tgt := 229) hx hb dX13_expression_217 (by decide) (by omega) (fun c217 => ?_) (fun c217 => ?_)
                      · have hx1 : opS (kdF ch sz) tc foc = 1 := opS_1 (bN1 (show ¬ bN (isP foc (kdF ch sz tc) 10) = 0 by omega)) (by decide)
                        refine lv_iconst (v := (nI 1)) hx hb dX13_expression_229 (by decide) ?_
                        refine lv_goto (tgt := 234) hx hb dX13_expression_230 (by decide) ?_
                        refine c_VV hx hb hml hts hown hK hl.1 hS ⟨Nat.le_refl _, Nat.le_refl _⟩ (met_X13_comesOut l D dA hG hwt hem hcm.2 (by omega) 1 (by omega)) (cw_X13_296 hts ⟨by decide, by decide⟩) (hG 0 _ rfl) rfl rfl rfl rfl (Nat.le_of_ble_eq_true rfl) dX13_expression_234 (fun _ h => h) (fun H1 locs hq hF hS => ?_)
                        have hloB := hlo
                        obtain ⟨V20, hG, hE20, hwt20, hem20, hlo20⟩ := hq
                        generalize hHe20 : H1 = H at hG hS ⊢
                        clear hHe20
                        replace hlo20 := loF.trans hloB hlo20
                        obtain ⟨wp20, ep20, hco20⟩ : ∃ a b, coO 1 wsc emc = (a, b) := ⟨_, _, rfl⟩
                        rw [hco20] at hwt20 hem20
                        have hci20 := coO_inv _ _ _ _ _ hco20
                        replace hwt20 : wtM V20 wp20 := hwt20
                        replace hem20 : emM V20 c0 ep20 := hem20
                        have hokw := hci20.2.1 hok
                        have hwl2 := ws_len2 hokw
                        have hc62 := hci20.2.2.1
                        have hlen2 := hci20.1
                        have ho61 := ho6 hmf
                        have hwl3 : wp20.length < 64 := by omega
                        refine lv_aload_n hx hb dX13_expression_237 rfl (lv_at hl 2 rfl) ?_
                        refine g_get hx hb hts hown hK hG 0 rfl rfl ok_X13 42 (by decide) q1513 rfl rfl dX13_expression_238 ?_
                        refine lv_aload_n hx hb dX13_expression_241 rfl (lv_at hl 2 rfl) ?_
                        refine g_get (v := .int (nI wp20.length)) hx hb hts hown hK hG 0 rfl rfl ok_X13 43 (by decide) q1514 rfl (congrArg Value.int hwt20.1) dX13_expression_242 ?_
                        refine lv_aload_n hx hb dX13_expression_245 rfl (lv_at hl 2 rfl) ?_
                        refine g_get hx hb hts hown hK hG 0 rfl rfl ok_X13 5 (by decide) q1476 rfl rfl dX13_expression_246 ?_
                        refine lv_aload_n hx hb dX13_expression_249 rfl (lv_at hl 2 rfl) ?_
                        refine g_get (v := .int (nI tc)) hx hb hts hown hK hG 0 rfl rfl ok_X13 11 (by decide) q1482 rfl (congrArg Value.int ((hE20 0 11 rfl).trans hps.2.1)) dX13_expression_250 ?_
                        refine n_iald hx hb hK hG 3 rfl (by omega) (by decide) dX13_expression_253 ?_
                        refine iv (y := (nI (kdF ch sz tc))) (((hE20 3 tc rfl).trans ((hE6 3 tc rfl).trans ((hE5 3 tc rfl).trans ((hE3 3 tc rfl).trans (hE1 3 tc rfl))))).trans hk3_7) ?_
                        refine n_iast hx hb hK hG hS 27 (AM_in 27 (by decide)) rfl (by omega) (by decide) dX13_expression_254 (fun H locs hG hO hS => ?_)
                        refine lv_aload_n hx hb dX13_expression_255 rfl (lv_at hl 2 rfl) ?_
                        refine lv_dup hx hb dX13_expression_256 rfl ?_
                        refine g_get (v := .int (nI wp20.length)) hx hb hts hown hK hG 0 rfl rfl ok_X13 43 (by decide) q1514 rfl (congrArg Value.int hwt20.1) dX13_expression_257 ?_
                        refine lv_iconst (v := (nI 1)) hx hb dX13_expression_260 (by decide) ?_
                        refine n_iadd hx hb dX13_expression_261 ?_
                        refine g_put hx hb hts hown hK hG hS 0 (AM_in 0 (by decide)) rfl rfl ok_X13 43 (by decide) q1514 rfl rfl rfl rfl dX13_expression_262 (fun H locs hG hO hS => ?_)
                        have hwtp : wtM (up2 (up2 V20 27 wp20.length (nI (kdF ch sz tc))) 0 43 (nI (wp20.length + 1))) ((kdF ch sz tc) :: wp20) := wt_push hwt20 (by omega) (by omega) (show up2 _ 27 _ _ 27 _ = _ from up2_s) (fun j hj => Eq.trans (show up2 _ 27 _ _ 27 j = _ from up2_n (fun z => by have := z.2; omega)) rfl) rfl
                        refine lv_aload_n hx hb dX13_expression_265 rfl (lv_at hl 2 rfl) ?_
                        refine c_VV hx hb hml hts hown hK hl.1 hS ⟨Nat.le_refl _, Nat.le_refl _⟩ (met_X13_goesOn l D dA hG (tkOK_to (V := V) (fun j => (Eq.trans (hE20 3 j rfl) (Eq.trans (hE6 3 j rfl) (Eq.trans (hE5 3 j rfl) (Eq.trans (hE3 3 j rfl) (hE1 3 j rfl)))))) (fun j => (Eq.trans (hE20 4 j rfl) (Eq.trans (hE6 4 j rfl) (Eq.trans (hE5 4 j rfl) (Eq.trans (hE3 4 j rfl) (hE1 4 j rfl)))))) (fun j => (Eq.trans (hE20 5 j rfl) (Eq.trans (hE6 5 j rfl) (Eq.trans (hE5 5 j rfl) (Eq.trans (hE3 5 j rfl) (hE1 5 j rfl)))))) hT) (psM_to (V := V6) (hE20 0 11 rfl) (hE20 0 13 rfl) (hE20 0 14 rfl) hps) (by omega)) (cw_X13_221 hts ⟨by decide, by decide⟩) (hG 0 _ rfl) rfl rfl rfl rfl (Nat.le_of_ble_eq_true rfl) dX13_expression_266 (fun _ h => h) (fun H1 locs hq hF hS => ?_)
                        obtain ⟨V21, hG, hE21, hps21⟩ := hq
                        generalize hHe21 : H1 = H at hG hS ⊢
                        clear hHe21
                        obtain ⟨t21, fo21, he21⟩ : ∃ a b, goP (plF ch sz) tc foc = (a, b) := ⟨_, _, rfl⟩
                        replace hps21 : psM V21 m0 t21 fo21 := by rw [he21] at hps21; exact hps21
                        obtain ⟨ft21, hft921, hft21, hfz21⟩ := fo_z hps21.2.2
                        have htm21 := hps21.1
                        obtain ⟨hk321, hk421, hk521, hk621⟩ := hT.1 t21 htm21
                        have hkd921 := kd_lt ch sz t21
                        have hb321 := (hT.2.2.2.2.2 t21 htm21).1
                        have hb521 := (hT.2.2.2.2.2 t21 htm21).2.1
                        refine lv_goto (tgt := 12) hx hb dX13_expression_269 (by decide) ?_
                        have hgf := goP_f he21
                        have hokn := opS_w hm hx1 hco20 hok
                        exact ih1 (n - 1) t21 fo21 oc (kdF ch sz tc :: wp20) ep20 V21 _ _ _ (by omega) (by rw [← hRA]; obtain ⟨n2, rfl⟩ : ∃ n2, n = n2 + 1 := ⟨n - 1, by omega⟩; exact (exM_go hA he5 hee5 hC hm hx1 hco20 he21).symm) hokn (by show (if kdF ch sz tc = 6 then 1 else 0) + cnt6 wp20 = _; rw [if_neg (by omega)]; omega) (by omega) (fun _ => by omega) (fun z => by have h9 := (hgf.2.2 z).2; omega) (by rw [List.length_cons]; omega) (fun z => by have h9 := (hgf.2.2 z).2; rw [List.length_cons]; omega) (Eqx.trans (Eqx.up (Eqx.up (Eqx.trans (Eqx.trans (Eqx.trans (Eqx.trans hE1 (hE3.mono PXb_PEx)) (hE5.mono PUn_PEx)) (hE6.mono PXc_PEx)) (hE20.mono PCo_PEx)) rfl) rfl) (hE21.mono PGo_PEx)) hps21 (Eq.trans ((hE21 0 12 rfl).trans (hE20 0 12 rfl)) ho12) (wtM_to (V := up2 (up2 V20 27 wp20.length (nI (kdF ch sz tc))) 0 43 (nI (wp20.length + 1))) (hE21 0 43 rfl) (fun j => (hE21 27 j rfl)) hwtp) (emM_to (V := V20) (hE21 0 39 rfl) (fun j => (hE21 25 j rfl)) (fun j => (hE21 26 j rfl)) hem20) (loF_to (V1 := V20) (fun j => (hE21 25 j rfl)) (fun j => (hE21 26 j rfl)) hlo20) hG hS (lv_sub hl [0, 1, 2] rfl)
                      refine lv_aload_n hx hb dX13_expression_220 rfl (lv_at hl 2 rfl) ?_
                      refine lv_bipush (v := (nI 15)) hx hb dX13_expression_221 (by decide) ?_
                      refine c_VI hx hb hml hts hown hK hl.1 hS ⟨Nat.le_refl _, Nat.le_refl _⟩ (met_X13_is l D dA hG (tkOK_to (V := V) (fun j => (Eq.trans (hE6 3 j rfl) (Eq.trans (hE5 3 j rfl) (Eq.trans (hE3 3 j rfl) (hE1 3 j rfl))))) (fun j => (Eq.trans (hE6 4 j rfl) (Eq.trans (hE5 4 j rfl) (Eq.trans (hE3 4 j rfl) (hE1 4 j rfl))))) (fun j => (Eq.trans (hE6 5 j rfl) (Eq.trans (hE5 5 j rfl) (Eq.trans (hE3 5 j rfl) (hE1 5 j rfl))))) hT) hps 15 (by omega)) (cw_X13_218 hts ⟨by decide, by decide⟩) (hG 0 _ rfl) rfl rfl rfl rfl (Nat.le_of_ble_eq_true rfl) dX13_expression_223 (fun _ h => h.elim) (fun r H1 locs hq hF hS => ?_)
                      obtain ⟨rfl, rfl⟩ := hq
                      have hbb223 := bN_lt (isP foc (kdF ch sz tc) 15)
                      refine n_if_eq (tgt := 233) hx hb dX13_expression_226 (by decide) (by omega) (fun c226 => ?_) (fun c226 => ?_)
                      · have hx1 : opS (kdF ch sz) tc foc = 0 := opS_0 (bN0 (show bN (isP foc (kdF ch sz tc) 10) = 0 by omega)) (bN0 (show bN (isP foc (kdF ch sz tc) 15) = 0 by omega))
                        refine lv_iconst (v := (nI 0)) hx hb dX13_expression_233 (by decide) ?_
                        refine c_VV hx hb hml hts hown hK hl.1 hS ⟨Nat.le_refl _, Nat.le_refl _⟩ (met_X13_comesOut l D dA hG hwt hem hcm.2 (by omega) 0 (by omega)) (cw_X13_296 hts ⟨by decide, by decide⟩) (hG 0 _ rfl) rfl rfl rfl rfl (Nat.le_of_ble_eq_true rfl) dX13_expression_234 (fun _ h => h) (fun H1 locs hq hF hS => ?_)
                        have hloB := hlo
                        obtain ⟨V22, hG, hE22, hwt22, hem22, hlo22⟩ := hq
                        generalize hHe22 : H1 = H at hG hS ⊢
                        clear hHe22
                        replace hlo22 := loF.trans hloB hlo22
                        obtain ⟨wp22, ep22, hco22⟩ : ∃ a b, coO 0 wsc emc = (a, b) := ⟨_, _, rfl⟩
                        rw [hco22] at hwt22 hem22
                        have hci22 := coO_inv _ _ _ _ _ hco22
                        replace hwt22 : wtM V22 wp22 := hwt22
                        replace hem22 : emM V22 c0 ep22 := hem22
                        have hokw := hci22.2.1 hok
                        have hwl2 := ws_len2 hokw
                        have hc62 := hci22.2.2.1
                        have hlen2 := hci22.1
                        have ho61 := ho6 hmf
                        have hwl3 : wp22.length < 64 := by omega
                        refine lv_aload_n hx hb dX13_expression_237 rfl (lv_at hl 2 rfl) ?_
                        refine g_get hx hb hts hown hK hG 0 rfl rfl ok_X13 42 (by decide) q1513 rfl rfl dX13_expression_238 ?_
                        refine lv_aload_n hx hb dX13_expression_241 rfl (lv_at hl 2 rfl) ?_
                        refine g_get (v := .int (nI wp22.length)) hx hb hts hown hK hG 0 rfl rfl ok_X13 43 (by decide) q1514 rfl (congrArg Value.int hwt22.1) dX13_expression_242 ?_
                        refine lv_aload_n hx hb dX13_expression_245 rfl (lv_at hl 2 rfl) ?_
                        refine g_get hx hb hts hown hK hG 0 rfl rfl ok_X13 5 (by decide) q1476 rfl rfl dX13_expression_246 ?_
                        refine lv_aload_n hx hb dX13_expression_249 rfl (lv_at hl 2 rfl) ?_
                        refine g_get (v := .int (nI tc)) hx hb hts hown hK hG 0 rfl rfl ok_X13 11 (by decide) q1482 rfl (congrArg Value.int ((hE22 0 11 rfl).trans hps.2.1)) dX13_expression_250 ?_
                        refine n_iald hx hb hK hG 3 rfl (by omega) (by decide) dX13_expression_253 ?_
                        refine iv (y := (nI (kdF ch sz tc))) (((hE22 3 tc rfl).trans ((hE6 3 tc rfl).trans ((hE5 3 tc rfl).trans ((hE3 3 tc rfl).trans (hE1 3 tc rfl))))).trans hk3_7) ?_
                        refine n_iast hx hb hK hG hS 27 (AM_in 27 (by decide)) rfl (by omega) (by decide) dX13_expression_254 (fun H locs hG hO hS => ?_)
                        refine lv_aload_n hx hb dX13_expression_255 rfl (lv_at hl 2 rfl) ?_
                        refine lv_dup hx hb dX13_expression_256 rfl ?_
                        refine g_get (v := .int (nI wp22.length)) hx hb hts hown hK hG 0 rfl rfl ok_X13 43 (by decide) q1514 rfl (congrArg Value.int hwt22.1) dX13_expression_257 ?_
                        refine lv_iconst (v := (nI 1)) hx hb dX13_expression_260 (by decide) ?_
                        refine n_iadd hx hb dX13_expression_261 ?_
                        refine g_put hx hb hts hown hK hG hS 0 (AM_in 0 (by decide)) rfl rfl ok_X13 43 (by decide) q1514 rfl rfl rfl rfl dX13_expression_262 (fun H locs hG hO hS => ?_)
                        have hwtp : wtM (up2 (up2 V22 27 wp22.length (nI (kdF ch sz tc))) 0 43 (nI (wp22.length + 1))) ((kdF ch sz tc) :: wp22) := wt_push hwt22 (by omega) (by omega) (show up2 _ 27 _ _ 27 _ = _ from up2_s) (fun j hj => Eq.trans (show up2 _ 27 _ _ 27 j = _ from up2_n (fun z => by have := z.2; omega)) rfl) rfl
                        refine lv_aload_n hx hb dX13_expression_265 rfl (lv_at hl 2 rfl) ?_
                        refine c_VV hx hb hml hts hown hK hl.1 hS ⟨Nat.le_refl _, Nat.le_refl _⟩ (met_X13_goesOn l D dA hG (tkOK_to (V := V) (fun j => (Eq.trans (hE22 3 j rfl) (Eq.trans (hE6 3 j rfl) (Eq.trans (hE5 3 j rfl) (Eq.trans (hE3 3 j rfl) (hE1 3 j rfl)))))) (fun j => (Eq.trans (hE22 4 j rfl) (Eq.trans (hE6 4 j rfl) (Eq.trans (hE5 4 j rfl) (Eq.trans (hE3 4 j rfl) (hE1 4 j rfl)))))) (fun j => (Eq.trans (hE22 5 j rfl) (Eq.trans (hE6 5 j rfl) (Eq.trans (hE5 5 j rfl) (Eq.trans (hE3 5 j rfl) (hE1 5 j rfl)))))) hT) (psM_to (V := V6) (hE22 0 11 rfl) (hE22 0 13 rfl) (hE22 0 14 rfl) hps) (by omega)) (cw_X13_221 hts ⟨by decide, by decide⟩) (hG 0 _ rfl) rfl rfl rfl rfl (Nat.le_of_ble_eq_true rfl) dX13_expression_266 (fun _ h => h) (fun H1 locs hq hF hS => ?_)
                        obtain ⟨V23, hG, hE23, hps23⟩ := hq
                        generalize hHe23 : H1 = H at hG hS ⊢
                        clear hHe23
                        obtain ⟨t23, fo23, he23⟩ : ∃ a b, goP (plF ch sz) tc foc = (a, b) := ⟨_, _, rfl⟩
                        replace hps23 : psM V23 m0 t23 fo23 := by rw [he23] at hps23; exact hps23
                        obtain ⟨ft23, hft923, hft23, hfz23⟩ := fo_z hps23.2.2
                        have htm23 := hps23.1
                        obtain ⟨hk323, hk423, hk523, hk623⟩ := hT.1 t23 htm23
                        have hkd923 := kd_lt ch sz t23
                        have hb323 := (hT.2.2.2.2.2 t23 htm23).1
                        have hb523 := (hT.2.2.2.2.2 t23 htm23).2.1
                        refine lv_goto (tgt := 12) hx hb dX13_expression_269 (by decide) ?_
                        have hgf := goP_f he23
                        have hokn := opS_w hm hx1 hco22 hok
                        exact ih1 (n - 1) t23 fo23 oc (kdF ch sz tc :: wp22) ep22 V23 _ _ _ (by omega) (by rw [← hRA]; obtain ⟨n2, rfl⟩ : ∃ n2, n = n2 + 1 := ⟨n - 1, by omega⟩; exact (exM_go hA he5 hee5 hC hm hx1 hco22 he23).symm) hokn (by show (if kdF ch sz tc = 6 then 1 else 0) + cnt6 wp22 = _; rw [if_neg (by omega)]; omega) (by omega) (fun _ => by omega) (fun z => by have h9 := (hgf.2.2 z).2; omega) (by rw [List.length_cons]; omega) (fun z => by have h9 := (hgf.2.2 z).2; rw [List.length_cons]; omega) (Eqx.trans (Eqx.up (Eqx.up (Eqx.trans (Eqx.trans (Eqx.trans (Eqx.trans hE1 (hE3.mono PXb_PEx)) (hE5.mono PUn_PEx)) (hE6.mono PXc_PEx)) (hE22.mono PCo_PEx)) rfl) rfl) (hE23.mono PGo_PEx)) hps23 (Eq.trans ((hE23 0 12 rfl).trans (hE22 0 12 rfl)) ho12) (wtM_to (V := up2 (up2 V22 27 wp22.length (nI (kdF ch sz tc))) 0 43 (nI (wp22.length + 1))) (hE23 0 43 rfl) (fun j => (hE23 27 j rfl)) hwtp) (emM_to (V := V22) (hE23 0 39 rfl) (fun j => (hE23 25 j rfl)) (fun j => (hE23 26 j rfl)) hem22) (loF_to (V1 := V22) (fun j => (hE23 25 j rfl)) (fun j => (hE23 26 j rfl)) hlo22) hG hS (lv_sub hl [0, 1, 2] rfl)
                      have hx1 : opS (kdF ch sz) tc foc = 1 := opS_1 (bN1 (show ¬ bN (isP foc (kdF ch sz tc) 15) = 0 by omega)) (by decide)
                      refine lv_iconst (v := (nI 1)) hx hb dX13_expression_229 (by decide) ?_
                      refine lv_goto (tgt := 234) hx hb dX13_expression_230 (by decide) ?_
                      refine c_VV hx hb hml hts hown hK hl.1 hS ⟨Nat.le_refl _, Nat.le_refl _⟩ (met_X13_comesOut l D dA hG hwt hem hcm.2 (by omega) 1 (by omega)) (cw_X13_296 hts ⟨by decide, by decide⟩) (hG 0 _ rfl) rfl rfl rfl rfl (Nat.le_of_ble_eq_true rfl) dX13_expression_234 (fun _ h => h) (fun H1 locs hq hF hS => ?_)
                      have hloB := hlo
                      obtain ⟨V24, hG, hE24, hwt24, hem24, hlo24⟩ := hq
                      generalize hHe24 : H1 = H at hG hS ⊢
                      clear hHe24
                      replace hlo24 := loF.trans hloB hlo24
                      obtain ⟨wp24, ep24, hco24⟩ : ∃ a b, coO 1 wsc emc = (a, b) := ⟨_, _, rfl⟩
                      rw [hco24] at hwt24 hem24
                      have hci24 := coO_inv _ _ _ _ _ hco24
                      replace hwt24 : wtM V24 wp24 := hwt24
                      replace hem24 : emM V24 c0 ep24 := hem24
                      have hokw := hci24.2.1 hok
                      have hwl2 := ws_len2 hokw
                      have hc62 := hci24.2.2.1
                      have hlen2 := hci24.1
                      have ho61 := ho6 hmf
                      have hwl3 : wp24.length < 64 := by omega
                      refine lv_aload_n hx hb dX13_expression_237 rfl (lv_at hl 2 rfl) ?_
                      refine g_get hx hb hts hown hK hG 0 rfl rfl ok_X13 42 (by decide) q1513 rfl rfl dX13_expression_238 ?_
                      refine lv_aload_n hx hb dX13_expression_241 rfl (lv_at hl 2 rfl) ?_
                      refine g_get (v := .int (nI wp24.length)) hx hb hts hown hK hG 0 rfl rfl ok_X13 43 (by decide) q1514 rfl (congrArg Value.int hwt24.1) dX13_expression_242 ?_
                      refine lv_aload_n hx hb dX13_expression_245 rfl (lv_at hl 2 rfl) ?_
                      refine g_get hx hb hts hown hK hG 0 rfl rfl ok_X13 5 (by decide) q1476 rfl rfl dX13_expression_246 ?_
                      refine lv_aload_n hx hb dX13_expression_249 rfl (lv_at hl 2 rfl) ?_
                      refine g_get (v := .int (nI tc)) hx hb hts hown hK hG 0 rfl rfl ok_X13 11 (by decide) q1482 rfl (congrArg Value.int ((hE24 0 11 rfl).trans hps.2.1)) dX13_expression_250 ?_
                      refine n_iald hx hb hK hG 3 rfl (by omega) (by decide) dX13_expression_253 ?_
                      refine iv (y := (nI (kdF ch sz tc))) (((hE24 3 tc rfl).trans ((hE6 3 tc rfl).trans ((hE5 3 tc rfl).trans ((hE3 3 tc rfl).trans (hE1 3 tc rfl))))).trans hk3_7) ?_
                      refine n_iast hx hb hK hG hS 27 (AM_in 27 (by decide)) rfl (by omega) (by decide) dX13_expression_254 (fun H locs hG hO hS => ?_)
                      refine lv_aload_n hx hb dX13_expression_255 rfl (lv_at hl 2 rfl) ?_
                      refine lv_dup hx hb dX13_expression_256 rfl ?_
                      refine g_get (v := .int (nI wp24.length)) hx hb hts hown hK hG 0 rfl rfl ok_X13 43 (by decide) q1514 rfl (congrArg Value.int hwt24.1) dX13_expression_257 ?_
                      refine lv_iconst (v := (nI 1)) hx hb dX13_expression_260 (by decide) ?_
                      refine n_iadd hx hb dX13_expression_261 ?_
                      refine g_put hx hb hts hown hK hG hS 0 (AM_in 0 (by decide)) rfl rfl ok_X13 43 (by decide) q1514 rfl rfl rfl rfl dX13_expression_262 (fun H locs hG hO hS => ?_)
                      have hwtp : wtM (up2 (up2 V24 27 wp24.length (nI (kdF ch sz tc))) 0 43 (nI (wp24.length + 1))) ((kdF ch sz tc) :: wp24) := wt_push hwt24 (by omega) (by omega) (show up2 _ 27 _ _ 27 _ = _ from up2_s) (fun j hj => Eq.trans (show up2 _ 27 _ _ 27 j = _ from up2_n (fun z => by have := z.2; omega)) rfl) rfl
                      refine lv_aload_n hx hb dX13_expression_265 rfl (lv_at hl 2 rfl) ?_
                      refine c_VV hx hb hml hts hown hK hl.1 hS ⟨Nat.le_refl _, Nat.le_refl _⟩ (met_X13_goesOn l D dA hG (tkOK_to (V := V) (fun j => (Eq.trans (hE24 3 j rfl) (Eq.trans (hE6 3 j rfl) (Eq.trans (hE5 3 j rfl) (Eq.trans (hE3 3 j rfl) (hE1 3 j rfl)))))) (fun j => (Eq.trans (hE24 4 j rfl) (Eq.trans (hE6 4 j rfl) (Eq.trans (hE5 4 j rfl) (Eq.trans (hE3 4 j rfl) (hE1 4 j rfl)))))) (fun j => (Eq.trans (hE24 5 j rfl) (Eq.trans (hE6 5 j rfl) (Eq.trans (hE5 5 j rfl) (Eq.trans (hE3 5 j rfl) (hE1 5 j rfl)))))) hT) (psM_to (V := V6) (hE24 0 11 rfl) (hE24 0 13 rfl) (hE24 0 14 rfl) hps) (by omega)) (cw_X13_221 hts ⟨by decide, by decide⟩) (hG 0 _ rfl) rfl rfl rfl rfl (Nat.le_of_ble_eq_true rfl) dX13_expression_266 (fun _ h => h) (fun H1 locs hq hF hS => ?_)
                      obtain ⟨V25, hG, hE25, hps25⟩ := hq
                      generalize hHe25 : H1 = H at hG hS ⊢
                      clear hHe25
                      obtain ⟨t25, fo25, he25⟩ : ∃ a b, goP (plF ch sz) tc foc = (a, b) := ⟨_, _, rfl⟩
                      replace hps25 : psM V25 m0 t25 fo25 := by rw [he25] at hps25; exact hps25
                      obtain ⟨ft25, hft925, hft25, hfz25⟩ := fo_z hps25.2.2
                      have htm25 := hps25.1
                      obtain ⟨hk325, hk425, hk525, hk625⟩ := hT.1 t25 htm25
                      have hkd925 := kd_lt ch sz t25
                      have hb325 := (hT.2.2.2.2.2 t25 htm25).1
                      have hb525 := (hT.2.2.2.2.2 t25 htm25).2.1
                      refine lv_goto (tgt := 12) hx hb dX13_expression_269 (by decide) ?_
                      have hgf := goP_f he25
                      have hokn := opS_w hm hx1 hco24 hok
                      exact ih1 (n - 1) t25 fo25 oc (kdF ch sz tc :: wp24) ep24 V25 _ _ _ (by omega) (by rw [← hRA]; obtain ⟨n2, rfl⟩ : ∃ n2, n = n2 + 1 := ⟨n - 1, by omega⟩; exact (exM_go hA he5 hee5 hC hm hx1 hco24 he25).symm) hokn (by show (if kdF ch sz tc = 6 then 1 else 0) + cnt6 wp24 = _; rw [if_neg (by omega)]; omega) (by omega) (fun _ => by omega) (fun z => by have h9 := (hgf.2.2 z).2; omega) (by rw [List.length_cons]; omega) (fun z => by have h9 := (hgf.2.2 z).2; rw [List.length_cons]; omega) (Eqx.trans (Eqx.up (Eqx.up (Eqx.trans (Eqx.trans (Eqx.trans (Eqx.trans hE1 (hE3.mono PXb_PEx)) (hE5.mono PUn_PEx)) (hE6.mono PXc_PEx)) (hE24.mono PCo_PEx)) rfl) rfl) (hE25.mono PGo_PEx)) hps25 (Eq.trans ((hE25 0 12 rfl).trans (hE24 0 12 rfl)) ho12) (wtM_to (V := up2 (up2 V24 27 wp24.length (nI (kdF ch sz tc))) 0 43 (nI (wp24.length + 1))) (hE25 0 43 rfl) (fun j => (hE25 27 j rfl)) hwtp) (emM_to (V := V24) (hE25 0 39 rfl) (fun j => (hE25 25 j rfl)) (fun j => (hE25 26 j rfl)) hem24) (loF_to (V1 := V24) (fun j => (hE25 25 j rfl)) (fun j => (hE25 26 j rfl)) hlo24) hG hS (lv_sub hl [0, 1, 2] rfl)
                    refine lv_aload_n hx hb dX13_expression_172 rfl (lv_at hl 2 rfl) ?_
                    refine lv_bipush (v := (nI 15)) hx hb dX13_expression_173 (by decide) ?_
                    refine c_VI hx hb hml hts hown hK hl.1 hS ⟨Nat.le_refl _, Nat.le_refl _⟩ (met_X13_is l D dA hG (tkOK_to (V := V) (fun j => (Eq.trans (hE6 3 j rfl) (Eq.trans (hE5 3 j rfl) (Eq.trans (hE3 3 j rfl) (hE1 3 j rfl))))) (fun j => (Eq.trans (hE6 4 j rfl) (Eq.trans (hE5 4 j rfl) (Eq.trans (hE3 4 j rfl) (hE1 4 j rfl))))) (fun j => (Eq.trans (hE6 5 j rfl) (Eq.trans (hE5 5 j rfl) (Eq.trans (hE3 5 j rfl) (hE1 5 j rfl))))) hT) hps 15 (by omega)) (cw_X13_218 hts ⟨by decide, by decide⟩) (hG 0 _ rfl) rfl rfl rfl rfl (Nat.le_of_ble_eq_true rfl) dX13_expression_175 (fun _ h => h.elim) (fun r H1 locs hq hF hS => ?_)
                    obtain ⟨rfl, rfl⟩ := hq
                    have hbb175 := bN_lt (isP foc (kdF ch sz tc) 15)
                    refine n_if_eq (tgt := 185) hx hb dX13_expression_178 (by decide) (by omega) (fun c178 => ?_) (fun c178 => ?_)
                    · have hm : ¬ opT (kdF ch sz) tc foc = true := opT_n (bN0 (show bN (isP foc (kdF ch sz tc) 8) = 0 by omega)) (bN0 (show bN (isP foc (kdF ch sz tc) 9) = 0 by omega)) (bN0 (show bN (isP foc (kdF ch sz tc) 10) = 0 by omega)) (bN0 (show bN (isP foc (kdF ch sz tc) 15) = 0 by omega))
                      refine lv_iconst (v := (nI 0)) hx hb dX13_expression_185 (by decide) ?_
                      refine lv_istore_n (lv' := [(2, .int (nI 0)), (1, .int (nI 0)), (0, .ref o)]) hx hb dX13_expression_186 rfl hl (by decide) rfl (fun ls hl => ?_)
                      refine lv_iload_n hx hb dX13_expression_187 rfl (lv_at hl 0 rfl) ?_
                      refine n_if_ne (tgt := 210) hx hb dX13_expression_188 (by decide) (by decide) (fun z => absurd z (by decide)) (fun _ => ?_)
                      refine lv_aload_n hx hb dX13_expression_191 rfl (lv_at hl 2 rfl) ?_
                      refine g_get (v := .int (nI oc)) hx hb hts hown hK hG 0 rfl rfl ok_X13 12 (by decide) q1483 rfl (congrArg Value.int ho12) dX13_expression_192 ?_
                      refine lv_iload_n hx hb dX13_expression_195 rfl (lv_at hl 1 rfl) ?_
                      refine n_icmp_le (tgt := 204) hx hb dX13_expression_196 (by decide) (by omega) (by omega) (fun c196 => ?_) (fun c196 => ?_)
                      · refine lv_aload_n hx hb dX13_expression_204 rfl (lv_at hl 2 rfl) ?_
                        refine lv_iconst (v := (nI 0)) hx hb dX13_expression_205 (by decide) ?_
                        refine c_VV hx hb hml hts hown hK hl.1 hS ⟨Nat.le_refl _, Nat.le_refl _⟩ (met_X13_comesOut l D dA hG hwt hem hcm.2 (by omega) 0 (by omega)) (cw_X13_296 hts ⟨by decide, by decide⟩) (hG 0 _ rfl) rfl rfl rfl rfl (Nat.le_of_ble_eq_true rfl) dX13_expression_206 (fun _ h => h) (fun H1 locs hq hF hS => ?_)
                        have hloB := hlo
                        obtain ⟨V26, hG, hE26, hwt26, hem26, hlo26⟩ := hq
                        generalize hHe26 : H1 = H at hG hS ⊢
                        clear hHe26
                        replace hlo26 := loF.trans hloB hlo26
                        obtain ⟨wp26, ep26, hco26⟩ : ∃ a b, coO 0 wsc emc = (a, b) := ⟨_, _, rfl⟩
                        rw [hco26] at hwt26 hem26
                        have hci26 := coO_inv _ _ _ _ _ hco26
                        replace hwt26 : wtM V26 wp26 := hwt26
                        replace hem26 : emM V26 c0 ep26 := hem26
                        refine hend _ _ _ _ hS dX13_expression_209 ?_
                        obtain ⟨n2, rfl⟩ : ∃ n2, n = n2 + 1 := ⟨n - 1, by omega⟩
                        have hRR : exM (kdF ch sz) (plF ch sz) (vlF ch sz) 402 t0 fo0 0 [] [] = (tc, foc, ep26) := hRA.symm.trans ((exM_e hA he5 hee5 hC hm).trans (by rw [hco26, if_neg (by omega)]))
                        exact ⟨rfl, _, oc, hG, ((((((Eqx.rf.up rfl).trans hE1).trans (hE3.mono PXb_PEx)).trans (hE5.mono PUn_PEx)).trans (hE6.mono PXc_PEx)).trans (hE26.mono PCo_PEx)), by rw [hRR]; exact (psM_to (V := V6) (hE26 0 11 rfl) (hE26 0 13 rfl) (hE26 0 14 rfl) hps), (Eq.trans (hE26 0 12 rfl) ho12), fun z => by rw [hRR] at z; omega, by rw [hRR]; exact hem26, hlo26, by rw [hRR]; show c0 + ep26.length + 420 ≤ cm + 1 + tc; have := hci26.1; omega, fun z => by rw [hRR] at z ⊢; show c0 + ep26.length + 420 ≤ cm + tc; have := hci26.1; have := h85 z; omega⟩
                      refine lv_aload_n hx hb dX13_expression_199 rfl (lv_at hl 2 rfl) ?_
                      refine lv_iconst (v := (nI 1)) hx hb dX13_expression_200 (by decide) ?_
                      refine c_VV hx hb hml hts hown hK hl.1 hS ⟨Nat.le_refl _, Nat.le_refl _⟩ (met_X13_fail l D dA hG (tkOK_to (V := V) (fun j => (Eq.trans (hE6 3 j rfl) (Eq.trans (hE5 3 j rfl) (Eq.trans (hE3 3 j rfl) (hE1 3 j rfl))))) (fun j => (Eq.trans (hE6 4 j rfl) (Eq.trans (hE5 4 j rfl) (Eq.trans (hE3 4 j rfl) (hE1 4 j rfl))))) (fun j => (Eq.trans (hE6 5 j rfl) (Eq.trans (hE5 5 j rfl) (Eq.trans (hE3 5 j rfl) (hE1 5 j rfl))))) hT) hps 1 (by omega) (by omega)) (cw_X13_215 hts ⟨by decide, by decide⟩) (hG 0 _ rfl) rfl rfl rfl rfl (Nat.le_of_ble_eq_true rfl) dX13_expression_201 (fun _ h => h) (fun H1 locs hq hF hS => ?_)
                      obtain ⟨V27, hG, hE27, hps27⟩ := hq
                      generalize hHe27 : H1 = H at hG hS ⊢
                      clear hHe27
                      obtain ⟨fo27, he27⟩ : ∃ a, flP foc 1 (plF ch sz tc) = a := ⟨_, rfl⟩
                      replace hps27 : psM V27 m0 tc fo27 := by rw [he27] at hps27; exact hps27
                      obtain ⟨ft27, hft927, hft27, hfz27⟩ := fo_z hps27.2.2
                      have htm27 := hps27.1
                      obtain ⟨hk327, hk427, hk527, hk627⟩ := hT.1 tc htm27
                      have hkd927 := kd_lt ch sz tc
                      have hb327 := (hT.2.2.2.2.2 tc htm27).1
                      have hb527 := (hT.2.2.2.2.2 tc htm27).2.1
                      refine lv_aload_n hx hb dX13_expression_204 rfl (lv_at hl 2 rfl) ?_
                      refine lv_iconst (v := (nI 0)) hx hb dX13_expression_205 (by decide) ?_
                      refine c_VV hx hb hml hts hown hK hl.1 hS ⟨Nat.le_refl _, Nat.le_refl _⟩ (met_X13_comesOut l D dA hG (wtM_to (V := V6) (hE27 0 43 rfl) (fun j => (hE27 27 j rfl)) hwt) (emM_to (V := V6) (hE27 0 39 rfl) (fun j => (hE27 25 j rfl)) (fun j => (hE27 26 j rfl)) hem) hcm.2 (by omega) 0 (by omega)) (cw_X13_296 hts ⟨by decide, by decide⟩) (hG 0 _ rfl) rfl rfl rfl rfl (Nat.le_of_ble_eq_true rfl) dX13_expression_206 (fun _ h => h) (fun H1 locs hq hF hS => ?_)
                      have hloB := (loF_to (V1 := V6) (fun j => (hE27 25 j rfl)) (fun j => (hE27 26 j rfl)) hlo)
                      obtain ⟨V28, hG, hE28, hwt28, hem28, hlo28⟩ := hq
                      generalize hHe28 : H1 = H at hG hS ⊢
                      clear hHe28
                      replace hlo28 := loF.trans hloB hlo28
                      obtain ⟨wp28, ep28, hco28⟩ : ∃ a b, coO 0 wsc emc = (a, b) := ⟨_, _, rfl⟩
                      rw [hco28] at hwt28 hem28
                      have hci28 := coO_inv _ _ _ _ _ hco28
                      replace hwt28 : wtM V28 wp28 := hwt28
                      replace hem28 : emM V28 c0 ep28 := hem28
                      refine hend _ _ _ _ hS dX13_expression_209 ?_
                      obtain ⟨n2, rfl⟩ : ∃ n2, n = n2 + 1 := ⟨n - 1, by omega⟩
                      have hRR : exM (kdF ch sz) (plF ch sz) (vlF ch sz) 402 t0 fo0 0 [] [] = (tc, fo27, ep28) := hRA.symm.trans ((exM_e hA he5 hee5 hC hm).trans (by rw [hco28, if_pos (by omega), he27]))
                      exact ⟨rfl, _, oc, hG, (((((((Eqx.rf.up rfl).trans hE1).trans (hE3.mono PXb_PEx)).trans (hE5.mono PUn_PEx)).trans (hE6.mono PXc_PEx)).trans (hE27.mono PFl_PEx)).trans (hE28.mono PCo_PEx)), by rw [hRR]; exact (psM_to (V := V27) (hE28 0 11 rfl) (hE28 0 13 rfl) (hE28 0 14 rfl) hps27), (Eq.trans ((hE28 0 12 rfl).trans (hE27 0 12 rfl)) ho12), fun z => by rw [hRR] at z; exact (flP_n (he27.trans z)).elim, by rw [hRR]; exact hem28, hlo28, by rw [hRR]; show c0 + ep28.length + 420 ≤ cm + 1 + tc; have := hci28.1; omega, fun z => by rw [hRR] at z ⊢; show c0 + ep28.length + 420 ≤ cm + tc; have := hci28.1; exact (flP_n (he27.trans z)).elim⟩
                    have hm : opT (kdF ch sz) tc foc = true := opT_t (bN1 (show ¬ bN (isP foc (kdF ch sz tc) 15) = 0 by omega)) (by decide)
                    obtain ⟨hmf, hmk⟩ := opT_k hm
                    have hn1 := hn hmf
                    have h86 := h85 hmf
                    refine lv_iconst (v := (nI 1)) hx hb dX13_expression_181 (by decide) ?_
                    refine lv_goto (tgt := 186) hx hb dX13_expression_182 (by decide) ?_
                    refine lv_istore_n (lv' := [(2, .int (nI 1)), (1, .int (nI 0)), (0, .ref o)]) hx hb dX13_expression_186 rfl hl (by decide) rfl (fun ls hl => ?_)
                    refine lv_iload_n hx hb dX13_expression_187 rfl (lv_at hl 0 rfl) ?_
                    refine n_if_ne (tgt := 210) hx hb dX13_expression_188 (by decide) (by decide) (fun _ => ?_) (fun z => absurd z (by decide))
                    refine lv_aload_n hx hb dX13_expression_210 rfl (lv_at hl 2 rfl) ?_
                    refine lv_aload_n hx hb dX13_expression_211 rfl (lv_at hl 2 rfl) ?_
                    refine lv_bipush (v := (nI 10)) hx hb dX13_expression_212 (by decide) ?_
                    refine c_VI hx hb hml hts hown hK hl.1 hS ⟨Nat.le_refl _, Nat.le_refl _⟩ (met_X13_is l D dA hG (tkOK_to (V := V) (fun j => (Eq.trans (hE6 3 j rfl) (Eq.trans (hE5 3 j rfl) (Eq.trans (hE3 3 j rfl) (hE1 3 j rfl))))) (fun j => (Eq.trans (hE6 4 j rfl) (Eq.trans (hE5 4 j rfl) (Eq.trans (hE3 4 j rfl) (hE1 4 j rfl))))) (fun j => (Eq.trans (hE6 5 j rfl) (Eq.trans (hE5 5 j rfl) (Eq.trans (hE3 5 j rfl) (hE1 5 j rfl))))) hT) hps 10 (by omega)) (cw_X13_218 hts ⟨by decide, by decide⟩) (hG 0 _ rfl) rfl rfl rfl rfl (Nat.le_of_ble_eq_true rfl) dX13_expression_214 (fun _ h => h.elim) (fun r H1 locs hq hF hS => ?_)
                    obtain ⟨rfl, rfl⟩ := hq
                    have hbb214 := bN_lt (isP foc (kdF ch sz tc) 10)
                    refine n_if_ne (tgt := 229) hx hb dX13_expression_217 (by decide) (by omega) (fun c217 => ?_) (fun c217 => ?_)
                    · have hx1 : opS (kdF ch sz) tc foc = 1 := opS_1 (bN1 (show ¬ bN (isP foc (kdF ch sz tc) 10) = 0 by omega)) (by decide)
                      refine lv_iconst (v := (nI 1)) hx hb dX13_expression_229 (by decide) ?_
                      refine lv_goto (tgt := 234) hx hb dX13_expression_230 (by decide) ?_
                      refine c_VV hx hb hml hts hown hK hl.1 hS ⟨Nat.le_refl _, Nat.le_refl _⟩ (met_X13_comesOut l D dA hG hwt hem hcm.2 (by omega) 1 (by omega)) (cw_X13_296 hts ⟨by decide, by decide⟩) (hG 0 _ rfl) rfl rfl rfl rfl (Nat.le_of_ble_eq_true rfl) dX13_expression_234 (fun _ h => h) (fun H1 locs hq hF hS => ?_)
                      have hloB := hlo
                      obtain ⟨V29, hG, hE29, hwt29, hem29, hlo29⟩ := hq
                      generalize hHe29 : H1 = H at hG hS ⊢
                      clear hHe29
                      replace hlo29 := loF.trans hloB hlo29
                      obtain ⟨wp29, ep29, hco29⟩ : ∃ a b, coO 1 wsc emc = (a, b) := ⟨_, _, rfl⟩
                      rw [hco29] at hwt29 hem29
                      have hci29 := coO_inv _ _ _ _ _ hco29
                      replace hwt29 : wtM V29 wp29 := hwt29
                      replace hem29 : emM V29 c0 ep29 := hem29
                      have hokw := hci29.2.1 hok
                      have hwl2 := ws_len2 hokw
                      have hc62 := hci29.2.2.1
                      have hlen2 := hci29.1
                      have ho61 := ho6 hmf
                      have hwl3 : wp29.length < 64 := by omega
                      refine lv_aload_n hx hb dX13_expression_237 rfl (lv_at hl 2 rfl) ?_
                      refine g_get hx hb hts hown hK hG 0 rfl rfl ok_X13 42 (by decide) q1513 rfl rfl dX13_expression_238 ?_
                      refine lv_aload_n hx hb dX13_expression_241 rfl (lv_at hl 2 rfl) ?_
                      refine g_get (v := .int (nI wp29.length)) hx hb hts hown hK hG 0 rfl rfl ok_X13 43 (by decide) q1514 rfl (congrArg Value.int hwt29.1) dX13_expression_242 ?_
                      refine lv_aload_n hx hb dX13_expression_245 rfl (lv_at hl 2 rfl) ?_
                      refine g_get hx hb hts hown hK hG 0 rfl rfl ok_X13 5 (by decide) q1476 rfl rfl dX13_expression_246 ?_
                      refine lv_aload_n hx hb dX13_expression_249 rfl (lv_at hl 2 rfl) ?_
                      refine g_get (v := .int (nI tc)) hx hb hts hown hK hG 0 rfl rfl ok_X13 11 (by decide) q1482 rfl (congrArg Value.int ((hE29 0 11 rfl).trans hps.2.1)) dX13_expression_250 ?_
                      refine n_iald hx hb hK hG 3 rfl (by omega) (by decide) dX13_expression_253 ?_
                      refine iv (y := (nI (kdF ch sz tc))) (((hE29 3 tc rfl).trans ((hE6 3 tc rfl).trans ((hE5 3 tc rfl).trans ((hE3 3 tc rfl).trans (hE1 3 tc rfl))))).trans hk3_7) ?_
                      refine n_iast hx hb hK hG hS 27 (AM_in 27 (by decide)) rfl (by omega) (by decide) dX13_expression_254 (fun H locs hG hO hS => ?_)
                      refine lv_aload_n hx hb dX13_expression_255 rfl (lv_at hl 2 rfl) ?_
                      refine lv_dup hx hb dX13_expression_256 rfl ?_
                      refine g_get (v := .int (nI wp29.length)) hx hb hts hown hK hG 0 rfl rfl ok_X13 43 (by decide) q1514 rfl (congrArg Value.int hwt29.1) dX13_expression_257 ?_
                      refine lv_iconst (v := (nI 1)) hx hb dX13_expression_260 (by decide) ?_
                      refine n_iadd hx hb dX13_expression_261 ?_
                      refine g_put hx hb hts hown hK hG hS 0 (AM_in 0 (by decide)) rfl rfl ok_X13 43 (by decide) q1514 rfl rfl rfl rfl dX13_expression_262 (fun H locs hG hO hS => ?_)
                      have hwtp : wtM (up2 (up2 V29 27 wp29.length (nI (kdF ch sz tc))) 0 43 (nI (wp29.length + 1))) ((kdF ch sz tc) :: wp29) := wt_push hwt29 (by omega) (by omega) (show up2 _ 27 _ _ 27 _ = _ from up2_s) (fun j hj => Eq.trans (show up2 _ 27 _ _ 27 j = _ from up2_n (fun z => by have := z.2; omega)) rfl) rfl
                      refine lv_aload_n hx hb dX13_expression_265 rfl (lv_at hl 2 rfl) ?_
                      refine c_VV hx hb hml hts hown hK hl.1 hS ⟨Nat.le_refl _, Nat.le_refl _⟩ (met_X13_goesOn l D dA hG (tkOK_to (V := V) (fun j => (Eq.trans (hE29 3 j rfl) (Eq.trans (hE6 3 j rfl) (Eq.trans (hE5 3 j rfl) (Eq.trans (hE3 3 j rfl) (hE1 3 j rfl)))))) (fun j => (Eq.trans (hE29 4 j rfl) (Eq.trans (hE6 4 j rfl) (Eq.trans (hE5 4 j rfl) (Eq.trans (hE3 4 j rfl) (hE1 4 j rfl)))))) (fun j => (Eq.trans (hE29 5 j rfl) (Eq.trans (hE6 5 j rfl) (Eq.trans (hE5 5 j rfl) (Eq.trans (hE3 5 j rfl) (hE1 5 j rfl)))))) hT) (psM_to (V := V6) (hE29 0 11 rfl) (hE29 0 13 rfl) (hE29 0 14 rfl) hps) (by omega)) (cw_X13_221 hts ⟨by decide, by decide⟩) (hG 0 _ rfl) rfl rfl rfl rfl (Nat.le_of_ble_eq_true rfl) dX13_expression_266 (fun _ h => h) (fun H1 locs hq hF hS => ?_)
                      obtain ⟨V30, hG, hE30, hps30⟩ := hq
                      generalize hHe30 : H1 = H at hG hS ⊢
                      clear hHe30
                      obtain ⟨t30, fo30, he30⟩ : ∃ a b, goP (plF ch sz) tc foc = (a, b) := ⟨_, _, rfl⟩
                      replace hps30 : psM V30 m0 t30 fo30 := by rw [he30] at hps30; exact hps30
                      obtain ⟨ft30, hft930, hft30, hfz30⟩ := fo_z hps30.2.2
                      have htm30 := hps30.1
                      obtain ⟨hk330, hk430, hk530, hk630⟩ := hT.1 t30 htm30
                      have hkd930 := kd_lt ch sz t30
                      have hb330 := (hT.2.2.2.2.2 t30 htm30).1
                      have hb530 := (hT.2.2.2.2.2 t30 htm30).2.1
                      refine lv_goto (tgt := 12) hx hb dX13_expression_269 (by decide) ?_
                      have hgf := goP_f he30
                      have hokn := opS_w hm hx1 hco29 hok
                      exact ih1 (n - 1) t30 fo30 oc (kdF ch sz tc :: wp29) ep29 V30 _ _ _ (by omega) (by rw [← hRA]; obtain ⟨n2, rfl⟩ : ∃ n2, n = n2 + 1 := ⟨n - 1, by omega⟩; exact (exM_go hA he5 hee5 hC hm hx1 hco29 he30).symm) hokn (by show (if kdF ch sz tc = 6 then 1 else 0) + cnt6 wp29 = _; rw [if_neg (by omega)]; omega) (by omega) (fun _ => by omega) (fun z => by have h9 := (hgf.2.2 z).2; omega) (by rw [List.length_cons]; omega) (fun z => by have h9 := (hgf.2.2 z).2; rw [List.length_cons]; omega) (Eqx.trans (Eqx.up (Eqx.up (Eqx.trans (Eqx.trans (Eqx.trans (Eqx.trans hE1 (hE3.mono PXb_PEx)) (hE5.mono PUn_PEx)) (hE6.mono PXc_PEx)) (hE29.mono PCo_PEx)) rfl) rfl) (hE30.mono PGo_PEx)) hps30 (Eq.trans ((hE30 0 12 rfl).trans (hE29 0 12 rfl)) ho12) (wtM_to (V := up2 (up2 V29 27 wp29.length (nI (kdF ch sz tc))) 0 43 (nI (wp29.length + 1))) (hE30 0 43 rfl) (fun j => (hE30 27 j rfl)) hwtp) (emM_to (V := V29) (hE30 0 39 rfl) (fun j => (hE30 25 j rfl)) (fun j => (hE30 26 j rfl)) hem29) (loF_to (V1 := V29) (fun j => (hE30 25 j rfl)) (fun j => (hE30 26 j rfl)) hlo29) hG hS (lv_sub hl [0, 1, 2] rfl)
                    refine lv_aload_n hx hb dX13_expression_220 rfl (lv_at hl 2 rfl) ?_
                    refine lv_bipush (v := (nI 15)) hx hb dX13_expression_221 (by decide) ?_
                    refine c_VI hx hb hml hts hown hK hl.1 hS ⟨Nat.le_refl _, Nat.le_refl _⟩ (met_X13_is l D dA hG (tkOK_to (V := V) (fun j => (Eq.trans (hE6 3 j rfl) (Eq.trans (hE5 3 j rfl) (Eq.trans (hE3 3 j rfl) (hE1 3 j rfl))))) (fun j => (Eq.trans (hE6 4 j rfl) (Eq.trans (hE5 4 j rfl) (Eq.trans (hE3 4 j rfl) (hE1 4 j rfl))))) (fun j => (Eq.trans (hE6 5 j rfl) (Eq.trans (hE5 5 j rfl) (Eq.trans (hE3 5 j rfl) (hE1 5 j rfl))))) hT) hps 15 (by omega)) (cw_X13_218 hts ⟨by decide, by decide⟩) (hG 0 _ rfl) rfl rfl rfl rfl (Nat.le_of_ble_eq_true rfl) dX13_expression_223 (fun _ h => h.elim) (fun r H1 locs hq hF hS => ?_)
                    obtain ⟨rfl, rfl⟩ := hq
                    have hbb223 := bN_lt (isP foc (kdF ch sz tc) 15)
                    refine n_if_eq (tgt := 233) hx hb dX13_expression_226 (by decide) (by omega) (fun c226 => ?_) (fun c226 => ?_)
                    · have hx1 : opS (kdF ch sz) tc foc = 0 := opS_0 (bN0 (show bN (isP foc (kdF ch sz tc) 10) = 0 by omega)) (bN0 (show bN (isP foc (kdF ch sz tc) 15) = 0 by omega))
                      refine lv_iconst (v := (nI 0)) hx hb dX13_expression_233 (by decide) ?_
                      refine c_VV hx hb hml hts hown hK hl.1 hS ⟨Nat.le_refl _, Nat.le_refl _⟩ (met_X13_comesOut l D dA hG hwt hem hcm.2 (by omega) 0 (by omega)) (cw_X13_296 hts ⟨by decide, by decide⟩) (hG 0 _ rfl) rfl rfl rfl rfl (Nat.le_of_ble_eq_true rfl) dX13_expression_234 (fun _ h => h) (fun H1 locs hq hF hS => ?_)
                      have hloB := hlo
                      obtain ⟨V31, hG, hE31, hwt31, hem31, hlo31⟩ := hq
                      generalize hHe31 : H1 = H at hG hS ⊢
                      clear hHe31
                      replace hlo31 := loF.trans hloB hlo31
                      obtain ⟨wp31, ep31, hco31⟩ : ∃ a b, coO 0 wsc emc = (a, b) := ⟨_, _, rfl⟩
                      rw [hco31] at hwt31 hem31
                      have hci31 := coO_inv _ _ _ _ _ hco31
                      replace hwt31 : wtM V31 wp31 := hwt31
                      replace hem31 : emM V31 c0 ep31 := hem31
                      have hokw := hci31.2.1 hok
                      have hwl2 := ws_len2 hokw
                      have hc62 := hci31.2.2.1
                      have hlen2 := hci31.1
                      have ho61 := ho6 hmf
                      have hwl3 : wp31.length < 64 := by omega
                      refine lv_aload_n hx hb dX13_expression_237 rfl (lv_at hl 2 rfl) ?_
                      refine g_get hx hb hts hown hK hG 0 rfl rfl ok_X13 42 (by decide) q1513 rfl rfl dX13_expression_238 ?_
                      refine lv_aload_n hx hb dX13_expression_241 rfl (lv_at hl 2 rfl) ?_
                      refine g_get (v := .int (nI wp31.length)) hx hb hts hown hK hG 0 rfl rfl ok_X13 43 (by decide) q1514 rfl (congrArg Value.int hwt31.1) dX13_expression_242 ?_
                      refine lv_aload_n hx hb dX13_expression_245 rfl (lv_at hl 2 rfl) ?_
                      refine g_get hx hb hts hown hK hG 0 rfl rfl ok_X13 5 (by decide) q1476 rfl rfl dX13_expression_246 ?_
                      refine lv_aload_n hx hb dX13_expression_249 rfl (lv_at hl 2 rfl) ?_
                      refine g_get (v := .int (nI tc)) hx hb hts hown hK hG 0 rfl rfl ok_X13 11 (by decide) q1482 rfl (congrArg Value.int ((hE31 0 11 rfl).trans hps.2.1)) dX13_expression_250 ?_
                      refine n_iald hx hb hK hG 3 rfl (by omega) (by decide) dX13_expression_253 ?_
                      refine iv (y := (nI (kdF ch sz tc))) (((hE31 3 tc rfl).trans ((hE6 3 tc rfl).trans ((hE5 3 tc rfl).trans ((hE3 3 tc rfl).trans (hE1 3 tc rfl))))).trans hk3_7) ?_
                      refine n_iast hx hb hK hG hS 27 (AM_in 27 (by decide)) rfl (by omega) (by decide) dX13_expression_254 (fun H locs hG hO hS => ?_)
                      refine lv_aload_n hx hb dX13_expression_255 rfl (lv_at hl 2 rfl) ?_
                      refine lv_dup hx hb dX13_expression_256 rfl ?_
                      refine g_get (v := .int (nI wp31.length)) hx hb hts hown hK hG 0 rfl rfl ok_X13 43 (by decide) q1514 rfl (congrArg Value.int hwt31.1) dX13_expression_257 ?_
                      refine lv_iconst (v := (nI 1)) hx hb dX13_expression_260 (by decide) ?_
                      refine n_iadd hx hb dX13_expression_261 ?_
                      refine g_put hx hb hts hown hK hG hS 0 (AM_in 0 (by decide)) rfl rfl ok_X13 43 (by decide) q1514 rfl rfl rfl rfl dX13_expression_262 (fun H locs hG hO hS => ?_)
                      have hwtp : wtM (up2 (up2 V31 27 wp31.length (nI (kdF ch sz tc))) 0 43 (nI (wp31.length + 1))) ((kdF ch sz tc) :: wp31) := wt_push hwt31 (by omega) (by omega) (show up2 _ 27 _ _ 27 _ = _ from up2_s) (fun j hj => Eq.trans (show up2 _ 27 _ _ 27 j = _ from up2_n (fun z => by have := z.2; omega)) rfl) rfl
                      refine lv_aload_n hx hb dX13_expression_265 rfl (lv_at hl 2 rfl) ?_
                      refine c_VV hx hb hml hts hown hK hl.1 hS ⟨Nat.le_refl _, Nat.le_refl _⟩ (met_X13_goesOn l D dA hG (tkOK_to (V := V) (fun j => (Eq.trans (hE31 3 j rfl) (Eq.trans (hE6 3 j rfl) (Eq.trans (hE5 3 j rfl) (Eq.trans (hE3 3 j rfl) (hE1 3 j rfl)))))) (fun j => (Eq.trans (hE31 4 j rfl) (Eq.trans (hE6 4 j rfl) (Eq.trans (hE5 4 j rfl) (Eq.trans (hE3 4 j rfl) (hE1 4 j rfl)))))) (fun j => (Eq.trans (hE31 5 j rfl) (Eq.trans (hE6 5 j rfl) (Eq.trans (hE5 5 j rfl) (Eq.trans (hE3 5 j rfl) (hE1 5 j rfl)))))) hT) (psM_to (V := V6) (hE31 0 11 rfl) (hE31 0 13 rfl) (hE31 0 14 rfl) hps) (by omega)) (cw_X13_221 hts ⟨by decide, by decide⟩) (hG 0 _ rfl) rfl rfl rfl rfl (Nat.le_of_ble_eq_true rfl) dX13_expression_266 (fun _ h => h) (fun H1 locs hq hF hS => ?_)
                      obtain ⟨V32, hG, hE32, hps32⟩ := hq
                      generalize hHe32 : H1 = H at hG hS ⊢
                      clear hHe32
                      obtain ⟨t32, fo32, he32⟩ : ∃ a b, goP (plF ch sz) tc foc = (a, b) := ⟨_, _, rfl⟩
                      replace hps32 : psM V32 m0 t32 fo32 := by rw [he32] at hps32; exact hps32
                      obtain ⟨ft32, hft932, hft32, hfz32⟩ := fo_z hps32.2.2
                      have htm32 := hps32.1
                      obtain ⟨hk332, hk432, hk532, hk632⟩ := hT.1 t32 htm32
                      have hkd932 := kd_lt ch sz t32
                      have hb332 := (hT.2.2.2.2.2 t32 htm32).1
                      have hb532 := (hT.2.2.2.2.2 t32 htm32).2.1
                      refine lv_goto (tgt := 12) hx hb dX13_expression_269 (by decide) ?_
                      have hgf := goP_f he32
                      have hokn := opS_w hm hx1 hco31 hok
                      exact ih1 (n - 1) t32 fo32 oc (kdF ch sz tc :: wp31) ep31 V32 _ _ _ (by omega) (by rw [← hRA]; obtain ⟨n2, rfl⟩ : ∃ n2, n = n2 + 1 := ⟨n - 1, by omega⟩; exact (exM_go hA he5 hee5 hC hm hx1 hco31 he32).symm) hokn (by show (if kdF ch sz tc = 6 then 1 else 0) + cnt6 wp31 = _; rw [if_neg (by omega)]; omega) (by omega) (fun _ => by omega) (fun z => by have h9 := (hgf.2.2 z).2; omega) (by rw [List.length_cons]; omega) (fun z => by have h9 := (hgf.2.2 z).2; rw [List.length_cons]; omega) (Eqx.trans (Eqx.up (Eqx.up (Eqx.trans (Eqx.trans (Eqx.trans (Eqx.trans hE1 (hE3.mono PXb_PEx)) (hE5.mono PUn_PEx)) (hE6.mono PXc_PEx)) (hE31.mono PCo_PEx)) rfl) rfl) (hE32.mono PGo_PEx)) hps32 (Eq.trans ((hE32 0 12 rfl).trans (hE31 0 12 rfl)) ho12) (wtM_to (V := up2 (up2 V31 27 wp31.length (nI (kdF ch sz tc))) 0 43 (nI (wp31.length + 1))) (hE32 0 43 rfl) (fun j => (hE32 27 j rfl)) hwtp) (emM_to (V := V31) (hE32 0 39 rfl) (fun j => (hE32 25 j rfl)) (fun j => (hE32 26 j rfl)) hem31) (loF_to (V1 := V31) (fun j => (hE32 25 j rfl)) (fun j => (hE32 26 j rfl)) hlo31) hG hS (lv_sub hl [0, 1, 2] rfl)
                    have hx1 : opS (kdF ch sz) tc foc = 1 := opS_1 (bN1 (show ¬ bN (isP foc (kdF ch sz tc) 15) = 0 by omega)) (by decide)
                    refine lv_iconst (v := (nI 1)) hx hb dX13_expression_229 (by decide) ?_
                    refine lv_goto (tgt := 234) hx hb dX13_expression_230 (by decide) ?_
                    refine c_VV hx hb hml hts hown hK hl.1 hS ⟨Nat.le_refl _, Nat.le_refl _⟩ (met_X13_comesOut l D dA hG hwt hem hcm.2 (by omega) 1 (by omega)) (cw_X13_296 hts ⟨by decide, by decide⟩) (hG 0 _ rfl) rfl rfl rfl rfl (Nat.le_of_ble_eq_true rfl) dX13_expression_234 (fun _ h => h) (fun H1 locs hq hF hS => ?_)
                    have hloB := hlo
                    obtain ⟨V33, hG, hE33, hwt33, hem33, hlo33⟩ := hq
                    generalize hHe33 : H1 = H at hG hS ⊢
                    clear hHe33
                    replace hlo33 := loF.trans hloB hlo33
                    obtain ⟨wp33, ep33, hco33⟩ : ∃ a b, coO 1 wsc emc = (a, b) := ⟨_, _, rfl⟩
                    rw [hco33] at hwt33 hem33
                    have hci33 := coO_inv _ _ _ _ _ hco33
                    replace hwt33 : wtM V33 wp33 := hwt33
                    replace hem33 : emM V33 c0 ep33 := hem33
                    have hokw := hci33.2.1 hok
                    have hwl2 := ws_len2 hokw
                    have hc62 := hci33.2.2.1
                    have hlen2 := hci33.1
                    have ho61 := ho6 hmf
                    have hwl3 : wp33.length < 64 := by omega
                    refine lv_aload_n hx hb dX13_expression_237 rfl (lv_at hl 2 rfl) ?_
                    refine g_get hx hb hts hown hK hG 0 rfl rfl ok_X13 42 (by decide) q1513 rfl rfl dX13_expression_238 ?_
                    refine lv_aload_n hx hb dX13_expression_241 rfl (lv_at hl 2 rfl) ?_
                    refine g_get (v := .int (nI wp33.length)) hx hb hts hown hK hG 0 rfl rfl ok_X13 43 (by decide) q1514 rfl (congrArg Value.int hwt33.1) dX13_expression_242 ?_
                    refine lv_aload_n hx hb dX13_expression_245 rfl (lv_at hl 2 rfl) ?_
                    refine g_get hx hb hts hown hK hG 0 rfl rfl ok_X13 5 (by decide) q1476 rfl rfl dX13_expression_246 ?_
                    refine lv_aload_n hx hb dX13_expression_249 rfl (lv_at hl 2 rfl) ?_
                    refine g_get (v := .int (nI tc)) hx hb hts hown hK hG 0 rfl rfl ok_X13 11 (by decide) q1482 rfl (congrArg Value.int ((hE33 0 11 rfl).trans hps.2.1)) dX13_expression_250 ?_
                    refine n_iald hx hb hK hG 3 rfl (by omega) (by decide) dX13_expression_253 ?_
                    refine iv (y := (nI (kdF ch sz tc))) (((hE33 3 tc rfl).trans ((hE6 3 tc rfl).trans ((hE5 3 tc rfl).trans ((hE3 3 tc rfl).trans (hE1 3 tc rfl))))).trans hk3_7) ?_
                    refine n_iast hx hb hK hG hS 27 (AM_in 27 (by decide)) rfl (by omega) (by decide) dX13_expression_254 (fun H locs hG hO hS => ?_)
                    refine lv_aload_n hx hb dX13_expression_255 rfl (lv_at hl 2 rfl) ?_
                    refine lv_dup hx hb dX13_expression_256 rfl ?_
                    refine g_get (v := .int (nI wp33.length)) hx hb hts hown hK hG 0 rfl rfl ok_X13 43 (by decide) q1514 rfl (congrArg Value.int hwt33.1) dX13_expression_257 ?_
                    refine lv_iconst (v := (nI 1)) hx hb dX13_expression_260 (by decide) ?_
                    refine n_iadd hx hb dX13_expression_261 ?_
                    refine g_put hx hb hts hown hK hG hS 0 (AM_in 0 (by decide)) rfl rfl ok_X13 43 (by decide) q1514 rfl rfl rfl rfl dX13_expression_262 (fun H locs hG hO hS => ?_)
                    have hwtp : wtM (up2 (up2 V33 27 wp33.length (nI (kdF ch sz tc))) 0 43 (nI (wp33.length + 1))) ((kdF ch sz tc) :: wp33) := wt_push hwt33 (by omega) (by omega) (show up2 _ 27 _ _ 27 _ = _ from up2_s) (fun j hj => Eq.trans (show up2 _ 27 _ _ 27 j = _ from up2_n (fun z => by have := z.2; omega)) rfl) rfl
                    refine lv_aload_n hx hb dX13_expression_265 rfl (lv_at hl 2 rfl) ?_
                    refine c_VV hx hb hml hts hown hK hl.1 hS ⟨Nat.le_refl _, Nat.le_refl _⟩ (met_X13_goesOn l D dA hG (tkOK_to (V := V) (fun j => (Eq.trans (hE33 3 j rfl) (Eq.trans (hE6 3 j rfl) (Eq.trans (hE5 3 j rfl) (Eq.trans (hE3 3 j rfl) (hE1 3 j rfl)))))) (fun j => (Eq.trans (hE33 4 j rfl) (Eq.trans (hE6 4 j rfl) (Eq.trans (hE5 4 j rfl) (Eq.trans (hE3 4 j rfl) (hE1 4 j rfl)))))) (fun j => (Eq.trans (hE33 5 j rfl) (Eq.trans (hE6 5 j rfl) (Eq.trans (hE5 5 j rfl) (Eq.trans (hE3 5 j rfl) (hE1 5 j rfl)))))) hT) (psM_to (V := V6) (hE33 0 11 rfl) (hE33 0 13 rfl) (hE33 0 14 rfl) hps) (by omega)) (cw_X13_221 hts ⟨by decide, by decide⟩) (hG 0 _ rfl) rfl rfl rfl rfl (Nat.le_of_ble_eq_true rfl) dX13_expression_266 (fun _ h => h) (fun H1 locs hq hF hS => ?_)
                    obtain ⟨V34, hG, hE34, hps34⟩ := hq
                    generalize hHe34 : H1 = H at hG hS ⊢
                    clear hHe34
                    obtain ⟨t34, fo34, he34⟩ : ∃ a b, goP (plF ch sz) tc foc = (a, b) := ⟨_, _, rfl⟩
                    replace hps34 : psM V34 m0 t34 fo34 := by rw [he34] at hps34; exact hps34
                    obtain ⟨ft34, hft934, hft34, hfz34⟩ := fo_z hps34.2.2
                    have htm34 := hps34.1
                    obtain ⟨hk334, hk434, hk534, hk634⟩ := hT.1 t34 htm34
                    have hkd934 := kd_lt ch sz t34
                    have hb334 := (hT.2.2.2.2.2 t34 htm34).1
                    have hb534 := (hT.2.2.2.2.2 t34 htm34).2.1
                    refine lv_goto (tgt := 12) hx hb dX13_expression_269 (by decide) ?_
                    have hgf := goP_f he34
                    have hokn := opS_w hm hx1 hco33 hok
                    exact ih1 (n - 1) t34 fo34 oc (kdF ch sz tc :: wp33) ep33 V34 _ _ _ (by omega) (by rw [← hRA]; obtain ⟨n2, rfl⟩ : ∃ n2, n = n2 + 1 := ⟨n - 1, by omega⟩; exact (exM_go hA he5 hee5 hC hm hx1 hco33 he34).symm) hokn (by show (if kdF ch sz tc = 6 then 1 else 0) + cnt6 wp33 = _; rw [if_neg (by omega)]; omega) (by omega) (fun _ => by omega) (fun z => by have h9 := (hgf.2.2 z).2; omega) (by rw [List.length_cons]; omega) (fun z => by have h9 := (hgf.2.2 z).2; rw [List.length_cons]; omega) (Eqx.trans (Eqx.up (Eqx.up (Eqx.trans (Eqx.trans (Eqx.trans (Eqx.trans hE1 (hE3.mono PXb_PEx)) (hE5.mono PUn_PEx)) (hE6.mono PXc_PEx)) (hE33.mono PCo_PEx)) rfl) rfl) (hE34.mono PGo_PEx)) hps34 (Eq.trans ((hE34 0 12 rfl).trans (hE33 0 12 rfl)) ho12) (wtM_to (V := up2 (up2 V33 27 wp33.length (nI (kdF ch sz tc))) 0 43 (nI (wp33.length + 1))) (hE34 0 43 rfl) (fun j => (hE34 27 j rfl)) hwtp) (emM_to (V := V33) (hE34 0 39 rfl) (fun j => (hE34 25 j rfl)) (fun j => (hE34 26 j rfl)) hem33) (loF_to (V1 := V33) (fun j => (hE34 25 j rfl)) (fun j => (hE34 26 j rfl)) hlo33) hG hS (lv_sub hl [0, 1, 2] rfl)
                  have hI := bN1 (show ¬ bN (isP foc (kdF ch sz tc) 7) = 0 by omega)
                  obtain ⟨hfc, hkc, _⟩ := isP_1 hfz_7 hI
                  obtain rfl : foc = none := hfc
                  have hn1 := hn rfl
                  have ho1 := ho6 rfl
                  have h86 := h85 rfl
                  refine lv_aload_n hx hb dX13_expression_105 rfl (lv_at hl 2 rfl) ?_
                  refine g_get (v := .int (nI oc)) hx hb hts hown hK hG 0 rfl rfl ok_X13 12 (by decide) q1483 rfl (congrArg Value.int ho12) dX13_expression_106 ?_
                  refine lv_iload_n hx hb dX13_expression_109 rfl (lv_at hl 1 rfl) ?_
                  refine n_icmp_le (tgt := 145) hx hb dX13_expression_110 (by decide) (by omega) (by omega) (fun c110 => ?_) (fun c110 => ?_)
                  · have hC : exC (kdF ch sz) (plF ch sz) 402 t5 none oa wsa em5 = (tc, none, oc, wsc, emc) := hR.symm.trans (exC_0 (fun z => by omega))
                    refine lv_aload_n hx hb dX13_expression_145 rfl (lv_at hl 2 rfl) ?_
                    refine lv_bipush (v := (nI 8)) hx hb dX13_expression_146 (by decide) ?_
                    refine c_VI hx hb hml hts hown hK hl.1 hS ⟨Nat.le_refl _, Nat.le_refl _⟩ (met_X13_is l D dA hG (tkOK_to (V := V) (fun j => (Eq.trans (hE6 3 j rfl) (Eq.trans (hE5 3 j rfl) (Eq.trans (hE3 3 j rfl) (hE1 3 j rfl))))) (fun j => (Eq.trans (hE6 4 j rfl) (Eq.trans (hE5 4 j rfl) (Eq.trans (hE3 4 j rfl) (hE1 4 j rfl))))) (fun j => (Eq.trans (hE6 5 j rfl) (Eq.trans (hE5 5 j rfl) (Eq.trans (hE3 5 j rfl) (hE1 5 j rfl))))) hT) hps 8 (by omega)) (cw_X13_218 hts ⟨by decide, by decide⟩) (hG 0 _ rfl) rfl rfl rfl rfl (Nat.le_of_ble_eq_true rfl) dX13_expression_148 (fun _ h => h.elim) (fun r H1 locs hq hF hS => ?_)
                    obtain ⟨rfl, rfl⟩ := hq
                    have hbb148 := bN_lt (isP none (kdF ch sz tc) 8)
                    refine n_if_ne (tgt := 181) hx hb dX13_expression_151 (by decide) (by omega) (fun c151 => ?_) (fun c151 => ?_)
                    · have hm : opT (kdF ch sz) tc none = true := opT_t (bN1 (show ¬ bN (isP none (kdF ch sz tc) 8) = 0 by omega)) (by decide)
                      obtain ⟨hmf, hmk⟩ := opT_k hm
                      have hn1 := hn hmf
                      have h86 := h85 hmf
                      refine lv_iconst (v := (nI 1)) hx hb dX13_expression_181 (by decide) ?_
                      refine lv_goto (tgt := 186) hx hb dX13_expression_182 (by decide) ?_
                      refine lv_istore_n (lv' := [(2, .int (nI 1)), (1, .int (nI 0)), (0, .ref o)]) hx hb dX13_expression_186 rfl hl (by decide) rfl (fun ls hl => ?_)
                      refine lv_iload_n hx hb dX13_expression_187 rfl (lv_at hl 0 rfl) ?_
                      refine n_if_ne (tgt := 210) hx hb dX13_expression_188 (by decide) (by decide) (fun _ => ?_) (fun z => absurd z (by decide))
                      refine lv_aload_n hx hb dX13_expression_210 rfl (lv_at hl 2 rfl) ?_
                      refine lv_aload_n hx hb dX13_expression_211 rfl (lv_at hl 2 rfl) ?_
                      refine lv_bipush (v := (nI 10)) hx hb dX13_expression_212 (by decide) ?_
                      refine c_VI hx hb hml hts hown hK hl.1 hS ⟨Nat.le_refl _, Nat.le_refl _⟩ (met_X13_is l D dA hG (tkOK_to (V := V) (fun j => (Eq.trans (hE6 3 j rfl) (Eq.trans (hE5 3 j rfl) (Eq.trans (hE3 3 j rfl) (hE1 3 j rfl))))) (fun j => (Eq.trans (hE6 4 j rfl) (Eq.trans (hE5 4 j rfl) (Eq.trans (hE3 4 j rfl) (hE1 4 j rfl))))) (fun j => (Eq.trans (hE6 5 j rfl) (Eq.trans (hE5 5 j rfl) (Eq.trans (hE3 5 j rfl) (hE1 5 j rfl))))) hT) hps 10 (by omega)) (cw_X13_218 hts ⟨by decide, by decide⟩) (hG 0 _ rfl) rfl rfl rfl rfl (Nat.le_of_ble_eq_true rfl) dX13_expression_214 (fun _ h => h.elim) (fun r H1 locs hq hF hS => ?_)
                      obtain ⟨rfl, rfl⟩ := hq
                      have hbb214 := bN_lt (isP none (kdF ch sz tc) 10)
                      refine n_if_ne (tgt := 229) hx hb dX13_expression_217 (by decide) (by omega) (fun c217 => ?_) (fun c217 => ?_)
                      · have hx1 : opS (kdF ch sz) tc none = 1 := opS_1 (bN1 (show ¬ bN (isP none (kdF ch sz tc) 10) = 0 by omega)) (by decide)
                        refine lv_iconst (v := (nI 1)) hx hb dX13_expression_229 (by decide) ?_
                        refine lv_goto (tgt := 234) hx hb dX13_expression_230 (by decide) ?_
                        refine c_VV hx hb hml hts hown hK hl.1 hS ⟨Nat.le_refl _, Nat.le_refl _⟩ (met_X13_comesOut l D dA hG hwt hem hcm.2 (by omega) 1 (by omega)) (cw_X13_296 hts ⟨by decide, by decide⟩) (hG 0 _ rfl) rfl rfl rfl rfl (Nat.le_of_ble_eq_true rfl) dX13_expression_234 (fun _ h => h) (fun H1 locs hq hF hS => ?_)
                        have hloB := hlo
                        obtain ⟨V35, hG, hE35, hwt35, hem35, hlo35⟩ := hq
                        generalize hHe35 : H1 = H at hG hS ⊢
                        clear hHe35
                        replace hlo35 := loF.trans hloB hlo35
                        obtain ⟨wp35, ep35, hco35⟩ : ∃ a b, coO 1 wsc emc = (a, b) := ⟨_, _, rfl⟩
                        rw [hco35] at hwt35 hem35
                        have hci35 := coO_inv _ _ _ _ _ hco35
                        replace hwt35 : wtM V35 wp35 := hwt35
                        replace hem35 : emM V35 c0 ep35 := hem35
                        have hokw := hci35.2.1 hok
                        have hwl2 := ws_len2 hokw
                        have hc62 := hci35.2.2.1
                        have hlen2 := hci35.1
                        have ho61 := ho6 hmf
                        have hwl3 : wp35.length < 64 := by omega
                        refine lv_aload_n hx hb dX13_expression_237 rfl (lv_at hl 2 rfl) ?_
                        refine g_get hx hb hts hown hK hG 0 rfl rfl ok_X13 42 (by decide) q1513 rfl rfl dX13_expression_238 ?_
                        refine lv_aload_n hx hb dX13_expression_241 rfl (lv_at hl 2 rfl) ?_
                        refine g_get (v := .int (nI wp35.length)) hx hb hts hown hK hG 0 rfl rfl ok_X13 43 (by decide) q1514 rfl (congrArg Value.int hwt35.1) dX13_expression_242 ?_
                        refine lv_aload_n hx hb dX13_expression_245 rfl (lv_at hl 2 rfl) ?_
                        refine g_get hx hb hts hown hK hG 0 rfl rfl ok_X13 5 (by decide) q1476 rfl rfl dX13_expression_246 ?_
                        refine lv_aload_n hx hb dX13_expression_249 rfl (lv_at hl 2 rfl) ?_
                        refine g_get (v := .int (nI tc)) hx hb hts hown hK hG 0 rfl rfl ok_X13 11 (by decide) q1482 rfl (congrArg Value.int ((hE35 0 11 rfl).trans hps.2.1)) dX13_expression_250 ?_
                        refine n_iald hx hb hK hG 3 rfl (by omega) (by decide) dX13_expression_253 ?_
                        refine iv (y := (nI (kdF ch sz tc))) (((hE35 3 tc rfl).trans ((hE6 3 tc rfl).trans ((hE5 3 tc rfl).trans ((hE3 3 tc rfl).trans (hE1 3 tc rfl))))).trans hk3_7) ?_
                        refine n_iast hx hb hK hG hS 27 (AM_in 27 (by decide)) rfl (by omega) (by decide) dX13_expression_254 (fun H locs hG hO hS => ?_)
                        refine lv_aload_n hx hb dX13_expression_255 rfl (lv_at hl 2 rfl) ?_
                        refine lv_dup hx hb dX13_expression_256 rfl ?_
                        refine g_get (v := .int (nI wp35.length)) hx hb hts hown hK hG 0 rfl rfl ok_X13 43 (by decide) q1514 rfl (congrArg Value.int hwt35.1) dX13_expression_257 ?_
                        refine lv_iconst (v := (nI 1)) hx hb dX13_expression_260 (by decide) ?_
                        refine n_iadd hx hb dX13_expression_261 ?_
                        refine g_put hx hb hts hown hK hG hS 0 (AM_in 0 (by decide)) rfl rfl ok_X13 43 (by decide) q1514 rfl rfl rfl rfl dX13_expression_262 (fun H locs hG hO hS => ?_)
                        have hwtp : wtM (up2 (up2 V35 27 wp35.length (nI (kdF ch sz tc))) 0 43 (nI (wp35.length + 1))) ((kdF ch sz tc) :: wp35) := wt_push hwt35 (by omega) (by omega) (show up2 _ 27 _ _ 27 _ = _ from up2_s) (fun j hj => Eq.trans (show up2 _ 27 _ _ 27 j = _ from up2_n (fun z => by have := z.2; omega)) rfl) rfl
                        refine lv_aload_n hx hb dX13_expression_265 rfl (lv_at hl 2 rfl) ?_
                        refine c_VV hx hb hml hts hown hK hl.1 hS ⟨Nat.le_refl _, Nat.le_refl _⟩ (met_X13_goesOn l D dA hG (tkOK_to (V := V) (fun j => (Eq.trans (hE35 3 j rfl) (Eq.trans (hE6 3 j rfl) (Eq.trans (hE5 3 j rfl) (Eq.trans (hE3 3 j rfl) (hE1 3 j rfl)))))) (fun j => (Eq.trans (hE35 4 j rfl) (Eq.trans (hE6 4 j rfl) (Eq.trans (hE5 4 j rfl) (Eq.trans (hE3 4 j rfl) (hE1 4 j rfl)))))) (fun j => (Eq.trans (hE35 5 j rfl) (Eq.trans (hE6 5 j rfl) (Eq.trans (hE5 5 j rfl) (Eq.trans (hE3 5 j rfl) (hE1 5 j rfl)))))) hT) (psM_to (V := V6) (hE35 0 11 rfl) (hE35 0 13 rfl) (hE35 0 14 rfl) hps) (by omega)) (cw_X13_221 hts ⟨by decide, by decide⟩) (hG 0 _ rfl) rfl rfl rfl rfl (Nat.le_of_ble_eq_true rfl) dX13_expression_266 (fun _ h => h) (fun H1 locs hq hF hS => ?_)
                        obtain ⟨V36, hG, hE36, hps36⟩ := hq
                        generalize hHe36 : H1 = H at hG hS ⊢
                        clear hHe36
                        obtain ⟨t36, fo36, he36⟩ : ∃ a b, goP (plF ch sz) tc none = (a, b) := ⟨_, _, rfl⟩
                        replace hps36 : psM V36 m0 t36 fo36 := by rw [he36] at hps36; exact hps36
                        obtain ⟨ft36, hft936, hft36, hfz36⟩ := fo_z hps36.2.2
                        have htm36 := hps36.1
                        obtain ⟨hk336, hk436, hk536, hk636⟩ := hT.1 t36 htm36
                        have hkd936 := kd_lt ch sz t36
                        have hb336 := (hT.2.2.2.2.2 t36 htm36).1
                        have hb536 := (hT.2.2.2.2.2 t36 htm36).2.1
                        refine lv_goto (tgt := 12) hx hb dX13_expression_269 (by decide) ?_
                        have hgf := goP_f he36
                        have hokn := opS_w hm hx1 hco35 hok
                        exact ih1 (n - 1) t36 fo36 oc (kdF ch sz tc :: wp35) ep35 V36 _ _ _ (by omega) (by rw [← hRA]; obtain ⟨n2, rfl⟩ : ∃ n2, n = n2 + 1 := ⟨n - 1, by omega⟩; exact (exM_go hA he5 hee5 hC hm hx1 hco35 he36).symm) hokn (by show (if kdF ch sz tc = 6 then 1 else 0) + cnt6 wp35 = _; rw [if_neg (by omega)]; omega) (by omega) (fun _ => by omega) (fun z => by have h9 := (hgf.2.2 z).2; omega) (by rw [List.length_cons]; omega) (fun z => by have h9 := (hgf.2.2 z).2; rw [List.length_cons]; omega) (Eqx.trans (Eqx.up (Eqx.up (Eqx.trans (Eqx.trans (Eqx.trans (Eqx.trans hE1 (hE3.mono PXb_PEx)) (hE5.mono PUn_PEx)) (hE6.mono PXc_PEx)) (hE35.mono PCo_PEx)) rfl) rfl) (hE36.mono PGo_PEx)) hps36 (Eq.trans ((hE36 0 12 rfl).trans (hE35 0 12 rfl)) ho12) (wtM_to (V := up2 (up2 V35 27 wp35.length (nI (kdF ch sz tc))) 0 43 (nI (wp35.length + 1))) (hE36 0 43 rfl) (fun j => (hE36 27 j rfl)) hwtp) (emM_to (V := V35) (hE36 0 39 rfl) (fun j => (hE36 25 j rfl)) (fun j => (hE36 26 j rfl)) hem35) (loF_to (V1 := V35) (fun j => (hE36 25 j rfl)) (fun j => (hE36 26 j rfl)) hlo35) hG hS (lv_sub hl [0, 1, 2] rfl)
                      refine lv_aload_n hx hb dX13_expression_220 rfl (lv_at hl 2 rfl) ?_
                      refine lv_bipush (v := (nI 15)) hx hb dX13_expression_221 (by decide) ?_
                      refine c_VI hx hb hml hts hown hK hl.1 hS ⟨Nat.le_refl _, Nat.le_refl _⟩ (met_X13_is l D dA hG (tkOK_to (V := V) (fun j => (Eq.trans (hE6 3 j rfl) (Eq.trans (hE5 3 j rfl) (Eq.trans (hE3 3 j rfl) (hE1 3 j rfl))))) (fun j => (Eq.trans (hE6 4 j rfl) (Eq.trans (hE5 4 j rfl) (Eq.trans (hE3 4 j rfl) (hE1 4 j rfl))))) (fun j => (Eq.trans (hE6 5 j rfl) (Eq.trans (hE5 5 j rfl) (Eq.trans (hE3 5 j rfl) (hE1 5 j rfl))))) hT) hps 15 (by omega)) (cw_X13_218 hts ⟨by decide, by decide⟩) (hG 0 _ rfl) rfl rfl rfl rfl (Nat.le_of_ble_eq_true rfl) dX13_expression_223 (fun _ h => h.elim) (fun r H1 locs hq hF hS => ?_)
                      obtain ⟨rfl, rfl⟩ := hq
                      have hbb223 := bN_lt (isP none (kdF ch sz tc) 15)
                      refine n_if_eq (tgt := 233) hx hb dX13_expression_226 (by decide) (by omega) (fun c226 => ?_) (fun c226 => ?_)
                      · have hx1 : opS (kdF ch sz) tc none = 0 := opS_0 (bN0 (show bN (isP none (kdF ch sz tc) 10) = 0 by omega)) (bN0 (show bN (isP none (kdF ch sz tc) 15) = 0 by omega))
                        refine lv_iconst (v := (nI 0)) hx hb dX13_expression_233 (by decide) ?_
                        refine c_VV hx hb hml hts hown hK hl.1 hS ⟨Nat.le_refl _, Nat.le_refl _⟩ (met_X13_comesOut l D dA hG hwt hem hcm.2 (by omega) 0 (by omega)) (cw_X13_296 hts ⟨by decide, by decide⟩) (hG 0 _ rfl) rfl rfl rfl rfl (Nat.le_of_ble_eq_true rfl) dX13_expression_234 (fun _ h => h) (fun H1 locs hq hF hS => ?_)
                        have hloB := hlo
                        obtain ⟨V37, hG, hE37, hwt37, hem37, hlo37⟩ := hq
                        generalize hHe37 : H1 = H at hG hS ⊢
                        clear hHe37
                        replace hlo37 := loF.trans hloB hlo37
                        obtain ⟨wp37, ep37, hco37⟩ : ∃ a b, coO 0 wsc emc = (a, b) := ⟨_, _, rfl⟩
                        rw [hco37] at hwt37 hem37
                        have hci37 := coO_inv _ _ _ _ _ hco37
                        replace hwt37 : wtM V37 wp37 := hwt37
                        replace hem37 : emM V37 c0 ep37 := hem37
                        have hokw := hci37.2.1 hok
                        have hwl2 := ws_len2 hokw
                        have hc62 := hci37.2.2.1
                        have hlen2 := hci37.1
                        have ho61 := ho6 hmf
                        have hwl3 : wp37.length < 64 := by omega
                        refine lv_aload_n hx hb dX13_expression_237 rfl (lv_at hl 2 rfl) ?_
                        refine g_get hx hb hts hown hK hG 0 rfl rfl ok_X13 42 (by decide) q1513 rfl rfl dX13_expression_238 ?_
                        refine lv_aload_n hx hb dX13_expression_241 rfl (lv_at hl 2 rfl) ?_
                        refine g_get (v := .int (nI wp37.length)) hx hb hts hown hK hG 0 rfl rfl ok_X13 43 (by decide) q1514 rfl (congrArg Value.int hwt37.1) dX13_expression_242 ?_
                        refine lv_aload_n hx hb dX13_expression_245 rfl (lv_at hl 2 rfl) ?_
                        refine g_get hx hb hts hown hK hG 0 rfl rfl ok_X13 5 (by decide) q1476 rfl rfl dX13_expression_246 ?_
                        refine lv_aload_n hx hb dX13_expression_249 rfl (lv_at hl 2 rfl) ?_
                        refine g_get (v := .int (nI tc)) hx hb hts hown hK hG 0 rfl rfl ok_X13 11 (by decide) q1482 rfl (congrArg Value.int ((hE37 0 11 rfl).trans hps.2.1)) dX13_expression_250 ?_
                        refine n_iald hx hb hK hG 3 rfl (by omega) (by decide) dX13_expression_253 ?_
                        refine iv (y := (nI (kdF ch sz tc))) (((hE37 3 tc rfl).trans ((hE6 3 tc rfl).trans ((hE5 3 tc rfl).trans ((hE3 3 tc rfl).trans (hE1 3 tc rfl))))).trans hk3_7) ?_
                        refine n_iast hx hb hK hG hS 27 (AM_in 27 (by decide)) rfl (by omega) (by decide) dX13_expression_254 (fun H locs hG hO hS => ?_)
                        refine lv_aload_n hx hb dX13_expression_255 rfl (lv_at hl 2 rfl) ?_
                        refine lv_dup hx hb dX13_expression_256 rfl ?_
                        refine g_get (v := .int (nI wp37.length)) hx hb hts hown hK hG 0 rfl rfl ok_X13 43 (by decide) q1514 rfl (congrArg Value.int hwt37.1) dX13_expression_257 ?_
                        refine lv_iconst (v := (nI 1)) hx hb dX13_expression_260 (by decide) ?_
                        refine n_iadd hx hb dX13_expression_261 ?_
                        refine g_put hx hb hts hown hK hG hS 0 (AM_in 0 (by decide)) rfl rfl ok_X13 43 (by decide) q1514 rfl rfl rfl rfl dX13_expression_262 (fun H locs hG hO hS => ?_)
                        have hwtp : wtM (up2 (up2 V37 27 wp37.length (nI (kdF ch sz tc))) 0 43 (nI (wp37.length + 1))) ((kdF ch sz tc) :: wp37) := wt_push hwt37 (by omega) (by omega) (show up2 _ 27 _ _ 27 _ = _ from up2_s) (fun j hj => Eq.trans (show up2 _ 27 _ _ 27 j = _ from up2_n (fun z => by have := z.2; omega)) rfl) rfl
                        refine lv_aload_n hx hb dX13_expression_265 rfl (lv_at hl 2 rfl) ?_
                        refine c_VV hx hb hml hts hown hK hl.1 hS ⟨Nat.le_refl _, Nat.le_refl _⟩ (met_X13_goesOn l D dA hG (tkOK_to (V := V) (fun j => (Eq.trans (hE37 3 j rfl) (Eq.trans (hE6 3 j rfl) (Eq.trans (hE5 3 j rfl) (Eq.trans (hE3 3 j rfl) (hE1 3 j rfl)))))) (fun j => (Eq.trans (hE37 4 j rfl) (Eq.trans (hE6 4 j rfl) (Eq.trans (hE5 4 j rfl) (Eq.trans (hE3 4 j rfl) (hE1 4 j rfl)))))) (fun j => (Eq.trans (hE37 5 j rfl) (Eq.trans (hE6 5 j rfl) (Eq.trans (hE5 5 j rfl) (Eq.trans (hE3 5 j rfl) (hE1 5 j rfl)))))) hT) (psM_to (V := V6) (hE37 0 11 rfl) (hE37 0 13 rfl) (hE37 0 14 rfl) hps) (by omega)) (cw_X13_221 hts ⟨by decide, by decide⟩) (hG 0 _ rfl) rfl rfl rfl rfl (Nat.le_of_ble_eq_true rfl) dX13_expression_266 (fun _ h => h) (fun H1 locs hq hF hS => ?_)
                        obtain ⟨V38, hG, hE38, hps38⟩ := hq
                        generalize hHe38 : H1 = H at hG hS ⊢
                        clear hHe38
                        obtain ⟨t38, fo38, he38⟩ : ∃ a b, goP (plF ch sz) tc none = (a, b) := ⟨_, _, rfl⟩
                        replace hps38 : psM V38 m0 t38 fo38 := by rw [he38] at hps38; exact hps38
                        obtain ⟨ft38, hft938, hft38, hfz38⟩ := fo_z hps38.2.2
                        have htm38 := hps38.1
                        obtain ⟨hk338, hk438, hk538, hk638⟩ := hT.1 t38 htm38
                        have hkd938 := kd_lt ch sz t38
                        have hb338 := (hT.2.2.2.2.2 t38 htm38).1
                        have hb538 := (hT.2.2.2.2.2 t38 htm38).2.1
                        refine lv_goto (tgt := 12) hx hb dX13_expression_269 (by decide) ?_
                        have hgf := goP_f he38
                        have hokn := opS_w hm hx1 hco37 hok
                        exact ih1 (n - 1) t38 fo38 oc (kdF ch sz tc :: wp37) ep37 V38 _ _ _ (by omega) (by rw [← hRA]; obtain ⟨n2, rfl⟩ : ∃ n2, n = n2 + 1 := ⟨n - 1, by omega⟩; exact (exM_go hA he5 hee5 hC hm hx1 hco37 he38).symm) hokn (by show (if kdF ch sz tc = 6 then 1 else 0) + cnt6 wp37 = _; rw [if_neg (by omega)]; omega) (by omega) (fun _ => by omega) (fun z => by have h9 := (hgf.2.2 z).2; omega) (by rw [List.length_cons]; omega) (fun z => by have h9 := (hgf.2.2 z).2; rw [List.length_cons]; omega) (Eqx.trans (Eqx.up (Eqx.up (Eqx.trans (Eqx.trans (Eqx.trans (Eqx.trans hE1 (hE3.mono PXb_PEx)) (hE5.mono PUn_PEx)) (hE6.mono PXc_PEx)) (hE37.mono PCo_PEx)) rfl) rfl) (hE38.mono PGo_PEx)) hps38 (Eq.trans ((hE38 0 12 rfl).trans (hE37 0 12 rfl)) ho12) (wtM_to (V := up2 (up2 V37 27 wp37.length (nI (kdF ch sz tc))) 0 43 (nI (wp37.length + 1))) (hE38 0 43 rfl) (fun j => (hE38 27 j rfl)) hwtp) (emM_to (V := V37) (hE38 0 39 rfl) (fun j => (hE38 25 j rfl)) (fun j => (hE38 26 j rfl)) hem37) (loF_to (V1 := V37) (fun j => (hE38 25 j rfl)) (fun j => (hE38 26 j rfl)) hlo37) hG hS (lv_sub hl [0, 1, 2] rfl)
                      have hx1 : opS (kdF ch sz) tc none = 1 := opS_1 (bN1 (show ¬ bN (isP none (kdF ch sz tc) 15) = 0 by omega)) (by decide)
                      refine lv_iconst (v := (nI 1)) hx hb dX13_expression_229 (by decide) ?_
                      refine lv_goto (tgt := 234) hx hb dX13_expression_230 (by decide) ?_
                      refine c_VV hx hb hml hts hown hK hl.1 hS ⟨Nat.le_refl _, Nat.le_refl _⟩ (met_X13_comesOut l D dA hG hwt hem hcm.2 (by omega) 1 (by omega)) (cw_X13_296 hts ⟨by decide, by decide⟩) (hG 0 _ rfl) rfl rfl rfl rfl (Nat.le_of_ble_eq_true rfl) dX13_expression_234 (fun _ h => h) (fun H1 locs hq hF hS => ?_)
                      have hloB := hlo
                      obtain ⟨V39, hG, hE39, hwt39, hem39, hlo39⟩ := hq
                      generalize hHe39 : H1 = H at hG hS ⊢
                      clear hHe39
                      replace hlo39 := loF.trans hloB hlo39
                      obtain ⟨wp39, ep39, hco39⟩ : ∃ a b, coO 1 wsc emc = (a, b) := ⟨_, _, rfl⟩
                      rw [hco39] at hwt39 hem39
                      have hci39 := coO_inv _ _ _ _ _ hco39
                      replace hwt39 : wtM V39 wp39 := hwt39
                      replace hem39 : emM V39 c0 ep39 := hem39
                      have hokw := hci39.2.1 hok
                      have hwl2 := ws_len2 hokw
                      have hc62 := hci39.2.2.1
                      have hlen2 := hci39.1
                      have ho61 := ho6 hmf
                      have hwl3 : wp39.length < 64 := by omega
                      refine lv_aload_n hx hb dX13_expression_237 rfl (lv_at hl 2 rfl) ?_
                      refine g_get hx hb hts hown hK hG 0 rfl rfl ok_X13 42 (by decide) q1513 rfl rfl dX13_expression_238 ?_
                      refine lv_aload_n hx hb dX13_expression_241 rfl (lv_at hl 2 rfl) ?_
                      refine g_get (v := .int (nI wp39.length)) hx hb hts hown hK hG 0 rfl rfl ok_X13 43 (by decide) q1514 rfl (congrArg Value.int hwt39.1) dX13_expression_242 ?_
                      refine lv_aload_n hx hb dX13_expression_245 rfl (lv_at hl 2 rfl) ?_
                      refine g_get hx hb hts hown hK hG 0 rfl rfl ok_X13 5 (by decide) q1476 rfl rfl dX13_expression_246 ?_
                      refine lv_aload_n hx hb dX13_expression_249 rfl (lv_at hl 2 rfl) ?_
                      refine g_get (v := .int (nI tc)) hx hb hts hown hK hG 0 rfl rfl ok_X13 11 (by decide) q1482 rfl (congrArg Value.int ((hE39 0 11 rfl).trans hps.2.1)) dX13_expression_250 ?_
                      refine n_iald hx hb hK hG 3 rfl (by omega) (by decide) dX13_expression_253 ?_
                      refine iv (y := (nI (kdF ch sz tc))) (((hE39 3 tc rfl).trans ((hE6 3 tc rfl).trans ((hE5 3 tc rfl).trans ((hE3 3 tc rfl).trans (hE1 3 tc rfl))))).trans hk3_7) ?_
                      refine n_iast hx hb hK hG hS 27 (AM_in 27 (by decide)) rfl (by omega) (by decide) dX13_expression_254 (fun H locs hG hO hS => ?_)
                      refine lv_aload_n hx hb dX13_expression_255 rfl (lv_at hl 2 rfl) ?_
                      refine lv_dup hx hb dX13_expression_256 rfl ?_
                      refine g_get (v := .int (nI wp39.length)) hx hb hts hown hK hG 0 rfl rfl ok_X13 43 (by decide) q1514 rfl (congrArg Value.int hwt39.1) dX13_expression_257 ?_
                      refine lv_iconst (v := (nI 1)) hx hb dX13_expression_260 (by decide) ?_
                      refine n_iadd hx hb dX13_expression_261 ?_
                      refine g_put hx hb hts hown hK hG hS 0 (AM_in 0 (by decide)) rfl rfl ok_X13 43 (by decide) q1514 rfl rfl rfl rfl dX13_expression_262 (fun H locs hG hO hS => ?_)
                      have hwtp : wtM (up2 (up2 V39 27 wp39.length (nI (kdF ch sz tc))) 0 43 (nI (wp39.length + 1))) ((kdF ch sz tc) :: wp39) := wt_push hwt39 (by omega) (by omega) (show up2 _ 27 _ _ 27 _ = _ from up2_s) (fun j hj => Eq.trans (show up2 _ 27 _ _ 27 j = _ from up2_n (fun z => by have := z.2; omega)) rfl) rfl
                      refine lv_aload_n hx hb dX13_expression_265 rfl (lv_at hl 2 rfl) ?_
                      refine c_VV hx hb hml hts hown hK hl.1 hS ⟨Nat.le_refl _, Nat.le_refl _⟩ (met_X13_goesOn l D dA hG (tkOK_to (V := V) (fun j => (Eq.trans (hE39 3 j rfl) (Eq.trans (hE6 3 j rfl) (Eq.trans (hE5 3 j rfl) (Eq.trans (hE3 3 j rfl) (hE1 3 j rfl)))))) (fun j => (Eq.trans (hE39 4 j rfl) (Eq.trans (hE6 4 j rfl) (Eq.trans (hE5 4 j rfl) (Eq.trans (hE3 4 j rfl) (hE1 4 j rfl)))))) (fun j => (Eq.trans (hE39 5 j rfl) (Eq.trans (hE6 5 j rfl) (Eq.trans (hE5 5 j rfl) (Eq.trans (hE3 5 j rfl) (hE1 5 j rfl)))))) hT) (psM_to (V := V6) (hE39 0 11 rfl) (hE39 0 13 rfl) (hE39 0 14 rfl) hps) (by omega)) (cw_X13_221 hts ⟨by decide, by decide⟩) (hG 0 _ rfl) rfl rfl rfl rfl (Nat.le_of_ble_eq_true rfl) dX13_expression_266 (fun _ h => h) (fun H1 locs hq hF hS => ?_)
                      obtain ⟨V40, hG, hE40, hps40⟩ := hq
                      generalize hHe40 : H1 = H at hG hS ⊢
                      clear hHe40
                      obtain ⟨t40, fo40, he40⟩ : ∃ a b, goP (plF ch sz) tc none = (a, b) := ⟨_, _, rfl⟩
                      replace hps40 : psM V40 m0 t40 fo40 := by rw [he40] at hps40; exact hps40
                      obtain ⟨ft40, hft940, hft40, hfz40⟩ := fo_z hps40.2.2
                      have htm40 := hps40.1
                      obtain ⟨hk340, hk440, hk540, hk640⟩ := hT.1 t40 htm40
                      have hkd940 := kd_lt ch sz t40
                      have hb340 := (hT.2.2.2.2.2 t40 htm40).1
                      have hb540 := (hT.2.2.2.2.2 t40 htm40).2.1
                      refine lv_goto (tgt := 12) hx hb dX13_expression_269 (by decide) ?_
                      have hgf := goP_f he40
                      have hokn := opS_w hm hx1 hco39 hok
                      exact ih1 (n - 1) t40 fo40 oc (kdF ch sz tc :: wp39) ep39 V40 _ _ _ (by omega) (by rw [← hRA]; obtain ⟨n2, rfl⟩ : ∃ n2, n = n2 + 1 := ⟨n - 1, by omega⟩; exact (exM_go hA he5 hee5 hC hm hx1 hco39 he40).symm) hokn (by show (if kdF ch sz tc = 6 then 1 else 0) + cnt6 wp39 = _; rw [if_neg (by omega)]; omega) (by omega) (fun _ => by omega) (fun z => by have h9 := (hgf.2.2 z).2; omega) (by rw [List.length_cons]; omega) (fun z => by have h9 := (hgf.2.2 z).2; rw [List.length_cons]; omega) (Eqx.trans (Eqx.up (Eqx.up (Eqx.trans (Eqx.trans (Eqx.trans (Eqx.trans hE1 (hE3.mono PXb_PEx)) (hE5.mono PUn_PEx)) (hE6.mono PXc_PEx)) (hE39.mono PCo_PEx)) rfl) rfl) (hE40.mono PGo_PEx)) hps40 (Eq.trans ((hE40 0 12 rfl).trans (hE39 0 12 rfl)) ho12) (wtM_to (V := up2 (up2 V39 27 wp39.length (nI (kdF ch sz tc))) 0 43 (nI (wp39.length + 1))) (hE40 0 43 rfl) (fun j => (hE40 27 j rfl)) hwtp) (emM_to (V := V39) (hE40 0 39 rfl) (fun j => (hE40 25 j rfl)) (fun j => (hE40 26 j rfl)) hem39) (loF_to (V1 := V39) (fun j => (hE40 25 j rfl)) (fun j => (hE40 26 j rfl)) hlo39) hG hS (lv_sub hl [0, 1, 2] rfl)
                    refine lv_aload_n hx hb dX13_expression_154 rfl (lv_at hl 2 rfl) ?_
                    refine lv_bipush (v := (nI 9)) hx hb dX13_expression_155 (by decide) ?_
                    refine c_VI hx hb hml hts hown hK hl.1 hS ⟨Nat.le_refl _, Nat.le_refl _⟩ (met_X13_is l D dA hG (tkOK_to (V := V) (fun j => (Eq.trans (hE6 3 j rfl) (Eq.trans (hE5 3 j rfl) (Eq.trans (hE3 3 j rfl) (hE1 3 j rfl))))) (fun j => (Eq.trans (hE6 4 j rfl) (Eq.trans (hE5 4 j rfl) (Eq.trans (hE3 4 j rfl) (hE1 4 j rfl))))) (fun j => (Eq.trans (hE6 5 j rfl) (Eq.trans (hE5 5 j rfl) (Eq.trans (hE3 5 j rfl) (hE1 5 j rfl))))) hT) hps 9 (by omega)) (cw_X13_218 hts ⟨by decide, by decide⟩) (hG 0 _ rfl) rfl rfl rfl rfl (Nat.le_of_ble_eq_true rfl) dX13_expression_157 (fun _ h => h.elim) (fun r H1 locs hq hF hS => ?_)
                    obtain ⟨rfl, rfl⟩ := hq
                    have hbb157 := bN_lt (isP none (kdF ch sz tc) 9)
                    refine n_if_ne (tgt := 181) hx hb dX13_expression_160 (by decide) (by omega) (fun c160 => ?_) (fun c160 => ?_)
                    · have hm : opT (kdF ch sz) tc none = true := opT_t (bN1 (show ¬ bN (isP none (kdF ch sz tc) 9) = 0 by omega)) (by decide)
                      obtain ⟨hmf, hmk⟩ := opT_k hm
                      have hn1 := hn hmf
                      have h86 := h85 hmf
                      refine lv_iconst (v := (nI 1)) hx hb dX13_expression_181 (by decide) ?_
                      refine lv_goto (tgt := 186) hx hb dX13_expression_182 (by decide) ?_
                      refine lv_istore_n (lv' := [(2, .int (nI 1)), (1, .int (nI 0)), (0, .ref o)]) hx hb dX13_expression_186 rfl hl (by decide) rfl (fun ls hl => ?_)
                      refine lv_iload_n hx hb dX13_expression_187 rfl (lv_at hl 0 rfl) ?_
                      refine n_if_ne (tgt := 210) hx hb dX13_expression_188 (by decide) (by decide) (fun _ => ?_) (fun z => absurd z (by decide))
                      refine lv_aload_n hx hb dX13_expression_210 rfl (lv_at hl 2 rfl) ?_
                      refine lv_aload_n hx hb dX13_expression_211 rfl (lv_at hl 2 rfl) ?_
                      refine lv_bipush (v := (nI 10)) hx hb dX13_expression_212 (by decide) ?_
                      refine c_VI hx hb hml hts hown hK hl.1 hS ⟨Nat.le_refl _, Nat.le_refl _⟩ (met_X13_is l D dA hG (tkOK_to (V := V) (fun j => (Eq.trans (hE6 3 j rfl) (Eq.trans (hE5 3 j rfl) (Eq.trans (hE3 3 j rfl) (hE1 3 j rfl))))) (fun j => (Eq.trans (hE6 4 j rfl) (Eq.trans (hE5 4 j rfl) (Eq.trans (hE3 4 j rfl) (hE1 4 j rfl))))) (fun j => (Eq.trans (hE6 5 j rfl) (Eq.trans (hE5 5 j rfl) (Eq.trans (hE3 5 j rfl) (hE1 5 j rfl))))) hT) hps 10 (by omega)) (cw_X13_218 hts ⟨by decide, by decide⟩) (hG 0 _ rfl) rfl rfl rfl rfl (Nat.le_of_ble_eq_true rfl) dX13_expression_214 (fun _ h => h.elim) (fun r H1 locs hq hF hS => ?_)
                      obtain ⟨rfl, rfl⟩ := hq
                      have hbb214 := bN_lt (isP none (kdF ch sz tc) 10)
                      refine n_if_ne (tgt := 229) hx hb dX13_expression_217 (by decide) (by omega) (fun c217 => ?_) (fun c217 => ?_)
                      · have hx1 : opS (kdF ch sz) tc none = 1 := opS_1 (bN1 (show ¬ bN (isP none (kdF ch sz tc) 10) = 0 by omega)) (by decide)
                        refine lv_iconst (v := (nI 1)) hx hb dX13_expression_229 (by decide) ?_
                        refine lv_goto (tgt := 234) hx hb dX13_expression_230 (by decide) ?_
                        refine c_VV hx hb hml hts hown hK hl.1 hS ⟨Nat.le_refl _, Nat.le_refl _⟩ (met_X13_comesOut l D dA hG hwt hem hcm.2 (by omega) 1 (by omega)) (cw_X13_296 hts ⟨by decide, by decide⟩) (hG 0 _ rfl) rfl rfl rfl rfl (Nat.le_of_ble_eq_true rfl) dX13_expression_234 (fun _ h => h) (fun H1 locs hq hF hS => ?_)
                        have hloB := hlo
                        obtain ⟨V41, hG, hE41, hwt41, hem41, hlo41⟩ := hq
                        generalize hHe41 : H1 = H at hG hS ⊢
                        clear hHe41
                        replace hlo41 := loF.trans hloB hlo41
                        obtain ⟨wp41, ep41, hco41⟩ : ∃ a b, coO 1 wsc emc = (a, b) := ⟨_, _, rfl⟩
                        rw [hco41] at hwt41 hem41
                        have hci41 := coO_inv _ _ _ _ _ hco41
                        replace hwt41 : wtM V41 wp41 := hwt41
                        replace hem41 : emM V41 c0 ep41 := hem41
                        have hokw := hci41.2.1 hok
                        have hwl2 := ws_len2 hokw
                        have hc62 := hci41.2.2.1
                        have hlen2 := hci41.1
                        have ho61 := ho6 hmf
                        have hwl3 : wp41.length < 64 := by omega
                        refine lv_aload_n hx hb dX13_expression_237 rfl (lv_at hl 2 rfl) ?_
                        refine g_get hx hb hts hown hK hG 0 rfl rfl ok_X13 42 (by decide) q1513 rfl rfl dX13_expression_238 ?_
                        refine lv_aload_n hx hb dX13_expression_241 rfl (lv_at hl 2 rfl) ?_
                        refine g_get (v := .int (nI wp41.length)) hx hb hts hown hK hG 0 rfl rfl ok_X13 43 (by decide) q1514 rfl (congrArg Value.int hwt41.1) dX13_expression_242 ?_
                        refine lv_aload_n hx hb dX13_expression_245 rfl (lv_at hl 2 rfl) ?_
                        refine g_get hx hb hts hown hK hG 0 rfl rfl ok_X13 5 (by decide) q1476 rfl rfl dX13_expression_246 ?_
                        refine lv_aload_n hx hb dX13_expression_249 rfl (lv_at hl 2 rfl) ?_
                        refine g_get (v := .int (nI tc)) hx hb hts hown hK hG 0 rfl rfl ok_X13 11 (by decide) q1482 rfl (congrArg Value.int ((hE41 0 11 rfl).trans hps.2.1)) dX13_expression_250 ?_
                        refine n_iald hx hb hK hG 3 rfl (by omega) (by decide) dX13_expression_253 ?_
                        refine iv (y := (nI (kdF ch sz tc))) (((hE41 3 tc rfl).trans ((hE6 3 tc rfl).trans ((hE5 3 tc rfl).trans ((hE3 3 tc rfl).trans (hE1 3 tc rfl))))).trans hk3_7) ?_
                        refine n_iast hx hb hK hG hS 27 (AM_in 27 (by decide)) rfl (by omega) (by decide) dX13_expression_254 (fun H locs hG hO hS => ?_)
                        refine lv_aload_n hx hb dX13_expression_255 rfl (lv_at hl 2 rfl) ?_
                        refine lv_dup hx hb dX13_expression_256 rfl ?_
                        refine g_get (v := .int (nI wp41.length)) hx hb hts hown hK hG 0 rfl rfl ok_X13 43 (by decide) q1514 rfl (congrArg Value.int hwt41.1) dX13_expression_257 ?_
                        refine lv_iconst (v := (nI 1)) hx hb dX13_expression_260 (by decide) ?_
                        refine n_iadd hx hb dX13_expression_261 ?_
                        refine g_put hx hb hts hown hK hG hS 0 (AM_in 0 (by decide)) rfl rfl ok_X13 43 (by decide) q1514 rfl rfl rfl rfl dX13_expression_262 (fun H locs hG hO hS => ?_)
                        have hwtp : wtM (up2 (up2 V41 27 wp41.length (nI (kdF ch sz tc))) 0 43 (nI (wp41.length + 1))) ((kdF ch sz tc) :: wp41) := wt_push hwt41 (by omega) (by omega) (show up2 _ 27 _ _ 27 _ = _ from up2_s) (fun j hj => Eq.trans (show up2 _ 27 _ _ 27 j = _ from up2_n (fun z => by have := z.2; omega)) rfl) rfl
                        refine lv_aload_n hx hb dX13_expression_265 rfl (lv_at hl 2 rfl) ?_
                        refine c_VV hx hb hml hts hown hK hl.1 hS ⟨Nat.le_refl _, Nat.le_refl _⟩ (met_X13_goesOn l D dA hG (tkOK_to (V := V) (fun j => (Eq.trans (hE41 3 j rfl) (Eq.trans (hE6 3 j rfl) (Eq.trans (hE5 3 j rfl) (Eq.trans (hE3 3 j rfl) (hE1 3 j rfl)))))) (fun j => (Eq.trans (hE41 4 j rfl) (Eq.trans (hE6 4 j rfl) (Eq.trans (hE5 4 j rfl) (Eq.trans (hE3 4 j rfl) (hE1 4 j rfl)))))) (fun j => (Eq.trans (hE41 5 j rfl) (Eq.trans (hE6 5 j rfl) (Eq.trans (hE5 5 j rfl) (Eq.trans (hE3 5 j rfl) (hE1 5 j rfl)))))) hT) (psM_to (V := V6) (hE41 0 11 rfl) (hE41 0 13 rfl) (hE41 0 14 rfl) hps) (by omega)) (cw_X13_221 hts ⟨by decide, by decide⟩) (hG 0 _ rfl) rfl rfl rfl rfl (Nat.le_of_ble_eq_true rfl) dX13_expression_266 (fun _ h => h) (fun H1 locs hq hF hS => ?_)
                        obtain ⟨V42, hG, hE42, hps42⟩ := hq
                        generalize hHe42 : H1 = H at hG hS ⊢
                        clear hHe42
                        obtain ⟨t42, fo42, he42⟩ : ∃ a b, goP (plF ch sz) tc none = (a, b) := ⟨_, _, rfl⟩
                        replace hps42 : psM V42 m0 t42 fo42 := by rw [he42] at hps42; exact hps42
                        obtain ⟨ft42, hft942, hft42, hfz42⟩ := fo_z hps42.2.2
                        have htm42 := hps42.1
                        obtain ⟨hk342, hk442, hk542, hk642⟩ := hT.1 t42 htm42
                        have hkd942 := kd_lt ch sz t42
                        have hb342 := (hT.2.2.2.2.2 t42 htm42).1
                        have hb542 := (hT.2.2.2.2.2 t42 htm42).2.1
                        refine lv_goto (tgt := 12) hx hb dX13_expression_269 (by decide) ?_
                        have hgf := goP_f he42
                        have hokn := opS_w hm hx1 hco41 hok
                        exact ih1 (n - 1) t42 fo42 oc (kdF ch sz tc :: wp41) ep41 V42 _ _ _ (by omega) (by rw [← hRA]; obtain ⟨n2, rfl⟩ : ∃ n2, n = n2 + 1 := ⟨n - 1, by omega⟩; exact (exM_go hA he5 hee5 hC hm hx1 hco41 he42).symm) hokn (by show (if kdF ch sz tc = 6 then 1 else 0) + cnt6 wp41 = _; rw [if_neg (by omega)]; omega) (by omega) (fun _ => by omega) (fun z => by have h9 := (hgf.2.2 z).2; omega) (by rw [List.length_cons]; omega) (fun z => by have h9 := (hgf.2.2 z).2; rw [List.length_cons]; omega) (Eqx.trans (Eqx.up (Eqx.up (Eqx.trans (Eqx.trans (Eqx.trans (Eqx.trans hE1 (hE3.mono PXb_PEx)) (hE5.mono PUn_PEx)) (hE6.mono PXc_PEx)) (hE41.mono PCo_PEx)) rfl) rfl) (hE42.mono PGo_PEx)) hps42 (Eq.trans ((hE42 0 12 rfl).trans (hE41 0 12 rfl)) ho12) (wtM_to (V := up2 (up2 V41 27 wp41.length (nI (kdF ch sz tc))) 0 43 (nI (wp41.length + 1))) (hE42 0 43 rfl) (fun j => (hE42 27 j rfl)) hwtp) (emM_to (V := V41) (hE42 0 39 rfl) (fun j => (hE42 25 j rfl)) (fun j => (hE42 26 j rfl)) hem41) (loF_to (V1 := V41) (fun j => (hE42 25 j rfl)) (fun j => (hE42 26 j rfl)) hlo41) hG hS (lv_sub hl [0, 1, 2] rfl)
                      refine lv_aload_n hx hb dX13_expression_220 rfl (lv_at hl 2 rfl) ?_
                      refine lv_bipush (v := (nI 15)) hx hb dX13_expression_221 (by decide) ?_
                      refine c_VI hx hb hml hts hown hK hl.1 hS ⟨Nat.le_refl _, Nat.le_refl _⟩ (met_X13_is l D dA hG (tkOK_to (V := V) (fun j => (Eq.trans (hE6 3 j rfl) (Eq.trans (hE5 3 j rfl) (Eq.trans (hE3 3 j rfl) (hE1 3 j rfl))))) (fun j => (Eq.trans (hE6 4 j rfl) (Eq.trans (hE5 4 j rfl) (Eq.trans (hE3 4 j rfl) (hE1 4 j rfl))))) (fun j => (Eq.trans (hE6 5 j rfl) (Eq.trans (hE5 5 j rfl) (Eq.trans (hE3 5 j rfl) (hE1 5 j rfl))))) hT) hps 15 (by omega)) (cw_X13_218 hts ⟨by decide, by decide⟩) (hG 0 _ rfl) rfl rfl rfl rfl (Nat.le_of_ble_eq_true rfl) dX13_expression_223 (fun _ h => h.elim) (fun r H1 locs hq hF hS => ?_)
                      obtain ⟨rfl, rfl⟩ := hq
                      have hbb223 := bN_lt (isP none (kdF ch sz tc) 15)
                      refine n_if_eq (tgt := 233) hx hb dX13_expression_226 (by decide) (by omega) (fun c226 => ?_) (fun c226 => ?_)
                      · have hx1 : opS (kdF ch sz) tc none = 0 := opS_0 (bN0 (show bN (isP none (kdF ch sz tc) 10) = 0 by omega)) (bN0 (show bN (isP none (kdF ch sz tc) 15) = 0 by omega))
                        refine lv_iconst (v := (nI 0)) hx hb dX13_expression_233 (by decide) ?_
                        refine c_VV hx hb hml hts hown hK hl.1 hS ⟨Nat.le_refl _, Nat.le_refl _⟩ (met_X13_comesOut l D dA hG hwt hem hcm.2 (by omega) 0 (by omega)) (cw_X13_296 hts ⟨by decide, by decide⟩) (hG 0 _ rfl) rfl rfl rfl rfl (Nat.le_of_ble_eq_true rfl) dX13_expression_234 (fun _ h => h) (fun H1 locs hq hF hS => ?_)
                        have hloB := hlo
                        obtain ⟨V43, hG, hE43, hwt43, hem43, hlo43⟩ := hq
                        generalize hHe43 : H1 = H at hG hS ⊢
                        clear hHe43
                        replace hlo43 := loF.trans hloB hlo43
                        obtain ⟨wp43, ep43, hco43⟩ : ∃ a b, coO 0 wsc emc = (a, b) := ⟨_, _, rfl⟩
                        rw [hco43] at hwt43 hem43
                        have hci43 := coO_inv _ _ _ _ _ hco43
                        replace hwt43 : wtM V43 wp43 := hwt43
                        replace hem43 : emM V43 c0 ep43 := hem43
                        have hokw := hci43.2.1 hok
                        have hwl2 := ws_len2 hokw
                        have hc62 := hci43.2.2.1
                        have hlen2 := hci43.1
                        have ho61 := ho6 hmf
                        have hwl3 : wp43.length < 64 := by omega
                        refine lv_aload_n hx hb dX13_expression_237 rfl (lv_at hl 2 rfl) ?_
                        refine g_get hx hb hts hown hK hG 0 rfl rfl ok_X13 42 (by decide) q1513 rfl rfl dX13_expression_238 ?_
                        refine lv_aload_n hx hb dX13_expression_241 rfl (lv_at hl 2 rfl) ?_
                        refine g_get (v := .int (nI wp43.length)) hx hb hts hown hK hG 0 rfl rfl ok_X13 43 (by decide) q1514 rfl (congrArg Value.int hwt43.1) dX13_expression_242 ?_
                        refine lv_aload_n hx hb dX13_expression_245 rfl (lv_at hl 2 rfl) ?_
                        refine g_get hx hb hts hown hK hG 0 rfl rfl ok_X13 5 (by decide) q1476 rfl rfl dX13_expression_246 ?_
                        refine lv_aload_n hx hb dX13_expression_249 rfl (lv_at hl 2 rfl) ?_
                        refine g_get (v := .int (nI tc)) hx hb hts hown hK hG 0 rfl rfl ok_X13 11 (by decide) q1482 rfl (congrArg Value.int ((hE43 0 11 rfl).trans hps.2.1)) dX13_expression_250 ?_
                        refine n_iald hx hb hK hG 3 rfl (by omega) (by decide) dX13_expression_253 ?_
                        refine iv (y := (nI (kdF ch sz tc))) (((hE43 3 tc rfl).trans ((hE6 3 tc rfl).trans ((hE5 3 tc rfl).trans ((hE3 3 tc rfl).trans (hE1 3 tc rfl))))).trans hk3_7) ?_
                        refine n_iast hx hb hK hG hS 27 (AM_in 27 (by decide)) rfl (by omega) (by decide) dX13_expression_254 (fun H locs hG hO hS => ?_)
                        refine lv_aload_n hx hb dX13_expression_255 rfl (lv_at hl 2 rfl) ?_
                        refine lv_dup hx hb dX13_expression_256 rfl ?_
                        refine g_get (v := .int (nI wp43.length)) hx hb hts hown hK hG 0 rfl rfl ok_X13 43 (by decide) q1514 rfl (congrArg Value.int hwt43.1) dX13_expression_257 ?_
                        refine lv_iconst (v := (nI 1)) hx hb dX13_expression_260 (by decide) ?_
                        refine n_iadd hx hb dX13_expression_261 ?_
                        refine g_put hx hb hts hown hK hG hS 0 (AM_in 0 (by decide)) rfl rfl ok_X13 43 (by decide) q1514 rfl rfl rfl rfl dX13_expression_262 (fun H locs hG hO hS => ?_)
                        have hwtp : wtM (up2 (up2 V43 27 wp43.length (nI (kdF ch sz tc))) 0 43 (nI (wp43.length + 1))) ((kdF ch sz tc) :: wp43) := wt_push hwt43 (by omega) (by omega) (show up2 _ 27 _ _ 27 _ = _ from up2_s) (fun j hj => Eq.trans (show up2 _ 27 _ _ 27 j = _ from up2_n (fun z => by have := z.2; omega)) rfl) rfl
                        refine lv_aload_n hx hb dX13_expression_265 rfl (lv_at hl 2 rfl) ?_
                        refine c_VV hx hb hml hts hown hK hl.1 hS ⟨Nat.le_refl _, Nat.le_refl _⟩ (met_X13_goesOn l D dA hG (tkOK_to (V := V) (fun j => (Eq.trans (hE43 3 j rfl) (Eq.trans (hE6 3 j rfl) (Eq.trans (hE5 3 j rfl) (Eq.trans (hE3 3 j rfl) (hE1 3 j rfl)))))) (fun j => (Eq.trans (hE43 4 j rfl) (Eq.trans (hE6 4 j rfl) (Eq.trans (hE5 4 j rfl) (Eq.trans (hE3 4 j rfl) (hE1 4 j rfl)))))) (fun j => (Eq.trans (hE43 5 j rfl) (Eq.trans (hE6 5 j rfl) (Eq.trans (hE5 5 j rfl) (Eq.trans (hE3 5 j rfl) (hE1 5 j rfl)))))) hT) (psM_to (V := V6) (hE43 0 11 rfl) (hE43 0 13 rfl) (hE43 0 14 rfl) hps) (by omega)) (cw_X13_221 hts ⟨by decide, by decide⟩) (hG 0 _ rfl) rfl rfl rfl rfl (Nat.le_of_ble_eq_true rfl) dX13_expression_266 (fun _ h => h) (fun H1 locs hq hF hS => ?_)
                        obtain ⟨V44, hG, hE44, hps44⟩ := hq
                        generalize hHe44 : H1 = H at hG hS ⊢
                        clear hHe44
                        obtain ⟨t44, fo44, he44⟩ : ∃ a b, goP (plF ch sz) tc none = (a, b) := ⟨_, _, rfl⟩
                        replace hps44 : psM V44 m0 t44 fo44 := by rw [he44] at hps44; exact hps44
                        obtain ⟨ft44, hft944, hft44, hfz44⟩ := fo_z hps44.2.2
                        have htm44 := hps44.1
                        obtain ⟨hk344, hk444, hk544, hk644⟩ := hT.1 t44 htm44
                        have hkd944 := kd_lt ch sz t44
                        have hb344 := (hT.2.2.2.2.2 t44 htm44).1
                        have hb544 := (hT.2.2.2.2.2 t44 htm44).2.1
                        refine lv_goto (tgt := 12) hx hb dX13_expression_269 (by decide) ?_
                        have hgf := goP_f he44
                        have hokn := opS_w hm hx1 hco43 hok
                        exact ih1 (n - 1) t44 fo44 oc (kdF ch sz tc :: wp43) ep43 V44 _ _ _ (by omega) (by rw [← hRA]; obtain ⟨n2, rfl⟩ : ∃ n2, n = n2 + 1 := ⟨n - 1, by omega⟩; exact (exM_go hA he5 hee5 hC hm hx1 hco43 he44).symm) hokn (by show (if kdF ch sz tc = 6 then 1 else 0) + cnt6 wp43 = _; rw [if_neg (by omega)]; omega) (by omega) (fun _ => by omega) (fun z => by have h9 := (hgf.2.2 z).2; omega) (by rw [List.length_cons]; omega) (fun z => by have h9 := (hgf.2.2 z).2; rw [List.length_cons]; omega) (Eqx.trans (Eqx.up (Eqx.up (Eqx.trans (Eqx.trans (Eqx.trans (Eqx.trans hE1 (hE3.mono PXb_PEx)) (hE5.mono PUn_PEx)) (hE6.mono PXc_PEx)) (hE43.mono PCo_PEx)) rfl) rfl) (hE44.mono PGo_PEx)) hps44 (Eq.trans ((hE44 0 12 rfl).trans (hE43 0 12 rfl)) ho12) (wtM_to (V := up2 (up2 V43 27 wp43.length (nI (kdF ch sz tc))) 0 43 (nI (wp43.length + 1))) (hE44 0 43 rfl) (fun j => (hE44 27 j rfl)) hwtp) (emM_to (V := V43) (hE44 0 39 rfl) (fun j => (hE44 25 j rfl)) (fun j => (hE44 26 j rfl)) hem43) (loF_to (V1 := V43) (fun j => (hE44 25 j rfl)) (fun j => (hE44 26 j rfl)) hlo43) hG hS (lv_sub hl [0, 1, 2] rfl)
                      have hx1 : opS (kdF ch sz) tc none = 1 := opS_1 (bN1 (show ¬ bN (isP none (kdF ch sz tc) 15) = 0 by omega)) (by decide)
                      refine lv_iconst (v := (nI 1)) hx hb dX13_expression_229 (by decide) ?_
                      refine lv_goto (tgt := 234) hx hb dX13_expression_230 (by decide) ?_
                      refine c_VV hx hb hml hts hown hK hl.1 hS ⟨Nat.le_refl _, Nat.le_refl _⟩ (met_X13_comesOut l D dA hG hwt hem hcm.2 (by omega) 1 (by omega)) (cw_X13_296 hts ⟨by decide, by decide⟩) (hG 0 _ rfl) rfl rfl rfl rfl (Nat.le_of_ble_eq_true rfl) dX13_expression_234 (fun _ h => h) (fun H1 locs hq hF hS => ?_)
                      have hloB := hlo
                      obtain ⟨V45, hG, hE45, hwt45, hem45, hlo45⟩ := hq
                      generalize hHe45 : H1 = H at hG hS ⊢
                      clear hHe45
                      replace hlo45 := loF.trans hloB hlo45
                      obtain ⟨wp45, ep45, hco45⟩ : ∃ a b, coO 1 wsc emc = (a, b) := ⟨_, _, rfl⟩
                      rw [hco45] at hwt45 hem45
                      have hci45 := coO_inv _ _ _ _ _ hco45
                      replace hwt45 : wtM V45 wp45 := hwt45
                      replace hem45 : emM V45 c0 ep45 := hem45
                      have hokw := hci45.2.1 hok
                      have hwl2 := ws_len2 hokw
                      have hc62 := hci45.2.2.1
                      have hlen2 := hci45.1
                      have ho61 := ho6 hmf
                      have hwl3 : wp45.length < 64 := by omega
                      refine lv_aload_n hx hb dX13_expression_237 rfl (lv_at hl 2 rfl) ?_
                      refine g_get hx hb hts hown hK hG 0 rfl rfl ok_X13 42 (by decide) q1513 rfl rfl dX13_expression_238 ?_
                      refine lv_aload_n hx hb dX13_expression_241 rfl (lv_at hl 2 rfl) ?_
                      refine g_get (v := .int (nI wp45.length)) hx hb hts hown hK hG 0 rfl rfl ok_X13 43 (by decide) q1514 rfl (congrArg Value.int hwt45.1) dX13_expression_242 ?_
                      refine lv_aload_n hx hb dX13_expression_245 rfl (lv_at hl 2 rfl) ?_
                      refine g_get hx hb hts hown hK hG 0 rfl rfl ok_X13 5 (by decide) q1476 rfl rfl dX13_expression_246 ?_
                      refine lv_aload_n hx hb dX13_expression_249 rfl (lv_at hl 2 rfl) ?_
                      refine g_get (v := .int (nI tc)) hx hb hts hown hK hG 0 rfl rfl ok_X13 11 (by decide) q1482 rfl (congrArg Value.int ((hE45 0 11 rfl).trans hps.2.1)) dX13_expression_250 ?_
                      refine n_iald hx hb hK hG 3 rfl (by omega) (by decide) dX13_expression_253 ?_
                      refine iv (y := (nI (kdF ch sz tc))) (((hE45 3 tc rfl).trans ((hE6 3 tc rfl).trans ((hE5 3 tc rfl).trans ((hE3 3 tc rfl).trans (hE1 3 tc rfl))))).trans hk3_7) ?_
                      refine n_iast hx hb hK hG hS 27 (AM_in 27 (by decide)) rfl (by omega) (by decide) dX13_expression_254 (fun H locs hG hO hS => ?_)
                      refine lv_aload_n hx hb dX13_expression_255 rfl (lv_at hl 2 rfl) ?_
                      refine lv_dup hx hb dX13_expression_256 rfl ?_
                      refine g_get (v := .int (nI wp45.length)) hx hb hts hown hK hG 0 rfl rfl ok_X13 43 (by decide) q1514 rfl (congrArg Value.int hwt45.1) dX13_expression_257 ?_
                      refine lv_iconst (v := (nI 1)) hx hb dX13_expression_260 (by decide) ?_
                      refine n_iadd hx hb dX13_expression_261 ?_
                      refine g_put hx hb hts hown hK hG hS 0 (AM_in 0 (by decide)) rfl rfl ok_X13 43 (by decide) q1514 rfl rfl rfl rfl dX13_expression_262 (fun H locs hG hO hS => ?_)
                      have hwtp : wtM (up2 (up2 V45 27 wp45.length (nI (kdF ch sz tc))) 0 43 (nI (wp45.length + 1))) ((kdF ch sz tc) :: wp45) := wt_push hwt45 (by omega) (by omega) (show up2 _ 27 _ _ 27 _ = _ from up2_s) (fun j hj => Eq.trans (show up2 _ 27 _ _ 27 j = _ from up2_n (fun z => by have := z.2; omega)) rfl) rfl
                      refine lv_aload_n hx hb dX13_expression_265 rfl (lv_at hl 2 rfl) ?_
                      refine c_VV hx hb hml hts hown hK hl.1 hS ⟨Nat.le_refl _, Nat.le_refl _⟩ (met_X13_goesOn l D dA hG (tkOK_to (V := V) (fun j => (Eq.trans (hE45 3 j rfl) (Eq.trans (hE6 3 j rfl) (Eq.trans (hE5 3 j rfl) (Eq.trans (hE3 3 j rfl) (hE1 3 j rfl)))))) (fun j => (Eq.trans (hE45 4 j rfl) (Eq.trans (hE6 4 j rfl) (Eq.trans (hE5 4 j rfl) (Eq.trans (hE3 4 j rfl) (hE1 4 j rfl)))))) (fun j => (Eq.trans (hE45 5 j rfl) (Eq.trans (hE6 5 j rfl) (Eq.trans (hE5 5 j rfl) (Eq.trans (hE3 5 j rfl) (hE1 5 j rfl)))))) hT) (psM_to (V := V6) (hE45 0 11 rfl) (hE45 0 13 rfl) (hE45 0 14 rfl) hps) (by omega)) (cw_X13_221 hts ⟨by decide, by decide⟩) (hG 0 _ rfl) rfl rfl rfl rfl (Nat.le_of_ble_eq_true rfl) dX13_expression_266 (fun _ h => h) (fun H1 locs hq hF hS => ?_)
                      obtain ⟨V46, hG, hE46, hps46⟩ := hq
                      generalize hHe46 : H1 = H at hG hS ⊢
                      clear hHe46
                      obtain ⟨t46, fo46, he46⟩ : ∃ a b, goP (plF ch sz) tc none = (a, b) := ⟨_, _, rfl⟩
                      replace hps46 : psM V46 m0 t46 fo46 := by rw [he46] at hps46; exact hps46
                      obtain ⟨ft46, hft946, hft46, hfz46⟩ := fo_z hps46.2.2
                      have htm46 := hps46.1
                      obtain ⟨hk346, hk446, hk546, hk646⟩ := hT.1 t46 htm46
                      have hkd946 := kd_lt ch sz t46
                      have hb346 := (hT.2.2.2.2.2 t46 htm46).1
                      have hb546 := (hT.2.2.2.2.2 t46 htm46).2.1
                      refine lv_goto (tgt := 12) hx hb dX13_expression_269 (by decide) ?_
                      have hgf := goP_f he46
                      have hokn := opS_w hm hx1 hco45 hok
                      exact ih1 (n - 1) t46 fo46 oc (kdF ch sz tc :: wp45) ep45 V46 _ _ _ (by omega) (by rw [← hRA]; obtain ⟨n2, rfl⟩ : ∃ n2, n = n2 + 1 := ⟨n - 1, by omega⟩; exact (exM_go hA he5 hee5 hC hm hx1 hco45 he46).symm) hokn (by show (if kdF ch sz tc = 6 then 1 else 0) + cnt6 wp45 = _; rw [if_neg (by omega)]; omega) (by omega) (fun _ => by omega) (fun z => by have h9 := (hgf.2.2 z).2; omega) (by rw [List.length_cons]; omega) (fun z => by have h9 := (hgf.2.2 z).2; rw [List.length_cons]; omega) (Eqx.trans (Eqx.up (Eqx.up (Eqx.trans (Eqx.trans (Eqx.trans (Eqx.trans hE1 (hE3.mono PXb_PEx)) (hE5.mono PUn_PEx)) (hE6.mono PXc_PEx)) (hE45.mono PCo_PEx)) rfl) rfl) (hE46.mono PGo_PEx)) hps46 (Eq.trans ((hE46 0 12 rfl).trans (hE45 0 12 rfl)) ho12) (wtM_to (V := up2 (up2 V45 27 wp45.length (nI (kdF ch sz tc))) 0 43 (nI (wp45.length + 1))) (hE46 0 43 rfl) (fun j => (hE46 27 j rfl)) hwtp) (emM_to (V := V45) (hE46 0 39 rfl) (fun j => (hE46 25 j rfl)) (fun j => (hE46 26 j rfl)) hem45) (loF_to (V1 := V45) (fun j => (hE46 25 j rfl)) (fun j => (hE46 26 j rfl)) hlo45) hG hS (lv_sub hl [0, 1, 2] rfl)
                    refine lv_aload_n hx hb dX13_expression_163 rfl (lv_at hl 2 rfl) ?_
                    refine lv_bipush (v := (nI 10)) hx hb dX13_expression_164 (by decide) ?_
                    refine c_VI hx hb hml hts hown hK hl.1 hS ⟨Nat.le_refl _, Nat.le_refl _⟩ (met_X13_is l D dA hG (tkOK_to (V := V) (fun j => (Eq.trans (hE6 3 j rfl) (Eq.trans (hE5 3 j rfl) (Eq.trans (hE3 3 j rfl) (hE1 3 j rfl))))) (fun j => (Eq.trans (hE6 4 j rfl) (Eq.trans (hE5 4 j rfl) (Eq.trans (hE3 4 j rfl) (hE1 4 j rfl))))) (fun j => (Eq.trans (hE6 5 j rfl) (Eq.trans (hE5 5 j rfl) (Eq.trans (hE3 5 j rfl) (hE1 5 j rfl))))) hT) hps 10 (by omega)) (cw_X13_218 hts ⟨by decide, by decide⟩) (hG 0 _ rfl) rfl rfl rfl rfl (Nat.le_of_ble_eq_true rfl) dX13_expression_166 (fun _ h => h.elim) (fun r H1 locs hq hF hS => ?_)
                    obtain ⟨rfl, rfl⟩ := hq
                    have hbb166 := bN_lt (isP none (kdF ch sz tc) 10)
                    refine n_if_ne (tgt := 181) hx hb dX13_expression_169 (by decide) (by omega) (fun c169 => ?_) (fun c169 => ?_)
                    · have hm : opT (kdF ch sz) tc none = true := opT_t (bN1 (show ¬ bN (isP none (kdF ch sz tc) 10) = 0 by omega)) (by decide)
                      obtain ⟨hmf, hmk⟩ := opT_k hm
                      have hn1 := hn hmf
                      have h86 := h85 hmf
                      refine lv_iconst (v := (nI 1)) hx hb dX13_expression_181 (by decide) ?_
                      refine lv_goto (tgt := 186) hx hb dX13_expression_182 (by decide) ?_
                      refine lv_istore_n (lv' := [(2, .int (nI 1)), (1, .int (nI 0)), (0, .ref o)]) hx hb dX13_expression_186 rfl hl (by decide) rfl (fun ls hl => ?_)
                      refine lv_iload_n hx hb dX13_expression_187 rfl (lv_at hl 0 rfl) ?_
                      refine n_if_ne (tgt := 210) hx hb dX13_expression_188 (by decide) (by decide) (fun _ => ?_) (fun z => absurd z (by decide))
                      refine lv_aload_n hx hb dX13_expression_210 rfl (lv_at hl 2 rfl) ?_
                      refine lv_aload_n hx hb dX13_expression_211 rfl (lv_at hl 2 rfl) ?_
                      refine lv_bipush (v := (nI 10)) hx hb dX13_expression_212 (by decide) ?_
                      refine c_VI hx hb hml hts hown hK hl.1 hS ⟨Nat.le_refl _, Nat.le_refl _⟩ (met_X13_is l D dA hG (tkOK_to (V := V) (fun j => (Eq.trans (hE6 3 j rfl) (Eq.trans (hE5 3 j rfl) (Eq.trans (hE3 3 j rfl) (hE1 3 j rfl))))) (fun j => (Eq.trans (hE6 4 j rfl) (Eq.trans (hE5 4 j rfl) (Eq.trans (hE3 4 j rfl) (hE1 4 j rfl))))) (fun j => (Eq.trans (hE6 5 j rfl) (Eq.trans (hE5 5 j rfl) (Eq.trans (hE3 5 j rfl) (hE1 5 j rfl))))) hT) hps 10 (by omega)) (cw_X13_218 hts ⟨by decide, by decide⟩) (hG 0 _ rfl) rfl rfl rfl rfl (Nat.le_of_ble_eq_true rfl) dX13_expression_214 (fun _ h => h.elim) (fun r H1 locs hq hF hS => ?_)
                      obtain ⟨rfl, rfl⟩ := hq
                      have hbb214 := bN_lt (isP none (kdF ch sz tc) 10)
                      refine n_if_ne (tgt := 229) hx hb dX13_expression_217 (by decide) (by omega) (fun c217 => ?_) (fun c217 => ?_)
                      · have hx1 : opS (kdF ch sz) tc none = 1 := opS_1 (bN1 (show ¬ bN (isP none (kdF ch sz tc) 10) = 0 by omega)) (by decide)
                        refine lv_iconst (v := (nI 1)) hx hb dX13_expression_229 (by decide) ?_
                        refine lv_goto (tgt := 234) hx hb dX13_expression_230 (by decide) ?_
                        refine c_VV hx hb hml hts hown hK hl.1 hS ⟨Nat.le_refl _, Nat.le_refl _⟩ (met_X13_comesOut l D dA hG hwt hem hcm.2 (by omega) 1 (by omega)) (cw_X13_296 hts ⟨by decide, by decide⟩) (hG 0 _ rfl) rfl rfl rfl rfl (Nat.le_of_ble_eq_true rfl) dX13_expression_234 (fun _ h => h) (fun H1 locs hq hF hS => ?_)
                        have hloB := hlo
                        obtain ⟨V47, hG, hE47, hwt47, hem47, hlo47⟩ := hq
                        generalize hHe47 : H1 = H at hG hS ⊢
                        clear hHe47
                        replace hlo47 := loF.trans hloB hlo47
                        obtain ⟨wp47, ep47, hco47⟩ : ∃ a b, coO 1 wsc emc = (a, b) := ⟨_, _, rfl⟩
                        rw [hco47] at hwt47 hem47
                        have hci47 := coO_inv _ _ _ _ _ hco47
                        replace hwt47 : wtM V47 wp47 := hwt47
                        replace hem47 : emM V47 c0 ep47 := hem47
                        have hokw := hci47.2.1 hok
                        have hwl2 := ws_len2 hokw
                        have hc62 := hci47.2.2.1
                        have hlen2 := hci47.1
                        have ho61 := ho6 hmf
                        have hwl3 : wp47.length < 64 := by omega
                        refine lv_aload_n hx hb dX13_expression_237 rfl (lv_at hl 2 rfl) ?_
                        refine g_get hx hb hts hown hK hG 0 rfl rfl ok_X13 42 (by decide) q1513 rfl rfl dX13_expression_238 ?_
                        refine lv_aload_n hx hb dX13_expression_241 rfl (lv_at hl 2 rfl) ?_
                        refine g_get (v := .int (nI wp47.length)) hx hb hts hown hK hG 0 rfl rfl ok_X13 43 (by decide) q1514 rfl (congrArg Value.int hwt47.1) dX13_expression_242 ?_
                        refine lv_aload_n hx hb dX13_expression_245 rfl (lv_at hl 2 rfl) ?_
                        refine g_get hx hb hts hown hK hG 0 rfl rfl ok_X13 5 (by decide) q1476 rfl rfl dX13_expression_246 ?_
                        refine lv_aload_n hx hb dX13_expression_249 rfl (lv_at hl 2 rfl) ?_
                        refine g_get (v := .int (nI tc)) hx hb hts hown hK hG 0 rfl rfl ok_X13 11 (by decide) q1482 rfl (congrArg Value.int ((hE47 0 11 rfl).trans hps.2.1)) dX13_expression_250 ?_
                        refine n_iald hx hb hK hG 3 rfl (by omega) (by decide) dX13_expression_253 ?_
                        refine iv (y := (nI (kdF ch sz tc))) (((hE47 3 tc rfl).trans ((hE6 3 tc rfl).trans ((hE5 3 tc rfl).trans ((hE3 3 tc rfl).trans (hE1 3 tc rfl))))).trans hk3_7) ?_
                        refine n_iast hx hb hK hG hS 27 (AM_in 27 (by decide)) rfl (by omega) (by decide) dX13_expression_254 (fun H locs hG hO hS => ?_)
                        refine lv_aload_n hx hb dX13_expression_255 rfl (lv_at hl 2 rfl) ?_
                        refine lv_dup hx hb dX13_expression_256 rfl ?_
                        refine g_get (v := .int (nI wp47.length)) hx hb hts hown hK hG 0 rfl rfl ok_X13 43 (by decide) q1514 rfl (congrArg Value.int hwt47.1) dX13_expression_257 ?_
                        refine lv_iconst (v := (nI 1)) hx hb dX13_expression_260 (by decide) ?_
                        refine n_iadd hx hb dX13_expression_261 ?_
                        refine g_put hx hb hts hown hK hG hS 0 (AM_in 0 (by decide)) rfl rfl ok_X13 43 (by decide) q1514 rfl rfl rfl rfl dX13_expression_262 (fun H locs hG hO hS => ?_)
                        have hwtp : wtM (up2 (up2 V47 27 wp47.length (nI (kdF ch sz tc))) 0 43 (nI (wp47.length + 1))) ((kdF ch sz tc) :: wp47) := wt_push hwt47 (by omega) (by omega) (show up2 _ 27 _ _ 27 _ = _ from up2_s) (fun j hj => Eq.trans (show up2 _ 27 _ _ 27 j = _ from up2_n (fun z => by have := z.2; omega)) rfl) rfl
                        refine lv_aload_n hx hb dX13_expression_265 rfl (lv_at hl 2 rfl) ?_
                        refine c_VV hx hb hml hts hown hK hl.1 hS ⟨Nat.le_refl _, Nat.le_refl _⟩ (met_X13_goesOn l D dA hG (tkOK_to (V := V) (fun j => (Eq.trans (hE47 3 j rfl) (Eq.trans (hE6 3 j rfl) (Eq.trans (hE5 3 j rfl) (Eq.trans (hE3 3 j rfl) (hE1 3 j rfl)))))) (fun j => (Eq.trans (hE47 4 j rfl) (Eq.trans (hE6 4 j rfl) (Eq.trans (hE5 4 j rfl) (Eq.trans (hE3 4 j rfl) (hE1 4 j rfl)))))) (fun j => (Eq.trans (hE47 5 j rfl) (Eq.trans (hE6 5 j rfl) (Eq.trans (hE5 5 j rfl) (Eq.trans (hE3 5 j rfl) (hE1 5 j rfl)))))) hT) (psM_to (V := V6) (hE47 0 11 rfl) (hE47 0 13 rfl) (hE47 0 14 rfl) hps) (by omega)) (cw_X13_221 hts ⟨by decide, by decide⟩) (hG 0 _ rfl) rfl rfl rfl rfl (Nat.le_of_ble_eq_true rfl) dX13_expression_266 (fun _ h => h) (fun H1 locs hq hF hS => ?_)
                        obtain ⟨V48, hG, hE48, hps48⟩ := hq
                        generalize hHe48 : H1 = H at hG hS ⊢
                        clear hHe48
                        obtain ⟨t48, fo48, he48⟩ : ∃ a b, goP (plF ch sz) tc none = (a, b) := ⟨_, _, rfl⟩
                        replace hps48 : psM V48 m0 t48 fo48 := by rw [he48] at hps48; exact hps48
                        obtain ⟨ft48, hft948, hft48, hfz48⟩ := fo_z hps48.2.2
                        have htm48 := hps48.1
                        obtain ⟨hk348, hk448, hk548, hk648⟩ := hT.1 t48 htm48
                        have hkd948 := kd_lt ch sz t48
                        have hb348 := (hT.2.2.2.2.2 t48 htm48).1
                        have hb548 := (hT.2.2.2.2.2 t48 htm48).2.1
                        refine lv_goto (tgt := 12) hx hb dX13_expression_269 (by decide) ?_
                        have hgf := goP_f he48
                        have hokn := opS_w hm hx1 hco47 hok
                        exact ih1 (n - 1) t48 fo48 oc (kdF ch sz tc :: wp47) ep47 V48 _ _ _ (by omega) (by rw [← hRA]; obtain ⟨n2, rfl⟩ : ∃ n2, n = n2 + 1 := ⟨n - 1, by omega⟩; exact (exM_go hA he5 hee5 hC hm hx1 hco47 he48).symm) hokn (by show (if kdF ch sz tc = 6 then 1 else 0) + cnt6 wp47 = _; rw [if_neg (by omega)]; omega) (by omega) (fun _ => by omega) (fun z => by have h9 := (hgf.2.2 z).2; omega) (by rw [List.length_cons]; omega) (fun z => by have h9 := (hgf.2.2 z).2; rw [List.length_cons]; omega) (Eqx.trans (Eqx.up (Eqx.up (Eqx.trans (Eqx.trans (Eqx.trans (Eqx.trans hE1 (hE3.mono PXb_PEx)) (hE5.mono PUn_PEx)) (hE6.mono PXc_PEx)) (hE47.mono PCo_PEx)) rfl) rfl) (hE48.mono PGo_PEx)) hps48 (Eq.trans ((hE48 0 12 rfl).trans (hE47 0 12 rfl)) ho12) (wtM_to (V := up2 (up2 V47 27 wp47.length (nI (kdF ch sz tc))) 0 43 (nI (wp47.length + 1))) (hE48 0 43 rfl) (fun j => (hE48 27 j rfl)) hwtp) (emM_to (V := V47) (hE48 0 39 rfl) (fun j => (hE48 25 j rfl)) (fun j => (hE48 26 j rfl)) hem47) (loF_to (V1 := V47) (fun j => (hE48 25 j rfl)) (fun j => (hE48 26 j rfl)) hlo47) hG hS (lv_sub hl [0, 1, 2] rfl)
                      refine lv_aload_n hx hb dX13_expression_220 rfl (lv_at hl 2 rfl) ?_
                      refine lv_bipush (v := (nI 15)) hx hb dX13_expression_221 (by decide) ?_
                      refine c_VI hx hb hml hts hown hK hl.1 hS ⟨Nat.le_refl _, Nat.le_refl _⟩ (met_X13_is l D dA hG (tkOK_to (V := V) (fun j => (Eq.trans (hE6 3 j rfl) (Eq.trans (hE5 3 j rfl) (Eq.trans (hE3 3 j rfl) (hE1 3 j rfl))))) (fun j => (Eq.trans (hE6 4 j rfl) (Eq.trans (hE5 4 j rfl) (Eq.trans (hE3 4 j rfl) (hE1 4 j rfl))))) (fun j => (Eq.trans (hE6 5 j rfl) (Eq.trans (hE5 5 j rfl) (Eq.trans (hE3 5 j rfl) (hE1 5 j rfl))))) hT) hps 15 (by omega)) (cw_X13_218 hts ⟨by decide, by decide⟩) (hG 0 _ rfl) rfl rfl rfl rfl (Nat.le_of_ble_eq_true rfl) dX13_expression_223 (fun _ h => h.elim) (fun r H1 locs hq hF hS => ?_)
                      obtain ⟨rfl, rfl⟩ := hq
                      have hbb223 := bN_lt (isP none (kdF ch sz tc) 15)
                      refine n_if_eq (tgt := 233) hx hb dX13_expression_226 (by decide) (by omega) (fun c226 => ?_) (fun c226 => ?_)
                      · have hx1 : opS (kdF ch sz) tc none = 0 := opS_0 (bN0 (show bN (isP none (kdF ch sz tc) 10) = 0 by omega)) (bN0 (show bN (isP none (kdF ch sz tc) 15) = 0 by omega))
                        refine lv_iconst (v := (nI 0)) hx hb dX13_expression_233 (by decide) ?_
                        refine c_VV hx hb hml hts hown hK hl.1 hS ⟨Nat.le_refl _, Nat.le_refl _⟩ (met_X13_comesOut l D dA hG hwt hem hcm.2 (by omega) 0 (by omega)) (cw_X13_296 hts ⟨by decide, by decide⟩) (hG 0 _ rfl) rfl rfl rfl rfl (Nat.le_of_ble_eq_true rfl) dX13_expression_234 (fun _ h => h) (fun H1 locs hq hF hS => ?_)
                        have hloB := hlo
                        obtain ⟨V49, hG, hE49, hwt49, hem49, hlo49⟩ := hq
                        generalize hHe49 : H1 = H at hG hS ⊢
                        clear hHe49
                        replace hlo49 := loF.trans hloB hlo49
                        obtain ⟨wp49, ep49, hco49⟩ : ∃ a b, coO 0 wsc emc = (a, b) := ⟨_, _, rfl⟩
                        rw [hco49] at hwt49 hem49
                        have hci49 := coO_inv _ _ _ _ _ hco49
                        replace hwt49 : wtM V49 wp49 := hwt49
                        replace hem49 : emM V49 c0 ep49 := hem49
                        have hokw := hci49.2.1 hok
                        have hwl2 := ws_len2 hokw
                        have hc62 := hci49.2.2.1
                        have hlen2 := hci49.1
                        have ho61 := ho6 hmf
                        have hwl3 : wp49.length < 64 := by omega
                        refine lv_aload_n hx hb dX13_expression_237 rfl (lv_at hl 2 rfl) ?_
                        refine g_get hx hb hts hown hK hG 0 rfl rfl ok_X13 42 (by decide) q1513 rfl rfl dX13_expression_238 ?_
                        refine lv_aload_n hx hb dX13_expression_241 rfl (lv_at hl 2 rfl) ?_
                        refine g_get (v := .int (nI wp49.length)) hx hb hts hown hK hG 0 rfl rfl ok_X13 43 (by decide) q1514 rfl (congrArg Value.int hwt49.1) dX13_expression_242 ?_
                        refine lv_aload_n hx hb dX13_expression_245 rfl (lv_at hl 2 rfl) ?_
                        refine g_get hx hb hts hown hK hG 0 rfl rfl ok_X13 5 (by decide) q1476 rfl rfl dX13_expression_246 ?_
                        refine lv_aload_n hx hb dX13_expression_249 rfl (lv_at hl 2 rfl) ?_
                        refine g_get (v := .int (nI tc)) hx hb hts hown hK hG 0 rfl rfl ok_X13 11 (by decide) q1482 rfl (congrArg Value.int ((hE49 0 11 rfl).trans hps.2.1)) dX13_expression_250 ?_
                        refine n_iald hx hb hK hG 3 rfl (by omega) (by decide) dX13_expression_253 ?_
                        refine iv (y := (nI (kdF ch sz tc))) (((hE49 3 tc rfl).trans ((hE6 3 tc rfl).trans ((hE5 3 tc rfl).trans ((hE3 3 tc rfl).trans (hE1 3 tc rfl))))).trans hk3_7) ?_
                        refine n_iast hx hb hK hG hS 27 (AM_in 27 (by decide)) rfl (by omega) (by decide) dX13_expression_254 (fun H locs hG hO hS => ?_)
                        refine lv_aload_n hx hb dX13_expression_255 rfl (lv_at hl 2 rfl) ?_
                        refine lv_dup hx hb dX13_expression_256 rfl ?_
                        refine g_get (v := .int (nI wp49.length)) hx hb hts hown hK hG 0 rfl rfl ok_X13 43 (by decide) q1514 rfl (congrArg Value.int hwt49.1) dX13_expression_257 ?_
                        refine lv_iconst (v := (nI 1)) hx hb dX13_expression_260 (by decide) ?_
                        refine n_iadd hx hb dX13_expression_261 ?_
                        refine g_put hx hb hts hown hK hG hS 0 (AM_in 0 (by decide)) rfl rfl ok_X13 43 (by decide) q1514 rfl rfl rfl rfl dX13_expression_262 (fun H locs hG hO hS => ?_)
                        have hwtp : wtM (up2 (up2 V49 27 wp49.length (nI (kdF ch sz tc))) 0 43 (nI (wp49.length + 1))) ((kdF ch sz tc) :: wp49) := wt_push hwt49 (by omega) (by omega) (show up2 _ 27 _ _ 27 _ = _ from up2_s) (fun j hj => Eq.trans (show up2 _ 27 _ _ 27 j = _ from up2_n (fun z => by have := z.2; omega)) rfl) rfl
                        refine lv_aload_n hx hb dX13_expression_265 rfl (lv_at hl 2 rfl) ?_
                        refine c_VV hx hb hml hts hown hK hl.1 hS ⟨Nat.le_refl _, Nat.le_refl _⟩ (met_X13_goesOn l D dA hG (tkOK_to (V := V) (fun j => (Eq.trans (hE49 3 j rfl) (Eq.trans (hE6 3 j rfl) (Eq.trans (hE5 3 j rfl) (Eq.trans (hE3 3 j rfl) (hE1 3 j rfl)))))) (fun j => (Eq.trans (hE49 4 j rfl) (Eq.trans (hE6 4 j rfl) (Eq.trans (hE5 4 j rfl) (Eq.trans (hE3 4 j rfl) (hE1 4 j rfl)))))) (fun j => (Eq.trans (hE49 5 j rfl) (Eq.trans (hE6 5 j rfl) (Eq.trans (hE5 5 j rfl) (Eq.trans (hE3 5 j rfl) (hE1 5 j rfl)))))) hT) (psM_to (V := V6) (hE49 0 11 rfl) (hE49 0 13 rfl) (hE49 0 14 rfl) hps) (by omega)) (cw_X13_221 hts ⟨by decide, by decide⟩) (hG 0 _ rfl) rfl rfl rfl rfl (Nat.le_of_ble_eq_true rfl) dX13_expression_266 (fun _ h => h) (fun H1 locs hq hF hS => ?_)
                        obtain ⟨V50, hG, hE50, hps50⟩ := hq
                        generalize hHe50 : H1 = H at hG hS ⊢
                        clear hHe50
                        obtain ⟨t50, fo50, he50⟩ : ∃ a b, goP (plF ch sz) tc none = (a, b) := ⟨_, _, rfl⟩
                        replace hps50 : psM V50 m0 t50 fo50 := by rw [he50] at hps50; exact hps50
                        obtain ⟨ft50, hft950, hft50, hfz50⟩ := fo_z hps50.2.2
                        have htm50 := hps50.1
                        obtain ⟨hk350, hk450, hk550, hk650⟩ := hT.1 t50 htm50
                        have hkd950 := kd_lt ch sz t50
                        have hb350 := (hT.2.2.2.2.2 t50 htm50).1
                        have hb550 := (hT.2.2.2.2.2 t50 htm50).2.1
                        refine lv_goto (tgt := 12) hx hb dX13_expression_269 (by decide) ?_
                        have hgf := goP_f he50
                        have hokn := opS_w hm hx1 hco49 hok
                        exact ih1 (n - 1) t50 fo50 oc (kdF ch sz tc :: wp49) ep49 V50 _ _ _ (by omega) (by rw [← hRA]; obtain ⟨n2, rfl⟩ : ∃ n2, n = n2 + 1 := ⟨n - 1, by omega⟩; exact (exM_go hA he5 hee5 hC hm hx1 hco49 he50).symm) hokn (by show (if kdF ch sz tc = 6 then 1 else 0) + cnt6 wp49 = _; rw [if_neg (by omega)]; omega) (by omega) (fun _ => by omega) (fun z => by have h9 := (hgf.2.2 z).2; omega) (by rw [List.length_cons]; omega) (fun z => by have h9 := (hgf.2.2 z).2; rw [List.length_cons]; omega) (Eqx.trans (Eqx.up (Eqx.up (Eqx.trans (Eqx.trans (Eqx.trans (Eqx.trans hE1 (hE3.mono PXb_PEx)) (hE5.mono PUn_PEx)) (hE6.mono PXc_PEx)) (hE49.mono PCo_PEx)) rfl) rfl) (hE50.mono PGo_PEx)) hps50 (Eq.trans ((hE50 0 12 rfl).trans (hE49 0 12 rfl)) ho12) (wtM_to (V := up2 (up2 V49 27 wp49.length (nI (kdF ch sz tc))) 0 43 (nI (wp49.length + 1))) (hE50 0 43 rfl) (fun j => (hE50 27 j rfl)) hwtp) (emM_to (V := V49) (hE50 0 39 rfl) (fun j => (hE50 25 j rfl)) (fun j => (hE50 26 j rfl)) hem49) (loF_to (V1 := V49) (fun j => (hE50 25 j rfl)) (fun j => (hE50 26 j rfl)) hlo49) hG hS (lv_sub hl [0, 1, 2] rfl)
                      have hx1 : opS (kdF ch sz) tc none = 1 := opS_1 (bN1 (show ¬ bN (isP none (kdF ch sz tc) 15) = 0 by omega)) (by decide)
                      refine lv_iconst (v := (nI 1)) hx hb dX13_expression_229 (by decide) ?_
                      refine lv_goto (tgt := 234) hx hb dX13_expression_230 (by decide) ?_
                      refine c_VV hx hb hml hts hown hK hl.1 hS ⟨Nat.le_refl _, Nat.le_refl _⟩ (met_X13_comesOut l D dA hG hwt hem hcm.2 (by omega) 1 (by omega)) (cw_X13_296 hts ⟨by decide, by decide⟩) (hG 0 _ rfl) rfl rfl rfl rfl (Nat.le_of_ble_eq_true rfl) dX13_expression_234 (fun _ h => h) (fun H1 locs hq hF hS => ?_)
                      have hloB := hlo
                      obtain ⟨V51, hG, hE51, hwt51, hem51, hlo51⟩ := hq
                      generalize hHe51 : H1 = H at hG hS ⊢
                      clear hHe51
                      replace hlo51 := loF.trans hloB hlo51
                      obtain ⟨wp51, ep51, hco51⟩ : ∃ a b, coO 1 wsc emc = (a, b) := ⟨_, _, rfl⟩
                      rw [hco51] at hwt51 hem51
                      have hci51 := coO_inv _ _ _ _ _ hco51
                      replace hwt51 : wtM V51 wp51 := hwt51
                      replace hem51 : emM V51 c0 ep51 := hem51
                      have hokw := hci51.2.1 hok
                      have hwl2 := ws_len2 hokw
                      have hc62 := hci51.2.2.1
                      have hlen2 := hci51.1
                      have ho61 := ho6 hmf
                      have hwl3 : wp51.length < 64 := by omega
                      refine lv_aload_n hx hb dX13_expression_237 rfl (lv_at hl 2 rfl) ?_
                      refine g_get hx hb hts hown hK hG 0 rfl rfl ok_X13 42 (by decide) q1513 rfl rfl dX13_expression_238 ?_
                      refine lv_aload_n hx hb dX13_expression_241 rfl (lv_at hl 2 rfl) ?_
                      refine g_get (v := .int (nI wp51.length)) hx hb hts hown hK hG 0 rfl rfl ok_X13 43 (by decide) q1514 rfl (congrArg Value.int hwt51.1) dX13_expression_242 ?_
                      refine lv_aload_n hx hb dX13_expression_245 rfl (lv_at hl 2 rfl) ?_
                      refine g_get hx hb hts hown hK hG 0 rfl rfl ok_X13 5 (by decide) q1476 rfl rfl dX13_expression_246 ?_
                      refine lv_aload_n hx hb dX13_expression_249 rfl (lv_at hl 2 rfl) ?_
                      refine g_get (v := .int (nI tc)) hx hb hts hown hK hG 0 rfl rfl ok_X13 11 (by decide) q1482 rfl (congrArg Value.int ((hE51 0 11 rfl).trans hps.2.1)) dX13_expression_250 ?_
                      refine n_iald hx hb hK hG 3 rfl (by omega) (by decide) dX13_expression_253 ?_
                      refine iv (y := (nI (kdF ch sz tc))) (((hE51 3 tc rfl).trans ((hE6 3 tc rfl).trans ((hE5 3 tc rfl).trans ((hE3 3 tc rfl).trans (hE1 3 tc rfl))))).trans hk3_7) ?_
                      refine n_iast hx hb hK hG hS 27 (AM_in 27 (by decide)) rfl (by omega) (by decide) dX13_expression_254 (fun H locs hG hO hS => ?_)
                      refine lv_aload_n hx hb dX13_expression_255 rfl (lv_at hl 2 rfl) ?_
                      refine lv_dup hx hb dX13_expression_256 rfl ?_
                      refine g_get (v := .int (nI wp51.length)) hx hb hts hown hK hG 0 rfl rfl ok_X13 43 (by decide) q1514 rfl (congrArg Value.int hwt51.1) dX13_expression_257 ?_
                      refine lv_iconst (v := (nI 1)) hx hb dX13_expression_260 (by decide) ?_
                      refine n_iadd hx hb dX13_expression_261 ?_
                      refine g_put hx hb hts hown hK hG hS 0 (AM_in 0 (by decide)) rfl rfl ok_X13 43 (by decide) q1514 rfl rfl rfl rfl dX13_expression_262 (fun H locs hG hO hS => ?_)
                      have hwtp : wtM (up2 (up2 V51 27 wp51.length (nI (kdF ch sz tc))) 0 43 (nI (wp51.length + 1))) ((kdF ch sz tc) :: wp51) := wt_push hwt51 (by omega) (by omega) (show up2 _ 27 _ _ 27 _ = _ from up2_s) (fun j hj => Eq.trans (show up2 _ 27 _ _ 27 j = _ from up2_n (fun z => by have := z.2; omega)) rfl) rfl
                      refine lv_aload_n hx hb dX13_expression_265 rfl (lv_at hl 2 rfl) ?_
                      refine c_VV hx hb hml hts hown hK hl.1 hS ⟨Nat.le_refl _, Nat.le_refl _⟩ (met_X13_goesOn l D dA hG (tkOK_to (V := V) (fun j => (Eq.trans (hE51 3 j rfl) (Eq.trans (hE6 3 j rfl) (Eq.trans (hE5 3 j rfl) (Eq.trans (hE3 3 j rfl) (hE1 3 j rfl)))))) (fun j => (Eq.trans (hE51 4 j rfl) (Eq.trans (hE6 4 j rfl) (Eq.trans (hE5 4 j rfl) (Eq.trans (hE3 4 j rfl) (hE1 4 j rfl)))))) (fun j => (Eq.trans (hE51 5 j rfl) (Eq.trans (hE6 5 j rfl) (Eq.trans (hE5 5 j rfl) (Eq.trans (hE3 5 j rfl) (hE1 5 j rfl)))))) hT) (psM_to (V := V6) (hE51 0 11 rfl) (hE51 0 13 rfl) (hE51 0 14 rfl) hps) (by omega)) (cw_X13_221 hts ⟨by decide, by decide⟩) (hG 0 _ rfl) rfl rfl rfl rfl (Nat.le_of_ble_eq_true rfl) dX13_expression_266 (fun _ h => h) (fun H1 locs hq hF hS => ?_)
                      obtain ⟨V52, hG, hE52, hps52⟩ := hq
                      generalize hHe52 : H1 = H at hG hS ⊢
                      clear hHe52
                      obtain ⟨t52, fo52, he52⟩ : ∃ a b, goP (plF ch sz) tc none = (a, b) := ⟨_, _, rfl⟩
                      replace hps52 : psM V52 m0 t52 fo52 := by rw [he52] at hps52; exact hps52
                      obtain ⟨ft52, hft952, hft52, hfz52⟩ := fo_z hps52.2.2
                      have htm52 := hps52.1
                      obtain ⟨hk352, hk452, hk552, hk652⟩ := hT.1 t52 htm52
                      have hkd952 := kd_lt ch sz t52
                      have hb352 := (hT.2.2.2.2.2 t52 htm52).1
                      have hb552 := (hT.2.2.2.2.2 t52 htm52).2.1
                      refine lv_goto (tgt := 12) hx hb dX13_expression_269 (by decide) ?_
                      have hgf := goP_f he52
                      have hokn := opS_w hm hx1 hco51 hok
                      exact ih1 (n - 1) t52 fo52 oc (kdF ch sz tc :: wp51) ep51 V52 _ _ _ (by omega) (by rw [← hRA]; obtain ⟨n2, rfl⟩ : ∃ n2, n = n2 + 1 := ⟨n - 1, by omega⟩; exact (exM_go hA he5 hee5 hC hm hx1 hco51 he52).symm) hokn (by show (if kdF ch sz tc = 6 then 1 else 0) + cnt6 wp51 = _; rw [if_neg (by omega)]; omega) (by omega) (fun _ => by omega) (fun z => by have h9 := (hgf.2.2 z).2; omega) (by rw [List.length_cons]; omega) (fun z => by have h9 := (hgf.2.2 z).2; rw [List.length_cons]; omega) (Eqx.trans (Eqx.up (Eqx.up (Eqx.trans (Eqx.trans (Eqx.trans (Eqx.trans hE1 (hE3.mono PXb_PEx)) (hE5.mono PUn_PEx)) (hE6.mono PXc_PEx)) (hE51.mono PCo_PEx)) rfl) rfl) (hE52.mono PGo_PEx)) hps52 (Eq.trans ((hE52 0 12 rfl).trans (hE51 0 12 rfl)) ho12) (wtM_to (V := up2 (up2 V51 27 wp51.length (nI (kdF ch sz tc))) 0 43 (nI (wp51.length + 1))) (hE52 0 43 rfl) (fun j => (hE52 27 j rfl)) hwtp) (emM_to (V := V51) (hE52 0 39 rfl) (fun j => (hE52 25 j rfl)) (fun j => (hE52 26 j rfl)) hem51) (loF_to (V1 := V51) (fun j => (hE52 25 j rfl)) (fun j => (hE52 26 j rfl)) hlo51) hG hS (lv_sub hl [0, 1, 2] rfl)
                    refine lv_aload_n hx hb dX13_expression_172 rfl (lv_at hl 2 rfl) ?_
                    refine lv_bipush (v := (nI 15)) hx hb dX13_expression_173 (by decide) ?_
                    refine c_VI hx hb hml hts hown hK hl.1 hS ⟨Nat.le_refl _, Nat.le_refl _⟩ (met_X13_is l D dA hG (tkOK_to (V := V) (fun j => (Eq.trans (hE6 3 j rfl) (Eq.trans (hE5 3 j rfl) (Eq.trans (hE3 3 j rfl) (hE1 3 j rfl))))) (fun j => (Eq.trans (hE6 4 j rfl) (Eq.trans (hE5 4 j rfl) (Eq.trans (hE3 4 j rfl) (hE1 4 j rfl))))) (fun j => (Eq.trans (hE6 5 j rfl) (Eq.trans (hE5 5 j rfl) (Eq.trans (hE3 5 j rfl) (hE1 5 j rfl))))) hT) hps 15 (by omega)) (cw_X13_218 hts ⟨by decide, by decide⟩) (hG 0 _ rfl) rfl rfl rfl rfl (Nat.le_of_ble_eq_true rfl) dX13_expression_175 (fun _ h => h.elim) (fun r H1 locs hq hF hS => ?_)
                    obtain ⟨rfl, rfl⟩ := hq
                    have hbb175 := bN_lt (isP none (kdF ch sz tc) 15)
                    refine n_if_eq (tgt := 185) hx hb dX13_expression_178 (by decide) (by omega) (fun c178 => ?_) (fun c178 => ?_)
                    · have hm : ¬ opT (kdF ch sz) tc none = true := opT_n (bN0 (show bN (isP none (kdF ch sz tc) 8) = 0 by omega)) (bN0 (show bN (isP none (kdF ch sz tc) 9) = 0 by omega)) (bN0 (show bN (isP none (kdF ch sz tc) 10) = 0 by omega)) (bN0 (show bN (isP none (kdF ch sz tc) 15) = 0 by omega))
                      refine lv_iconst (v := (nI 0)) hx hb dX13_expression_185 (by decide) ?_
                      refine lv_istore_n (lv' := [(2, .int (nI 0)), (1, .int (nI 0)), (0, .ref o)]) hx hb dX13_expression_186 rfl hl (by decide) rfl (fun ls hl => ?_)
                      refine lv_iload_n hx hb dX13_expression_187 rfl (lv_at hl 0 rfl) ?_
                      refine n_if_ne (tgt := 210) hx hb dX13_expression_188 (by decide) (by decide) (fun z => absurd z (by decide)) (fun _ => ?_)
                      refine lv_aload_n hx hb dX13_expression_191 rfl (lv_at hl 2 rfl) ?_
                      refine g_get (v := .int (nI oc)) hx hb hts hown hK hG 0 rfl rfl ok_X13 12 (by decide) q1483 rfl (congrArg Value.int ho12) dX13_expression_192 ?_
                      refine lv_iload_n hx hb dX13_expression_195 rfl (lv_at hl 1 rfl) ?_
                      refine n_icmp_le (tgt := 204) hx hb dX13_expression_196 (by decide) (by omega) (by omega) (fun c196 => ?_) (fun c196 => ?_)
                      · refine lv_aload_n hx hb dX13_expression_204 rfl (lv_at hl 2 rfl) ?_
                        refine lv_iconst (v := (nI 0)) hx hb dX13_expression_205 (by decide) ?_
                        refine c_VV hx hb hml hts hown hK hl.1 hS ⟨Nat.le_refl _, Nat.le_refl _⟩ (met_X13_comesOut l D dA hG hwt hem hcm.2 (by omega) 0 (by omega)) (cw_X13_296 hts ⟨by decide, by decide⟩) (hG 0 _ rfl) rfl rfl rfl rfl (Nat.le_of_ble_eq_true rfl) dX13_expression_206 (fun _ h => h) (fun H1 locs hq hF hS => ?_)
                        have hloB := hlo
                        obtain ⟨V53, hG, hE53, hwt53, hem53, hlo53⟩ := hq
                        generalize hHe53 : H1 = H at hG hS ⊢
                        clear hHe53
                        replace hlo53 := loF.trans hloB hlo53
                        obtain ⟨wp53, ep53, hco53⟩ : ∃ a b, coO 0 wsc emc = (a, b) := ⟨_, _, rfl⟩
                        rw [hco53] at hwt53 hem53
                        have hci53 := coO_inv _ _ _ _ _ hco53
                        replace hwt53 : wtM V53 wp53 := hwt53
                        replace hem53 : emM V53 c0 ep53 := hem53
                        refine hend _ _ _ _ hS dX13_expression_209 ?_
                        obtain ⟨n2, rfl⟩ : ∃ n2, n = n2 + 1 := ⟨n - 1, by omega⟩
                        have hRR : exM (kdF ch sz) (plF ch sz) (vlF ch sz) 402 t0 fo0 0 [] [] = (tc, none, ep53) := hRA.symm.trans ((exM_e hA he5 hee5 hC hm).trans (by rw [hco53, if_neg (by omega)]))
                        exact ⟨rfl, _, oc, hG, ((((((Eqx.rf.up rfl).trans hE1).trans (hE3.mono PXb_PEx)).trans (hE5.mono PUn_PEx)).trans (hE6.mono PXc_PEx)).trans (hE53.mono PCo_PEx)), by rw [hRR]; exact (psM_to (V := V6) (hE53 0 11 rfl) (hE53 0 13 rfl) (hE53 0 14 rfl) hps), (Eq.trans (hE53 0 12 rfl) ho12), fun z => by rw [hRR] at z; omega, by rw [hRR]; exact hem53, hlo53, by rw [hRR]; show c0 + ep53.length + 420 ≤ cm + 1 + tc; have := hci53.1; omega, fun z => by rw [hRR] at z ⊢; show c0 + ep53.length + 420 ≤ cm + tc; have := hci53.1; have := h85 z; omega⟩
                      refine lv_aload_n hx hb dX13_expression_199 rfl (lv_at hl 2 rfl) ?_
                      refine lv_iconst (v := (nI 1)) hx hb dX13_expression_200 (by decide) ?_
                      refine c_VV hx hb hml hts hown hK hl.1 hS ⟨Nat.le_refl _, Nat.le_refl _⟩ (met_X13_fail l D dA hG (tkOK_to (V := V) (fun j => (Eq.trans (hE6 3 j rfl) (Eq.trans (hE5 3 j rfl) (Eq.trans (hE3 3 j rfl) (hE1 3 j rfl))))) (fun j => (Eq.trans (hE6 4 j rfl) (Eq.trans (hE5 4 j rfl) (Eq.trans (hE3 4 j rfl) (hE1 4 j rfl))))) (fun j => (Eq.trans (hE6 5 j rfl) (Eq.trans (hE5 5 j rfl) (Eq.trans (hE3 5 j rfl) (hE1 5 j rfl))))) hT) hps 1 (by omega) (by omega)) (cw_X13_215 hts ⟨by decide, by decide⟩) (hG 0 _ rfl) rfl rfl rfl rfl (Nat.le_of_ble_eq_true rfl) dX13_expression_201 (fun _ h => h) (fun H1 locs hq hF hS => ?_)
                      obtain ⟨V54, hG, hE54, hps54⟩ := hq
                      generalize hHe54 : H1 = H at hG hS ⊢
                      clear hHe54
                      obtain ⟨fo54, he54⟩ : ∃ a, flP none 1 (plF ch sz tc) = a := ⟨_, rfl⟩
                      replace hps54 : psM V54 m0 tc fo54 := by rw [he54] at hps54; exact hps54
                      obtain ⟨ft54, hft954, hft54, hfz54⟩ := fo_z hps54.2.2
                      have htm54 := hps54.1
                      obtain ⟨hk354, hk454, hk554, hk654⟩ := hT.1 tc htm54
                      have hkd954 := kd_lt ch sz tc
                      have hb354 := (hT.2.2.2.2.2 tc htm54).1
                      have hb554 := (hT.2.2.2.2.2 tc htm54).2.1
                      refine lv_aload_n hx hb dX13_expression_204 rfl (lv_at hl 2 rfl) ?_
                      refine lv_iconst (v := (nI 0)) hx hb dX13_expression_205 (by decide) ?_
                      refine c_VV hx hb hml hts hown hK hl.1 hS ⟨Nat.le_refl _, Nat.le_refl _⟩ (met_X13_comesOut l D dA hG (wtM_to (V := V6) (hE54 0 43 rfl) (fun j => (hE54 27 j rfl)) hwt) (emM_to (V := V6) (hE54 0 39 rfl) (fun j => (hE54 25 j rfl)) (fun j => (hE54 26 j rfl)) hem) hcm.2 (by omega) 0 (by omega)) (cw_X13_296 hts ⟨by decide, by decide⟩) (hG 0 _ rfl) rfl rfl rfl rfl (Nat.le_of_ble_eq_true rfl) dX13_expression_206 (fun _ h => h) (fun H1 locs hq hF hS => ?_)
                      have hloB := (loF_to (V1 := V6) (fun j => (hE54 25 j rfl)) (fun j => (hE54 26 j rfl)) hlo)
                      obtain ⟨V55, hG, hE55, hwt55, hem55, hlo55⟩ := hq
                      generalize hHe55 : H1 = H at hG hS ⊢
                      clear hHe55
                      replace hlo55 := loF.trans hloB hlo55
                      obtain ⟨wp55, ep55, hco55⟩ : ∃ a b, coO 0 wsc emc = (a, b) := ⟨_, _, rfl⟩
                      rw [hco55] at hwt55 hem55
                      have hci55 := coO_inv _ _ _ _ _ hco55
                      replace hwt55 : wtM V55 wp55 := hwt55
                      replace hem55 : emM V55 c0 ep55 := hem55
                      refine hend _ _ _ _ hS dX13_expression_209 ?_
                      obtain ⟨n2, rfl⟩ : ∃ n2, n = n2 + 1 := ⟨n - 1, by omega⟩
                      have hRR : exM (kdF ch sz) (plF ch sz) (vlF ch sz) 402 t0 fo0 0 [] [] = (tc, fo54, ep55) := hRA.symm.trans ((exM_e hA he5 hee5 hC hm).trans (by rw [hco55, if_pos (by omega), he54]))
                      exact ⟨rfl, _, oc, hG, (((((((Eqx.rf.up rfl).trans hE1).trans (hE3.mono PXb_PEx)).trans (hE5.mono PUn_PEx)).trans (hE6.mono PXc_PEx)).trans (hE54.mono PFl_PEx)).trans (hE55.mono PCo_PEx)), by rw [hRR]; exact (psM_to (V := V54) (hE55 0 11 rfl) (hE55 0 13 rfl) (hE55 0 14 rfl) hps54), (Eq.trans ((hE55 0 12 rfl).trans (hE54 0 12 rfl)) ho12), fun z => by rw [hRR] at z; exact (flP_n (he54.trans z)).elim, by rw [hRR]; exact hem55, hlo55, by rw [hRR]; show c0 + ep55.length + 420 ≤ cm + 1 + tc; have := hci55.1; omega, fun z => by rw [hRR] at z ⊢; show c0 + ep55.length + 420 ≤ cm + tc; have := hci55.1; exact (flP_n (he54.trans z)).elim⟩
                    have hm : opT (kdF ch sz) tc none = true := opT_t (bN1 (show ¬ bN (isP none (kdF ch sz tc) 15) = 0 by omega)) (by decide)
                    obtain ⟨hmf, hmk⟩ := opT_k hm
                    have hn1 := hn hmf
                    have h86 := h85 hmf
                    refine lv_iconst (v := (nI 1)) hx hb dX13_expression_181 (by decide) ?_
                    refine lv_goto (tgt := 186) hx hb dX13_expression_182 (by decide) ?_
                    refine lv_istore_n (lv' := [(2, .int (nI 1)), (1, .int (nI 0)), (0, .ref o)]) hx hb dX13_expression_186 rfl hl (by decide) rfl (fun ls hl => ?_)
                    refine lv_iload_n hx hb dX13_expression_187 rfl (lv_at hl 0 rfl) ?_
                    refine n_if_ne (tgt := 210) hx hb dX13_expression_188 (by decide) (by decide) (fun _ => ?_) (fun z => absurd z (by decide))
                    refine lv_aload_n hx hb dX13_expression_210 rfl (lv_at hl 2 rfl) ?_
                    refine lv_aload_n hx hb dX13_expression_211 rfl (lv_at hl 2 rfl) ?_
                    refine lv_bipush (v := (nI 10)) hx hb dX13_expression_212 (by decide) ?_
                    refine c_VI hx hb hml hts hown hK hl.1 hS ⟨Nat.le_refl _, Nat.le_refl _⟩ (met_X13_is l D dA hG (tkOK_to (V := V) (fun j => (Eq.trans (hE6 3 j rfl) (Eq.trans (hE5 3 j rfl) (Eq.trans (hE3 3 j rfl) (hE1 3 j rfl))))) (fun j => (Eq.trans (hE6 4 j rfl) (Eq.trans (hE5 4 j rfl) (Eq.trans (hE3 4 j rfl) (hE1 4 j rfl))))) (fun j => (Eq.trans (hE6 5 j rfl) (Eq.trans (hE5 5 j rfl) (Eq.trans (hE3 5 j rfl) (hE1 5 j rfl))))) hT) hps 10 (by omega)) (cw_X13_218 hts ⟨by decide, by decide⟩) (hG 0 _ rfl) rfl rfl rfl rfl (Nat.le_of_ble_eq_true rfl) dX13_expression_214 (fun _ h => h.elim) (fun r H1 locs hq hF hS => ?_)
                    obtain ⟨rfl, rfl⟩ := hq
                    have hbb214 := bN_lt (isP none (kdF ch sz tc) 10)
                    refine n_if_ne (tgt := 229) hx hb dX13_expression_217 (by decide) (by omega) (fun c217 => ?_) (fun c217 => ?_)
                    · have hx1 : opS (kdF ch sz) tc none = 1 := opS_1 (bN1 (show ¬ bN (isP none (kdF ch sz tc) 10) = 0 by omega)) (by decide)
                      refine lv_iconst (v := (nI 1)) hx hb dX13_expression_229 (by decide) ?_
                      refine lv_goto (tgt := 234) hx hb dX13_expression_230 (by decide) ?_
                      refine c_VV hx hb hml hts hown hK hl.1 hS ⟨Nat.le_refl _, Nat.le_refl _⟩ (met_X13_comesOut l D dA hG hwt hem hcm.2 (by omega) 1 (by omega)) (cw_X13_296 hts ⟨by decide, by decide⟩) (hG 0 _ rfl) rfl rfl rfl rfl (Nat.le_of_ble_eq_true rfl) dX13_expression_234 (fun _ h => h) (fun H1 locs hq hF hS => ?_)
                      have hloB := hlo
                      obtain ⟨V56, hG, hE56, hwt56, hem56, hlo56⟩ := hq
                      generalize hHe56 : H1 = H at hG hS ⊢
                      clear hHe56
                      replace hlo56 := loF.trans hloB hlo56
                      obtain ⟨wp56, ep56, hco56⟩ : ∃ a b, coO 1 wsc emc = (a, b) := ⟨_, _, rfl⟩
                      rw [hco56] at hwt56 hem56
                      have hci56 := coO_inv _ _ _ _ _ hco56
                      replace hwt56 : wtM V56 wp56 := hwt56
                      replace hem56 : emM V56 c0 ep56 := hem56
                      have hokw := hci56.2.1 hok
                      have hwl2 := ws_len2 hokw
                      have hc62 := hci56.2.2.1
                      have hlen2 := hci56.1
                      have ho61 := ho6 hmf
                      have hwl3 : wp56.length < 64 := by omega
                      refine lv_aload_n hx hb dX13_expression_237 rfl (lv_at hl 2 rfl) ?_
                      refine g_get hx hb hts hown hK hG 0 rfl rfl ok_X13 42 (by decide) q1513 rfl rfl dX13_expression_238 ?_
                      refine lv_aload_n hx hb dX13_expression_241 rfl (lv_at hl 2 rfl) ?_
                      refine g_get (v := .int (nI wp56.length)) hx hb hts hown hK hG 0 rfl rfl ok_X13 43 (by decide) q1514 rfl (congrArg Value.int hwt56.1) dX13_expression_242 ?_
                      refine lv_aload_n hx hb dX13_expression_245 rfl (lv_at hl 2 rfl) ?_
                      refine g_get hx hb hts hown hK hG 0 rfl rfl ok_X13 5 (by decide) q1476 rfl rfl dX13_expression_246 ?_
                      refine lv_aload_n hx hb dX13_expression_249 rfl (lv_at hl 2 rfl) ?_
                      refine g_get (v := .int (nI tc)) hx hb hts hown hK hG 0 rfl rfl ok_X13 11 (by decide) q1482 rfl (congrArg Value.int ((hE56 0 11 rfl).trans hps.2.1)) dX13_expression_250 ?_
                      refine n_iald hx hb hK hG 3 rfl (by omega) (by decide) dX13_expression_253 ?_
                      refine iv (y := (nI (kdF ch sz tc))) (((hE56 3 tc rfl).trans ((hE6 3 tc rfl).trans ((hE5 3 tc rfl).trans ((hE3 3 tc rfl).trans (hE1 3 tc rfl))))).trans hk3_7) ?_
                      refine n_iast hx hb hK hG hS 27 (AM_in 27 (by decide)) rfl (by omega) (by decide) dX13_expression_254 (fun H locs hG hO hS => ?_)
                      refine lv_aload_n hx hb dX13_expression_255 rfl (lv_at hl 2 rfl) ?_
                      refine lv_dup hx hb dX13_expression_256 rfl ?_
                      refine g_get (v := .int (nI wp56.length)) hx hb hts hown hK hG 0 rfl rfl ok_X13 43 (by decide) q1514 rfl (congrArg Value.int hwt56.1) dX13_expression_257 ?_
                      refine lv_iconst (v := (nI 1)) hx hb dX13_expression_260 (by decide) ?_
                      refine n_iadd hx hb dX13_expression_261 ?_
                      refine g_put hx hb hts hown hK hG hS 0 (AM_in 0 (by decide)) rfl rfl ok_X13 43 (by decide) q1514 rfl rfl rfl rfl dX13_expression_262 (fun H locs hG hO hS => ?_)
                      have hwtp : wtM (up2 (up2 V56 27 wp56.length (nI (kdF ch sz tc))) 0 43 (nI (wp56.length + 1))) ((kdF ch sz tc) :: wp56) := wt_push hwt56 (by omega) (by omega) (show up2 _ 27 _ _ 27 _ = _ from up2_s) (fun j hj => Eq.trans (show up2 _ 27 _ _ 27 j = _ from up2_n (fun z => by have := z.2; omega)) rfl) rfl
                      refine lv_aload_n hx hb dX13_expression_265 rfl (lv_at hl 2 rfl) ?_
                      refine c_VV hx hb hml hts hown hK hl.1 hS ⟨Nat.le_refl _, Nat.le_refl _⟩ (met_X13_goesOn l D dA hG (tkOK_to (V := V) (fun j => (Eq.trans (hE56 3 j rfl) (Eq.trans (hE6 3 j rfl) (Eq.trans (hE5 3 j rfl) (Eq.trans (hE3 3 j rfl) (hE1 3 j rfl)))))) (fun j => (Eq.trans (hE56 4 j rfl) (Eq.trans (hE6 4 j rfl) (Eq.trans (hE5 4 j rfl) (Eq.trans (hE3 4 j rfl) (hE1 4 j rfl)))))) (fun j => (Eq.trans (hE56 5 j rfl) (Eq.trans (hE6 5 j rfl) (Eq.trans (hE5 5 j rfl) (Eq.trans (hE3 5 j rfl) (hE1 5 j rfl)))))) hT) (psM_to (V := V6) (hE56 0 11 rfl) (hE56 0 13 rfl) (hE56 0 14 rfl) hps) (by omega)) (cw_X13_221 hts ⟨by decide, by decide⟩) (hG 0 _ rfl) rfl rfl rfl rfl (Nat.le_of_ble_eq_true rfl) dX13_expression_266 (fun _ h => h) (fun H1 locs hq hF hS => ?_)
                      obtain ⟨V57, hG, hE57, hps57⟩ := hq
                      generalize hHe57 : H1 = H at hG hS ⊢
                      clear hHe57
                      obtain ⟨t57, fo57, he57⟩ : ∃ a b, goP (plF ch sz) tc none = (a, b) := ⟨_, _, rfl⟩
                      replace hps57 : psM V57 m0 t57 fo57 := by rw [he57] at hps57; exact hps57
                      obtain ⟨ft57, hft957, hft57, hfz57⟩ := fo_z hps57.2.2
                      have htm57 := hps57.1
                      obtain ⟨hk357, hk457, hk557, hk657⟩ := hT.1 t57 htm57
                      have hkd957 := kd_lt ch sz t57
                      have hb357 := (hT.2.2.2.2.2 t57 htm57).1
                      have hb557 := (hT.2.2.2.2.2 t57 htm57).2.1
                      refine lv_goto (tgt := 12) hx hb dX13_expression_269 (by decide) ?_
                      have hgf := goP_f he57
                      have hokn := opS_w hm hx1 hco56 hok
                      exact ih1 (n - 1) t57 fo57 oc (kdF ch sz tc :: wp56) ep56 V57 _ _ _ (by omega) (by rw [← hRA]; obtain ⟨n2, rfl⟩ : ∃ n2, n = n2 + 1 := ⟨n - 1, by omega⟩; exact (exM_go hA he5 hee5 hC hm hx1 hco56 he57).symm) hokn (by show (if kdF ch sz tc = 6 then 1 else 0) + cnt6 wp56 = _; rw [if_neg (by omega)]; omega) (by omega) (fun _ => by omega) (fun z => by have h9 := (hgf.2.2 z).2; omega) (by rw [List.length_cons]; omega) (fun z => by have h9 := (hgf.2.2 z).2; rw [List.length_cons]; omega) (Eqx.trans (Eqx.up (Eqx.up (Eqx.trans (Eqx.trans (Eqx.trans (Eqx.trans hE1 (hE3.mono PXb_PEx)) (hE5.mono PUn_PEx)) (hE6.mono PXc_PEx)) (hE56.mono PCo_PEx)) rfl) rfl) (hE57.mono PGo_PEx)) hps57 (Eq.trans ((hE57 0 12 rfl).trans (hE56 0 12 rfl)) ho12) (wtM_to (V := up2 (up2 V56 27 wp56.length (nI (kdF ch sz tc))) 0 43 (nI (wp56.length + 1))) (hE57 0 43 rfl) (fun j => (hE57 27 j rfl)) hwtp) (emM_to (V := V56) (hE57 0 39 rfl) (fun j => (hE57 25 j rfl)) (fun j => (hE57 26 j rfl)) hem56) (loF_to (V1 := V56) (fun j => (hE57 25 j rfl)) (fun j => (hE57 26 j rfl)) hlo56) hG hS (lv_sub hl [0, 1, 2] rfl)
                    refine lv_aload_n hx hb dX13_expression_220 rfl (lv_at hl 2 rfl) ?_
                    refine lv_bipush (v := (nI 15)) hx hb dX13_expression_221 (by decide) ?_
                    refine c_VI hx hb hml hts hown hK hl.1 hS ⟨Nat.le_refl _, Nat.le_refl _⟩ (met_X13_is l D dA hG (tkOK_to (V := V) (fun j => (Eq.trans (hE6 3 j rfl) (Eq.trans (hE5 3 j rfl) (Eq.trans (hE3 3 j rfl) (hE1 3 j rfl))))) (fun j => (Eq.trans (hE6 4 j rfl) (Eq.trans (hE5 4 j rfl) (Eq.trans (hE3 4 j rfl) (hE1 4 j rfl))))) (fun j => (Eq.trans (hE6 5 j rfl) (Eq.trans (hE5 5 j rfl) (Eq.trans (hE3 5 j rfl) (hE1 5 j rfl))))) hT) hps 15 (by omega)) (cw_X13_218 hts ⟨by decide, by decide⟩) (hG 0 _ rfl) rfl rfl rfl rfl (Nat.le_of_ble_eq_true rfl) dX13_expression_223 (fun _ h => h.elim) (fun r H1 locs hq hF hS => ?_)
                    obtain ⟨rfl, rfl⟩ := hq
                    have hbb223 := bN_lt (isP none (kdF ch sz tc) 15)
                    refine n_if_eq (tgt := 233) hx hb dX13_expression_226 (by decide) (by omega) (fun c226 => ?_) (fun c226 => ?_)
                    · have hx1 : opS (kdF ch sz) tc none = 0 := opS_0 (bN0 (show bN (isP none (kdF ch sz tc) 10) = 0 by omega)) (bN0 (show bN (isP none (kdF ch sz tc) 15) = 0 by omega))
                      refine lv_iconst (v := (nI 0)) hx hb dX13_expression_233 (by decide) ?_
                      refine c_VV hx hb hml hts hown hK hl.1 hS ⟨Nat.le_refl _, Nat.le_refl _⟩ (met_X13_comesOut l D dA hG hwt hem hcm.2 (by omega) 0 (by omega)) (cw_X13_296 hts ⟨by decide, by decide⟩) (hG 0 _ rfl) rfl rfl rfl rfl (Nat.le_of_ble_eq_true rfl) dX13_expression_234 (fun _ h => h) (fun H1 locs hq hF hS => ?_)
                      have hloB := hlo
                      obtain ⟨V58, hG, hE58, hwt58, hem58, hlo58⟩ := hq
                      generalize hHe58 : H1 = H at hG hS ⊢
                      clear hHe58
                      replace hlo58 := loF.trans hloB hlo58
                      obtain ⟨wp58, ep58, hco58⟩ : ∃ a b, coO 0 wsc emc = (a, b) := ⟨_, _, rfl⟩
                      rw [hco58] at hwt58 hem58
                      have hci58 := coO_inv _ _ _ _ _ hco58
                      replace hwt58 : wtM V58 wp58 := hwt58
                      replace hem58 : emM V58 c0 ep58 := hem58
                      have hokw := hci58.2.1 hok
                      have hwl2 := ws_len2 hokw
                      have hc62 := hci58.2.2.1
                      have hlen2 := hci58.1
                      have ho61 := ho6 hmf
                      have hwl3 : wp58.length < 64 := by omega
                      refine lv_aload_n hx hb dX13_expression_237 rfl (lv_at hl 2 rfl) ?_
                      refine g_get hx hb hts hown hK hG 0 rfl rfl ok_X13 42 (by decide) q1513 rfl rfl dX13_expression_238 ?_
                      refine lv_aload_n hx hb dX13_expression_241 rfl (lv_at hl 2 rfl) ?_
                      refine g_get (v := .int (nI wp58.length)) hx hb hts hown hK hG 0 rfl rfl ok_X13 43 (by decide) q1514 rfl (congrArg Value.int hwt58.1) dX13_expression_242 ?_
                      refine lv_aload_n hx hb dX13_expression_245 rfl (lv_at hl 2 rfl) ?_
                      refine g_get hx hb hts hown hK hG 0 rfl rfl ok_X13 5 (by decide) q1476 rfl rfl dX13_expression_246 ?_
                      refine lv_aload_n hx hb dX13_expression_249 rfl (lv_at hl 2 rfl) ?_
                      refine g_get (v := .int (nI tc)) hx hb hts hown hK hG 0 rfl rfl ok_X13 11 (by decide) q1482 rfl (congrArg Value.int ((hE58 0 11 rfl).trans hps.2.1)) dX13_expression_250 ?_
                      refine n_iald hx hb hK hG 3 rfl (by omega) (by decide) dX13_expression_253 ?_
                      refine iv (y := (nI (kdF ch sz tc))) (((hE58 3 tc rfl).trans ((hE6 3 tc rfl).trans ((hE5 3 tc rfl).trans ((hE3 3 tc rfl).trans (hE1 3 tc rfl))))).trans hk3_7) ?_
                      refine n_iast hx hb hK hG hS 27 (AM_in 27 (by decide)) rfl (by omega) (by decide) dX13_expression_254 (fun H locs hG hO hS => ?_)
                      refine lv_aload_n hx hb dX13_expression_255 rfl (lv_at hl 2 rfl) ?_
                      refine lv_dup hx hb dX13_expression_256 rfl ?_
                      refine g_get (v := .int (nI wp58.length)) hx hb hts hown hK hG 0 rfl rfl ok_X13 43 (by decide) q1514 rfl (congrArg Value.int hwt58.1) dX13_expression_257 ?_
                      refine lv_iconst (v := (nI 1)) hx hb dX13_expression_260 (by decide) ?_
                      refine n_iadd hx hb dX13_expression_261 ?_
                      refine g_put hx hb hts hown hK hG hS 0 (AM_in 0 (by decide)) rfl rfl ok_X13 43 (by decide) q1514 rfl rfl rfl rfl dX13_expression_262 (fun H locs hG hO hS => ?_)
                      have hwtp : wtM (up2 (up2 V58 27 wp58.length (nI (kdF ch sz tc))) 0 43 (nI (wp58.length + 1))) ((kdF ch sz tc) :: wp58) := wt_push hwt58 (by omega) (by omega) (show up2 _ 27 _ _ 27 _ = _ from up2_s) (fun j hj => Eq.trans (show up2 _ 27 _ _ 27 j = _ from up2_n (fun z => by have := z.2; omega)) rfl) rfl
                      refine lv_aload_n hx hb dX13_expression_265 rfl (lv_at hl 2 rfl) ?_
                      refine c_VV hx hb hml hts hown hK hl.1 hS ⟨Nat.le_refl _, Nat.le_refl _⟩ (met_X13_goesOn l D dA hG (tkOK_to (V := V) (fun j => (Eq.trans (hE58 3 j rfl) (Eq.trans (hE6 3 j rfl) (Eq.trans (hE5 3 j rfl) (Eq.trans (hE3 3 j rfl) (hE1 3 j rfl)))))) (fun j => (Eq.trans (hE58 4 j rfl) (Eq.trans (hE6 4 j rfl) (Eq.trans (hE5 4 j rfl) (Eq.trans (hE3 4 j rfl) (hE1 4 j rfl)))))) (fun j => (Eq.trans (hE58 5 j rfl) (Eq.trans (hE6 5 j rfl) (Eq.trans (hE5 5 j rfl) (Eq.trans (hE3 5 j rfl) (hE1 5 j rfl)))))) hT) (psM_to (V := V6) (hE58 0 11 rfl) (hE58 0 13 rfl) (hE58 0 14 rfl) hps) (by omega)) (cw_X13_221 hts ⟨by decide, by decide⟩) (hG 0 _ rfl) rfl rfl rfl rfl (Nat.le_of_ble_eq_true rfl) dX13_expression_266 (fun _ h => h) (fun H1 locs hq hF hS => ?_)
                      obtain ⟨V59, hG, hE59, hps59⟩ := hq
                      generalize hHe59 : H1 = H at hG hS ⊢
                      clear hHe59
                      obtain ⟨t59, fo59, he59⟩ : ∃ a b, goP (plF ch sz) tc none = (a, b) := ⟨_, _, rfl⟩
                      replace hps59 : psM V59 m0 t59 fo59 := by rw [he59] at hps59; exact hps59
                      obtain ⟨ft59, hft959, hft59, hfz59⟩ := fo_z hps59.2.2
                      have htm59 := hps59.1
                      obtain ⟨hk359, hk459, hk559, hk659⟩ := hT.1 t59 htm59
                      have hkd959 := kd_lt ch sz t59
                      have hb359 := (hT.2.2.2.2.2 t59 htm59).1
                      have hb559 := (hT.2.2.2.2.2 t59 htm59).2.1
                      refine lv_goto (tgt := 12) hx hb dX13_expression_269 (by decide) ?_
                      have hgf := goP_f he59
                      have hokn := opS_w hm hx1 hco58 hok
                      exact ih1 (n - 1) t59 fo59 oc (kdF ch sz tc :: wp58) ep58 V59 _ _ _ (by omega) (by rw [← hRA]; obtain ⟨n2, rfl⟩ : ∃ n2, n = n2 + 1 := ⟨n - 1, by omega⟩; exact (exM_go hA he5 hee5 hC hm hx1 hco58 he59).symm) hokn (by show (if kdF ch sz tc = 6 then 1 else 0) + cnt6 wp58 = _; rw [if_neg (by omega)]; omega) (by omega) (fun _ => by omega) (fun z => by have h9 := (hgf.2.2 z).2; omega) (by rw [List.length_cons]; omega) (fun z => by have h9 := (hgf.2.2 z).2; rw [List.length_cons]; omega) (Eqx.trans (Eqx.up (Eqx.up (Eqx.trans (Eqx.trans (Eqx.trans (Eqx.trans hE1 (hE3.mono PXb_PEx)) (hE5.mono PUn_PEx)) (hE6.mono PXc_PEx)) (hE58.mono PCo_PEx)) rfl) rfl) (hE59.mono PGo_PEx)) hps59 (Eq.trans ((hE59 0 12 rfl).trans (hE58 0 12 rfl)) ho12) (wtM_to (V := up2 (up2 V58 27 wp58.length (nI (kdF ch sz tc))) 0 43 (nI (wp58.length + 1))) (hE59 0 43 rfl) (fun j => (hE59 27 j rfl)) hwtp) (emM_to (V := V58) (hE59 0 39 rfl) (fun j => (hE59 25 j rfl)) (fun j => (hE59 26 j rfl)) hem58) (loF_to (V1 := V58) (fun j => (hE59 25 j rfl)) (fun j => (hE59 26 j rfl)) hlo58) hG hS (lv_sub hl [0, 1, 2] rfl)
                    have hx1 : opS (kdF ch sz) tc none = 1 := opS_1 (bN1 (show ¬ bN (isP none (kdF ch sz tc) 15) = 0 by omega)) (by decide)
                    refine lv_iconst (v := (nI 1)) hx hb dX13_expression_229 (by decide) ?_
                    refine lv_goto (tgt := 234) hx hb dX13_expression_230 (by decide) ?_
                    refine c_VV hx hb hml hts hown hK hl.1 hS ⟨Nat.le_refl _, Nat.le_refl _⟩ (met_X13_comesOut l D dA hG hwt hem hcm.2 (by omega) 1 (by omega)) (cw_X13_296 hts ⟨by decide, by decide⟩) (hG 0 _ rfl) rfl rfl rfl rfl (Nat.le_of_ble_eq_true rfl) dX13_expression_234 (fun _ h => h) (fun H1 locs hq hF hS => ?_)
                    have hloB := hlo
                    obtain ⟨V60, hG, hE60, hwt60, hem60, hlo60⟩ := hq
                    generalize hHe60 : H1 = H at hG hS ⊢
                    clear hHe60
                    replace hlo60 := loF.trans hloB hlo60
                    obtain ⟨wp60, ep60, hco60⟩ : ∃ a b, coO 1 wsc emc = (a, b) := ⟨_, _, rfl⟩
                    rw [hco60] at hwt60 hem60
                    have hci60 := coO_inv _ _ _ _ _ hco60
                    replace hwt60 : wtM V60 wp60 := hwt60
                    replace hem60 : emM V60 c0 ep60 := hem60
                    have hokw := hci60.2.1 hok
                    have hwl2 := ws_len2 hokw
                    have hc62 := hci60.2.2.1
                    have hlen2 := hci60.1
                    have ho61 := ho6 hmf
                    have hwl3 : wp60.length < 64 := by omega
                    refine lv_aload_n hx hb dX13_expression_237 rfl (lv_at hl 2 rfl) ?_
                    refine g_get hx hb hts hown hK hG 0 rfl rfl ok_X13 42 (by decide) q1513 rfl rfl dX13_expression_238 ?_
                    refine lv_aload_n hx hb dX13_expression_241 rfl (lv_at hl 2 rfl) ?_
                    refine g_get (v := .int (nI wp60.length)) hx hb hts hown hK hG 0 rfl rfl ok_X13 43 (by decide) q1514 rfl (congrArg Value.int hwt60.1) dX13_expression_242 ?_
                    refine lv_aload_n hx hb dX13_expression_245 rfl (lv_at hl 2 rfl) ?_
                    refine g_get hx hb hts hown hK hG 0 rfl rfl ok_X13 5 (by decide) q1476 rfl rfl dX13_expression_246 ?_
                    refine lv_aload_n hx hb dX13_expression_249 rfl (lv_at hl 2 rfl) ?_
                    refine g_get (v := .int (nI tc)) hx hb hts hown hK hG 0 rfl rfl ok_X13 11 (by decide) q1482 rfl (congrArg Value.int ((hE60 0 11 rfl).trans hps.2.1)) dX13_expression_250 ?_
                    refine n_iald hx hb hK hG 3 rfl (by omega) (by decide) dX13_expression_253 ?_
                    refine iv (y := (nI (kdF ch sz tc))) (((hE60 3 tc rfl).trans ((hE6 3 tc rfl).trans ((hE5 3 tc rfl).trans ((hE3 3 tc rfl).trans (hE1 3 tc rfl))))).trans hk3_7) ?_
                    refine n_iast hx hb hK hG hS 27 (AM_in 27 (by decide)) rfl (by omega) (by decide) dX13_expression_254 (fun H locs hG hO hS => ?_)
                    refine lv_aload_n hx hb dX13_expression_255 rfl (lv_at hl 2 rfl) ?_
                    refine lv_dup hx hb dX13_expression_256 rfl ?_
                    refine g_get (v := .int (nI wp60.length)) hx hb hts hown hK hG 0 rfl rfl ok_X13 43 (by decide) q1514 rfl (congrArg Value.int hwt60.1) dX13_expression_257 ?_
                    refine lv_iconst (v := (nI 1)) hx hb dX13_expression_260 (by decide) ?_
                    refine n_iadd hx hb dX13_expression_261 ?_
                    refine g_put hx hb hts hown hK hG hS 0 (AM_in 0 (by decide)) rfl rfl ok_X13 43 (by decide) q1514 rfl rfl rfl rfl dX13_expression_262 (fun H locs hG hO hS => ?_)
                    have hwtp : wtM (up2 (up2 V60 27 wp60.length (nI (kdF ch sz tc))) 0 43 (nI (wp60.length + 1))) ((kdF ch sz tc) :: wp60) := wt_push hwt60 (by omega) (by omega) (show up2 _ 27 _ _ 27 _ = _ from up2_s) (fun j hj => Eq.trans (show up2 _ 27 _ _ 27 j = _ from up2_n (fun z => by have := z.2; omega)) rfl) rfl
                    refine lv_aload_n hx hb dX13_expression_265 rfl (lv_at hl 2 rfl) ?_
                    refine c_VV hx hb hml hts hown hK hl.1 hS ⟨Nat.le_refl _, Nat.le_refl _⟩ (met_X13_goesOn l D dA hG (tkOK_to (V := V) (fun j => (Eq.trans (hE60 3 j rfl) (Eq.trans (hE6 3 j rfl) (Eq.trans (hE5 3 j rfl) (Eq.trans (hE3 3 j rfl) (hE1 3 j rfl)))))) (fun j => (Eq.trans (hE60 4 j rfl) (Eq.trans (hE6 4 j rfl) (Eq.trans (hE5 4 j rfl) (Eq.trans (hE3 4 j rfl) (hE1 4 j rfl)))))) (fun j => (Eq.trans (hE60 5 j rfl) (Eq.trans (hE6 5 j rfl) (Eq.trans (hE5 5 j rfl) (Eq.trans (hE3 5 j rfl) (hE1 5 j rfl)))))) hT) (psM_to (V := V6) (hE60 0 11 rfl) (hE60 0 13 rfl) (hE60 0 14 rfl) hps) (by omega)) (cw_X13_221 hts ⟨by decide, by decide⟩) (hG 0 _ rfl) rfl rfl rfl rfl (Nat.le_of_ble_eq_true rfl) dX13_expression_266 (fun _ h => h) (fun H1 locs hq hF hS => ?_)
                    obtain ⟨V61, hG, hE61, hps61⟩ := hq
                    generalize hHe61 : H1 = H at hG hS ⊢
                    clear hHe61
                    obtain ⟨t61, fo61, he61⟩ : ∃ a b, goP (plF ch sz) tc none = (a, b) := ⟨_, _, rfl⟩
                    replace hps61 : psM V61 m0 t61 fo61 := by rw [he61] at hps61; exact hps61
                    obtain ⟨ft61, hft961, hft61, hfz61⟩ := fo_z hps61.2.2
                    have htm61 := hps61.1
                    obtain ⟨hk361, hk461, hk561, hk661⟩ := hT.1 t61 htm61
                    have hkd961 := kd_lt ch sz t61
                    have hb361 := (hT.2.2.2.2.2 t61 htm61).1
                    have hb561 := (hT.2.2.2.2.2 t61 htm61).2.1
                    refine lv_goto (tgt := 12) hx hb dX13_expression_269 (by decide) ?_
                    have hgf := goP_f he61
                    have hokn := opS_w hm hx1 hco60 hok
                    exact ih1 (n - 1) t61 fo61 oc (kdF ch sz tc :: wp60) ep60 V61 _ _ _ (by omega) (by rw [← hRA]; obtain ⟨n2, rfl⟩ : ∃ n2, n = n2 + 1 := ⟨n - 1, by omega⟩; exact (exM_go hA he5 hee5 hC hm hx1 hco60 he61).symm) hokn (by show (if kdF ch sz tc = 6 then 1 else 0) + cnt6 wp60 = _; rw [if_neg (by omega)]; omega) (by omega) (fun _ => by omega) (fun z => by have h9 := (hgf.2.2 z).2; omega) (by rw [List.length_cons]; omega) (fun z => by have h9 := (hgf.2.2 z).2; rw [List.length_cons]; omega) (Eqx.trans (Eqx.up (Eqx.up (Eqx.trans (Eqx.trans (Eqx.trans (Eqx.trans hE1 (hE3.mono PXb_PEx)) (hE5.mono PUn_PEx)) (hE6.mono PXc_PEx)) (hE60.mono PCo_PEx)) rfl) rfl) (hE61.mono PGo_PEx)) hps61 (Eq.trans ((hE61 0 12 rfl).trans (hE60 0 12 rfl)) ho12) (wtM_to (V := up2 (up2 V60 27 wp60.length (nI (kdF ch sz tc))) 0 43 (nI (wp60.length + 1))) (hE61 0 43 rfl) (fun j => (hE61 27 j rfl)) hwtp) (emM_to (V := V60) (hE61 0 39 rfl) (fun j => (hE61 25 j rfl)) (fun j => (hE61 26 j rfl)) hem60) (loF_to (V1 := V60) (fun j => (hE61 25 j rfl)) (fun j => (hE61 26 j rfl)) hlo60) hG hS (lv_sub hl [0, 1, 2] rfl)
                  refine lv_aload_n hx hb dX13_expression_113 rfl (lv_at hl 2 rfl) ?_
                  refine lv_iconst (v := (nI 0)) hx hb dX13_expression_114 (by decide) ?_
                  refine c_VV hx hb hml hts hown hK hl.1 hS ⟨Nat.le_refl _, Nat.le_refl _⟩ (met_X13_comesOut l D dA hG hwt hem hcm.2 (by omega) 0 (by omega)) (cw_X13_296 hts ⟨by decide, by decide⟩) (hG 0 _ rfl) rfl rfl rfl rfl (Nat.le_of_ble_eq_true rfl) dX13_expression_115 (fun _ h => h) (fun H1 locs hq hF hS => ?_)
                  have hloB := hlo
                  obtain ⟨V62, hG, hE62, hwt62, hem62, hlo62⟩ := hq
                  generalize hHe62 : H1 = H at hG hS ⊢
                  clear hHe62
                  replace hlo62 := loF.trans hloB hlo62
                  obtain ⟨wp62, ep62, hco62⟩ : ∃ a b, coO 0 wsc emc = (a, b) := ⟨_, _, rfl⟩
                  rw [hco62] at hwt62 hem62
                  have hci62 := coO_inv _ _ _ _ _ hco62
                  replace hwt62 : wtM V62 wp62 := hwt62
                  replace hem62 : emM V62 c0 ep62 := hem62
                  obtain ⟨wq, hwq⟩ := ws_6 (hci62.2.2.2.1 rfl) (by rw [hci62.2.2.1]; omega)
                  have hwq1 := wt_top hwt62 hwq
                  have hwq2 := hci62.1
                  refine lv_aload_n hx hb dX13_expression_118 rfl (lv_at hl 2 rfl) ?_
                  refine lv_dup hx hb dX13_expression_119 rfl ?_
                  refine g_get (v := .int (nI wp62.length)) hx hb hts hown hK hG 0 rfl rfl ok_X13 43 (by decide) q1514 rfl (congrArg Value.int hwt62.1) dX13_expression_120 ?_
                  refine lv_iconst (v := (nI 1)) hx hb dX13_expression_123 (by decide) ?_
                  refine n_isub hx hb dX13_expression_124 (by omega) ?_
                  refine g_put hx hb hts hown hK hG hS 0 (AM_in 0 (by decide)) rfl rfl ok_X13 43 (by decide) q1514 rfl rfl rfl rfl dX13_expression_125 (fun H locs hG hO hS => ?_)
                  have hwtp : wtM (up2 V62 0 43 (nI (wp62.length - 1))) wq := wt_pop hwt62 hwq rfl (fun _ => rfl)
                  refine lv_aload_n hx hb dX13_expression_128 rfl (lv_at hl 2 rfl) ?_
                  refine lv_dup hx hb dX13_expression_129 rfl ?_
                  refine g_get (v := .int (nI oc)) hx hb hts hown hK hG 0 rfl rfl ok_X13 12 (by decide) q1483 rfl (congrArg Value.int ((hE62 0 12 rfl).trans ho12)) dX13_expression_130 ?_
                  refine lv_iconst (v := (nI 1)) hx hb dX13_expression_133 (by decide) ?_
                  refine n_isub hx hb dX13_expression_134 (by omega) ?_
                  refine g_put hx hb hts hown hK hG hS 0 (AM_in 0 (by decide)) rfl rfl ok_X13 12 (by decide) q1483 rfl rfl rfl rfl dX13_expression_135 (fun H locs hG hO hS => ?_)
                  refine lv_aload_n hx hb dX13_expression_138 rfl (lv_at hl 2 rfl) ?_
                  refine c_VV hx hb hml hts hown hK hl.1 hS ⟨Nat.le_refl _, Nat.le_refl _⟩ (met_X13_goesOn l D dA hG (tkOK_to (V := V) (fun j => (Eq.trans (hE62 3 j rfl) (Eq.trans (hE6 3 j rfl) (Eq.trans (hE5 3 j rfl) (Eq.trans (hE3 3 j rfl) (hE1 3 j rfl)))))) (fun j => (Eq.trans (hE62 4 j rfl) (Eq.trans (hE6 4 j rfl) (Eq.trans (hE5 4 j rfl) (Eq.trans (hE3 4 j rfl) (hE1 4 j rfl)))))) (fun j => (Eq.trans (hE62 5 j rfl) (Eq.trans (hE6 5 j rfl) (Eq.trans (hE5 5 j rfl) (Eq.trans (hE3 5 j rfl) (hE1 5 j rfl)))))) hT) (psM_to (V := V6) (hE62 0 11 rfl) (hE62 0 13 rfl) (hE62 0 14 rfl) hps) (by omega)) (cw_X13_221 hts ⟨by decide, by decide⟩) (hG 0 _ rfl) rfl rfl rfl rfl (Nat.le_of_ble_eq_true rfl) dX13_expression_139 (fun _ h => h) (fun H1 locs hq hF hS => ?_)
                  obtain ⟨V63, hG, hE63, hps63⟩ := hq
                  generalize hHe63 : H1 = H at hG hS ⊢
                  clear hHe63
                  obtain ⟨t63, fo63, he63⟩ : ∃ a b, goP (plF ch sz) tc none = (a, b) := ⟨_, _, rfl⟩
                  replace hps63 : psM V63 m0 t63 fo63 := by rw [he63] at hps63; exact hps63
                  obtain ⟨ft63, hft963, hft63, hfz63⟩ := fo_z hps63.2.2
                  have htm63 := hps63.1
                  obtain ⟨hk363, hk463, hk563, hk663⟩ := hT.1 t63 htm63
                  have hkd963 := kd_lt ch sz t63
                  have hb363 := (hT.2.2.2.2.2 t63 htm63).1
                  have hb563 := (hT.2.2.2.2.2 t63 htm63).2.1
                  refine lv_goto (tgt := 96) hx hb dX13_expression_142 (by decide) ?_
                  have hgf := goP_f he63
                  have hokq : wsOK (6 :: wq) := hwq ▸ hci62.2.1 hok
                  have hcq : cnt6 (6 :: wq) = oc := by rw [← hwq, hci62.2.2.1]; exact hc6
                  replace hcq : (if (6 : Nat) = 6 then 1 else 0) + cnt6 wq = oc := hcq
                  rw [if_pos rfl] at hcq
                  exact ih6 (nc - 1) t63 fo63 (oc - 1) wq ep62 V63 _ _ _ (by omega) (by rw [← hR]; obtain ⟨n2, rfl⟩ : ∃ n2, nc = n2 + 1 := ⟨nc - 1, by omega⟩; exact (exC_1 ⟨hI, by omega⟩ (by rw [hco62, hwq]) he63).symm) hokq.1 (by omega) (by omega) (fun _ => by omega) (fun z => by have h9 := (hgf.2.2 z).2; omega) (by omega) (fun z => by have h9 := (hgf.2.2 z).2; omega) (by omega) (Eqx.trans (Eqx.up (Eqx.up (Eqx.trans hE6 (hE62.mono PCo_PXc)) rfl) rfl) (hE63.mono PGo_PXc)) hps63 (hE63 0 12 rfl) (wtM_to (V := up2 V62 0 43 (nI (wp62.length - 1))) (hE63 0 43 rfl) (fun j => (hE63 27 j rfl)) hwtp) (emM_to (V := V62) (hE63 0 39 rfl) (fun j => (hE63 25 j rfl)) (fun j => (hE63 26 j rfl)) hem62) (loF_to (V1 := V62) (fun j => (hE63 25 j rfl)) (fun j => (hE63 26 j rfl)) hlo62) hG hS (lv_sub hl [0, 1, 2] rfl)
              exact loop6 (402 + 1) 402 t5 none oa wsa em5 V5 _ _ _ (Nat.lt_succ_self _) rfl hokA hc6A ho7A (fun _ => ho61) (fun _ => by omega) (by omega) (fun _ => by omega) (by omega) Eqx.rf hps5 (Eq.trans (hE5 0 12 rfl) ho12) (wtM_to (V := V3) (hE5 0 43 rfl) (fun j => (hE5 27 j rfl)) hwt) hem5 hlo5 hG hS (lv_sub hl [0, 1, 2] rfl)
            refine hend _ _ _ _ hS dX13_expression_95 ?_
            obtain ⟨n2, rfl⟩ : ∃ n2, n = n2 + 1 := ⟨n - 1, by omega⟩
            have hRR : exM (kdF ch sz) (plF ch sz) (vlF ch sz) 402 t0 fo0 0 [] [] = (t5, fo5, em5) := hRA.symm.trans (exM_u hA he5 hee5 (fun z => by have := hfz5.mpr z; omega))
            exact ⟨rfl, _, oa, hG, ((((Eqx.rf.up rfl).trans hE1).trans (hE3.mono PXb_PEx)).trans (hE5.mono PUn_PEx)), by rw [hRR]; exact hps5, (Eq.trans (hE5 0 12 rfl) ho12), fun z => by rw [hRR] at z; exact absurd (hfz5.mpr z) (by omega), by rw [hRR]; exact hem5, hlo5, by rw [hRR]; show c0 + em5.length + 420 ≤ cm + 1 + t5; omega, fun z => by rw [hRR] at z; exact absurd (hfz5.mpr z) (by omega)⟩
          have hI := bN1 (show ¬ bN (isP foa (kdF ch sz ta) 6) = 0 by omega)
          obtain ⟨hfa, hka, _⟩ := isP_1 hfz_4 hI
          obtain rfl : foa = none := hfa
          have hn1 := hn rfl
          have ho1 := ho6 rfl
          have h86 := h85 rfl
          refine lv_aload_n hx hb dX13_expression_32 rfl (lv_at hl 2 rfl) ?_
          refine g_get (v := .int (nI oa)) hx hb hts hown hK hG 0 rfl rfl ok_X13 12 (by decide) q1483 rfl (congrArg Value.int ho12) dX13_expression_33 ?_
          refine lv_bipush (v := (nI 6)) hx hb dX13_expression_36 (by decide) ?_
          refine n_icmp_ne (tgt := 46) hx hb dX13_expression_38 (by decide) (by omega) (by omega) (fun c38 => ?_) (fun c38 => ?_)
          · refine lv_aload_n hx hb dX13_expression_46 rfl (lv_at hl 2 rfl) ?_
            refine lv_dup hx hb dX13_expression_47 rfl ?_
            refine g_get (v := .int (nI oa)) hx hb hts hown hK hG 0 rfl rfl ok_X13 12 (by decide) q1483 rfl (congrArg Value.int ho12) dX13_expression_48 ?_
            refine lv_iconst (v := (nI 1)) hx hb dX13_expression_51 (by decide) ?_
            refine n_iadd hx hb dX13_expression_52 ?_
            refine g_put hx hb hts hown hK hG hS 0 (AM_in 0 (by decide)) rfl rfl ok_X13 12 (by decide) q1483 rfl rfl rfl rfl dX13_expression_53 (fun H locs hG hO hS => ?_)
            refine lv_aload_n hx hb dX13_expression_56 rfl (lv_at hl 2 rfl) ?_
            refine c_VV hx hb hml hts hown hK hl.1 hS ⟨Nat.le_refl _, Nat.le_refl _⟩ (met_X13_goesOn l D dA hG (tkOK_to (V := V) (fun j => (Eq.trans (hE3 3 j rfl) (hE1 3 j rfl))) (fun j => (Eq.trans (hE3 4 j rfl) (hE1 4 j rfl))) (fun j => (Eq.trans (hE3 5 j rfl) (hE1 5 j rfl))) hT) (psM_to (V := V3) rfl rfl rfl hps) (by omega)) (cw_X13_221 hts ⟨by decide, by decide⟩) (hG 0 _ rfl) rfl rfl rfl rfl (Nat.le_of_ble_eq_true rfl) dX13_expression_57 (fun _ h => h) (fun H1 locs hq hF hS => ?_)
            obtain ⟨V64, hG, hE64, hps64⟩ := hq
            generalize hHe64 : H1 = H at hG hS ⊢
            clear hHe64
            obtain ⟨t64, fo64, he64⟩ : ∃ a b, goP (plF ch sz) ta none = (a, b) := ⟨_, _, rfl⟩
            replace hps64 : psM V64 m0 t64 fo64 := by rw [he64] at hps64; exact hps64
            obtain ⟨ft64, hft964, hft64, hfz64⟩ := fo_z hps64.2.2
            have htm64 := hps64.1
            obtain ⟨hk364, hk464, hk564, hk664⟩ := hT.1 t64 htm64
            have hkd964 := kd_lt ch sz t64
            have hb364 := (hT.2.2.2.2.2 t64 htm64).1
            have hb564 := (hT.2.2.2.2.2 t64 htm64).2.1
            refine lv_aload_n hx hb dX13_expression_60 rfl (lv_at hl 2 rfl) ?_
            refine g_get hx hb hts hown hK hG 0 rfl rfl ok_X13 42 (by decide) q1513 rfl rfl dX13_expression_61 ?_
            refine lv_aload_n hx hb dX13_expression_64 rfl (lv_at hl 2 rfl) ?_
            refine g_get (v := .int (nI wsa.length)) hx hb hts hown hK hG 0 rfl rfl ok_X13 43 (by decide) q1514 rfl (congrArg Value.int ((hE64 0 43 rfl).trans hwt.1)) dX13_expression_65 ?_
            refine lv_bipush (v := (nI 6)) hx hb dX13_expression_68 (by decide) ?_
            refine n_iast hx hb hK hG hS 27 (AM_in 27 (by decide)) rfl (by omega) (by decide) dX13_expression_70 (fun H locs hG hO hS => ?_)
            refine lv_aload_n hx hb dX13_expression_71 rfl (lv_at hl 2 rfl) ?_
            refine lv_dup hx hb dX13_expression_72 rfl ?_
            refine g_get (v := .int (nI wsa.length)) hx hb hts hown hK hG 0 rfl rfl ok_X13 43 (by decide) q1514 rfl (congrArg Value.int ((hE64 0 43 rfl).trans hwt.1)) dX13_expression_73 ?_
            refine lv_iconst (v := (nI 1)) hx hb dX13_expression_76 (by decide) ?_
            refine n_iadd hx hb dX13_expression_77 ?_
            refine g_put hx hb hts hown hK hG hS 0 (AM_in 0 (by decide)) rfl rfl ok_X13 43 (by decide) q1514 rfl rfl rfl rfl dX13_expression_78 (fun H locs hG hO hS => ?_)
            have hwtp : wtM (up2 (up2 V64 27 wsa.length (nI 6)) 0 43 (nI (wsa.length + 1))) (6 :: wsa) := wt_push hwt (by omega) (by omega) (show up2 _ 27 _ _ 27 _ = _ from up2_s) (fun j hj => Eq.trans (show up2 _ 27 _ _ 27 j = _ from up2_n (fun z => by have := z.2; omega)) (hE64 27 j rfl)) rfl
            refine lv_goto (tgt := 23) hx hb dX13_expression_81 (by decide) ?_
            have hgf := goP_f he64
            exact ih3 (na - 1) t64 fo64 (oa + 1) (6 :: wsa) (up2 (up2 V64 27 wsa.length (nI 6)) 0 43 (nI (wsa.length + 1))) _ _ _ (by omega) (by rw [← hR]; obtain ⟨n2, rfl⟩ : ∃ n2, na = n2 + 1 := ⟨na - 1, by omega⟩; exact (exO_1 hI (if_neg c38) he64).symm) (⟨hok, Or.inl rfl, Or.inl rfl⟩) (by show (if (6 : Nat) = 6 then 1 else 0) + cnt6 wsa = _; rw [if_pos rfl]; omega) (by omega) (fun z => by have h9 := (hgf.2.2 z).1; omega) (fun z => by have h9 := (hgf.2.2 z).2; omega) (by rw [List.length_cons]; omega) (fun z => by have h9 := (hgf.2.2 z).2; rw [List.length_cons]; omega) (by omega) (Eqx.up (Eqx.up (Eqx.trans (Eqx.up hE3 rfl) (hE64.mono PGo_PXb)) rfl) rfl) (psM_to (V := V64) rfl rfl rfl hps64) (hE64 0 12 rfl) hwtp hG hS (lv_sub hl [0, 1, 2] rfl)
          refine lv_aload_n hx hb dX13_expression_41 rfl (lv_at hl 2 rfl) ?_
          refine lv_iconst (v := (nI 2)) hx hb dX13_expression_42 (by decide) ?_
          refine c_VV hx hb hml hts hown hK hl.1 hS ⟨Nat.le_refl _, Nat.le_refl _⟩ (met_X13_fail l D dA hG (tkOK_to (V := V) (fun j => (Eq.trans (hE3 3 j rfl) (hE1 3 j rfl))) (fun j => (Eq.trans (hE3 4 j rfl) (hE1 4 j rfl))) (fun j => (Eq.trans (hE3 5 j rfl) (hE1 5 j rfl))) hT) hps 2 (by omega) (by omega)) (cw_X13_215 hts ⟨by decide, by decide⟩) (hG 0 _ rfl) rfl rfl rfl rfl (Nat.le_of_ble_eq_true rfl) dX13_expression_43 (fun _ h => h) (fun H1 locs hq hF hS => ?_)
          obtain ⟨V65, hG, hE65, hps65⟩ := hq
          generalize hHe65 : H1 = H at hG hS ⊢
          clear hHe65
          obtain ⟨fo65, he65⟩ : ∃ a, flP none 2 (plF ch sz ta) = a := ⟨_, rfl⟩
          replace hps65 : psM V65 m0 ta fo65 := by rw [he65] at hps65; exact hps65
          obtain ⟨ft65, hft965, hft65, hfz65⟩ := fo_z hps65.2.2
          have htm65 := hps65.1
          obtain ⟨hk365, hk465, hk565, hk665⟩ := hT.1 ta htm65
          have hkd965 := kd_lt ch sz ta
          have hb365 := (hT.2.2.2.2.2 ta htm65).1
          have hb565 := (hT.2.2.2.2.2 ta htm65).2.1
          refine lv_aload_n hx hb dX13_expression_46 rfl (lv_at hl 2 rfl) ?_
          refine lv_dup hx hb dX13_expression_47 rfl ?_
          refine g_get (v := .int (nI oa)) hx hb hts hown hK hG 0 rfl rfl ok_X13 12 (by decide) q1483 rfl (congrArg Value.int ((hE65 0 12 rfl).trans ho12)) dX13_expression_48 ?_
          refine lv_iconst (v := (nI 1)) hx hb dX13_expression_51 (by decide) ?_
          refine n_iadd hx hb dX13_expression_52 ?_
          refine g_put hx hb hts hown hK hG hS 0 (AM_in 0 (by decide)) rfl rfl ok_X13 12 (by decide) q1483 rfl rfl rfl rfl dX13_expression_53 (fun H locs hG hO hS => ?_)
          refine lv_aload_n hx hb dX13_expression_56 rfl (lv_at hl 2 rfl) ?_
          refine c_VV hx hb hml hts hown hK hl.1 hS ⟨Nat.le_refl _, Nat.le_refl _⟩ (met_X13_goesOn l D dA hG (tkOK_to (V := V) (fun j => (Eq.trans (hE65 3 j rfl) (Eq.trans (hE3 3 j rfl) (hE1 3 j rfl)))) (fun j => (Eq.trans (hE65 4 j rfl) (Eq.trans (hE3 4 j rfl) (hE1 4 j rfl)))) (fun j => (Eq.trans (hE65 5 j rfl) (Eq.trans (hE3 5 j rfl) (hE1 5 j rfl)))) hT) (psM_to (V := V65) rfl rfl rfl hps65) (by omega)) (cw_X13_221 hts ⟨by decide, by decide⟩) (hG 0 _ rfl) rfl rfl rfl rfl (Nat.le_of_ble_eq_true rfl) dX13_expression_57 (fun _ h => h) (fun H1 locs hq hF hS => ?_)
          obtain ⟨V66, hG, hE66, hps66⟩ := hq
          generalize hHe66 : H1 = H at hG hS ⊢
          clear hHe66
          obtain ⟨t66, fo66, he66⟩ : ∃ a b, goP (plF ch sz) ta fo65 = (a, b) := ⟨_, _, rfl⟩
          replace hps66 : psM V66 m0 t66 fo66 := by rw [he66] at hps66; exact hps66
          obtain ⟨ft66, hft966, hft66, hfz66⟩ := fo_z hps66.2.2
          have htm66 := hps66.1
          obtain ⟨hk366, hk466, hk566, hk666⟩ := hT.1 t66 htm66
          have hkd966 := kd_lt ch sz t66
          have hb366 := (hT.2.2.2.2.2 t66 htm66).1
          have hb566 := (hT.2.2.2.2.2 t66 htm66).2.1
          refine lv_aload_n hx hb dX13_expression_60 rfl (lv_at hl 2 rfl) ?_
          refine g_get hx hb hts hown hK hG 0 rfl rfl ok_X13 42 (by decide) q1513 rfl rfl dX13_expression_61 ?_
          refine lv_aload_n hx hb dX13_expression_64 rfl (lv_at hl 2 rfl) ?_
          refine g_get (v := .int (nI wsa.length)) hx hb hts hown hK hG 0 rfl rfl ok_X13 43 (by decide) q1514 rfl (congrArg Value.int (((hE66 0 43 rfl).trans (hE65 0 43 rfl)).trans hwt.1)) dX13_expression_65 ?_
          refine lv_bipush (v := (nI 6)) hx hb dX13_expression_68 (by decide) ?_
          refine n_iast hx hb hK hG hS 27 (AM_in 27 (by decide)) rfl (by omega) (by decide) dX13_expression_70 (fun H locs hG hO hS => ?_)
          refine lv_aload_n hx hb dX13_expression_71 rfl (lv_at hl 2 rfl) ?_
          refine lv_dup hx hb dX13_expression_72 rfl ?_
          refine g_get (v := .int (nI wsa.length)) hx hb hts hown hK hG 0 rfl rfl ok_X13 43 (by decide) q1514 rfl (congrArg Value.int (((hE66 0 43 rfl).trans (hE65 0 43 rfl)).trans hwt.1)) dX13_expression_73 ?_
          refine lv_iconst (v := (nI 1)) hx hb dX13_expression_76 (by decide) ?_
          refine n_iadd hx hb dX13_expression_77 ?_
          refine g_put hx hb hts hown hK hG hS 0 (AM_in 0 (by decide)) rfl rfl ok_X13 43 (by decide) q1514 rfl rfl rfl rfl dX13_expression_78 (fun H locs hG hO hS => ?_)
          have hwtp : wtM (up2 (up2 V66 27 wsa.length (nI 6)) 0 43 (nI (wsa.length + 1))) (6 :: wsa) := wt_push hwt (by omega) (by omega) (show up2 _ 27 _ _ 27 _ = _ from up2_s) (fun j hj => Eq.trans (show up2 _ 27 _ _ 27 j = _ from up2_n (fun z => by have := z.2; omega)) (Eq.trans (hE66 27 j rfl) (hE65 27 j rfl))) rfl
          refine lv_goto (tgt := 23) hx hb dX13_expression_81 (by decide) ?_
          have hgf := goP_f he66
          exact ih3 (na - 1) t66 fo66 (oa + 1) (6 :: wsa) (up2 (up2 V66 27 wsa.length (nI 6)) 0 43 (nI (wsa.length + 1))) _ _ _ (by omega) (by rw [← hR]; obtain ⟨n2, rfl⟩ : ∃ n2, na = n2 + 1 := ⟨na - 1, by omega⟩; exact (exO_1 hI (by rw [if_pos c38]; exact he65) he66).symm) (⟨hok, Or.inl rfl, Or.inl rfl⟩) (by show (if (6 : Nat) = 6 then 1 else 0) + cnt6 wsa = _; rw [if_pos rfl]; omega) (by omega) (fun z => by have h9 := (hgf.2.2 z).1; rw [h9] at he65; exact (flP_n he65).elim) (fun z => by have h9 := (hgf.2.2 z).2; omega) (by rw [List.length_cons]; omega) (fun z => by have h9 := (hgf.2.2 z).2; rw [List.length_cons]; omega) (by omega) (Eqx.up (Eqx.up (Eqx.trans (Eqx.up (Eqx.trans hE3 (hE65.mono PFl_PXb)) rfl) (hE66.mono PGo_PXb)) rfl) rfl) (psM_to (V := V66) rfl rfl rfl hps66) (hE66 0 12 rfl) hwtp hG hS (lv_sub hl [0, 1, 2] rfl)
      exact loop3 (402 + 1) 402 t none og ws V1 _ _ _ (Nat.lt_succ_self _) rfl hok hc6 ho7 ho6 (fun _ => by omega) h84 h85 (Nat.le_refl _) Eqx.rf hps ho12 hwt hG hS (lv_sub hl [0, 1, 2] rfl)
  exact loop1 (402 + 1) 402 t0 fo0 0 ([]) ([]) (up2 V 0 43 (nI 0)) _ _ _ (Nat.lt_succ_self _) rfl trivial rfl (by omega) (fun _ => by omega) (fun _ => by omega) (by simpa using hcA) (fun z => by simpa using hcB z) Eqx.rf (psM_to rfl rfl rfl hps0) ho0 (⟨rfl, by simp, trivial⟩) (⟨h39, by simp; omega, fun i k v hi => by simp at hi⟩) (fun _ _ => ⟨rfl, rfl⟩) hG hS (lv_sub hl [0, 1, 2] rfl)
