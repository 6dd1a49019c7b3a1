def PSo (k _ : Nat) : Bool := k == 26 || k == 27 || k == 28 || k == 29 || k == 30 || k == 31 || k == 32 || k == 33 || k == 34 || k == 35 || k == 36 || k == 78
def PMy (k j : Nat) : Bool := k == 26 || k == 27 || k == 28 || k == 29 || k == 30 || k == 31 || k == 32 || k == 33 || k == 34 || k == 35 || k == 36 || k == 78 || k == 80 || (k == 0 && (j == 16 || j == 17 || j == 18 || j == 19))
theorem PSo_PQw : ∀ k j, PQw k j = false → PSo k j = false := by intro k j h; simp only [PSo, PQw, PT15, PT26, PBk, Bool.or_eq_false_iff, Bool.and_eq_false_iff, beq_eq_false_iff_ne, ne_eq, decide_eq_false_iff_not] at *; omega
theorem PMy_PQw : ∀ k j, PQw k j = false → PMy k j = false := by intro k j h; simp only [PMy, PQw, PT15, PT26, PBk, Bool.or_eq_false_iff, Bool.and_eq_false_iff, beq_eq_false_iff_ne, ne_eq, decide_eq_false_iff_not] at *; omega
theorem PSo_PMy : ∀ k j, PMy k j = false → PSo k j = false := by intro k j h; simp only [PSo, PMy, PT15, PT26, PBk, Bool.or_eq_false_iff, Bool.and_eq_false_iff, beq_eq_false_iff_ne, ne_eq, decide_eq_false_iff_not] at *; omega
theorem PT26_PSo : ∀ k j, PSo k j = false → PT26 k j = false := by intro k j h; simp only [PT26, PSo, PT15, PT26, PBk, Bool.or_eq_false_iff, Bool.and_eq_false_iff, beq_eq_false_iff_ne, ne_eq, decide_eq_false_iff_not] at *; omega

theorem tl_atP {V : GI} {tl : List Tl} (h : tlP V tl) {i : Nat} (hi : i < tl.length) : V 76 i = nI (tlB tl i).1 ∧ V 77 i = nI (tlB tl i).2.1 ∧ V 79 i = nI (tlB tl i).2.2 ∧ (tlB tl i).1 < 9 ∧ (tlB tl i).2.1 < 25 ∧ (tlB tl i).2.2 < 2 := h.2.2 i _ (by unfold tlB; rw [List.getD_eq_getElem?_getD, List.getElem?_eq_getElem hi]; rfl)
theorem tlP_to {V V1 : GI} {tl : List Tl} (h : tlP V tl) (h0 : V1 0 15 = V 0 15) (h1 : ∀ j, V1 76 j = V 76 j) (h2 : ∀ j, V1 77 j = V 77 j) (h3 : ∀ j, V1 79 j = V 79 j) : tlP V1 tl := ⟨h.1, h0.trans h.2.1, fun i q hi => by rw [h1, h2, h3]; exact h.2.2 i q hi⟩
theorem la_t {P : Nat → Bool} {M k : Nat} (h : P k = true) : laF P M (k + 1) = laF P M k &&& k := by simp only [laF]; rw [if_pos h]
theorem la_f {P : Nat → Bool} {M k : Nat} (h : ¬ P k = true) : laF P M (k + 1) = laF P M k := by simp only [laF]; rw [if_neg h]
theorem lnn_t {P : Nat → Bool} {M k : Nat} (h : P k = true) : lnnF P M (k + 1) = lnnF P M k ^^^ (lnnF P M k &&& k) := by simp only [lnnF]; rw [if_pos h]
theorem lnn_f {P : Nat → Bool} {M k : Nat} (h : ¬ P k = true) : lnnF P M (k + 1) = lnnF P M k := by simp only [lnnF]; rw [if_neg h]
theorem fd_pos {P : Nat → Bool} {k : Nat} (h : 0 < cnF P k) : ∃ i, fdF P k = some i := by
  cases hm : fdF P k with
  | none => rw [fd_none hm] at h; omega
  | some i => exact ⟨i, rfl⟩
theorem wk_max {c l : Nat} {lb : Nat → Nat} {b : Nat} (hl : lb b = l) : (if l < c - l then c - l else l) = wkF c lb b := by unfold wkF; rw [hl]; split <;> split <;> omega
set_option maxHeartbeats 4000000 in
theorem met_X0_isSo (l : Launch) (D : va_G) (dA : Nat → ClassId) {o : Nat} {V : GI} {L : GL} {Rf : GR} {H0 : Heap} (hG : gP D dA o dS V L Rf H0) {O : Nat → Prop} {tx : Nat} {T : Txt} {f : Rw} (hC : clS D dA H0 O o V Rf tx T f) (hOA : ∀ z, O z → ¬ AS o z) (tl : List Tl) (htl : tlP V tl) (k x : Nat) (hk9 : k ≤ tl.length) (hx2 : x < 2 ^ xN T) : Ctr l D dA yX0_isSo cX0_isSo 4 (some .boolean) (mkRm 410 9700) [.ref o, .int (nI k), .int (nI x)] H0 (AS o) (QI (fun r H1 => ∃ V1, gP D dA o dS V1 L Rf H1 ∧ Eqx PSo V V1 ∧ r = nI (bN (lyB T f tl k x)))) := by
  have hC0 := hC
  obtain ⟨hX, htx, hB, hrv, hsd1, hsd2⟩ := hC
  have hX0 := hX
  have hn9 := txA_n hX
  have hp2 := two9 hn9
  have hpp := Nat.two_pow_pos (xN T)
  obtain ⟨fsx, hatx⟩ := txA_at hX
  have hotx := txA_o hX
  have hOAb : ∀ z, O z → ¬ AB (o + 26) z := fun z hz hb => hOA z hz (AB_AS isB26 z hb)
  have ht20 := htl.1
  refine ctr_Z (by decide) (Nat.le_of_ble_eq_true rfl) ?_
  intro p e s m args below meth c ls QQ locs hx hb hml hown hts hK hend hS hl
  have hl : lv_has ls 4 [(0, .ref o), (1, .int (nI k)), (2, .int (nI x))] := hl
  refine lv_aload_n hx hb dX0_isSo_0 rfl (lv_at hl 0 rfl) ?_
  refine g_get hx hb hts hown hK hG 0 rfl rfl ok_X0 8 (by decide) q530 rfl rfl dX0_isSo_1 ?_
  refine lv_aload_n hx hb dX0_isSo_4 rfl (lv_at hl 0 rfl) ?_
  refine g_get hx hb hts hown hK hG 0 rfl rfl ok_X0 7 (by decide) q529 rfl rfl dX0_isSo_5 ?_
  refine c_VV hx hb hml hts hown hK hl.1 hS ⟨Nat.le_refl _, Nat.le_refl _⟩ (met_X5_takes l D dA (gP_view hG isB26) (gP_view hG isB15) (by omega)) (cw_X0_193 hts ⟨Nat.le_of_ble_eq_true rfl, Nat.le_of_ble_eq_true rfl⟩) (hG 26 _ rfl) rfl rfl rfl rfl (Nat.le_of_ble_eq_true rfl) dX0_isSo_8 (fun z hz => hz.elim (AB_AS isB26 z) (AB_AS isB15 z)) (fun H1 locs hq hF hS => ?_)
  obtain ⟨W1, hGv, hGc, hEv, hc9, hc4, hc5, hc6, hc7⟩ := hq
  obtain ⟨V1, hV1⟩ : ∃ X, X = spl V 26 W1 := ⟨_, rfl⟩
  have hGn := gP_back2 hG isB26 isB15 hF hGv hGc
  rw [← hV1] at hGn
  replace hG := hGn
  have hE1 : Eqx PT26 V V1 := by rw [hV1]; exact spl_eqx
  have hb1 : bkS V1 26 (xN T) (f) (xS T) := by rw [hV1]; exact bkS_spl (bkM_cp hn9 hB hc9 hc4 hc5 hc6 hc7)
  clear hGn hGv hGc hEv hc9 hc4 hc5 hc6 hc7 hV1
  generalize hHe1 : H1 = H at hG hS ⊢
  clear hHe1 hF
  refine lv_aload_n hx hb dX0_isSo_11 rfl (lv_at hl 0 rfl) ?_
  refine g_get hx hb hts hown hK hG 0 rfl rfl ok_X0 8 (by decide) q530 rfl rfl dX0_isSo_12 ?_
  refine lv_iload_n hx hb dX0_isSo_15 rfl (lv_at hl 2 rfl) ?_
  refine g_put hx hb hts hown hK hG hS 26 (AS_in 26 (by decide)) rfl rfl ok_X5 4 (by decide) q442 rfl rfl rfl rfl dX0_isSo_16 (fun H locs hG hO hS => ?_)
  have hb2 : bkS (up2 V1 26 4 (nI x)) 26 (xN T) (layF (xN T) x f) (xS T) := bkS_row hn9 hx2 hb1 up2_s (fun k j hk hz => up2_n (fun z => hz ⟨by omega, z.2⟩))
  refine lv_iconst (v := (nI 0)) hx hb dX0_isSo_19 (by decide) ?_
  refine lv_istore_n (lv' := [(3, .int (nI 0)), (0, .ref o), (1, .int (nI k)), (2, .int (nI x))]) hx hb dX0_isSo_20 rfl hl (by decide) rfl (fun ls hl => ?_)
  have loop3 : ∀ (fu3 : Nat) (j : Nat) (V3 : GI) (H : Heap) (locs : List Loc) (ls : Array Slot), 25 - j < fu3 → (j ≤ 25) → (Eqx PSo (up2 V1 26 4 (nI x)) V3) → (bkS V3 26 (xN T) (goF T (nI 1) (xS T) j (layF (xN T) x f)) (xS T)) → (∀ i, i < j → V3 78 i = nI (raF T f x i)) → gP D dA o dS V3 L Rf H → va_S (AS o) H0 H locs → lv_has ls 4 [(3, .int (nI j)), (0, .ref o), (1, .int (nI k)), (2, .int (nI x))] → W p l e (mkRm 410 9700) s m args below meth c H locs 0 0 QQ (F0 m 21 ls []) := by
    intro fu3
    induction fu3 with
    | zero => intro j V3 H locs ls hfu; exact absurd hfu (Nat.not_lt_zero _)
    | succ fu3 ih3 =>
      intro j V3 H locs ls hfu hj9 hE3 hbk hri hG hS hl
      have hrj := rbF_lt (goF T (nI 1) (xS T) j (layF (xN T) x f)) (xN T)
      refine lv_iload_n hx hb dX0_isSo_21 rfl (lv_at hl 0 rfl) ?_
      refine lv_bipush (v := (nI 24)) hx hb dX0_isSo_22 (by decide) ?_
      refine n_icmp_gt (tgt := 61) hx hb dX0_isSo_24 (by decide) (by omega) (by omega) (fun c24 => ?_) (fun c24 => ?_)
      · refine lv_iconst (v := (nI 0)) hx hb dX0_isSo_61 (by decide) ?_
        refine lv_istore_n (lv' := [(3, .int (nI 0)), (0, .ref o), (1, .int (nI k)), (2, .int (nI x))]) hx hb dX0_isSo_62 rfl hl (by decide) rfl (fun ls hl => ?_)
        have loop4 : ∀ (fu4 : Nat) (i : Nat) (locs : List Loc) (ls : Array Slot), k - i < fu4 → (i ≤ k) → (soB T f tl x i = true) → va_S (AS o) H0 H locs → lv_has ls 4 [(3, .int (nI i)), (0, .ref o), (1, .int (nI k)), (2, .int (nI x))] → W p l e (mkRm 410 9700) s m args below meth c H locs 0 0 QQ (F0 m 63 ls []) := by
          intro fu4
          induction fu4 with
          | zero => intro i locs ls hfu; exact absurd hfu (Nat.not_lt_zero _)
          | succ fu4 ih4 =>
            intro i locs ls hfu hik hso hS hl
            refine lv_iload_n hx hb dX0_isSo_63 rfl (lv_at hl 0 rfl) ?_
            refine lv_iload_n hx hb dX0_isSo_64 rfl (lv_at hl 2 rfl) ?_
            refine n_icmp_ge (tgt := 114) hx hb dX0_isSo_65 (by decide) (by omega) (by omega) (fun c65 => ?_) (fun c65 => ?_)
            · refine lv_iconst (v := (nI 1)) hx hb dX0_isSo_114 (by decide) ?_
              refine hend _ _ _ _ _ hS dX0_isSo_115 (by decide) ?_
              exact ⟨_, rfl, _, hG, (((hE1.mono PT26_PSo).up rfl).trans hE3), (congrArg nI (bN_t (show soB T f tl x k = true by obtain rfl : i = k := (by omega); exact hso)).symm)⟩
            have htb := tl_atP htl (i := i) (by omega)
            have hrt := raF_lt T f x (tlB tl i).2.1
            refine lv_aload_n hx hb dX0_isSo_68 rfl (lv_at hl 1 rfl) ?_
            refine g_get hx hb hts hown hK hG 0 rfl rfl ok_X0 22 (by decide) q544 rfl rfl dX0_isSo_69 ?_
            refine lv_aload_n hx hb dX0_isSo_72 rfl (lv_at hl 1 rfl) ?_
            refine g_get hx hb hts hown hK hG 0 rfl rfl ok_X0 21 (by decide) q543 rfl rfl dX0_isSo_73 ?_
            refine lv_iload_n hx hb dX0_isSo_76 rfl (lv_at hl 0 rfl) ?_
            refine n_iald hx hb hK hG 77 rfl (by omega) (by decide) dX0_isSo_77 ?_
            refine iv (y := (nI ((tlB tl i).2.1))) (((hE3 77 i rfl).trans (hE1 77 i rfl)).trans htb.2.1) ?_
            refine n_iald hx hb hK hG 78 rfl (by omega) (by decide) dX0_isSo_78 ?_
            refine iv (y := (nI (raF T f x (tlB tl i).2.1))) (hri _ (by omega)) ?_
            refine lv_aload_n hx hb dX0_isSo_79 rfl (lv_at hl 1 rfl) ?_
            refine g_get hx hb hts hown hK hG 0 rfl rfl ok_X0 20 (by decide) q542 rfl rfl dX0_isSo_80 ?_
            refine lv_iload_n hx hb dX0_isSo_83 rfl (lv_at hl 0 rfl) ?_
            refine n_iald hx hb hK hG 76 rfl (by omega) (by decide) dX0_isSo_84 ?_
            refine iv (y := (nI ((tlB tl i).1))) (((hE3 76 i rfl).trans (hE1 76 i rfl)).trans htb.1) ?_
            refine n_ishr hx hb dX0_isSo_85 (by omega) (by omega) ?_
            refine lv_iconst (v := (nI 1)) hx hb dX0_isSo_86 (by decide) ?_
            refine n_and1 hx hb dX0_isSo_87 ?_
            refine lv_iconst (v := (nI 1)) hx hb dX0_isSo_88 (by decide) ?_
            refine n_icmp_ne (tgt := 96) hx hb dX0_isSo_89 (by decide) (by omega) (by omega) (fun c89 => ?_) (fun c89 => ?_)
            · refine lv_iconst (v := (nI 0)) hx hb dX0_isSo_96 (by decide) ?_
              refine lv_aload_n hx hb dX0_isSo_97 rfl (lv_at hl 1 rfl) ?_
              refine g_get hx hb hts hown hK hG 0 rfl rfl ok_X0 23 (by decide) q545 rfl rfl dX0_isSo_98 ?_
              refine lv_iload_n hx hb dX0_isSo_101 rfl (lv_at hl 0 rfl) ?_
              refine n_zald hx hb hK hG 79 rfl (by omega) (by decide) dX0_isSo_102 ?_
              refine iv (y := (nI ((tlB tl i).2.2))) (((hE3 79 i rfl).trans (hE1 79 i rfl)).trans htb.2.2.1) ?_
              refine n_icmp_eq (tgt := 108) hx hb dX0_isSo_103 (by decide) (by omega) (by omega) (fun c103 => ?_) (fun c103 => ?_)
              · refine lv_iinc (v := (nI (i + 1))) (lv' := [(3, .int (nI (i + 1))), (0, .ref o), (1, .int (nI k)), (2, .int (nI x))]) hx hb dX0_isSo_108 hl (k := 0) rfl (nI_add _ _) (by decide) rfl (fun ls hl => ?_)
                refine lv_goto (tgt := 63) hx hb dX0_isSo_111 (by decide) ?_
                exact ih4 (i + 1) _ _ (by omega) (by omega) (so_t hso (by omega)) hS (lv_sub hl [0, 1, 2, 3] rfl)
              refine lv_iconst (v := (nI 0)) hx hb dX0_isSo_106 (by decide) ?_
              refine hend _ _ _ _ _ hS dX0_isSo_107 (by decide) ?_
              exact ⟨_, rfl, _, hG, (((hE1.mono PT26_PSo).up rfl).trans hE3), (congrArg nI (bN_f (soB_mono (so_f (t := T) (f := f) (tl := tl) (x := x) (i := i) (by omega)) k (by omega))).symm)⟩
            refine lv_iconst (v := (nI 1)) hx hb dX0_isSo_92 (by decide) ?_
            refine lv_goto (tgt := 97) hx hb dX0_isSo_93 (by decide) ?_
            refine lv_aload_n hx hb dX0_isSo_97 rfl (lv_at hl 1 rfl) ?_
            refine g_get hx hb hts hown hK hG 0 rfl rfl ok_X0 23 (by decide) q545 rfl rfl dX0_isSo_98 ?_
            refine lv_iload_n hx hb dX0_isSo_101 rfl (lv_at hl 0 rfl) ?_
            refine n_zald hx hb hK hG 79 rfl (by omega) (by decide) dX0_isSo_102 ?_
            refine iv (y := (nI ((tlB tl i).2.2))) (((hE3 79 i rfl).trans (hE1 79 i rfl)).trans htb.2.2.1) ?_
            refine n_icmp_eq (tgt := 108) hx hb dX0_isSo_103 (by decide) (by omega) (by omega) (fun c103 => ?_) (fun c103 => ?_)
            · refine lv_iinc (v := (nI (i + 1))) (lv' := [(3, .int (nI (i + 1))), (0, .ref o), (1, .int (nI k)), (2, .int (nI x))]) hx hb dX0_isSo_108 hl (k := 0) rfl (nI_add _ _) (by decide) rfl (fun ls hl => ?_)
              refine lv_goto (tgt := 63) hx hb dX0_isSo_111 (by decide) ?_
              exact ih4 (i + 1) _ _ (by omega) (by omega) (so_t hso (by omega)) hS (lv_sub hl [0, 1, 2, 3] rfl)
            refine lv_iconst (v := (nI 0)) hx hb dX0_isSo_106 (by decide) ?_
            refine hend _ _ _ _ _ hS dX0_isSo_107 (by decide) ?_
            exact ⟨_, rfl, _, hG, (((hE1.mono PT26_PSo).up rfl).trans hE3), (congrArg nI (bN_f (soB_mono (so_f (t := T) (f := f) (tl := tl) (x := x) (i := i) (by omega)) k (by omega))).symm)⟩
        exact loop4 ((k - 0) + 1) 0 _ _ (Nat.lt_succ_self _) (Nat.zero_le _) rfl hS (lv_sub hl [0, 1, 2, 3] rfl)
      refine lv_aload_n hx hb dX0_isSo_27 rfl (lv_at hl 1 rfl) ?_
      refine g_get hx hb hts hown hK hG 0 rfl rfl ok_X0 22 (by decide) q544 rfl rfl dX0_isSo_28 ?_
      refine lv_iload_n hx hb dX0_isSo_31 rfl (lv_at hl 0 rfl) ?_
      refine lv_aload_n hx hb dX0_isSo_32 rfl (lv_at hl 1 rfl) ?_
      refine g_get hx hb hts hown hK hG 0 rfl rfl ok_X0 8 (by decide) q530 rfl rfl dX0_isSo_33 ?_
      refine g_get (v := .int (nI (rbF (goF T (nI 1) (xS T) j (layF (xN T) x f)) (xN T)))) hx hb hts hown hK hG 26 rfl rfl ok_X5 4 (by decide) q442 rfl (congrArg Value.int hbk.1.1) dX0_isSo_36 ?_
      refine n_iast hx hb hK hG hS 78 (AS_in 78 (by decide)) rfl (by omega) (by decide) dX0_isSo_39 (fun H locs hG hO hS => ?_)
      refine lv_aload_n hx hb dX0_isSo_40 rfl (lv_at hl 1 rfl) ?_
      refine g_get hx hb hts hown hK hG 0 rfl rfl ok_X0 8 (by decide) q530 rfl rfl dX0_isSo_41 ?_
      refine lv_aload_n hx hb dX0_isSo_44 rfl (lv_at hl 1 rfl) ?_
      refine g_get (v := .ref tx) hx hb hts hown hK hG 0 rfl rfl ok_X0 3 (by decide) q525 rfl (congrArg va_rf htx) dX0_isSo_45 ?_
      refine lv_aload_n hx hb dX0_isSo_48 rfl (lv_at hl 1 rfl) ?_
      refine g_get hx hb hts hown hK hG 0 rfl rfl ok_X0 12 (by decide) q534 rfl rfl dX0_isSo_49 ?_
      refine c_VV hx hb hml hts hown hK hl.1 hS ⟨Nat.le_refl _, Nat.le_refl _⟩ (met_X5_goesBy l D dA (gP_view hG isB26) (txA_S hX0 hS hOA) hOAb hsd2 (bkS_to (fun k j hk => up2_n (fun z => by omega)) hbk) (go_RV lay_RV j) (ni73 hG) (fun z => by have h1 := z.1; have h2 := z.2; omega)) (cw_X0_211 hts ⟨Nat.le_of_ble_eq_true rfl, Nat.le_of_ble_eq_true rfl⟩) ((gP_view hG isB26) 0 _ rfl) rfl rfl rfl rfl (Nat.le_of_ble_eq_true rfl) dX0_isSo_52 (AB_AS isB26) (fun H1 locs hq hF hS => ?_)
      obtain ⟨W5, hGv, hEv, hbn5⟩ := hq
      obtain ⟨V5, hV5⟩ : ∃ X, X = spl (up2 V3 78 j (nI (rbF (goF T (nI 1) (xS T) j (layF (xN T) x f)) (xN T)))) 26 W5 := ⟨_, rfl⟩
      have hGn := gP_back hG isB26 hF (fun _ h => h) hGv
      rw [← hV5] at hGn
      replace hG := hGn
      have hE5 : Eqx PT26 (up2 V3 78 j (nI (rbF (goF T (nI 1) (xS T) j (layF (xN T) x f)) (xN T)))) V5 := by rw [hV5]; exact spl_eqx
      have hb5 : bkS V5 26 (xN T) (hourF T (nI 1) (xS T) (goF T (nI 1) (xS T) j (layF (xN T) x f))) (xS T) := by rw [hV5]; exact bkS_spl hbn5
      clear hGn hGv hEv hbn5 hV5
      generalize hHe5 : H1 = H at hG hS ⊢
      clear hHe5 hF
      have hb5n : bkS V5 26 (xN T) (goF T (nI 1) (xS T) (j + 1) (layF (xN T) x f)) (xS T) := hb5
      have hrl5 := rbF_lt (goF T (nI 1) (xS T) (j + 1) (layF (xN T) x f)) (xN T)
      refine lv_iinc (v := (nI (j + 1))) (lv' := [(3, .int (nI (j + 1))), (0, .ref o), (1, .int (nI k)), (2, .int (nI x))]) hx hb dX0_isSo_55 hl (k := 0) rfl (nI_add _ _) (by decide) rfl (fun ls hl => ?_)
      refine lv_goto (tgt := 21) hx hb dX0_isSo_58 (by decide) ?_
      exact ih3 (j + 1) V5 _ _ _ (by omega) (by omega) (Eqx.trans (Eqx.up hE3 rfl) (hE5.mono PT26_PSo)) hb5n (fun i hi => by
              have e0 := hE5 78 i rfl
              rw [e0]
              by_cases e : i = j
              · subst e; exact up2_s
              · exact (up2_n (fun h => e h.2)).trans (hri i (by omega))) hG hS (lv_sub hl [0, 1, 2, 3] rfl)
  exact loop3 ((25 - 0) + 1) 0 (up2 V1 26 4 (nI x)) _ _ _ (Nat.lt_succ_self _) (by decide) Eqx.rf hb2 (fun i hi => absurd hi (Nat.not_lt_zero _)) hG hS (lv_sub hl [0, 1, 2, 3] rfl)
theorem cw_X0_285 {R : Room} {s : State} {args : Array Value} (hts : ∀ w ∈ lw_all, w.before args s = true) {f w k j : Nat} (hR : f + 1 ≤ R.frames ∧ 8 + (4 + 11) + w ≤ R.locals) : CallW R s args RX0 RX0 285 yX0_isSo cX0_isSo 4 (some .boolean) (ws_ yX0_isSo cX0_isSo 4 (some .boolean)) (mkRmC f w k j) k j 2 := cwV 2 hts (lw_V q1422 q1424 qs46 q108 q1425) rfl rfl rfl (by decide +kernel) hR
set_option maxHeartbeats 4000000 in
theorem met_X0_laysLay (l : Launch) (D : va_G) (dA : Nat → ClassId) {o : Nat} {V : GI} {L : GL} {Rf : GR} {H0 : Heap} (hG : gP D dA o dS V L Rf H0) {O : Nat → Prop} {tx : Nat} {T : Txt} {f : Rw} (hC : clS D dA H0 O o V Rf tx T f) (hOA : ∀ z, O z → ¬ AS o z) (tl : List Tl) (htl : tlP V tl) (k : Nat) (hk9 : k ≤ tl.length) : Ctr l D dA yX0_laysLay cX0_laysLay 3 none (mkRm 411 9800) [.ref o, .int (nI k)] H0 (AS o) (QV (fun H1 => ∃ V1, gP D dA o dS V1 L Rf H1 ∧ Eqx PMy V V1 ∧ (V1 0 16 = nI (cnF (lyB T f tl k) (2 ^ xN T))) ∧ (V1 0 17 = o1 (-2) (fdF (lyB T f tl k) (2 ^ xN T))) ∧ (V1 0 18 = nI (laF (lyB T f tl k) (2 ^ xN T - 1) (2 ^ xN T))) ∧ (V1 0 19 = nI (lnnF (lyB T f tl k) (2 ^ xN T - 1) (2 ^ xN T))) ∧ (∀ j, j < (2 ^ xN T) → V1 80 j = nI (bN (lyB T f tl k j))))) := by
  have hC0 := hC
  obtain ⟨hX, htx, hB, hrv, hsd1, hsd2⟩ := hC
  have hX0 := hX
  have hn9 := txA_n hX
  have hp2 := two9 hn9
  have hpp := Nat.two_pow_pos (xN T)
  obtain ⟨fsx, hatx⟩ := txA_at hX
  have hotx := txA_o hX
  have ht20 := htl.1
  refine ctr_V (by decide) (Nat.le_of_ble_eq_true rfl) ?_
  intro p e s m args below meth c ls QQ locs hx hb hml hown hts hK hend hS hl
  have hl : lv_has ls 3 [(0, .ref o), (1, .int (nI k))] := hl
  refine lv_aload_n hx hb dX0_laysLay_0 rfl (lv_at hl 0 rfl) ?_
  refine lv_iconst (v := (nI 0)) hx hb dX0_laysLay_1 (by decide) ?_
  refine g_put hx hb hts hown hK hG hS 0 (AS_in 0 (by decide)) rfl rfl ok_X0 16 (by decide) q538 rfl rfl rfl rfl dX0_laysLay_2 (fun H locs hG hO hS => ?_)
  refine lv_aload_n hx hb dX0_laysLay_5 rfl (lv_at hl 0 rfl) ?_
  refine lv_bipush (v := (-2)) hx hb dX0_laysLay_6 (by decide) ?_
  refine g_put hx hb hts hown hK hG hS 0 (AS_in 0 (by decide)) rfl rfl ok_X0 17 (by decide) q539 rfl rfl rfl rfl dX0_laysLay_8 (fun H locs hG hO hS => ?_)
  refine lv_aload_n hx hb dX0_laysLay_11 rfl (lv_at hl 0 rfl) ?_
  refine lv_aload_n hx hb dX0_laysLay_12 rfl (lv_at hl 0 rfl) ?_
  refine c_VI hx hb hml hts hown hK hl.1 hS ⟨Nat.le_refl _, Nat.le_refl _⟩ (met_X0_rows l D dA hG (txA_S hX0 hS hOA) htx) (cw_X0_154 hts ⟨Nat.le_of_ble_eq_true rfl, Nat.le_of_ble_eq_true rfl⟩) (hG 0 _ rfl) rfl rfl rfl rfl (Nat.le_of_ble_eq_true rfl) dX0_laysLay_13 (fun _ h => h.elim) (fun r H1 locs hq hF hS => ?_)
  obtain ⟨rfl, rfl⟩ := hq
  refine lv_iconst (v := (nI 1)) hx hb dX0_laysLay_16 (by decide) ?_
  refine n_isub hx hb dX0_laysLay_17 (by omega) ?_
  refine g_put hx hb hts hown hK hG hS 0 (AS_in 0 (by decide)) rfl rfl ok_X0 18 (by decide) q540 rfl rfl rfl rfl dX0_laysLay_18 (fun H locs hG hO hS => ?_)
  refine lv_aload_n hx hb dX0_laysLay_21 rfl (lv_at hl 0 rfl) ?_
  refine lv_aload_n hx hb dX0_laysLay_22 rfl (lv_at hl 0 rfl) ?_
  refine c_VI hx hb hml hts hown hK hl.1 hS ⟨Nat.le_refl _, Nat.le_refl _⟩ (met_X0_rows l D dA hG (txA_S hX0 hS hOA) htx) (cw_X0_154 hts ⟨Nat.le_of_ble_eq_true rfl, Nat.le_of_ble_eq_true rfl⟩) (hG 0 _ rfl) rfl rfl rfl rfl (Nat.le_of_ble_eq_true rfl) dX0_laysLay_23 (fun _ h => h.elim) (fun r H1 locs hq hF hS => ?_)
  obtain ⟨rfl, rfl⟩ := hq
  refine lv_iconst (v := (nI 1)) hx hb dX0_laysLay_26 (by decide) ?_
  refine n_isub hx hb dX0_laysLay_27 (by omega) ?_
  refine g_put hx hb hts hown hK hG hS 0 (AS_in 0 (by decide)) rfl rfl ok_X0 19 (by decide) q541 rfl rfl rfl rfl dX0_laysLay_28 (fun H locs hG hO hS => ?_)
  refine lv_iconst (v := (nI 0)) hx hb dX0_laysLay_31 (by decide) ?_
  refine lv_istore_n (lv' := [(2, .int (nI 0)), (0, .ref o), (1, .int (nI k))]) hx hb dX0_laysLay_32 rfl hl (by decide) rfl (fun ls hl => ?_)
  have loop1 : ∀ (fu1 : Nat) (z : Nat) (V1 : GI) (H : Heap) (locs : List Loc) (ls : Array Slot), 2 ^ xN T - z < fu1 → (z ≤ 2 ^ xN T) → (Eqx PMy (up2 (up2 (up2 (up2 V 0 16 (nI 0)) 0 17 (-2)) 0 18 (nI ((2 ^ xN T) - 1))) 0 19 (nI ((2 ^ xN T) - 1))) V1) → (V1 0 16 = nI (cnF (lyB T f tl k) z)) → (V1 0 17 = o1 (-2) (fdF (lyB T f tl k) z)) → (V1 0 18 = nI (laF (lyB T f tl k) (2 ^ xN T - 1) z)) → (V1 0 19 = nI (lnnF (lyB T f tl k) (2 ^ xN T - 1) z)) → (∀ j, j < z → V1 80 j = nI (bN (lyB T f tl k j))) → gP D dA o dS V1 L Rf H → va_S (AS o) H0 H locs → lv_has ls 3 [(2, .int (nI z)), (0, .ref o), (1, .int (nI k))] → W p l e (mkRm 411 9800) s m args below meth c H locs 0 0 QQ (F0 m 33 ls []) := by
    intro fu1
    induction fu1 with
    | zero => intro z V1 H locs ls hfu; exact absurd hfu (Nat.not_lt_zero _)
    | succ fu1 ih1 =>
      intro z V1 H locs ls hfu hzn hE1 h16 h17 h18 h19 hmy hG hS hl
      have hcl := cnF_le (lyB T f tl k) z
      refine lv_iload_n hx hb dX0_laysLay_33 rfl (lv_at hl 0 rfl) ?_
      refine lv_aload_n hx hb dX0_laysLay_34 rfl (lv_at hl 1 rfl) ?_
      refine c_VI hx hb hml hts hown hK hl.1 hS ⟨Nat.le_refl _, Nat.le_refl _⟩ (met_X0_rows l D dA hG (txA_S hX0 hS hOA) htx) (cw_X0_154 hts ⟨Nat.le_of_ble_eq_true rfl, Nat.le_of_ble_eq_true rfl⟩) (hG 0 _ rfl) rfl rfl rfl rfl (Nat.le_of_ble_eq_true rfl) dX0_laysLay_35 (fun _ h => h.elim) (fun r H1 locs hq hF hS => ?_)
      obtain ⟨rfl, rfl⟩ := hq
      refine n_icmp_ge (tgt := 115) hx hb dX0_laysLay_38 (by decide) (by omega) (by omega) (fun c38 => ?_) (fun c38 => ?_)
      · refine hend _ _ _ _ hS dX0_laysLay_115 ?_
        obtain rfl : z = 2 ^ xN T := by omega
        exact ⟨rfl, _, hG, (((((Eqx.rf.up rfl).up rfl).up rfl).up rfl).trans hE1), h16, h17, h18, h19, hmy⟩
      refine lv_aload_n hx hb dX0_laysLay_41 rfl (lv_at hl 1 rfl) ?_
      refine g_get hx hb hts hown hK hG 0 rfl rfl ok_X0 24 (by decide) q546 rfl rfl dX0_laysLay_42 ?_
      refine lv_iload_n hx hb dX0_laysLay_45 rfl (lv_at hl 0 rfl) ?_
      refine lv_aload_n hx hb dX0_laysLay_46 rfl (lv_at hl 1 rfl) ?_
      refine lv_iload_n hx hb dX0_laysLay_47 rfl (lv_at hl 2 rfl) ?_
      refine lv_iload_n hx hb dX0_laysLay_48 rfl (lv_at hl 0 rfl) ?_
      refine c_VI hx hb hml hts hown hK hl.1 hS ⟨Nat.le_refl _, Nat.le_refl _⟩ (met_X0_isSo l D dA hG (clS_E hC0 hS hOA (((((Eqx.rf.up rfl).up rfl).up rfl).up rfl).trans (hE1.mono PMy_PQw))) hOA tl (tlP_to htl ((show Eqx PQw V _ from (((((Eqx.rf.up rfl).up rfl).up rfl).up rfl).trans (hE1.mono PMy_PQw))) 0 15 rfl) (fun j => (show Eqx PQw V _ from (((((Eqx.rf.up rfl).up rfl).up rfl).up rfl).trans (hE1.mono PMy_PQw))) 76 j rfl) (fun j => (show Eqx PQw V _ from (((((Eqx.rf.up rfl).up rfl).up rfl).up rfl).trans (hE1.mono PMy_PQw))) 77 j rfl) (fun j => (show Eqx PQw V _ from (((((Eqx.rf.up rfl).up rfl).up rfl).up rfl).trans (hE1.mono PMy_PQw))) 79 j rfl)) k z (by omega) (by omega)) (cw_X0_285 hts ⟨Nat.le_of_ble_eq_true rfl, Nat.le_of_ble_eq_true rfl⟩) (hG 0 _ rfl) rfl rfl rfl rfl (Nat.le_of_ble_eq_true rfl) dX0_laysLay_49 (fun _ h => h) (fun r H1 locs hq hF hS => ?_)
      obtain ⟨V2, hG, hE2, hr2⟩ := hq
      generalize hHe2 : H1 = H at hG hS ⊢
      clear hHe2 hF
      subst hr2
      have hbl2 := bN_lt (lyB T f tl k z)
      refine n_zast (x2 := (nI (bN (lyB T f tl k z)))) hx hb hK hG hS 80 (AS_in 80 (by decide)) rfl (by omega) (by decide) (narY (bN_lt _)) dX0_laysLay_52 (fun H locs hG hO hS => ?_)
      refine lv_aload_n hx hb dX0_laysLay_53 rfl (lv_at hl 1 rfl) ?_
      refine g_get hx hb hts hown hK hG 0 rfl rfl ok_X0 24 (by decide) q546 rfl rfl dX0_laysLay_54 ?_
      refine lv_iload_n hx hb dX0_laysLay_57 rfl (lv_at hl 0 rfl) ?_
      refine n_zald hx hb hK hG 80 rfl (by omega) (by decide) dX0_laysLay_58 ?_
      refine iv (y := (nI (bN (lyB T f tl k z)))) up2_s ?_
      refine n_if_ne (tgt := 65) hx hb dX0_laysLay_59 (by decide) (by omega) (fun c59 => ?_) (fun c59 => ?_)
      · have hPz : lyB T f tl k z = true := bN1 (by omega)
        refine lv_aload_n hx hb dX0_laysLay_65 rfl (lv_at hl 1 rfl) ?_
        refine g_get (v := .int (nI (cnF (lyB T f tl k) z))) hx hb hts hown hK hG 0 rfl rfl ok_X0 16 (by decide) q538 rfl (congrArg Value.int ((hE2 0 16 rfl).trans h16)) dX0_laysLay_66 ?_
        refine n_if_ne (tgt := 77) hx hb dX0_laysLay_69 (by decide) (by omega) (fun c69 => ?_) (fun c69 => ?_)
        · obtain ⟨i, hfi⟩ := fd_pos (P := lyB T f tl k) (k := z) (by omega)
          have hfz : fdF (lyB T f tl k) z = fdF (lyB T f tl k) (z + 1) := hfi.trans (fd_s hfi).symm
          refine lv_aload_n hx hb dX0_laysLay_77 rfl (lv_at hl 1 rfl) ?_
          refine lv_dup hx hb dX0_laysLay_78 rfl ?_
          refine g_get (v := .int (nI (cnF (lyB T f tl k) z))) hx hb hts hown hK hG 0 rfl rfl ok_X0 16 (by decide) q538 rfl (congrArg Value.int ((hE2 0 16 rfl).trans h16)) dX0_laysLay_79 ?_
          refine lv_iconst (v := (nI 1)) hx hb dX0_laysLay_82 (by decide) ?_
          refine n_iadd hx hb dX0_laysLay_83 ?_
          refine g_put hx hb hts hown hK hG hS 0 (AS_in 0 (by decide)) rfl rfl ok_X0 16 (by decide) q538 rfl rfl rfl rfl dX0_laysLay_84 (fun H locs hG hO hS => ?_)
          refine lv_aload_n hx hb dX0_laysLay_87 rfl (lv_at hl 1 rfl) ?_
          refine lv_dup hx hb dX0_laysLay_88 rfl ?_
          refine g_get (v := .int (nI (laF (lyB T f tl k) (2 ^ xN T - 1) z))) hx hb hts hown hK hG 0 rfl rfl ok_X0 18 (by decide) q540 rfl (congrArg Value.int ((hE2 0 18 rfl).trans h18)) dX0_laysLay_89 ?_
          refine lv_iload_n hx hb dX0_laysLay_92 rfl (lv_at hl 0 rfl) ?_
          refine n_iand hx hb dX0_laysLay_93 ?_
          refine g_put hx hb hts hown hK hG hS 0 (AS_in 0 (by decide)) rfl rfl ok_X0 18 (by decide) q540 rfl rfl rfl rfl dX0_laysLay_94 (fun H locs hG hO hS => ?_)
          refine lv_aload_n hx hb dX0_laysLay_97 rfl (lv_at hl 1 rfl) ?_
          refine lv_dup hx hb dX0_laysLay_98 rfl ?_
          refine g_get (v := .int (nI (lnnF (lyB T f tl k) (2 ^ xN T - 1) z))) hx hb hts hown hK hG 0 rfl rfl ok_X0 19 (by decide) q541 rfl (congrArg Value.int ((hE2 0 19 rfl).trans h19)) dX0_laysLay_99 ?_
          refine lv_iload_n hx hb dX0_laysLay_102 rfl (lv_at hl 0 rfl) ?_
          refine lv_iconst (v := (-1)) hx hb dX0_laysLay_103 (by decide) ?_
          refine lv_ixor hx hb dX0_laysLay_104 ?_
          refine lv_iand hx hb dX0_laysLay_105 ?_
          refine iv (y := (nI (lnnF (lyB T f tl k) (2 ^ xN T - 1) z ^^^ (lnnF (lyB T f tl k) (2 ^ xN T - 1) z &&& z)))) (nI_andnot _ _) ?_
          refine g_put hx hb hts hown hK hG hS 0 (AS_in 0 (by decide)) rfl rfl ok_X0 19 (by decide) q541 rfl rfl rfl rfl dX0_laysLay_106 (fun H locs hG hO hS => ?_)
          refine lv_iinc (v := (nI (z + 1))) (lv' := [(2, .int (nI (z + 1))), (0, .ref o), (1, .int (nI k))]) hx hb dX0_laysLay_109 hl (k := 0) rfl (nI_add _ _) (by decide) rfl (fun ls hl => ?_)
          refine lv_goto (tgt := 33) hx hb dX0_laysLay_112 (by decide) ?_
          exact ih1 (z + 1) (up2 (up2 (up2 (up2 V2 80 z (nI (bN (lyB T f tl k z)))) 0 16 (nI ((cnF (lyB T f tl k) z) + 1))) 0 18 (nI ((laF (lyB T f tl k) (2 ^ xN T - 1) z) &&& z))) 0 19 (nI (lnnF (lyB T f tl k) (2 ^ xN T - 1) z ^^^ (lnnF (lyB T f tl k) (2 ^ xN T - 1) z &&& z)))) _ _ _ (by omega) (by omega) (Eqx.up (Eqx.up (Eqx.up (Eqx.up (Eqx.trans hE1 (hE2.mono PSo_PMy)) rfl) rfl) rfl) rfl) (by rw [cnF_t hPz]; rfl) ((hE2 0 17 rfl).trans (h17.trans (by rw [hfz]))) (by rw [la_t hPz]; rfl) (by rw [lnn_t hPz]; rfl) (fun j hj => by
                      show up2 V2 80 z (nI (bN (lyB T f tl k z))) 80 j = _
                      by_cases e : j = z
                      · subst e; exact up2_s
                      · exact ((up2_n (fun h => e h.2)).trans (hE2 80 j rfl)).trans (hmy j (by omega))) hG hS (lv_sub hl [0, 1, 2] rfl)
        have hfz : fdF (lyB T f tl k) z = none := by
          cases hm : fdF (lyB T f tl k) z with
          | none => rfl
          | some i => have := fd_sm hm; omega
        refine lv_aload_n hx hb dX0_laysLay_72 rfl (lv_at hl 1 rfl) ?_
        refine lv_iload_n hx hb dX0_laysLay_73 rfl (lv_at hl 0 rfl) ?_
        refine g_put hx hb hts hown hK hG hS 0 (AS_in 0 (by decide)) rfl rfl ok_X0 17 (by decide) q539 rfl rfl rfl rfl dX0_laysLay_74 (fun H locs hG hO hS => ?_)
        refine lv_aload_n hx hb dX0_laysLay_77 rfl (lv_at hl 1 rfl) ?_
        refine lv_dup hx hb dX0_laysLay_78 rfl ?_
        refine g_get (v := .int (nI (cnF (lyB T f tl k) z))) hx hb hts hown hK hG 0 rfl rfl ok_X0 16 (by decide) q538 rfl (congrArg Value.int ((hE2 0 16 rfl).trans h16)) dX0_laysLay_79 ?_
        refine lv_iconst (v := (nI 1)) hx hb dX0_laysLay_82 (by decide) ?_
        refine n_iadd hx hb dX0_laysLay_83 ?_
        refine g_put hx hb hts hown hK hG hS 0 (AS_in 0 (by decide)) rfl rfl ok_X0 16 (by decide) q538 rfl rfl rfl rfl dX0_laysLay_84 (fun H locs hG hO hS => ?_)
        refine lv_aload_n hx hb dX0_laysLay_87 rfl (lv_at hl 1 rfl) ?_
        refine lv_dup hx hb dX0_laysLay_88 rfl ?_
        refine g_get (v := .int (nI (laF (lyB T f tl k) (2 ^ xN T - 1) z))) hx hb hts hown hK hG 0 rfl rfl ok_X0 18 (by decide) q540 rfl (congrArg Value.int ((hE2 0 18 rfl).trans h18)) dX0_laysLay_89 ?_
        refine lv_iload_n hx hb dX0_laysLay_92 rfl (lv_at hl 0 rfl) ?_
        refine n_iand hx hb dX0_laysLay_93 ?_
        refine g_put hx hb hts hown hK hG hS 0 (AS_in 0 (by decide)) rfl rfl ok_X0 18 (by decide) q540 rfl rfl rfl rfl dX0_laysLay_94 (fun H locs hG hO hS => ?_)
        refine lv_aload_n hx hb dX0_laysLay_97 rfl (lv_at hl 1 rfl) ?_
        refine lv_dup hx hb dX0_laysLay_98 rfl ?_
        refine g_get (v := .int (nI (lnnF (lyB T f tl k) (2 ^ xN T - 1) z))) hx hb hts hown hK hG 0 rfl rfl ok_X0 19 (by decide) q541 rfl (congrArg Value.int ((hE2 0 19 rfl).trans h19)) dX0_laysLay_99 ?_
        refine lv_iload_n hx hb dX0_laysLay_102 rfl (lv_at hl 0 rfl) ?_
        refine lv_iconst (v := (-1)) hx hb dX0_laysLay_103 (by decide) ?_
        refine lv_ixor hx hb dX0_laysLay_104 ?_
        refine lv_iand hx hb dX0_laysLay_105 ?_
        refine iv (y := (nI (lnnF (lyB T f tl k) (2 ^ xN T - 1) z ^^^ (lnnF (lyB T f tl k) (2 ^ xN T - 1) z &&& z)))) (nI_andnot _ _) ?_
        refine g_put hx hb hts hown hK hG hS 0 (AS_in 0 (by decide)) rfl rfl ok_X0 19 (by decide) q541 rfl rfl rfl rfl dX0_laysLay_106 (fun H locs hG hO hS => ?_)
        refine lv_iinc (v := (nI (z + 1))) (lv' := [(2, .int (nI (z + 1))), (0, .ref o), (1, .int (nI k))]) hx hb dX0_laysLay_109 hl (k := 0) rfl (nI_add _ _) (by decide) rfl (fun ls hl => ?_)
        refine lv_goto (tgt := 33) hx hb dX0_laysLay_112 (by decide) ?_
        exact ih1 (z + 1) (up2 (up2 (up2 (up2 (up2 V2 80 z (nI (bN (lyB T f tl k z)))) 0 17 (nI z)) 0 16 (nI ((cnF (lyB T f tl k) z) + 1))) 0 18 (nI ((laF (lyB T f tl k) (2 ^ xN T - 1) z) &&& z))) 0 19 (nI (lnnF (lyB T f tl k) (2 ^ xN T - 1) z ^^^ (lnnF (lyB T f tl k) (2 ^ xN T - 1) z &&& z)))) _ _ _ (by omega) (by omega) (Eqx.up (Eqx.up (Eqx.up (Eqx.up (Eqx.up (Eqx.trans hE1 (hE2.mono PSo_PMy)) rfl) rfl) rfl) rfl) rfl) (by rw [cnF_t hPz]; rfl) (by rw [fdF_t hfz hPz _ (Nat.le_refl _)]; rfl) (by rw [la_t hPz]; rfl) (by rw [lnn_t hPz]; rfl) (fun j hj => by
                  show up2 V2 80 z (nI (bN (lyB T f tl k z))) 80 j = _
                  by_cases e : j = z
                  · subst e; exact up2_s
                  · exact ((up2_n (fun h => e h.2)).trans (hE2 80 j rfl)).trans (hmy j (by omega))) hG hS (lv_sub hl [0, 1, 2] rfl)
      have hPz : ¬ lyB T f tl k z = true := bN0 (by omega)
      refine lv_goto (tgt := 109) hx hb dX0_laysLay_62 (by decide) ?_
      refine lv_iinc (v := (nI (z + 1))) (lv' := [(2, .int (nI (z + 1))), (0, .ref o), (1, .int (nI k))]) hx hb dX0_laysLay_109 hl (k := 0) rfl (nI_add _ _) (by decide) rfl (fun ls hl => ?_)
      refine lv_goto (tgt := 33) hx hb dX0_laysLay_112 (by decide) ?_
      exact ih1 (z + 1) (up2 V2 80 z (nI (bN (lyB T f tl k z)))) _ _ _ (by omega) (by omega) (Eqx.up (Eqx.trans hE1 (hE2.mono PSo_PMy)) rfl) ((hE2 0 16 rfl).trans (h16.trans (by rw [cnF_f hPz]))) ((hE2 0 17 rfl).trans (h17.trans (by rw [fd_n hPz]))) ((hE2 0 18 rfl).trans (h18.trans (by rw [la_f hPz]))) ((hE2 0 19 rfl).trans (h19.trans (by rw [lnn_f hPz]))) (fun j hj => by
              show up2 V2 80 z (nI (bN (lyB T f tl k z))) 80 j = _
              by_cases e : j = z
              · subst e; exact up2_s
              · exact ((up2_n (fun h => e h.2)).trans (hE2 80 j rfl)).trans (hmy j (by omega))) hG hS (lv_sub hl [0, 1, 2] rfl)
  exact loop1 ((2 ^ xN T - 0) + 1) 0 (up2 (up2 (up2 (up2 V 0 16 (nI 0)) 0 17 (-2)) 0 18 (nI ((2 ^ xN T) - 1))) 0 19 (nI ((2 ^ xN T) - 1))) _ _ _ (Nat.lt_succ_self _) (Nat.zero_le _) Eqx.rf rfl rfl rfl rfl (fun j hj => absurd hj (Nat.not_lt_zero _)) hG hS (lv_sub hl [0, 1, 2] rfl)
theorem cw_X0_288 {R : Room} {s : State} {args : Array Value} (hts : ∀ w ∈ lw_all, w.before args s = true) {f w k j : Nat} (hR : f + 1 ≤ R.frames ∧ 8 + (3 + 11) + w ≤ R.locals) : CallW R s args RX0 RX0 288 yX0_laysLay cX0_laysLay 3 none (ws_ yX0_laysLay cX0_laysLay 3 none) (mkRmC f w k j) k j 1 := cwV 1 hts (lw_V q1418 q1420 qs45 q108 q1421) rfl rfl rfl (by decide +kernel) hR
set_option maxHeartbeats 4000000 in
theorem met_X0_lay (l : Launch) (D : va_G) (dA : Nat → ClassId) {o : Nat} {V : GI} {L : GL} {Rf : GR} {H0 : Heap} (hG : gP D dA o dS V L Rf H0) {O : Nat → Prop} {tx : Nat} {T : Txt} {f : Rw} (hC : clS D dA H0 O o V Rf tx T f) (hOA : ∀ z, O z → ¬ AS o z) (tl : List Tl) (htl : tlP V tl) (v1 v2 : Int32) : Ctr l D dA yX0_lay cX0_lay 3 (some .int) (mkRm 412 9900) [.ref o, .int v1, .int v2] H0 (AS o) (QI (fun r H1 => ∃ V1, gP D dA o dS V1 L Rf H1 ∧ Eqx PQw V V1 ∧ r = layA T f tl v1 v2)) := by
  have hC0 := hC
  obtain ⟨hX, htx, hB, hrv, hsd1, hsd2⟩ := hC
  have hX0 := hX
  have hn9 := txA_n hX
  have hp2 := two9 hn9
  have hpp := Nat.two_pow_pos (xN T)
  obtain ⟨fsx, hatx⟩ := txA_at hX
  have hotx := txA_o hX
  have ht20 := htl.1
  refine ctr_I (by decide) (Nat.le_of_ble_eq_true rfl) ?_
  intro p e s m args below meth c ls QQ locs hx hb hml hown hts hK hend hS hl
  have hl : lv_has ls 3 [(0, .ref o), (1, .int v1), (2, .int v2)] := hl
  refine lv_iload_n hx hb dX0_lay_0 rfl (lv_at hl 1 rfl) ?_
  refine lv_iconst (v := (nI 0)) hx hb dX0_lay_1 (by decide) ?_
  refine lv_aload_n hx hb dX0_lay_2 rfl (lv_at hl 0 rfl) ?_
  refine g_get (v := .int (nI tl.length)) hx hb hts hown hK hG 0 rfl rfl ok_X0 15 (by decide) q537 rfl (congrArg Value.int htl.2.1) dX0_lay_3 ?_
  refine c_SI hx hb hml hts hown hK hl.1 hS ⟨Nat.le_refl _, Nat.le_refl _⟩ (met_X0_isIn l D dA v1 (nI 0) (nI tl.length)) (cw_X0_146 hts ⟨Nat.le_of_ble_eq_true rfl, Nat.le_of_ble_eq_true rfl⟩) rfl rfl (Nat.le_of_ble_eq_true rfl) dX0_lay_6 (fun _ h => h.elim) (fun r H1 locs hq hF hS => ?_)
  obtain ⟨rfl, rfl⟩ := hq
  rcases (inZ_cases v1 0 tl.length (by decide) (by omega)).symm with ⟨hz6, ho6⟩ | ⟨x1, hlo_x1, hhi_x1, rfl, hz6⟩
  · refine iv (y := nI 0) hz6 ?_
    refine n_if_eq (tgt := 21) hx hb dX0_lay_9 (by decide) (by decide) (fun _ => ?_) (fun z => absurd z (by decide))
    refine lv_iconst (v := (-1)) hx hb dX0_lay_21 (by decide) ?_
    refine hend _ _ _ _ _ hS dX0_lay_22 ?_
    exact ⟨_, rfl, _, hG, Eqx.rf, ((ho6.1 _ _)).symm⟩
  refine iv (y := nI 1) hz6 ?_
  have hl : lv_has ls 3 [(0, .ref o), (1, .int (nI x1)), (2, .int v2)] := hl
  refine n_if_eq (tgt := 21) hx hb dX0_lay_9 (by decide) (by decide) (fun z => absurd z (by decide)) (fun _ => ?_)
  refine lv_iload_n hx hb dX0_lay_12 rfl (lv_at hl 2 rfl) ?_
  refine lv_iconst (v := (nI 0)) hx hb dX0_lay_13 (by decide) ?_
  refine lv_iconst (v := (nI 3)) hx hb dX0_lay_14 (by decide) ?_
  refine c_SI hx hb hml hts hown hK hl.1 hS ⟨Nat.le_refl _, Nat.le_refl _⟩ (met_X0_isIn l D dA v2 (nI 0) (nI 3)) (cw_X0_146 hts ⟨Nat.le_of_ble_eq_true rfl, Nat.le_of_ble_eq_true rfl⟩) rfl rfl (Nat.le_of_ble_eq_true rfl) dX0_lay_15 (fun _ h => h.elim) (fun r H1 locs hq hF hS => ?_)
  obtain ⟨rfl, rfl⟩ := hq
  rcases (inZ_cases v2 0 3 (by decide) (by decide)).symm with ⟨hz15, ho15⟩ | ⟨x2, hlo_x2, hhi_x2, rfl, hz15⟩
  · refine iv (y := nI 0) hz15 ?_
    refine n_if_ne (tgt := 23) hx hb dX0_lay_18 (by decide) (by decide) (fun z => absurd z (by decide)) (fun _ => ?_)
    refine lv_iconst (v := (-1)) hx hb dX0_lay_21 (by decide) ?_
    refine hend _ _ _ _ _ hS dX0_lay_22 ?_
    exact ⟨_, rfl, _, hG, Eqx.rf, ((rng_in hlo_x1 hhi_x1 (by omega)).trans ((ho15.1 _ _))).symm⟩
  refine iv (y := nI 1) hz15 ?_
  have hl : lv_has ls 3 [(0, .ref o), (1, .int (nI x1)), (2, .int (nI x2))] := hl
  refine n_if_ne (tgt := 23) hx hb dX0_lay_18 (by decide) (by decide) (fun _ => ?_) (fun z => absurd z (by decide))
  refine lv_aload_n hx hb dX0_lay_23 rfl (lv_at hl 0 rfl) ?_
  refine lv_iload_n hx hb dX0_lay_24 rfl (lv_at hl 1 rfl) ?_
  refine c_VV hx hb hml hts hown hK hl.1 hS ⟨Nat.le_refl _, Nat.le_refl _⟩ (met_X0_laysLay l D dA hG (clS_E hC0 hS hOA Eqx.rf) hOA tl htl x1 (by omega)) (cw_X0_288 hts ⟨Nat.le_of_ble_eq_true rfl, Nat.le_of_ble_eq_true rfl⟩) (hG 0 _ rfl) rfl rfl rfl rfl (Nat.le_of_ble_eq_true rfl) dX0_lay_25 (fun _ h => h) (fun H1 locs hq hF hS => ?_)
  obtain ⟨V1, hG, hE1, h16, h17, h18, h19, hmy⟩ := hq
  generalize hHe1 : H1 = H at hG hS ⊢
  clear hHe1 hF
  have hcl := cnF_le (lyB T f tl x1) (2 ^ xN T)
  refine lv_iload_n hx hb dX0_lay_28 rfl (lv_at hl 2 rfl) ?_
  refine n_if_ne (tgt := 37) hx hb dX0_lay_29 (by decide) (by omega) (fun c29 => ?_) (fun c29 => ?_)
  · refine lv_aload_n hx hb dX0_lay_37 rfl (lv_at hl 0 rfl) ?_
    refine g_get (v := .int (nI (cnF (lyB T f tl x1) (2 ^ xN T)))) hx hb hts hown hK hG 0 rfl rfl ok_X0 16 (by decide) q538 rfl (congrArg Value.int h16) dX0_lay_38 ?_
    refine n_if_ne (tgt := 49) hx hb dX0_lay_41 (by decide) (by omega) (fun c41 => ?_) (fun c41 => ?_)
    · refine lv_iload_n hx hb dX0_lay_49 rfl (lv_at hl 2 rfl) ?_
      refine lv_iconst (v := (nI 1)) hx hb dX0_lay_50 (by decide) ?_
      refine n_icmp_ne (tgt := 61) hx hb dX0_lay_51 (by decide) (by omega) (by omega) (fun c51 => ?_) (fun c51 => ?_)
      · refine lv_iload_n hx hb dX0_lay_61 rfl (lv_at hl 2 rfl) ?_
        refine lv_iconst (v := (nI 2)) hx hb dX0_lay_62 (by decide) ?_
        refine n_icmp_ne (tgt := 73) hx hb dX0_lay_63 (by decide) (by omega) (by omega) (fun c63 => ?_) (fun c63 => ?_)
        · refine lv_aload_n hx hb dX0_lay_73 rfl (lv_at hl 0 rfl) ?_
          refine g_get (v := .int (nI (lnnF (lyB T f tl x1) (2 ^ xN T - 1) (2 ^ xN T)))) hx hb hts hown hK hG 0 rfl rfl ok_X0 19 (by decide) q541 rfl (congrArg Value.int h19) dX0_lay_74 ?_
          refine hend _ _ _ _ _ hS dX0_lay_77 ?_
          exact ⟨_, rfl, _, hG, (hE1.mono PMy_PQw), ((rng_in hlo_x1 hhi_x1 (by omega)).trans ((rng_in hlo_x2 hhi_x2 (by omega)).trans (((if_neg (by omega)).trans ((if_neg (by omega)).trans ((if_neg (by omega)).trans (if_neg (by omega)))))))).symm⟩
        refine lv_aload_n hx hb dX0_lay_66 rfl (lv_at hl 0 rfl) ?_
        refine g_get (v := .int (nI (laF (lyB T f tl x1) (2 ^ xN T - 1) (2 ^ xN T)))) hx hb hts hown hK hG 0 rfl rfl ok_X0 18 (by decide) q540 rfl (congrArg Value.int h18) dX0_lay_67 ?_
        refine lv_goto (tgt := 77) hx hb dX0_lay_70 (by decide) ?_
        refine hend _ _ _ _ _ hS dX0_lay_77 ?_
        exact ⟨_, rfl, _, hG, (hE1.mono PMy_PQw), ((rng_in hlo_x1 hhi_x1 (by omega)).trans ((rng_in hlo_x2 hhi_x2 (by omega)).trans (((if_neg (by omega)).trans ((if_neg (by omega)).trans ((if_neg (by omega)).trans (if_pos (by omega)))))))).symm⟩
      refine lv_aload_n hx hb dX0_lay_54 rfl (lv_at hl 0 rfl) ?_
      refine g_get (v := .int (o1 (-2) (fdF (lyB T f tl x1) (2 ^ xN T)))) hx hb hts hown hK hG 0 rfl rfl ok_X0 17 (by decide) q539 rfl (congrArg Value.int h17) dX0_lay_55 ?_
      refine lv_goto (tgt := 77) hx hb dX0_lay_58 (by decide) ?_
      refine hend _ _ _ _ _ hS dX0_lay_77 ?_
      exact ⟨_, rfl, _, hG, (hE1.mono PMy_PQw), ((rng_in hlo_x1 hhi_x1 (by omega)).trans ((rng_in hlo_x2 hhi_x2 (by omega)).trans (((if_neg (by omega)).trans ((if_neg (by omega)).trans ((if_pos (by omega)).trans (by obtain ⟨i, hi⟩ := fd_pos (P := lyB T f tl x1) (k := 2 ^ xN T) (by omega); rw [hi]; rfl))))))).symm⟩
    refine lv_bipush (v := (-2)) hx hb dX0_lay_44 (by decide) ?_
    refine lv_goto (tgt := 77) hx hb dX0_lay_46 (by decide) ?_
    refine hend _ _ _ _ _ hS dX0_lay_77 ?_
    exact ⟨_, rfl, _, hG, (hE1.mono PMy_PQw), ((rng_in hlo_x1 hhi_x1 (by omega)).trans ((rng_in hlo_x2 hhi_x2 (by omega)).trans (((if_neg (by omega)).trans (if_pos (by omega)))))).symm⟩
  refine lv_aload_n hx hb dX0_lay_32 rfl (lv_at hl 0 rfl) ?_
  refine g_get (v := .int (nI (cnF (lyB T f tl x1) (2 ^ xN T)))) hx hb hts hown hK hG 0 rfl rfl ok_X0 16 (by decide) q538 rfl (congrArg Value.int h16) dX0_lay_33 ?_
  refine hend _ _ _ _ _ hS dX0_lay_36 ?_
  exact ⟨_, rfl, _, hG, (hE1.mono PMy_PQw), ((rng_in hlo_x1 hhi_x1 (by omega)).trans ((rng_in hlo_x2 hhi_x2 (by omega)).trans ((if_pos (by omega))))).symm⟩
