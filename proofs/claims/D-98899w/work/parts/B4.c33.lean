theorem cw_X2_86 {R : Room} {s : State} {args : Array Value} (hts : ∀ w ∈ lw_all, w.before args s = true) {f w k j : Nat} (hR : f + 1 ≤ R.frames ∧ 8 + (1 + 11) + w ≤ R.locals) : CallW R s args RX2 RJ8 86 yJ8_length cJ8_length 1 (some .int) (ws_ yJ8_length cJ8_length 1 (some .int)) (mkRmC f w k j) k j 0 := cwV 0 hts (lw_V q638 q639 q640 q130 q641) rfl rfl rfl (by decide +kernel) hR
theorem cw_X2_90 {R : Room} {s : State} {args : Array Value} (hts : ∀ w ∈ lw_all, w.before args s = true) {f w k j : Nat} (hR : f + 1 ≤ R.frames ∧ 8 + (2 + 11) + w ≤ R.locals) : CallW R s args RX2 RJ8 90 yJ8_charAt cJ8_charAt 2 (some .char) (ws_ yJ8_charAt cJ8_charAt 2 (some .char)) (mkRmC f w k j) k j 1 := cwV 1 hts (lw_V q648 q649 q650 q130 q651) rfl rfl rfl (by decide +kernel) hR
set_option maxHeartbeats 4000000 in
theorem met_X2_word (l : Launch) (D : va_G) (dA : Nat → ClassId) {o : Nat} {V : GI} {L : GL} {Rf : GR} {H0 : Heap} (hG : gP D dA o dS V L Rf H0) {tp : List Int32} (htp : tpP V tp) (hby : byT tp) {ed : Nat} (hbs : bsA D dA H0 o Rf ed) {a n : Nat} (hle : a + n ≤ tp.length) (hL : ∀ j, j < n → isL (chT tp (a + j)) = true) : Ctr l D dA yX2_word cX2_word 6 (some .int) (mkRm 4 160) [.ref (o + 2), .int (nI a), .int (nI (a + n))] H0 A0 (QI (fun r H1 => H0 = H1 ∧ r = wdI tp a n)) := by
  have ht2 := htp.1
  have hlt := ltT_128 hL
  obtain ⟨hc, hc0, hf, hf0, he3, he30, hedo, hede, hwd⟩ := hbs
  refine ctr_I (by decide) (Nat.le_of_ble_eq_true rfl) ?_
  intro p e s m args below meth c ls QQ locs hx hb hml hown hts hK hend hS hl
  have hl : lv_has ls 6 [(0, .ref (o + 2)), (1, .int (nI a)), (2, .int (nI (a + n)))] := hl
  refine lv_iconst (v := (nI 0)) hx hb dX2_word_0 (by decide) ?_
  refine lv_istore_n (lv' := [(3, .int (nI 0)), (0, .ref (o + 2)), (1, .int (nI a)), (2, .int (nI (a + n)))]) hx hb dX2_word_1 rfl hl (by decide) rfl (fun ls hl => ?_)
  have loop1 : ∀ (fu1 : Nat) (w1 : Nat) (locs : List Loc) (ls : Array Slot), 21 - w1 < fu1 → (w1 ≤ 21) → (∀ x, x < w1 → kyW.getD x [] ≠ ltT tp a n) → va_S A0 H0 H0 locs → lv_has ls 6 [(3, .int (nI w1)), (0, .ref (o + 2)), (1, .int (nI a)), (2, .int (nI (a + n)))] → W p l e (mkRm 4 160) s m args below meth c H0 locs 0 0 QQ (F0 m 2 ls []) := by
    intro fu1
    induction fu1 with
    | zero => intro w1 locs ls hfu; exact absurd hfu (Nat.not_lt_zero _)
    | succ fu1 ih1 =>
      intro w1 locs ls hfu hw9 hno hS hl
      refine lv_iload_n hx hb dX2_word_2 rfl (lv_at hl 0 rfl) ?_
      refine lv_aload_n hx hb dX2_word_3 rfl (lv_at hl 1 rfl) ?_
      refine g_get hx hb hts hown hK hG 2 rfl rfl ok_X2 0 (by decide) q257 rfl rfl dX2_word_4 ?_
      refine x_alen hx hb hK 5 (hG 3 _ rfl) rfl (v := nI 21) rfl dX2_word_7 ?_
      refine n_icmp_ge (tgt := 96) hx hb dX2_word_8 (by decide) (by omega) (by omega) (fun c8 => ?_) (fun c8 => ?_)
      · refine lv_iconst (v := (-1)) hx hb dX2_word_96 (by decide) ?_
        refine hend _ _ _ _ _ hS dX2_word_97 ?_
        exact ⟨_, rfl, rfl, (wd_miss hL (fun x hx => hno x (by omega))).symm⟩
      refine lv_aload_n hx hb dX2_word_11 rfl (lv_at hl 1 rfl) ?_
      refine g_get hx hb hts hown hK hG 2 rfl rfl ok_X2 0 (by decide) q257 rfl rfl dX2_word_12 ?_
      refine lv_iload_n hx hb dX2_word_15 rfl (lv_at hl 0 rfl) ?_
      obtain ⟨sa, hsa, hst⟩ := hwd w1 (by omega)
      obtain ⟨va, h1, h2, b1, b2, hs, hv, hll, hlx⟩ := hst
      have hwl := (kyW_p ⟨w1, by omega⟩).2
      dsimp only at hwl
      refine xn_aald hx hb hK 5 (hG 3 _ rfl) rfl (i := w1) (by omega) (by decide) hsa dX2_word_16 ?_
      refine c_VI hx hb hml hts hown hK hl.1 hS ⟨Nat.le_refl _, Nat.le_refl _⟩ (met_J8_length l D dA hs hv hll hlx hc) (cw_X2_86 hts ⟨Nat.le_of_ble_eq_true rfl, Nat.le_of_ble_eq_true rfl⟩) hs rfl rfl rfl rfl (Nat.le_of_ble_eq_true rfl) dX2_word_17 (fun _ h => h.elim) (fun r H1 locs hq hF hS => ?_)
      obtain ⟨rfl, rfl⟩ := hq
      refine lv_iload_n hx hb dX2_word_20 rfl (lv_at hl 3 rfl) ?_
      refine lv_iload_n hx hb dX2_word_21 rfl (lv_at hl 2 rfl) ?_
      refine lv_isub hx hb dX2_word_22 ?_
      refine iv (y := (nI n)) ((pk_sub (by omega)).trans (congrArg nI (by omega))) ?_
      refine n_icmp_ne (tgt := 30) hx hb dX2_word_23 (by decide) (by omega) (by omega) (fun c23 => ?_) (fun c23 => ?_)
      · refine lv_iconst (v := (nI 0)) hx hb dX2_word_30 (by decide) ?_
        refine lv_istore (lv' := [(4, .int (nI 0)), (3, .int (nI w1)), (0, .ref (o + 2)), (1, .int (nI a)), (2, .int (nI (a + n)))]) hx hb dX2_word_31 hl (by decide) rfl (fun ls hl => ?_)
        refine lv_iload_n hx hb dX2_word_33 rfl (lv_at hl 3 rfl) ?_
        refine lv_istore (lv' := [(5, .int (nI a)), (4, .int (nI 0)), (3, .int (nI w1)), (0, .ref (o + 2)), (1, .int (nI a)), (2, .int (nI (a + n)))]) hx hb dX2_word_34 hl (by decide) rfl (fun ls hl => ?_)
        have loop2 : ∀ (fu2 : Nat) (j : Nat) (f : Nat) (locs : List Loc) (ls : Array Slot), n - j < fu2 → (j ≤ n) → (f < 2) → (f = 1 → ((kyW.getD w1 []).length = n ∧ ∀ i, i < j → (kyW.getD w1 []).getD i 0 = chT tp (a + i))) → (f = 0 → (kyW.getD w1 []) ≠ ltT tp a n) → va_S A0 H0 H0 locs → lv_has ls 6 [(5, .int (nI (a + j))), (4, .int (nI f)), (3, .int (nI w1)), (0, .ref (o + 2)), (1, .int (nI a)), (2, .int (nI (a + n)))] → W p l e (mkRm 4 160) s m args below meth c H0 locs 0 0 QQ (F0 m 36 ls []) := by
          intro fu2
          induction fu2 with
          | zero => intro j f locs ls hfu; exact absurd hfu (Nat.not_lt_zero _)
          | succ fu2 ih2 =>
            intro j f locs ls hfu hjn hf2 hf1 hf0 hS hl
            refine lv_iload hx hb dX2_word_36 (lv_at hl 0 rfl) ?_
            refine lv_iload_n hx hb dX2_word_38 rfl (lv_at hl 5 rfl) ?_
            refine n_icmp_ge (tgt := 83) hx hb dX2_word_39 (by decide) (by omega) (by omega) (fun c39 => ?_) (fun c39 => ?_)
            · refine lv_iload hx hb dX2_word_83 (lv_at hl 1 rfl) ?_
              refine n_if_eq (tgt := 90) hx hb dX2_word_85 (by decide) (by omega) (fun c85 => ?_) (fun c85 => ?_)
              · refine lv_iinc (v := (nI (w1 + 1))) (lv' := [(3, .int (nI (w1 + 1))), (5, .int (nI (a + j))), (4, .int (nI f)), (0, .ref (o + 2)), (1, .int (nI a)), (2, .int (nI (a + n)))]) hx hb dX2_word_90 hl (k := 2) rfl (nI_add _ _) (by decide) rfl (fun ls hl => ?_)
                refine lv_goto (tgt := 2) hx hb dX2_word_93 (by decide) ?_
                have hneq : kyW.getD w1 [] ≠ ltT tp a n := hf0 (by omega)
                exact ih1 (w1 + 1) _ _ (by omega) (by omega) (fun x hx => by rcases Nat.lt_succ_iff_lt_or_eq.mp hx with h | h; exact hno x h; rw [h]; exact hneq) hS (lv_sub hl [0, 3, 4, 5] rfl)
              refine lv_iload_n hx hb dX2_word_88 rfl (lv_at hl 2 rfl) ?_
              refine hend _ _ _ _ _ hS dX2_word_89 ?_
              exact ⟨_, rfl, rfl, (wd_hit (by omega) (lt_ext (by rw [ltT_len]; exact (hf1 (by omega)).1) (fun i hi => by have h9 := hf1 (by omega); rw [ltT_getD (by omega)]; exact h9.2 i (by omega)))).symm⟩
            refine lv_iload hx hb dX2_word_42 (lv_at hl 1 rfl) ?_
            refine n_if_eq (tgt := 83) hx hb dX2_word_44 (by decide) (by omega) (fun c44 => ?_) (fun c44 => ?_)
            · refine lv_iload hx hb dX2_word_83 (lv_at hl 1 rfl) ?_
              refine n_if_eq (tgt := 90) hx hb dX2_word_85 (by decide) (by omega) (fun c85 => ?_) (fun c85 => ?_)
              · refine lv_iinc (v := (nI (w1 + 1))) (lv' := [(3, .int (nI (w1 + 1))), (5, .int (nI (a + j))), (4, .int (nI f)), (0, .ref (o + 2)), (1, .int (nI a)), (2, .int (nI (a + n)))]) hx hb dX2_word_90 hl (k := 2) rfl (nI_add _ _) (by decide) rfl (fun ls hl => ?_)
                refine lv_goto (tgt := 2) hx hb dX2_word_93 (by decide) ?_
                have hneq : kyW.getD w1 [] ≠ ltT tp a n := hf0 (by omega)
                exact ih1 (w1 + 1) _ _ (by omega) (by omega) (fun x hx => by rcases Nat.lt_succ_iff_lt_or_eq.mp hx with h | h; exact hno x h; rw [h]; exact hneq) hS (lv_sub hl [0, 3, 4, 5] rfl)
              exact absurd c85 (by omega)
            have hcl := hlt j (by omega)
            have hcj := getD_lt hlx j
            have hjl : j < (kyW.getD w1 []).length := by have := (hf1 (by omega)).1; omega
            refine lv_aload_n hx hb dX2_word_47 rfl (lv_at hl 3 rfl) ?_
            refine g_get hx hb hts hown hK hG 2 rfl rfl ok_X2 0 (by decide) q257 rfl rfl dX2_word_48 ?_
            refine lv_iload_n hx hb dX2_word_51 rfl (lv_at hl 2 rfl) ?_
            refine xn_aald hx hb hK 5 (hG 3 _ rfl) rfl (i := w1) (by omega) (by decide) hsa dX2_word_52 ?_
            refine lv_iload hx hb dX2_word_53 (lv_at hl 0 rfl) ?_
            refine lv_iload_n hx hb dX2_word_55 rfl (lv_at hl 4 rfl) ?_
            refine lv_isub hx hb dX2_word_56 ?_
            refine iv (y := (nI j)) ((pk_sub (by omega)).trans (congrArg nI (by omega))) ?_
            refine c_VI hx hb hml hts hown hK hl.1 hS ⟨Nat.le_refl _, Nat.le_refl _⟩ (met_J8_charAt l D dA hs hv hll hlx hc (i := j) (by omega) hf) (cw_X2_90 hts ⟨Nat.le_of_ble_eq_true rfl, Nat.le_of_ble_eq_true rfl⟩) hs rfl rfl rfl rfl (Nat.le_of_ble_eq_true rfl) dX2_word_57 (fun _ h => h.elim) (fun r H1 locs hq hF hS => ?_)
            obtain ⟨rfl, rfl⟩ := hq
            refine lv_aload_n hx hb dX2_word_60 rfl (lv_at hl 3 rfl) ?_
            refine g_get hx hb hts hown hK hG 2 rfl rfl ok_X2 1 (by decide) q258 rfl rfl dX2_word_61 ?_
            refine lv_iload hx hb dX2_word_64 (lv_at hl 0 rfl) ?_
            refine n_bald hx hb hK hG 4 rfl (by omega) (by decide) dX2_word_66 ?_
            refine iv (y := (nI (chT tp (a + j)))) ((tp_at htp (by omega)).trans (at_n hby (hlt j (by omega)))) ?_
            refine n_icmp_ne (tgt := 74) hx hb dX2_word_67 (by decide) (by omega) (by omega) (fun c67 => ?_) (fun c67 => ?_)
            · refine lv_iconst (v := (nI 0)) hx hb dX2_word_74 (by decide) ?_
              refine lv_istore (lv' := [(4, .int (nI 0)), (5, .int (nI (a + j))), (3, .int (nI w1)), (0, .ref (o + 2)), (1, .int (nI a)), (2, .int (nI (a + n)))]) hx hb dX2_word_75 hl (by decide) rfl (fun ls hl => ?_)
              refine lv_iinc (v := (nI ((a + j) + 1))) (lv' := [(5, .int (nI ((a + j) + 1))), (4, .int (nI 0)), (3, .int (nI w1)), (0, .ref (o + 2)), (1, .int (nI a)), (2, .int (nI (a + n)))]) hx hb dX2_word_77 hl (k := 1) rfl (nI_add _ _) (by decide) rfl (fun ls hl => ?_)
              refine lv_goto (tgt := 36) hx hb dX2_word_80 (by decide) ?_
              exact ih2 (j + 1) 0 _ _ (by omega) (by omega) (by decide) (fun z => absurd z (by decide)) (fun _ z => by have hz := congrArg (fun q => q.getD j 0) z; rw [ltT_getD (by omega)] at hz; omega) hS (lv_sub hl [0, 1, 2, 3, 4, 5] rfl)
            refine lv_iconst (v := (nI 1)) hx hb dX2_word_70 (by decide) ?_
            refine lv_goto (tgt := 75) hx hb dX2_word_71 (by decide) ?_
            refine lv_istore (lv' := [(4, .int (nI 1)), (5, .int (nI (a + j))), (3, .int (nI w1)), (0, .ref (o + 2)), (1, .int (nI a)), (2, .int (nI (a + n)))]) hx hb dX2_word_75 hl (by decide) rfl (fun ls hl => ?_)
            refine lv_iinc (v := (nI ((a + j) + 1))) (lv' := [(5, .int (nI ((a + j) + 1))), (4, .int (nI 1)), (3, .int (nI w1)), (0, .ref (o + 2)), (1, .int (nI a)), (2, .int (nI (a + n)))]) hx hb dX2_word_77 hl (k := 1) rfl (nI_add _ _) (by decide) rfl (fun ls hl => ?_)
            refine lv_goto (tgt := 36) hx hb dX2_word_80 (by decide) ?_
            exact ih2 (j + 1) 1 _ _ (by omega) (by omega) (by decide) (fun _ => ⟨(hf1 (by omega)).1, fun i hi => by rcases Nat.lt_succ_iff_lt_or_eq.mp hi with h | h; exact (hf1 (by omega)).2 i h; rw [h]; omega⟩) (fun z => absurd z (by decide)) hS (lv_sub hl [0, 1, 2, 3, 4, 5] rfl)
        exact loop2 ((n - 0) + 1) 0 0 _ _ (Nat.lt_succ_self _) (Nat.zero_le _) (by decide) (fun z => absurd z (by decide)) (fun _ z => by have hz := congrArg List.length z; rw [ltT_len] at hz; omega) hS (lv_sub hl [0, 1, 2, 3, 4, 5] rfl)
      refine lv_iconst (v := (nI 1)) hx hb dX2_word_26 (by decide) ?_
      refine lv_goto (tgt := 31) hx hb dX2_word_27 (by decide) ?_
      refine lv_istore (lv' := [(4, .int (nI 1)), (3, .int (nI w1)), (0, .ref (o + 2)), (1, .int (nI a)), (2, .int (nI (a + n)))]) hx hb dX2_word_31 hl (by decide) rfl (fun ls hl => ?_)
      refine lv_iload_n hx hb dX2_word_33 rfl (lv_at hl 3 rfl) ?_
      refine lv_istore (lv' := [(5, .int (nI a)), (4, .int (nI 1)), (3, .int (nI w1)), (0, .ref (o + 2)), (1, .int (nI a)), (2, .int (nI (a + n)))]) hx hb dX2_word_34 hl (by decide) rfl (fun ls hl => ?_)
      have loop3 : ∀ (fu3 : Nat) (j : Nat) (f : Nat) (locs : List Loc) (ls : Array Slot), n - j < fu3 → (j ≤ n) → (f < 2) → (f = 1 → ((kyW.getD w1 []).length = n ∧ ∀ i, i < j → (kyW.getD w1 []).getD i 0 = chT tp (a + i))) → (f = 0 → (kyW.getD w1 []) ≠ ltT tp a n) → va_S A0 H0 H0 locs → lv_has ls 6 [(5, .int (nI (a + j))), (4, .int (nI f)), (3, .int (nI w1)), (0, .ref (o + 2)), (1, .int (nI a)), (2, .int (nI (a + n)))] → W p l e (mkRm 4 160) s m args below meth c H0 locs 0 0 QQ (F0 m 36 ls []) := by
        intro fu3
        induction fu3 with
        | zero => intro j f locs ls hfu; exact absurd hfu (Nat.not_lt_zero _)
        | succ fu3 ih3 =>
          intro j f locs ls hfu hjn hf2 hf1 hf0 hS hl
          refine lv_iload hx hb dX2_word_36 (lv_at hl 0 rfl) ?_
          refine lv_iload_n hx hb dX2_word_38 rfl (lv_at hl 5 rfl) ?_
          refine n_icmp_ge (tgt := 83) hx hb dX2_word_39 (by decide) (by omega) (by omega) (fun c39 => ?_) (fun c39 => ?_)
          · refine lv_iload hx hb dX2_word_83 (lv_at hl 1 rfl) ?_
            refine n_if_eq (tgt := 90) hx hb dX2_word_85 (by decide) (by omega) (fun c85 => ?_) (fun c85 => ?_)
            · refine lv_iinc (v := (nI (w1 + 1))) (lv' := [(3, .int (nI (w1 + 1))), (5, .int (nI (a + j))), (4, .int (nI f)), (0, .ref (o + 2)), (1, .int (nI a)), (2, .int (nI (a + n)))]) hx hb dX2_word_90 hl (k := 2) rfl (nI_add _ _) (by decide) rfl (fun ls hl => ?_)
              refine lv_goto (tgt := 2) hx hb dX2_word_93 (by decide) ?_
              have hneq : kyW.getD w1 [] ≠ ltT tp a n := hf0 (by omega)
              exact ih1 (w1 + 1) _ _ (by omega) (by omega) (fun x hx => by rcases Nat.lt_succ_iff_lt_or_eq.mp hx with h | h; exact hno x h; rw [h]; exact hneq) hS (lv_sub hl [0, 3, 4, 5] rfl)
            refine lv_iload_n hx hb dX2_word_88 rfl (lv_at hl 2 rfl) ?_
            refine hend _ _ _ _ _ hS dX2_word_89 ?_
            exact ⟨_, rfl, rfl, (wd_hit (by omega) (lt_ext (by rw [ltT_len]; exact (hf1 (by omega)).1) (fun i hi => by have h9 := hf1 (by omega); rw [ltT_getD (by omega)]; exact h9.2 i (by omega)))).symm⟩
          refine lv_iload hx hb dX2_word_42 (lv_at hl 1 rfl) ?_
          refine n_if_eq (tgt := 83) hx hb dX2_word_44 (by decide) (by omega) (fun c44 => ?_) (fun c44 => ?_)
          · refine lv_iload hx hb dX2_word_83 (lv_at hl 1 rfl) ?_
            refine n_if_eq (tgt := 90) hx hb dX2_word_85 (by decide) (by omega) (fun c85 => ?_) (fun c85 => ?_)
            · refine lv_iinc (v := (nI (w1 + 1))) (lv' := [(3, .int (nI (w1 + 1))), (5, .int (nI (a + j))), (4, .int (nI f)), (0, .ref (o + 2)), (1, .int (nI a)), (2, .int (nI (a + n)))]) hx hb dX2_word_90 hl (k := 2) rfl (nI_add _ _) (by decide) rfl (fun ls hl => ?_)
              refine lv_goto (tgt := 2) hx hb dX2_word_93 (by decide) ?_
              have hneq : kyW.getD w1 [] ≠ ltT tp a n := hf0 (by omega)
              exact ih1 (w1 + 1) _ _ (by omega) (by omega) (fun x hx => by rcases Nat.lt_succ_iff_lt_or_eq.mp hx with h | h; exact hno x h; rw [h]; exact hneq) hS (lv_sub hl [0, 3, 4, 5] rfl)
            exact absurd c85 (by omega)
          have hcl := hlt j (by omega)
          have hcj := getD_lt hlx j
          have hjl : j < (kyW.getD w1 []).length := by have := (hf1 (by omega)).1; omega
          refine lv_aload_n hx hb dX2_word_47 rfl (lv_at hl 3 rfl) ?_
          refine g_get hx hb hts hown hK hG 2 rfl rfl ok_X2 0 (by decide) q257 rfl rfl dX2_word_48 ?_
          refine lv_iload_n hx hb dX2_word_51 rfl (lv_at hl 2 rfl) ?_
          refine xn_aald hx hb hK 5 (hG 3 _ rfl) rfl (i := w1) (by omega) (by decide) hsa dX2_word_52 ?_
          refine lv_iload hx hb dX2_word_53 (lv_at hl 0 rfl) ?_
          refine lv_iload_n hx hb dX2_word_55 rfl (lv_at hl 4 rfl) ?_
          refine lv_isub hx hb dX2_word_56 ?_
          refine iv (y := (nI j)) ((pk_sub (by omega)).trans (congrArg nI (by omega))) ?_
          refine c_VI hx hb hml hts hown hK hl.1 hS ⟨Nat.le_refl _, Nat.le_refl _⟩ (met_J8_charAt l D dA hs hv hll hlx hc (i := j) (by omega) hf) (cw_X2_90 hts ⟨Nat.le_of_ble_eq_true rfl, Nat.le_of_ble_eq_true rfl⟩) hs rfl rfl rfl rfl (Nat.le_of_ble_eq_true rfl) dX2_word_57 (fun _ h => h.elim) (fun r H1 locs hq hF hS => ?_)
          obtain ⟨rfl, rfl⟩ := hq
          refine lv_aload_n hx hb dX2_word_60 rfl (lv_at hl 3 rfl) ?_
          refine g_get hx hb hts hown hK hG 2 rfl rfl ok_X2 1 (by decide) q258 rfl rfl dX2_word_61 ?_
          refine lv_iload hx hb dX2_word_64 (lv_at hl 0 rfl) ?_
          refine n_bald hx hb hK hG 4 rfl (by omega) (by decide) dX2_word_66 ?_
          refine iv (y := (nI (chT tp (a + j)))) ((tp_at htp (by omega)).trans (at_n hby (hlt j (by omega)))) ?_
          refine n_icmp_ne (tgt := 74) hx hb dX2_word_67 (by decide) (by omega) (by omega) (fun c67 => ?_) (fun c67 => ?_)
          · refine lv_iconst (v := (nI 0)) hx hb dX2_word_74 (by decide) ?_
            refine lv_istore (lv' := [(4, .int (nI 0)), (5, .int (nI (a + j))), (3, .int (nI w1)), (0, .ref (o + 2)), (1, .int (nI a)), (2, .int (nI (a + n)))]) hx hb dX2_word_75 hl (by decide) rfl (fun ls hl => ?_)
            refine lv_iinc (v := (nI ((a + j) + 1))) (lv' := [(5, .int (nI ((a + j) + 1))), (4, .int (nI 0)), (3, .int (nI w1)), (0, .ref (o + 2)), (1, .int (nI a)), (2, .int (nI (a + n)))]) hx hb dX2_word_77 hl (k := 1) rfl (nI_add _ _) (by decide) rfl (fun ls hl => ?_)
            refine lv_goto (tgt := 36) hx hb dX2_word_80 (by decide) ?_
            exact ih3 (j + 1) 0 _ _ (by omega) (by omega) (by decide) (fun z => absurd z (by decide)) (fun _ z => by have hz := congrArg (fun q => q.getD j 0) z; rw [ltT_getD (by omega)] at hz; omega) hS (lv_sub hl [0, 1, 2, 3, 4, 5] rfl)
          refine lv_iconst (v := (nI 1)) hx hb dX2_word_70 (by decide) ?_
          refine lv_goto (tgt := 75) hx hb dX2_word_71 (by decide) ?_
          refine lv_istore (lv' := [(4, .int (nI 1)), (5, .int (nI (a + j))), (3, .int (nI w1)), (0, .ref (o + 2)), (1, .int (nI a)), (2, .int (nI (a + n)))]) hx hb dX2_word_75 hl (by decide) rfl (fun ls hl => ?_)
          refine lv_iinc (v := (nI ((a + j) + 1))) (lv' := [(5, .int (nI ((a + j) + 1))), (4, .int (nI 1)), (3, .int (nI w1)), (0, .ref (o + 2)), (1, .int (nI a)), (2, .int (nI (a + n)))]) hx hb dX2_word_77 hl (k := 1) rfl (nI_add _ _) (by decide) rfl (fun ls hl => ?_)
          refine lv_goto (tgt := 36) hx hb dX2_word_80 (by decide) ?_
          exact ih3 (j + 1) 1 _ _ (by omega) (by omega) (by decide) (fun _ => ⟨(hf1 (by omega)).1, fun i hi => by rcases Nat.lt_succ_iff_lt_or_eq.mp hi with h | h; exact (hf1 (by omega)).2 i h; rw [h]; omega⟩) (fun z => absurd z (by decide)) hS (lv_sub hl [0, 1, 2, 3, 4, 5] rfl)
      exact loop3 ((n - 0) + 1) 0 1 _ _ (Nat.lt_succ_self _) (Nat.zero_le _) (by decide) (fun z => ⟨by omega, fun i hi => absurd hi (Nat.not_lt_zero _)⟩) (fun z => absurd z (by decide)) hS (lv_sub hl [0, 1, 2, 3, 4, 5] rfl)
  exact loop1 ((21 - 0) + 1) 0 _ _ (Nat.lt_succ_self _) (by decide) (fun x hx => absurd hx (Nat.not_lt_zero _)) hS (lv_sub hl [0, 1, 2, 3] rfl)
set_option maxHeartbeats 4000000 in
theorem met_X2_sign (l : Launch) (D : va_G) (dA : Nat → ClassId) {o : Nat} {V : GI} {L : GL} {Rf : GR} {H0 : Heap} (hG : gP D dA o dS V L Rf H0) {tp : List Int32} (htp : tpP V tp) (hby : byT tp) (k : Nat) (hk9 : k < 4000) : Ctr l D dA yX2_sign cX2_sign 3 (some .int) (mkRm 1 25) [.ref (o + 2), .int (nI k)] H0 A0 (QI (fun r H1 => H0 = H1 ∧ r = nI (sgI tp k))) := by
  refine ctr_I (by decide) (Nat.le_of_ble_eq_true rfl) ?_
  intro p e s m args below meth c ls QQ locs hx hb hml hown hts hK hend hS hl
  have hl : lv_has ls 3 [(0, .ref (o + 2)), (1, .int (nI k))] := hl
  refine lv_aload_n hx hb dX2_sign_0 rfl (lv_at hl 0 rfl) ?_
  refine lv_iload_n hx hb dX2_sign_1 rfl (lv_at hl 1 rfl) ?_
  refine c_VI hx hb hml hts hown hK hl.1 hS ⟨Nat.le_refl _, Nat.le_refl _⟩ (met_X2_at l D dA hG htp k (by omega)) (cw_X2_80 hts ⟨Nat.le_of_ble_eq_true rfl, Nat.le_of_ble_eq_true rfl⟩) (hG 2 _ rfl) rfl rfl rfl rfl (Nat.le_of_ble_eq_true rfl) dX2_sign_2 (fun _ h => h.elim) (fun r H1 locs hq hF hS => ?_)
  obtain ⟨rfl, rfl⟩ := hq
  refine lv_istore_n (lv' := [(2, .int (atS tp k)), (0, .ref (o + 2)), (1, .int (nI k))]) hx hb dX2_sign_5 rfl hl (by decide) rfl (fun ls hl => ?_)
  refine lv_iload_n hx hb dX2_sign_6 rfl (lv_at hl 0 rfl) ?_
  rcases sg_cases hby k with ⟨hout, hsg⟩ | ⟨y, hy1, hy2, hy3, hy4⟩
  · refine lv_tableOut (tgt := 110) hx hb dX2_sign_7 hout (by decide) ?_
    refine lv_iconst (v := (nI 0)) hx hb dX2_sign_110 (by decide) ?_
    refine hend _ _ _ _ _ hS dX2_sign_111 ?_
    exact ⟨_, rfl, rfl, by rw [hsg]⟩
  obtain rfl | rfl | rfl | rfl | rfl | rfl | rfl | rfl | rfl | rfl | rfl | rfl | rfl | rfl | rfl | rfl | rfl | rfl | rfl | rfl | rfl | rfl := (by omega : y = 40 ∨ y = 41 ∨ y = 42 ∨ y = 43 ∨ y = 44 ∨ y = 45 ∨ y = 46 ∨ y = 47 ∨ y = 48 ∨ y = 49 ∨ y = 50 ∨ y = 51 ∨ y = 52 ∨ y = 53 ∨ y = 54 ∨ y = 55 ∨ y = 56 ∨ y = 57 ∨ y = 58 ∨ y = 59 ∨ y = 60 ∨ y = 61)
  · refine iv (y := nI 40) hy3 ?_
    refine lv_tableIn (tgt := 108) (off := 101) hx hb dX2_sign_7 (by decide) (by decide) rfl (by decide) ?_
    refine lv_iload_n hx hb dX2_sign_108 rfl (lv_at hl 0 rfl) ?_
    refine hend _ _ _ _ _ hS dX2_sign_109 ?_
    exact ⟨_, rfl, rfl, by unfold sgI; rw [hy4]; exact hy3⟩
  · refine iv (y := nI 41) hy3 ?_
    refine lv_tableIn (tgt := 108) (off := 101) hx hb dX2_sign_7 (by decide) (by decide) rfl (by decide) ?_
    refine lv_iload_n hx hb dX2_sign_108 rfl (lv_at hl 0 rfl) ?_
    refine hend _ _ _ _ _ hS dX2_sign_109 ?_
    exact ⟨_, rfl, rfl, by unfold sgI; rw [hy4]; exact hy3⟩
  · refine iv (y := nI 42) hy3 ?_
    refine lv_tableIn (tgt := 108) (off := 101) hx hb dX2_sign_7 (by decide) (by decide) rfl (by decide) ?_
    refine lv_iload_n hx hb dX2_sign_108 rfl (lv_at hl 0 rfl) ?_
    refine hend _ _ _ _ _ hS dX2_sign_109 ?_
    exact ⟨_, rfl, rfl, by unfold sgI; rw [hy4]; exact hy3⟩
  · refine iv (y := nI 43) hy3 ?_
    refine lv_tableIn (tgt := 108) (off := 101) hx hb dX2_sign_7 (by decide) (by decide) rfl (by decide) ?_
    refine lv_iload_n hx hb dX2_sign_108 rfl (lv_at hl 0 rfl) ?_
    refine hend _ _ _ _ _ hS dX2_sign_109 ?_
    exact ⟨_, rfl, rfl, by unfold sgI; rw [hy4]; exact hy3⟩
  · refine iv (y := nI 44) hy3 ?_
    refine lv_tableIn (tgt := 110) (off := 103) hx hb dX2_sign_7 (by decide) (by decide) rfl (by decide) ?_
    refine lv_iconst (v := (nI 0)) hx hb dX2_sign_110 (by decide) ?_
    refine hend _ _ _ _ _ hS dX2_sign_111 ?_
    exact ⟨_, rfl, rfl, by unfold sgI; rw [hy4]; rfl⟩
  · refine iv (y := nI 45) hy3 ?_
    refine lv_tableIn (tgt := 108) (off := 101) hx hb dX2_sign_7 (by decide) (by decide) rfl (by decide) ?_
    refine lv_iload_n hx hb dX2_sign_108 rfl (lv_at hl 0 rfl) ?_
    refine hend _ _ _ _ _ hS dX2_sign_109 ?_
    exact ⟨_, rfl, rfl, by unfold sgI; rw [hy4]; exact hy3⟩
  · refine iv (y := nI 46) hy3 ?_
    refine lv_tableIn (tgt := 110) (off := 103) hx hb dX2_sign_7 (by decide) (by decide) rfl (by decide) ?_
    refine lv_iconst (v := (nI 0)) hx hb dX2_sign_110 (by decide) ?_
    refine hend _ _ _ _ _ hS dX2_sign_111 ?_
    exact ⟨_, rfl, rfl, by unfold sgI; rw [hy4]; rfl⟩
  · refine iv (y := nI 47) hy3 ?_
    refine lv_tableIn (tgt := 108) (off := 101) hx hb dX2_sign_7 (by decide) (by decide) rfl (by decide) ?_
    refine lv_iload_n hx hb dX2_sign_108 rfl (lv_at hl 0 rfl) ?_
    refine hend _ _ _ _ _ hS dX2_sign_109 ?_
    exact ⟨_, rfl, rfl, by unfold sgI; rw [hy4]; exact hy3⟩
  · refine iv (y := nI 48) hy3 ?_
    refine lv_tableIn (tgt := 110) (off := 103) hx hb dX2_sign_7 (by decide) (by decide) rfl (by decide) ?_
    refine lv_iconst (v := (nI 0)) hx hb dX2_sign_110 (by decide) ?_
    refine hend _ _ _ _ _ hS dX2_sign_111 ?_
    exact ⟨_, rfl, rfl, by unfold sgI; rw [hy4]; rfl⟩
  · refine iv (y := nI 49) hy3 ?_
    refine lv_tableIn (tgt := 110) (off := 103) hx hb dX2_sign_7 (by decide) (by decide) rfl (by decide) ?_
    refine lv_iconst (v := (nI 0)) hx hb dX2_sign_110 (by decide) ?_
    refine hend _ _ _ _ _ hS dX2_sign_111 ?_
    exact ⟨_, rfl, rfl, by unfold sgI; rw [hy4]; rfl⟩
  · refine iv (y := nI 50) hy3 ?_
    refine lv_tableIn (tgt := 110) (off := 103) hx hb dX2_sign_7 (by decide) (by decide) rfl (by decide) ?_
    refine lv_iconst (v := (nI 0)) hx hb dX2_sign_110 (by decide) ?_
    refine hend _ _ _ _ _ hS dX2_sign_111 ?_
    exact ⟨_, rfl, rfl, by unfold sgI; rw [hy4]; rfl⟩
  · refine iv (y := nI 51) hy3 ?_
    refine lv_tableIn (tgt := 110) (off := 103) hx hb dX2_sign_7 (by decide) (by decide) rfl (by decide) ?_
    refine lv_iconst (v := (nI 0)) hx hb dX2_sign_110 (by decide) ?_
    refine hend _ _ _ _ _ hS dX2_sign_111 ?_
    exact ⟨_, rfl, rfl, by unfold sgI; rw [hy4]; rfl⟩
  · refine iv (y := nI 52) hy3 ?_
    refine lv_tableIn (tgt := 110) (off := 103) hx hb dX2_sign_7 (by decide) (by decide) rfl (by decide) ?_
    refine lv_iconst (v := (nI 0)) hx hb dX2_sign_110 (by decide) ?_
    refine hend _ _ _ _ _ hS dX2_sign_111 ?_
    exact ⟨_, rfl, rfl, by unfold sgI; rw [hy4]; rfl⟩
  · refine iv (y := nI 53) hy3 ?_
    refine lv_tableIn (tgt := 110) (off := 103) hx hb dX2_sign_7 (by decide) (by decide) rfl (by decide) ?_
    refine lv_iconst (v := (nI 0)) hx hb dX2_sign_110 (by decide) ?_
    refine hend _ _ _ _ _ hS dX2_sign_111 ?_
    exact ⟨_, rfl, rfl, by unfold sgI; rw [hy4]; rfl⟩
  · refine iv (y := nI 54) hy3 ?_
    refine lv_tableIn (tgt := 110) (off := 103) hx hb dX2_sign_7 (by decide) (by decide) rfl (by decide) ?_
    refine lv_iconst (v := (nI 0)) hx hb dX2_sign_110 (by decide) ?_
    refine hend _ _ _ _ _ hS dX2_sign_111 ?_
    exact ⟨_, rfl, rfl, by unfold sgI; rw [hy4]; rfl⟩
  · refine iv (y := nI 55) hy3 ?_
    refine lv_tableIn (tgt := 110) (off := 103) hx hb dX2_sign_7 (by decide) (by decide) rfl (by decide) ?_
    refine lv_iconst (v := (nI 0)) hx hb dX2_sign_110 (by decide) ?_
    refine hend _ _ _ _ _ hS dX2_sign_111 ?_
    exact ⟨_, rfl, rfl, by unfold sgI; rw [hy4]; rfl⟩
  · refine iv (y := nI 56) hy3 ?_
    refine lv_tableIn (tgt := 110) (off := 103) hx hb dX2_sign_7 (by decide) (by decide) rfl (by decide) ?_
    refine lv_iconst (v := (nI 0)) hx hb dX2_sign_110 (by decide) ?_
    refine hend _ _ _ _ _ hS dX2_sign_111 ?_
    exact ⟨_, rfl, rfl, by unfold sgI; rw [hy4]; rfl⟩
  · refine iv (y := nI 57) hy3 ?_
    refine lv_tableIn (tgt := 110) (off := 103) hx hb dX2_sign_7 (by decide) (by decide) rfl (by decide) ?_
    refine lv_iconst (v := (nI 0)) hx hb dX2_sign_110 (by decide) ?_
    refine hend _ _ _ _ _ hS dX2_sign_111 ?_
    exact ⟨_, rfl, rfl, by unfold sgI; rw [hy4]; rfl⟩
  · refine iv (y := nI 58) hy3 ?_
    refine lv_tableIn (tgt := 110) (off := 103) hx hb dX2_sign_7 (by decide) (by decide) rfl (by decide) ?_
    refine lv_iconst (v := (nI 0)) hx hb dX2_sign_110 (by decide) ?_
    refine hend _ _ _ _ _ hS dX2_sign_111 ?_
    exact ⟨_, rfl, rfl, by unfold sgI; rw [hy4]; rfl⟩
  · refine iv (y := nI 59) hy3 ?_
    refine lv_tableIn (tgt := 108) (off := 101) hx hb dX2_sign_7 (by decide) (by decide) rfl (by decide) ?_
    refine lv_iload_n hx hb dX2_sign_108 rfl (lv_at hl 0 rfl) ?_
    refine hend _ _ _ _ _ hS dX2_sign_109 ?_
    exact ⟨_, rfl, rfl, by unfold sgI; rw [hy4]; exact hy3⟩
  · refine iv (y := nI 60) hy3 ?_
    refine lv_tableIn (tgt := 108) (off := 101) hx hb dX2_sign_7 (by decide) (by decide) rfl (by decide) ?_
    refine lv_iload_n hx hb dX2_sign_108 rfl (lv_at hl 0 rfl) ?_
    refine hend _ _ _ _ _ hS dX2_sign_109 ?_
    exact ⟨_, rfl, rfl, by unfold sgI; rw [hy4]; exact hy3⟩
  refine iv (y := nI 61) hy3 ?_
  refine lv_tableIn (tgt := 108) (off := 101) hx hb dX2_sign_7 (by decide) (by decide) rfl (by decide) ?_
  refine lv_iload_n hx hb dX2_sign_108 rfl (lv_at hl 0 rfl) ?_
  refine hend _ _ _ _ _ hS dX2_sign_109 ?_
  exact ⟨_, rfl, rfl, by unfold sgI; rw [hy4]; exact hy3⟩
