set_option maxHeartbeats 4000000 in
theorem met_X0_look (l : Launch) (D : va_G) (dA : Nat → ClassId) {o : Nat} {V : GI} {L : GL} {Rf : GR} {H0 : Heap} (hG : gP D dA o dS V L Rf H0) {O : Nat → Prop} {tx : Nat} {T : Txt} {f : Rw} (hC : clS D dA H0 O o V Rf tx T f) (hOA : ∀ z, O z → ¬ AS o z) (tl : List Tl) (htl : tlP V tl) (v1 v2 : Int32) : Ctr l D dA yX0_look cX0_look 8 (some .int) (mkRm 412 9900) [.ref o, .int v1, .int v2] H0 (AS o) (QI (fun r H1 => ∃ V1, gP D dA o dS V1 L Rf H1 ∧ Eqx PQw V V1 ∧ r = lookA T f tl v1 v2)) := by
  have hC0 := hC
  obtain ⟨hX, htx, hB, hrv, hsd1, hsd2⟩ := hC
  have hX0 := hX
  have hn9 := txA_n hX
  have hp2 := two9 hn9
  have hpp := Nat.two_pow_pos (xN T)
  obtain ⟨fsx, hatx⟩ := txA_at hX
  have hotx := txA_o hX
  have ht20 := htl.1
  refine ctr_I (by decide) (Nat.le_of_ble_eq_true rfl) ?_
  intro p e s m args below meth c ls QQ locs hx hb hml hown hts hK hend hS hl
  have hl : lv_has ls 8 [(0, .ref o), (1, .int v1), (2, .int v2)] := hl
  refine lv_iload_n hx hb dX0_look_0 rfl (lv_at hl 1 rfl) ?_
  refine lv_iconst (v := (nI 0)) hx hb dX0_look_1 (by decide) ?_
  refine lv_aload_n hx hb dX0_look_2 rfl (lv_at hl 0 rfl) ?_
  refine g_get (v := .int (nI tl.length)) hx hb hts hown hK hG 0 rfl rfl ok_X0 15 (by decide) q537 rfl (congrArg Value.int htl.2.1) dX0_look_3 ?_
  refine c_SI hx hb hml hts hown hK hl.1 hS ⟨Nat.le_refl _, Nat.le_refl _⟩ (met_X0_isIn l D dA v1 (nI 0) (nI tl.length)) (cw_X0_146 hts ⟨Nat.le_of_ble_eq_true rfl, Nat.le_of_ble_eq_true rfl⟩) rfl rfl (Nat.le_of_ble_eq_true rfl) dX0_look_6 (fun _ h => h.elim) (fun r H1 locs hq hF hS => ?_)
  obtain ⟨rfl, rfl⟩ := hq
  rcases (inZ_cases v1 0 tl.length (by decide) (by omega)).symm with ⟨hz6, ho6⟩ | ⟨x1, hlo_x1, hhi_x1, rfl, hz6⟩
  · refine iv (y := nI 0) hz6 ?_
    refine n_if_eq (tgt := 19) hx hb dX0_look_9 (by decide) (by decide) (fun _ => ?_) (fun z => absurd z (by decide))
    refine lv_iconst (v := (-1)) hx hb dX0_look_19 (by decide) ?_
    refine hend _ _ _ _ _ hS dX0_look_20 ?_
    exact ⟨_, rfl, _, hG, Eqx.rf, ((ho6.1 _ _)).symm⟩
  refine iv (y := nI 1) hz6 ?_
  have hl : lv_has ls 8 [(0, .ref o), (1, .int (nI x1)), (2, .int v2)] := hl
  refine n_if_eq (tgt := 19) hx hb dX0_look_9 (by decide) (by decide) (fun z => absurd z (by decide)) (fun _ => ?_)
  refine lv_iload_n hx hb dX0_look_12 rfl (lv_at hl 2 rfl) ?_
  refine c_SI hx hb hml hts hown hK hl.1 hS ⟨Nat.le_refl _, Nat.le_refl _⟩ (met_X0_isPlan l D dA v2) (cw_X0_231 hts ⟨Nat.le_of_ble_eq_true rfl, Nat.le_of_ble_eq_true rfl⟩) rfl rfl (Nat.le_of_ble_eq_true rfl) dX0_look_13 (fun _ h => h.elim) (fun r H1 locs hq hF hS => ?_)
  obtain ⟨rfl, rfl⟩ := hq
  rcases (inZ_cases v2 0 24 (by decide) (by decide)).symm with ⟨hz13, ho13⟩ | ⟨x2, hlo_x2, hhi_x2, rfl, hz13⟩
  · refine iv (y := nI 0) hz13 ?_
    refine n_if_ne (tgt := 21) hx hb dX0_look_16 (by decide) (by decide) (fun z => absurd z (by decide)) (fun _ => ?_)
    refine lv_iconst (v := (-1)) hx hb dX0_look_19 (by decide) ?_
    refine hend _ _ _ _ _ hS dX0_look_20 ?_
    exact ⟨_, rfl, _, hG, Eqx.rf, ((rng_in hlo_x1 hhi_x1 (by omega)).trans ((ho13.1 _ _))).symm⟩
  refine iv (y := nI 1) hz13 ?_
  have hl : lv_has ls 8 [(0, .ref o), (1, .int (nI x1)), (2, .int (nI x2))] := hl
  refine n_if_ne (tgt := 21) hx hb dX0_look_16 (by decide) (by decide) (fun _ => ?_) (fun z => absurd z (by decide))
  refine lv_aload_n hx hb dX0_look_21 rfl (lv_at hl 0 rfl) ?_
  refine lv_iload_n hx hb dX0_look_22 rfl (lv_at hl 1 rfl) ?_
  refine c_VV hx hb hml hts hown hK hl.1 hS ⟨Nat.le_refl _, Nat.le_refl _⟩ (met_X0_laysLay l D dA hG (clS_E hC0 hS hOA Eqx.rf) hOA tl htl x1 (by omega)) (cw_X0_288 hts ⟨Nat.le_of_ble_eq_true rfl, Nat.le_of_ble_eq_true rfl⟩) (hG 0 _ rfl) rfl rfl rfl rfl (Nat.le_of_ble_eq_true rfl) dX0_look_23 (fun _ h => h) (fun H1 locs hq hF hS => ?_)
  obtain ⟨V1, hG, hE1, h16, h17, h18, h19, hmy⟩ := hq
  generalize hHe1 : H1 = H at hG hS ⊢
  clear hHe1 hF
  have hcl := cnF_le (lyB T f tl x1) (2 ^ xN T)
  refine lv_bipush (v := (-2)) hx hb dX0_look_26 (by decide) ?_
  refine lv_istore_n (lv' := [(3, .int (-2)), (0, .ref o), (1, .int (nI x1)), (2, .int (nI x2))]) hx hb dX0_look_28 rfl hl (by decide) rfl (fun ls hl => ?_)
  refine lv_ldc (v := (nI 1000000)) hx hb hown (hts _ q1283) dX0_look_29 ?_
  refine lv_istore (lv' := [(4, .int (nI 1000000)), (3, .int (-2)), (0, .ref o), (1, .int (nI x1)), (2, .int (nI x2))]) hx hb dX0_look_31 hl (by decide) rfl (fun ls hl => ?_)
  refine lv_iconst (v := (nI 0)) hx hb dX0_look_33 (by decide) ?_
  refine lv_istore (lv' := [(5, .int (nI 0)), (4, .int (nI 1000000)), (3, .int (-2)), (0, .ref o), (1, .int (nI x1)), (2, .int (nI x2))]) hx hb dX0_look_34 hl (by decide) rfl (fun ls hl => ?_)
  have loop2 : ∀ (fu2 : Nat) (b : Nat) (V2 : GI) (H : Heap) (locs : List Loc) (ls : Array Slot), 9 - b < fu2 → (b ≤ 9) → (Eqx PQw V1 V2) → (V2 0 16 = nI (cnF (lyB T f tl x1) (2 ^ xN T))) → (∀ j, j < 2 ^ xN T → V2 80 j = nI (bN (lyB T f tl x1 j))) → (∀ j, j < b → V2 81 j = nI 0) → gP D dA o dS V2 L Rf H → va_S (AS o) H0 H locs → lv_has ls 8 [(5, .int (nI b)), (4, .int (nI 1000000)), (3, .int (-2)), (0, .ref o), (1, .int (nI x1)), (2, .int (nI x2))] → W p l e (mkRm 412 9900) s m args below meth c H locs 0 0 QQ (F0 m 36 ls []) := by
    intro fu2
    induction fu2 with
    | zero => intro b V2 H locs ls hfu; exact absurd hfu (Nat.not_lt_zero _)
    | succ fu2 ih2 =>
      intro b V2 H locs ls hfu hb9 hE2 h16 hmy hlz hG hS hl
      refine lv_iload hx hb dX0_look_36 (lv_at hl 0 rfl) ?_
      refine lv_bipush (v := (nI 9)) hx hb dX0_look_38 (by decide) ?_
      refine n_icmp_ge (tgt := 57) hx hb dX0_look_40 (by decide) (by omega) (by omega) (fun c40 => ?_) (fun c40 => ?_)
      · obtain rfl : b = 9 := by omega
        refine lv_iconst (v := (nI 0)) hx hb dX0_look_57 (by decide) ?_
        refine lv_istore (lv' := [(5, .int (nI 0)), (4, .int (nI 1000000)), (3, .int (-2)), (0, .ref o), (1, .int (nI x1)), (2, .int (nI x2))]) hx hb dX0_look_58 hl (by decide) rfl (fun ls hl => ?_)
        have loop3 : ∀ (fu3 : Nat) (z : Nat) (V3 : GI) (H : Heap) (locs : List Loc) (ls : Array Slot), 2 ^ xN T - z < fu3 → (z ≤ 2 ^ xN T) → (Eqx PQw V2 V3) → (V3 0 16 = nI (cnF (lyB T f tl x1) (2 ^ xN T))) → (∀ j, j < 2 ^ xN T → V3 80 j = nI (bN (lyB T f tl x1 j))) → (∀ j, j < xN T → V3 81 j = nI (lbF (lyB T f tl x1) (fun x => raF T f x x2) j z)) → gP D dA o dS V3 L Rf H → va_S (AS o) H0 H locs → lv_has ls 8 [(5, .int (nI z)), (4, .int (nI 1000000)), (3, .int (-2)), (0, .ref o), (1, .int (nI x1)), (2, .int (nI x2))] → W p l e (mkRm 412 9900) s m args below meth c H locs 0 0 QQ (F0 m 60 ls []) := by
          intro fu3
          induction fu3 with
          | zero => intro z V3 H locs ls hfu; exact absurd hfu (Nat.not_lt_zero _)
          | succ fu3 ih3 =>
            intro z V3 H locs ls hfu hzn hE3 h16 hmy hlb hG hS hl
            have hbl := bN_lt (lyB T f tl x1 z)
            refine lv_iload hx hb dX0_look_60 (lv_at hl 0 rfl) ?_
            refine lv_aload_n hx hb dX0_look_62 rfl (lv_at hl 3 rfl) ?_
            refine c_VI hx hb hml hts hown hK hl.1 hS ⟨Nat.le_refl _, Nat.le_refl _⟩ (met_X0_rows l D dA hG (txA_S hX0 hS hOA) htx) (cw_X0_154 hts ⟨Nat.le_of_ble_eq_true rfl, Nat.le_of_ble_eq_true rfl⟩) (hG 0 _ rfl) rfl rfl rfl rfl (Nat.le_of_ble_eq_true rfl) dX0_look_63 (fun _ h => h.elim) (fun r H1 locs hq hF hS => ?_)
            obtain ⟨rfl, rfl⟩ := hq
            refine n_icmp_ge (tgt := 132) hx hb dX0_look_66 (by decide) (by omega) (by omega) (fun c66 => ?_) (fun c66 => ?_)
            · obtain rfl : z = 2 ^ xN T := by omega
              refine lv_iconst (v := (nI 0)) hx hb dX0_look_132 (by decide) ?_
              refine lv_istore (lv' := [(5, .int (nI 0)), (4, .int (nI 1000000)), (3, .int (-2)), (0, .ref o), (1, .int (nI x1)), (2, .int (nI x2))]) hx hb dX0_look_133 hl (by decide) rfl (fun ls hl => ?_)
              have loop4 : ∀ (fu4 : Nat) (b : Nat) (op : Option (Nat × Nat)) (V4 : GI) (H : Heap) (locs : List Loc) (ls : Array Slot), xN T - b < fu4 → (b ≤ xN T) → (mnF (wkF (cnF (lyB T f tl x1) (2 ^ xN T)) (lkB T f tl x1 x2)) b = op) → (b = 0 ∨ 0 < cnF (lyB T f tl x1) (2 ^ xN T)) → (Eqx PQw V3 V4) → (V4 0 16 = nI (cnF (lyB T f tl x1) (2 ^ xN T))) → (∀ j, j < 2 ^ xN T → V4 80 j = nI (bN (lyB T f tl x1 j))) → (∀ j, j < xN T → V4 81 j = nI (lkB T f tl x1 x2 j)) → gP D dA o dS V4 L Rf H → va_S (AS o) H0 H locs → lv_has ls 8 [(5, .int (nI b)), (4, .int (nI (oF 1000000 op))), (3, .int (oI (-2) op)), (0, .ref o), (1, .int (nI x1)), (2, .int (nI x2))] → W p l e (mkRm 412 9900) s m args below meth c H locs 0 0 QQ (F0 m 135 ls []) := by
                intro fu4
                induction fu4 with
                | zero => intro b op V4 H locs ls hfu; exact absurd hfu (Nat.not_lt_zero _)
                | succ fu4 ih4 =>
                  intro b op V4 H locs ls hfu hbn hp hop hE4 h16 hmy hlb hG hS hl
                  have hlbn : lkB T f tl x1 x2 b ≤ cnF (lyB T f tl x1) (2 ^ xN T) := lbF_le _ _ _ _
                  have hwk := wk_le (c := cnF (lyB T f tl x1) (2 ^ xN T)) (lb := lkB T f tl x1 x2) hlbn
                  refine lv_iload hx hb dX0_look_135 (lv_at hl 0 rfl) ?_
                  refine lv_aload_n hx hb dX0_look_137 rfl (lv_at hl 3 rfl) ?_
                  refine c_VI hx hb hml hts hown hK hl.1 hS ⟨Nat.le_refl _, Nat.le_refl _⟩ (met_X0_beds l D dA hG (txA_S hX0 hS hOA) htx) (cw_X0_145 hts ⟨Nat.le_of_ble_eq_true rfl, Nat.le_of_ble_eq_true rfl⟩) (hG 0 _ rfl) rfl rfl rfl rfl (Nat.le_of_ble_eq_true rfl) dX0_look_138 (fun _ h => h.elim) (fun r H1 locs hq hF hS => ?_)
                  obtain ⟨rfl, rfl⟩ := hq
                  refine n_icmp_ge (tgt := 198) hx hb dX0_look_141 (by decide) (by omega) (by omega) (fun c141 => ?_) (fun c141 => ?_)
                  · obtain rfl : b = xN T := by omega
                    refine lv_iload_n hx hb dX0_look_198 rfl (lv_at hl 2 rfl) ?_
                    refine hend _ _ _ _ _ hS dX0_look_199 ?_
                    exact ⟨_, rfl, _, hG, ((((hE1.mono PMy_PQw).trans hE2).trans hE3).trans hE4), ((rng_in hlo_x1 hhi_x1 (by omega)).trans ((rng_in hlo_x2 hhi_x2 (by omega)).trans ((lk_end hp (by rcases hop with h | h; left; rw [← hp, show xN T = 0 from h]; rfl; right; exact h))))).symm⟩
                  refine lv_aload_n hx hb dX0_look_144 rfl (lv_at hl 3 rfl) ?_
                  refine g_get (v := .int (nI (cnF (lyB T f tl x1) (2 ^ xN T)))) hx hb hts hown hK hG 0 rfl rfl ok_X0 16 (by decide) q538 rfl (congrArg Value.int h16) dX0_look_145 ?_
                  refine n_if_le (tgt := 198) hx hb dX0_look_148 (by decide) (by omega) (fun c148 => ?_) (fun c148 => ?_)
                  · refine lv_iload_n hx hb dX0_look_198 rfl (lv_at hl 2 rfl) ?_
                    refine hend _ _ _ _ _ hS dX0_look_199 ?_
                    exact ⟨_, rfl, _, hG, ((((hE1.mono PMy_PQw).trans hE2).trans hE3).trans hE4), ((rng_in hlo_x1 hhi_x1 (by omega)).trans ((rng_in hlo_x2 hhi_x2 (by omega)).trans (((if_pos (by omega)).trans (by obtain rfl : b = 0 := (by rcases hop with h | h; exact h; omega); rw [← hp]; rfl))))).symm⟩
                  rcases op with _ | ⟨i, v⟩
                  · have hl : lv_has ls 8 [(5, .int (nI b)), (4, .int (nI 1000000)), (3, .int (-2)), (0, .ref o), (1, .int (nI x1)), (2, .int (nI x2))] := hl
                    refine lv_aload_n hx hb dX0_look_151 rfl (lv_at hl 3 rfl) ?_
                    refine g_get hx hb hts hown hK hG 0 rfl rfl ok_X0 25 (by decide) q547 rfl rfl dX0_look_152 ?_
                    refine lv_iload hx hb dX0_look_155 (lv_at hl 0 rfl) ?_
                    refine n_iald hx hb hK hG 81 rfl (by omega) (by decide) dX0_look_157 ?_
                    refine iv (y := (nI (lkB T f tl x1 x2 b))) (hlb b (by omega)) ?_
                    refine lv_aload_n hx hb dX0_look_158 rfl (lv_at hl 3 rfl) ?_
                    refine g_get (v := .int (nI (cnF (lyB T f tl x1) (2 ^ xN T)))) hx hb hts hown hK hG 0 rfl rfl ok_X0 16 (by decide) q538 rfl (congrArg Value.int h16) dX0_look_159 ?_
                    refine lv_aload_n hx hb dX0_look_162 rfl (lv_at hl 3 rfl) ?_
                    refine g_get hx hb hts hown hK hG 0 rfl rfl ok_X0 25 (by decide) q547 rfl rfl dX0_look_163 ?_
                    refine lv_iload hx hb dX0_look_166 (lv_at hl 0 rfl) ?_
                    refine n_iald hx hb hK hG 81 rfl (by omega) (by decide) dX0_look_168 ?_
                    refine iv (y := (nI (lkB T f tl x1 x2 b))) (hlb b (by omega)) ?_
                    refine n_isub hx hb dX0_look_169 (by omega) ?_
                    refine va_mmax hx hb (hml.trans hl.1.symm) hown (hts _ q1259) (hts _ q890) (hts _ q142) (hts _ q891) (Nat.le_of_ble_eq_true rfl) (Nat.le_of_ble_eq_true rfl) (Nat.le_refl _) (Nat.le_refl _) dX0_look_170 ?_
                    refine iv (y := nI (wkF (cnF (lyB T f tl x1) (2 ^ xN T)) (lkB T f tl x1 x2) b)) ((mx_n (by omega) (by omega)).trans (congrArg nI (wk_max rfl))) ?_
                    refine lv_istore (lv' := [(6, .int (nI (wkF (cnF (lyB T f tl x1) (2 ^ xN T)) (lkB T f tl x1 x2) b))), (5, .int (nI b)), (4, .int (nI 1000000)), (3, .int (-2)), (0, .ref o), (1, .int (nI x1)), (2, .int (nI x2))]) hx hb dX0_look_173 hl (by decide) rfl (fun ls hl => ?_)
                    refine lv_iload hx hb dX0_look_175 (lv_at hl 0 rfl) ?_
                    refine lv_iload hx hb dX0_look_177 (lv_at hl 2 rfl) ?_
                    refine n_icmp_lt (tgt := 185) hx hb dX0_look_179 (by decide) (by omega) (by omega) (fun c179 => ?_) (fun c179 => ?_)
                    · refine lv_iload hx hb dX0_look_185 (lv_at hl 1 rfl) ?_
                      refine lv_istore_n (lv' := [(3, .int (nI b)), (6, .int (nI (wkF (cnF (lyB T f tl x1) (2 ^ xN T)) (lkB T f tl x1 x2) b))), (5, .int (nI b)), (4, .int (nI 1000000)), (0, .ref o), (1, .int (nI x1)), (2, .int (nI x2))]) hx hb dX0_look_187 rfl hl (by decide) rfl (fun ls hl => ?_)
                      refine lv_iload hx hb dX0_look_188 (lv_at hl 1 rfl) ?_
                      refine lv_istore (lv' := [(4, .int (nI (wkF (cnF (lyB T f tl x1) (2 ^ xN T)) (lkB T f tl x1 x2) b))), (3, .int (nI b)), (6, .int (nI (wkF (cnF (lyB T f tl x1) (2 ^ xN T)) (lkB T f tl x1 x2) b))), (5, .int (nI b)), (0, .ref o), (1, .int (nI x1)), (2, .int (nI x2))]) hx hb dX0_look_190 hl (by decide) rfl (fun ls hl => ?_)
                      refine lv_iinc (v := (nI (b + 1))) (lv' := [(5, .int (nI (b + 1))), (4, .int (nI (wkF (cnF (lyB T f tl x1) (2 ^ xN T)) (lkB T f tl x1 x2) b))), (3, .int (nI b)), (6, .int (nI (wkF (cnF (lyB T f tl x1) (2 ^ xN T)) (lkB T f tl x1 x2) b))), (0, .ref o), (1, .int (nI x1)), (2, .int (nI x2))]) hx hb dX0_look_192 hl (k := 3) rfl (nI_add _ _) (by decide) rfl (fun ls hl => ?_)
                      refine lv_goto (tgt := 135) hx hb dX0_look_195 (by decide) ?_
                      exact ih4 (b + 1) (some (b, wkF (cnF (lyB T f tl x1) (2 ^ xN T)) (lkB T f tl x1 x2) b)) V4 _ _ _ (by omega) (by omega) (mnF_n hp) (Or.inr (by omega)) hE4 h16 hmy hlb hG hS (lv_sub hl [0, 1, 2, 4, 5, 6] rfl)
                    exact absurd c179 (by omega)
                  have hl : lv_has ls 8 [(5, .int (nI b)), (4, .int (nI v)), (3, .int (nI i)), (0, .ref o), (1, .int (nI x1)), (2, .int (nI x2))] := hl
                  have hv9 : v ≤ cnF (lyB T f tl x1) (2 ^ xN T) := by
                    have e := mnF_lt hp
                    rw [e.2]; exact wk_le (lbF_le _ _ _ _)
                  have hi9 := (mnF_lt hp).1
                  refine lv_aload_n hx hb dX0_look_151 rfl (lv_at hl 3 rfl) ?_
                  refine g_get hx hb hts hown hK hG 0 rfl rfl ok_X0 25 (by decide) q547 rfl rfl dX0_look_152 ?_
                  refine lv_iload hx hb dX0_look_155 (lv_at hl 0 rfl) ?_
                  refine n_iald hx hb hK hG 81 rfl (by omega) (by decide) dX0_look_157 ?_
                  refine iv (y := (nI (lkB T f tl x1 x2 b))) (hlb b (by omega)) ?_
                  refine lv_aload_n hx hb dX0_look_158 rfl (lv_at hl 3 rfl) ?_
                  refine g_get (v := .int (nI (cnF (lyB T f tl x1) (2 ^ xN T)))) hx hb hts hown hK hG 0 rfl rfl ok_X0 16 (by decide) q538 rfl (congrArg Value.int h16) dX0_look_159 ?_
                  refine lv_aload_n hx hb dX0_look_162 rfl (lv_at hl 3 rfl) ?_
                  refine g_get hx hb hts hown hK hG 0 rfl rfl ok_X0 25 (by decide) q547 rfl rfl dX0_look_163 ?_
                  refine lv_iload hx hb dX0_look_166 (lv_at hl 0 rfl) ?_
                  refine n_iald hx hb hK hG 81 rfl (by omega) (by decide) dX0_look_168 ?_
                  refine iv (y := (nI (lkB T f tl x1 x2 b))) (hlb b (by omega)) ?_
                  refine n_isub hx hb dX0_look_169 (by omega) ?_
                  refine va_mmax hx hb (hml.trans hl.1.symm) hown (hts _ q1259) (hts _ q890) (hts _ q142) (hts _ q891) (Nat.le_of_ble_eq_true rfl) (Nat.le_of_ble_eq_true rfl) (Nat.le_refl _) (Nat.le_refl _) dX0_look_170 ?_
                  refine iv (y := nI (wkF (cnF (lyB T f tl x1) (2 ^ xN T)) (lkB T f tl x1 x2) b)) ((mx_n (by omega) (by omega)).trans (congrArg nI (wk_max rfl))) ?_
                  refine lv_istore (lv' := [(6, .int (nI (wkF (cnF (lyB T f tl x1) (2 ^ xN T)) (lkB T f tl x1 x2) b))), (5, .int (nI b)), (4, .int (nI v)), (3, .int (nI i)), (0, .ref o), (1, .int (nI x1)), (2, .int (nI x2))]) hx hb dX0_look_173 hl (by decide) rfl (fun ls hl => ?_)
                  refine lv_iload hx hb dX0_look_175 (lv_at hl 0 rfl) ?_
                  refine lv_iload hx hb dX0_look_177 (lv_at hl 2 rfl) ?_
                  refine n_icmp_lt (tgt := 185) hx hb dX0_look_179 (by decide) (by omega) (by omega) (fun c179 => ?_) (fun c179 => ?_)
                  · refine lv_iload hx hb dX0_look_185 (lv_at hl 1 rfl) ?_
                    refine lv_istore_n (lv' := [(3, .int (nI b)), (6, .int (nI (wkF (cnF (lyB T f tl x1) (2 ^ xN T)) (lkB T f tl x1 x2) b))), (5, .int (nI b)), (4, .int (nI v)), (0, .ref o), (1, .int (nI x1)), (2, .int (nI x2))]) hx hb dX0_look_187 rfl hl (by decide) rfl (fun ls hl => ?_)
                    refine lv_iload hx hb dX0_look_188 (lv_at hl 1 rfl) ?_
                    refine lv_istore (lv' := [(4, .int (nI (wkF (cnF (lyB T f tl x1) (2 ^ xN T)) (lkB T f tl x1 x2) b))), (3, .int (nI b)), (6, .int (nI (wkF (cnF (lyB T f tl x1) (2 ^ xN T)) (lkB T f tl x1 x2) b))), (5, .int (nI b)), (0, .ref o), (1, .int (nI x1)), (2, .int (nI x2))]) hx hb dX0_look_190 hl (by decide) rfl (fun ls hl => ?_)
                    refine lv_iinc (v := (nI (b + 1))) (lv' := [(5, .int (nI (b + 1))), (4, .int (nI (wkF (cnF (lyB T f tl x1) (2 ^ xN T)) (lkB T f tl x1 x2) b))), (3, .int (nI b)), (6, .int (nI (wkF (cnF (lyB T f tl x1) (2 ^ xN T)) (lkB T f tl x1 x2) b))), (0, .ref o), (1, .int (nI x1)), (2, .int (nI x2))]) hx hb dX0_look_192 hl (k := 3) rfl (nI_add _ _) (by decide) rfl (fun ls hl => ?_)
                    refine lv_goto (tgt := 135) hx hb dX0_look_195 (by decide) ?_
                    exact ih4 (b + 1) (some (b, wkF (cnF (lyB T f tl x1) (2 ^ xN T)) (lkB T f tl x1 x2) b)) V4 _ _ _ (by omega) (by omega) (mnF_t hp c179) (Or.inr (by omega)) hE4 h16 hmy hlb hG hS (lv_sub hl [0, 1, 2, 4, 5, 6] rfl)
                  refine lv_goto (tgt := 192) hx hb dX0_look_182 (by decide) ?_
                  refine lv_iinc (v := (nI (b + 1))) (lv' := [(5, .int (nI (b + 1))), (6, .int (nI (wkF (cnF (lyB T f tl x1) (2 ^ xN T)) (lkB T f tl x1 x2) b))), (4, .int (nI v)), (3, .int (nI i)), (0, .ref o), (1, .int (nI x1)), (2, .int (nI x2))]) hx hb dX0_look_192 hl (k := 1) rfl (nI_add _ _) (by decide) rfl (fun ls hl => ?_)
                  refine lv_goto (tgt := 135) hx hb dX0_look_195 (by decide) ?_
                  exact ih4 (b + 1) (some (i, v)) V4 _ _ _ (by omega) (by omega) (mnF_f hp (by omega)) (Or.inr (by omega)) hE4 h16 hmy hlb hG hS (lv_sub hl [0, 2, 3, 4, 5, 6] rfl)
              exact loop4 ((xN T - 0) + 1) 0 none V3 _ _ _ (Nat.lt_succ_self _) (Nat.zero_le _) rfl (Or.inl rfl) Eqx.rf h16 hmy hlb hG hS (lv_sub hl [0, 1, 2, 3, 4, 5] rfl)
            refine lv_aload_n hx hb dX0_look_69 rfl (lv_at hl 3 rfl) ?_
            refine g_get hx hb hts hown hK hG 0 rfl rfl ok_X0 24 (by decide) q546 rfl rfl dX0_look_70 ?_
            refine lv_iload hx hb dX0_look_73 (lv_at hl 0 rfl) ?_
            refine n_zald hx hb hK hG 80 rfl (by omega) (by decide) dX0_look_75 ?_
            refine iv (y := (nI (bN (lyB T f tl x1 z)))) (hmy z (by omega)) ?_
            refine n_if_ne (tgt := 82) hx hb dX0_look_76 (by decide) (by omega) (fun c76 => ?_) (fun c76 => ?_)
            · have hPz : lyB T f tl x1 z = true := bN1 (by omega)
              refine lv_aload_n hx hb dX0_look_82 rfl (lv_at hl 3 rfl) ?_
              refine lv_iload hx hb dX0_look_83 (lv_at hl 0 rfl) ?_
              refine lv_iload_n hx hb dX0_look_85 rfl (lv_at hl 5 rfl) ?_
              refine c_VI hx hb hml hts hown hK hl.1 hS ⟨Nat.le_refl _, Nat.le_refl _⟩ (met_X0_rowAfter l D dA hG (clS_E hC0 hS hOA (((hE1.mono PMy_PQw).trans hE2).trans hE3)) hOA z x2 (by omega) (by omega)) (cw_X0_228 hts ⟨Nat.le_of_ble_eq_true rfl, Nat.le_of_ble_eq_true rfl⟩) (hG 0 _ rfl) rfl rfl rfl rfl (Nat.le_of_ble_eq_true rfl) dX0_look_86 (fun _ h => h) (fun r H1 locs hq hF hS => ?_)
              obtain ⟨V5, hG, hE5, hr5⟩ := hq
              generalize hHe5 : H1 = H at hG hS ⊢
              clear hHe5 hF
              subst hr5
              have hra5 := raF_lt T f z x2
              refine lv_istore (lv' := [(6, .int (nI (raF T f z x2))), (5, .int (nI z)), (4, .int (nI 1000000)), (3, .int (-2)), (0, .ref o), (1, .int (nI x1)), (2, .int (nI x2))]) hx hb dX0_look_89 hl (by decide) rfl (fun ls hl => ?_)
              refine lv_iconst (v := (nI 0)) hx hb dX0_look_91 (by decide) ?_
              refine lv_istore (lv' := [(7, .int (nI 0)), (6, .int (nI (raF T f z x2))), (5, .int (nI z)), (4, .int (nI 1000000)), (3, .int (-2)), (0, .ref o), (1, .int (nI x1)), (2, .int (nI x2))]) hx hb dX0_look_92 hl (by decide) rfl (fun ls hl => ?_)
              have loop6 : ∀ (fu6 : Nat) (b : Nat) (V6 : GI) (H : Heap) (locs : List Loc) (ls : Array Slot), xN T - b < fu6 → (b ≤ xN T) → (Eqx PQw V5 V6) → (V6 0 16 = nI (cnF (lyB T f tl x1) (2 ^ xN T))) → (∀ j, j < 2 ^ xN T → V6 80 j = nI (bN (lyB T f tl x1 j))) → (∀ j, j < xN T → V6 81 j = nI (if j < b then lbF (lyB T f tl x1) (fun x => raF T f x x2) j z + raF T f z x2 / 2 ^ j % 2 else lbF (lyB T f tl x1) (fun x => raF T f x x2) j z)) → gP D dA o dS V6 L Rf H → va_S (AS o) H0 H locs → lv_has ls 8 [(7, .int (nI b)), (6, .int (nI (raF T f z x2))), (5, .int (nI z)), (4, .int (nI 1000000)), (3, .int (-2)), (0, .ref o), (1, .int (nI x1)), (2, .int (nI x2))] → W p l e (mkRm 412 9900) s m args below meth c H locs 0 0 QQ (F0 m 94 ls []) := by
                intro fu6
                induction fu6 with
                | zero => intro b V6 H locs ls hfu; exact absurd hfu (Nat.not_lt_zero _)
                | succ fu6 ih6 =>
                  intro b V6 H locs ls hfu hbn hE6 h16 hmy hlc hG hS hl
                  have hlbz := lbF_le (lyB T f tl x1) (fun x => raF T f x x2) b z
                  have hcz := cnF_le (lyB T f tl x1) z
                  refine lv_iload hx hb dX0_look_94 (lv_at hl 0 rfl) ?_
                  refine lv_aload_n hx hb dX0_look_96 rfl (lv_at hl 5 rfl) ?_
                  refine c_VI hx hb hml hts hown hK hl.1 hS ⟨Nat.le_refl _, Nat.le_refl _⟩ (met_X0_beds l D dA hG (txA_S hX0 hS hOA) htx) (cw_X0_145 hts ⟨Nat.le_of_ble_eq_true rfl, Nat.le_of_ble_eq_true rfl⟩) (hG 0 _ rfl) rfl rfl rfl rfl (Nat.le_of_ble_eq_true rfl) dX0_look_97 (fun _ h => h.elim) (fun r H1 locs hq hF hS => ?_)
                  obtain ⟨rfl, rfl⟩ := hq
                  refine n_icmp_ge (tgt := 126) hx hb dX0_look_100 (by decide) (by omega) (by omega) (fun c100 => ?_) (fun c100 => ?_)
                  · refine lv_iinc (v := (nI (z + 1))) (lv' := [(5, .int (nI (z + 1))), (7, .int (nI b)), (6, .int (nI (raF T f z x2))), (4, .int (nI 1000000)), (3, .int (-2)), (0, .ref o), (1, .int (nI x1)), (2, .int (nI x2))]) hx hb dX0_look_126 hl (k := 2) rfl (nI_add _ _) (by decide) rfl (fun ls hl => ?_)
                    refine lv_goto (tgt := 60) hx hb dX0_look_129 (by decide) ?_
                    exact ih3 (z + 1) V6 _ _ _ (by omega) (by omega) (Eqx.trans (Eqx.trans hE3 (hE5.mono PT26_PQw)) hE6) h16 hmy (fun j hj => (hlc j hj).trans (by obtain rfl : b = xN T := (by omega); rw [if_pos hj, lb_t hPz])) hG hS (lv_sub hl [0, 3, 4, 5, 6, 7] rfl)
                  refine lv_aload_n hx hb dX0_look_103 rfl (lv_at hl 5 rfl) ?_
                  refine g_get hx hb hts hown hK hG 0 rfl rfl ok_X0 25 (by decide) q547 rfl rfl dX0_look_104 ?_
                  refine lv_iload hx hb dX0_look_107 (lv_at hl 0 rfl) ?_
                  refine lv_dup2_11 hx hb dX0_look_109 rfl rfl ?_
                  refine n_iald hx hb hK hG 81 rfl (by omega) (by decide) dX0_look_110 ?_
                  refine iv (y := (nI (lbF (lyB T f tl x1) (fun x => raF T f x x2) b z))) ((hlc b (by omega)).trans (by rw [if_neg (Nat.lt_irrefl _)])) ?_
                  refine lv_iload hx hb dX0_look_111 (lv_at hl 1 rfl) ?_
                  refine lv_iload hx hb dX0_look_113 (lv_at hl 0 rfl) ?_
                  refine n_ishr hx hb dX0_look_115 (by omega) (by omega) ?_
                  refine lv_iconst (v := (nI 1)) hx hb dX0_look_116 (by decide) ?_
                  refine n_and1 hx hb dX0_look_117 ?_
                  refine n_iadd hx hb dX0_look_118 ?_
                  refine n_iast hx hb hK hG hS 81 (AS_in 81 (by decide)) rfl (by omega) (by decide) dX0_look_119 (fun H locs hG hO hS => ?_)
                  refine lv_iinc (v := (nI (b + 1))) (lv' := [(7, .int (nI (b + 1))), (6, .int (nI (raF T f z x2))), (5, .int (nI z)), (4, .int (nI 1000000)), (3, .int (-2)), (0, .ref o), (1, .int (nI x1)), (2, .int (nI x2))]) hx hb dX0_look_120 hl (k := 0) rfl (nI_add _ _) (by decide) rfl (fun ls hl => ?_)
                  refine lv_goto (tgt := 94) hx hb dX0_look_123 (by decide) ?_
                  exact ih6 (b + 1) (up2 V6 81 b (nI ((lbF (lyB T f tl x1) (fun x => raF T f x x2) b z) + (((raF T f z x2) / 2 ^ b) % 2)))) _ _ _ (by omega) (by omega) (Eqx.up hE6 rfl) h16 hmy (fun j hj => by
                                      by_cases e : j = b
                                      · subst e; rw [if_pos (by omega)]; exact up2_s
                                      · rw [show (if j < b + 1 then lbF (lyB T f tl x1) (fun x => raF T f x x2) j z + raF T f z x2 / 2 ^ j % 2 else lbF (lyB T f tl x1) (fun x => raF T f x x2) j z) = (if j < b then lbF (lyB T f tl x1) (fun x => raF T f x x2) j z + raF T f z x2 / 2 ^ j % 2 else lbF (lyB T f tl x1) (fun x => raF T f x x2) j z) by split <;> split <;> omega]
                                        exact (up2_n (fun h => e h.2)).trans (hlc j hj)) hG hS (lv_sub hl [0, 1, 2, 3, 4, 5, 6, 7] rfl)
              exact loop6 ((xN T - 0) + 1) 0 V5 _ _ _ (Nat.lt_succ_self _) (Nat.zero_le _) Eqx.rf ((hE5 0 16 rfl).trans h16) (fun j hj => ((hE5 80 j rfl).trans (hmy j hj))) (fun j hj => (hE5 81 j rfl).trans (hlb j hj)) hG hS (lv_sub hl [0, 1, 2, 3, 4, 5, 6, 7] rfl)
            have hPz : ¬ lyB T f tl x1 z = true := bN0 (by omega)
            refine lv_goto (tgt := 126) hx hb dX0_look_79 (by decide) ?_
            refine lv_iinc (v := (nI (z + 1))) (lv' := [(5, .int (nI (z + 1))), (4, .int (nI 1000000)), (3, .int (-2)), (0, .ref o), (1, .int (nI x1)), (2, .int (nI x2))]) hx hb dX0_look_126 hl (k := 0) rfl (nI_add _ _) (by decide) rfl (fun ls hl => ?_)
            refine lv_goto (tgt := 60) hx hb dX0_look_129 (by decide) ?_
            exact ih3 (z + 1) V3 _ _ _ (by omega) (by omega) hE3 h16 hmy (fun j hj => (hlb j hj).trans (by rw [lb_f hPz])) hG hS (lv_sub hl [0, 1, 2, 3, 4, 5] rfl)
        exact loop3 ((2 ^ xN T - 0) + 1) 0 V2 _ _ _ (Nat.lt_succ_self _) (Nat.zero_le _) Eqx.rf h16 hmy (fun j hj => hlz j (by omega)) hG hS (lv_sub hl [0, 1, 2, 3, 4, 5] rfl)
      refine lv_aload_n hx hb dX0_look_43 rfl (lv_at hl 3 rfl) ?_
      refine g_get hx hb hts hown hK hG 0 rfl rfl ok_X0 25 (by decide) q547 rfl rfl dX0_look_44 ?_
      refine lv_iload hx hb dX0_look_47 (lv_at hl 0 rfl) ?_
      refine lv_iconst (v := (nI 0)) hx hb dX0_look_49 (by decide) ?_
      refine n_iast hx hb hK hG hS 81 (AS_in 81 (by decide)) rfl (by omega) (by decide) dX0_look_50 (fun H locs hG hO hS => ?_)
      refine lv_iinc (v := (nI (b + 1))) (lv' := [(5, .int (nI (b + 1))), (4, .int (nI 1000000)), (3, .int (-2)), (0, .ref o), (1, .int (nI x1)), (2, .int (nI x2))]) hx hb dX0_look_51 hl (k := 0) rfl (nI_add _ _) (by decide) rfl (fun ls hl => ?_)
      refine lv_goto (tgt := 36) hx hb dX0_look_54 (by decide) ?_
      exact ih2 (b + 1) (up2 V2 81 b (nI 0)) _ _ _ (by omega) (by omega) (Eqx.up hE2 rfl) h16 hmy (fun j hj => by
              by_cases e : j = b
              · subst e; exact up2_s
              · exact (up2_n (fun h => e h.2)).trans (hlz j (by omega))) hG hS (lv_sub hl [0, 1, 2, 3, 4, 5] rfl)
  exact loop2 ((9 - 0) + 1) 0 V1 _ _ _ (Nat.lt_succ_self _) (by decide) Eqx.rf h16 hmy (fun j hj => absurd hj (Nat.not_lt_zero _)) hG hS (lv_sub hl [0, 1, 2, 3, 4, 5] rfl)
