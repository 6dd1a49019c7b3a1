theorem xr2 {n x y : Nat} (hx : x < 2 ^ n) (hy : y < 2 ^ n) : x ^^^ y < 2 ^ n := Nat.xor_lt_two_pow hx hy
theorem p2n {b n : Nat} (hb : b < n) : 1 * 2 ^ b < 2 ^ n := by
  rw [Nat.one_mul]
  exact Nat.pow_lt_pow_right (by decide) hb
set_option maxRecDepth 100000 in
theorem bcI : ∀ y : Fin 512, (((((((((nI y.val) - ((((nI y.val).toUInt32 >>> ((nI 1).toUInt32 &&& Int32.toUInt32 31)).toInt32) &&& (nI 1431655765))) &&& (nI 858993459)) + (((((nI y.val) - ((((nI y.val).toUInt32 >>> ((nI 1).toUInt32 &&& Int32.toUInt32 31)).toInt32) &&& (nI 1431655765))).toUInt32 >>> ((nI 2).toUInt32 &&& Int32.toUInt32 31)).toInt32) &&& (nI 858993459))) + ((((((nI y.val) - ((((nI y.val).toUInt32 >>> ((nI 1).toUInt32 &&& Int32.toUInt32 31)).toInt32) &&& (nI 1431655765))) &&& (nI 858993459)) + (((((nI y.val) - ((((nI y.val).toUInt32 >>> ((nI 1).toUInt32 &&& Int32.toUInt32 31)).toInt32) &&& (nI 1431655765))).toUInt32 >>> ((nI 2).toUInt32 &&& Int32.toUInt32 31)).toInt32) &&& (nI 858993459))).toUInt32 >>> ((nI 4).toUInt32 &&& Int32.toUInt32 31)).toInt32)) &&& (nI 252645135)) + ((((((((nI y.val) - ((((nI y.val).toUInt32 >>> ((nI 1).toUInt32 &&& Int32.toUInt32 31)).toInt32) &&& (nI 1431655765))) &&& (nI 858993459)) + (((((nI y.val) - ((((nI y.val).toUInt32 >>> ((nI 1).toUInt32 &&& Int32.toUInt32 31)).toInt32) &&& (nI 1431655765))).toUInt32 >>> ((nI 2).toUInt32 &&& Int32.toUInt32 31)).toInt32) &&& (nI 858993459))) + ((((((nI y.val) - ((((nI y.val).toUInt32 >>> ((nI 1).toUInt32 &&& Int32.toUInt32 31)).toInt32) &&& (nI 1431655765))) &&& (nI 858993459)) + (((((nI y.val) - ((((nI y.val).toUInt32 >>> ((nI 1).toUInt32 &&& Int32.toUInt32 31)).toInt32) &&& (nI 1431655765))).toUInt32 >>> ((nI 2).toUInt32 &&& Int32.toUInt32 31)).toInt32) &&& (nI 858993459))).toUInt32 >>> ((nI 4).toUInt32 &&& Int32.toUInt32 31)).toInt32)) &&& (nI 252645135)).toUInt32 >>> ((nI 8).toUInt32 &&& Int32.toUInt32 31)).toInt32)) + (((((((((nI y.val) - ((((nI y.val).toUInt32 >>> ((nI 1).toUInt32 &&& Int32.toUInt32 31)).toInt32) &&& (nI 1431655765))) &&& (nI 858993459)) + (((((nI y.val) - ((((nI y.val).toUInt32 >>> ((nI 1).toUInt32 &&& Int32.toUInt32 31)).toInt32) &&& (nI 1431655765))).toUInt32 >>> ((nI 2).toUInt32 &&& Int32.toUInt32 31)).toInt32) &&& (nI 858993459))) + ((((((nI y.val) - ((((nI y.val).toUInt32 >>> ((nI 1).toUInt32 &&& Int32.toUInt32 31)).toInt32) &&& (nI 1431655765))) &&& (nI 858993459)) + (((((nI y.val) - ((((nI y.val).toUInt32 >>> ((nI 1).toUInt32 &&& Int32.toUInt32 31)).toInt32) &&& (nI 1431655765))).toUInt32 >>> ((nI 2).toUInt32 &&& Int32.toUInt32 31)).toInt32) &&& (nI 858993459))).toUInt32 >>> ((nI 4).toUInt32 &&& Int32.toUInt32 31)).toInt32)) &&& (nI 252645135)) + ((((((((nI y.val) - ((((nI y.val).toUInt32 >>> ((nI 1).toUInt32 &&& Int32.toUInt32 31)).toInt32) &&& (nI 1431655765))) &&& (nI 858993459)) + (((((nI y.val) - ((((nI y.val).toUInt32 >>> ((nI 1).toUInt32 &&& Int32.toUInt32 31)).toInt32) &&& (nI 1431655765))).toUInt32 >>> ((nI 2).toUInt32 &&& Int32.toUInt32 31)).toInt32) &&& (nI 858993459))) + ((((((nI y.val) - ((((nI y.val).toUInt32 >>> ((nI 1).toUInt32 &&& Int32.toUInt32 31)).toInt32) &&& (nI 1431655765))) &&& (nI 858993459)) + (((((nI y.val) - ((((nI y.val).toUInt32 >>> ((nI 1).toUInt32 &&& Int32.toUInt32 31)).toInt32) &&& (nI 1431655765))).toUInt32 >>> ((nI 2).toUInt32 &&& Int32.toUInt32 31)).toInt32) &&& (nI 858993459))).toUInt32 >>> ((nI 4).toUInt32 &&& Int32.toUInt32 31)).toInt32)) &&& (nI 252645135)).toUInt32 >>> ((nI 8).toUInt32 &&& Int32.toUInt32 31)).toInt32)).toUInt32 >>> ((nI 16).toUInt32 &&& Int32.toUInt32 31)).toInt32)) &&& (nI 63) : Int32) = nI (bc y.val) := by decide +kernel
theorem cw_X0_225 {R : Room} {s : State} {args : Array Value} (hts : ∀ w ∈ lw_all, w.before args s = true) {f w k j : Nat} (hR : f + 1 ≤ R.frames ∧ 8 + (2 + 11) + w ≤ R.locals) : CallW R s args RX0 RX0 225 yX0_isRow cX0_isRow 2 (some .boolean) (ws_ yX0_isRow cX0_isRow 2 (some .boolean)) (mkRmC f w k j) k j 1 := cwV 1 hts (lw_V q1268 q1270 qs37 q108 q1271) rfl rfl rfl (by decide +kernel) hR
theorem cw_X0_215 {R : Room} {s : State} {args : Array Value} (hts : ∀ w ∈ lw_all, w.before args s = true) {f w k j : Nat} (hR : f + 1 ≤ R.frames ∧ 8 + (1 + 11) + w ≤ R.locals) : CallB R s args RX0 215 yX0_isAhead cX0_isAhead 1 (some .boolean) (ws_ yX0_isAhead cX0_isAhead 1 (some .boolean)) (mkRmC f w k j) k j 1 ∧ (Cond.static yX0_isAhead).before args s = true := va_cwS 1 hts (lw_S q1222 q1223 q108 q1224) rfl rfl rfl (by decide +kernel) hR
theorem cw_X0_228 {R : Room} {s : State} {args : Array Value} (hts : ∀ w ∈ lw_all, w.before args s = true) {f w k j : Nat} (hR : f + 1 ≤ R.frames ∧ 8 + (3 + 11) + w ≤ R.locals) : CallW R s args RX0 RX0 228 yX0_rowAfter cX0_rowAfter 3 (some .int) (ws_ yX0_rowAfter cX0_rowAfter 3 (some .int)) (mkRmC f w k j) k j 2 := cwV 2 hts (lw_V q1272 q1274 qs38 q108 q1275) rfl rfl rfl (by decide +kernel) hR
set_option maxHeartbeats 4000000 in
theorem met_X0_after (l : Launch) (D : va_G) (dA : Nat → ClassId) {o : Nat} {V : GI} {L : GL} {Rf : GR} {H0 : Heap} (hG : gP D dA o dS V L Rf H0) {O : Nat → Prop} {tx : Nat} {T : Txt} {f : Rw} (hC : clS D dA H0 O o V Rf tx T f) (hOA : ∀ z, O z → ¬ AS o z) (v1 v2 : Int32) : Ctr l D dA yX0_after cX0_after 3 (some .int) (mkRm 410 9700) [.ref o, .int v1, .int v2] H0 (AS o) (QI (fun r H1 => ∃ V1, gP D dA o dS V1 L Rf H1 ∧ Eqx PQw V V1 ∧ r = afterA T f v1 v2)) := by
  have hC0 := hC
  obtain ⟨hX, htx, hB, hrv, hsd1, hsd2⟩ := hC
  have hX0 := hX
  have hn9 := txA_n hX
  have hp2 := two9 hn9
  have hpp := Nat.two_pow_pos (xN T)
  obtain ⟨fsx, hatx⟩ := txA_at hX
  have hotx := txA_o hX
  refine ctr_I (by decide) (Nat.le_of_ble_eq_true rfl) ?_
  intro p e s m args below meth c ls QQ locs hx hb hml hown hts hK hend hS hl
  have hl : lv_has ls 3 [(0, .ref o), (1, .int v1), (2, .int v2)] := hl
  refine lv_aload_n hx hb dX0_after_0 rfl (lv_at hl 0 rfl) ?_
  refine lv_iload_n hx hb dX0_after_1 rfl (lv_at hl 1 rfl) ?_
  refine c_VI hx hb hml hts hown hK hl.1 hS ⟨Nat.le_refl _, Nat.le_refl _⟩ (met_X0_isRow l D dA hG (txA_S hX0 hS hOA) htx v1) (cw_X0_225 hts ⟨Nat.le_of_ble_eq_true rfl, Nat.le_of_ble_eq_true rfl⟩) (hG 0 _ rfl) rfl rfl rfl rfl (Nat.le_of_ble_eq_true rfl) dX0_after_2 (fun _ h => h.elim) (fun r H1 locs hq hF hS => ?_)
  obtain ⟨rfl, rfl⟩ := hq
  rcases (rowN_cases hn9 v1).symm with ⟨hz2, ho2⟩ | ⟨x1, hlo_x1, hhi_x1, rfl, hz2⟩
  · refine iv (y := nI 0) hz2 ?_
    refine n_if_eq (tgt := 24) hx hb dX0_after_5 (by decide) (by decide) (fun _ => ?_) (fun z => absurd z (by decide))
    refine lv_iconst (v := (-1)) hx hb dX0_after_24 (by decide) ?_
    refine hend _ _ _ _ _ hS dX0_after_25 ?_
    exact ⟨_, rfl, _, hG, Eqx.rf, ((ho2.1 _ _)).symm⟩
  refine iv (y := nI 1) hz2 ?_
  have hl : lv_has ls 3 [(0, .ref o), (1, .int (nI x1)), (2, .int v2)] := hl
  refine n_if_eq (tgt := 24) hx hb dX0_after_5 (by decide) (by decide) (fun z => absurd z (by decide)) (fun _ => ?_)
  refine lv_iload_n hx hb dX0_after_8 rfl (lv_at hl 2 rfl) ?_
  refine c_SI hx hb hml hts hown hK hl.1 hS ⟨Nat.le_refl _, Nat.le_refl _⟩ (met_X0_isAhead l D dA v2) (cw_X0_215 hts ⟨Nat.le_of_ble_eq_true rfl, Nat.le_of_ble_eq_true rfl⟩) rfl rfl (Nat.le_of_ble_eq_true rfl) dX0_after_9 (fun _ h => h.elim) (fun r H1 locs hq hF hS => ?_)
  obtain ⟨rfl, rfl⟩ := hq
  rcases (inZ_cases v2 0 48 (by decide) (by decide)).symm with ⟨hz9, ho9⟩ | ⟨x2, hlo_x2, hhi_x2, rfl, hz9⟩
  · refine iv (y := nI 0) hz9 ?_
    refine n_if_eq (tgt := 24) hx hb dX0_after_12 (by decide) (by decide) (fun _ => ?_) (fun z => absurd z (by decide))
    refine lv_iconst (v := (-1)) hx hb dX0_after_24 (by decide) ?_
    refine hend _ _ _ _ _ hS dX0_after_25 ?_
    exact ⟨_, rfl, _, hG, Eqx.rf, ((rng_in hlo_x1 hhi_x1 (by omega)).trans ((ho9.1 _ _))).symm⟩
  refine iv (y := nI 1) hz9 ?_
  have hl : lv_has ls 3 [(0, .ref o), (1, .int (nI x1)), (2, .int (nI x2))] := hl
  refine n_if_eq (tgt := 24) hx hb dX0_after_12 (by decide) (by decide) (fun z => absurd z (by decide)) (fun _ => ?_)
  refine lv_aload_n hx hb dX0_after_15 rfl (lv_at hl 0 rfl) ?_
  refine lv_iload_n hx hb dX0_after_16 rfl (lv_at hl 1 rfl) ?_
  refine lv_iload_n hx hb dX0_after_17 rfl (lv_at hl 2 rfl) ?_
  refine c_VI hx hb hml hts hown hK hl.1 hS ⟨Nat.le_refl _, Nat.le_refl _⟩ (met_X0_rowAfter l D dA hG (clS_E hC0 hS hOA Eqx.rf) hOA x1 x2 (by omega) (by omega)) (cw_X0_228 hts ⟨Nat.le_of_ble_eq_true rfl, Nat.le_of_ble_eq_true rfl⟩) (hG 0 _ rfl) rfl rfl rfl rfl (Nat.le_of_ble_eq_true rfl) dX0_after_18 (fun _ h => h) (fun r H1 locs hq hF hS => ?_)
  obtain ⟨V1, hG, hE1, hr1⟩ := hq
  generalize hHe1 : H1 = H at hG hS ⊢
  clear hHe1 hF
  subst hr1
  have hra1 := raF_lt T f x1 x2
  refine lv_goto (tgt := 25) hx hb dX0_after_21 (by decide) ?_
  refine hend _ _ _ _ _ hS dX0_after_25 ?_
  exact ⟨_, rfl, _, hG, (hE1.mono PT26_PQw), ((rng_in hlo_x1 hhi_x1 (by omega)).trans ((rng_in hlo_x2 hhi_x2 (by omega)).trans (rfl))).symm⟩
theorem cw_X0_150 {R : Room} {s : State} {args : Array Value} (hts : ∀ w ∈ lw_all, w.before args s = true) {f w k j : Nat} (hR : f + 1 ≤ R.frames ∧ 8 + (2 + 11) + w ≤ R.locals) : CallW R s args RX0 RX0 150 yX0_isBed cX0_isBed 2 (some .boolean) (ws_ yX0_isBed cX0_isBed 2 (some .boolean)) (mkRmC f w k j) k j 1 := cwV 1 hts (lw_V q1106 q1108 qs29 q108 q1109) rfl rfl rfl (by decide +kernel) hR
theorem cw_X0_231 {R : Room} {s : State} {args : Array Value} (hts : ∀ w ∈ lw_all, w.before args s = true) {f w k j : Nat} (hR : f + 1 ≤ R.frames ∧ 8 + (1 + 11) + w ≤ R.locals) : CallB R s args RX0 231 yX0_isPlan cX0_isPlan 1 (some .boolean) (ws_ yX0_isPlan cX0_isPlan 1 (some .boolean)) (mkRmC f w k j) k j 1 ∧ (Cond.static yX0_isPlan).before args s = true := va_cwS 1 hts (lw_S q1280 q1281 q108 q1282) rfl rfl rfl (by decide +kernel) hR
set_option maxHeartbeats 4000000 in
theorem met_X0_spread (l : Launch) (D : va_G) (dA : Nat → ClassId) {o : Nat} {V : GI} {L : GL} {Rf : GR} {H0 : Heap} (hG : gP D dA o dS V L Rf H0) {O : Nat → Prop} {tx : Nat} {T : Txt} {f : Rw} (hC : clS D dA H0 O o V Rf tx T f) (hOA : ∀ z, O z → ¬ AS o z) (v1 v2 : Int32) : Ctr l D dA yX0_spread cX0_spread 3 (some .int) (mkRm 410 9700) [.ref o, .int v1, .int v2] H0 (AS o) (QI (fun r H1 => ∃ V1, gP D dA o dS V1 L Rf H1 ∧ Eqx PQw V V1 ∧ r = spreadA T f v1 v2)) := by
  have hC0 := hC
  obtain ⟨hX, htx, hB, hrv, hsd1, hsd2⟩ := hC
  have hX0 := hX
  have hn9 := txA_n hX
  have hp2 := two9 hn9
  have hpp := Nat.two_pow_pos (xN T)
  obtain ⟨fsx, hatx⟩ := txA_at hX
  have hotx := txA_o hX
  refine ctr_I (by decide) (Nat.le_of_ble_eq_true rfl) ?_
  intro p e s m args below meth c ls QQ locs hx hb hml hown hts hK hend hS hl
  have hl : lv_has ls 3 [(0, .ref o), (1, .int v1), (2, .int v2)] := hl
  refine lv_aload_n hx hb dX0_spread_0 rfl (lv_at hl 0 rfl) ?_
  refine lv_iload_n hx hb dX0_spread_1 rfl (lv_at hl 1 rfl) ?_
  refine c_VI hx hb hml hts hown hK hl.1 hS ⟨Nat.le_refl _, Nat.le_refl _⟩ (met_X0_isBed l D dA hG (txA_S hX0 hS hOA) htx v1) (cw_X0_150 hts ⟨Nat.le_of_ble_eq_true rfl, Nat.le_of_ble_eq_true rfl⟩) (hG 0 _ rfl) rfl rfl rfl rfl (Nat.le_of_ble_eq_true rfl) dX0_spread_2 (fun _ h => h.elim) (fun r H1 locs hq hF hS => ?_)
  obtain ⟨rfl, rfl⟩ := hq
  rcases (bedN_cases hn9 v1).symm with ⟨hz2, ho2⟩ | ⟨x1, hlo_x1, hhi_x1, rfl, hz2⟩
  · refine iv (y := nI 0) hz2 ?_
    refine n_if_eq (tgt := 47) hx hb dX0_spread_5 (by decide) (by decide) (fun _ => ?_) (fun z => absurd z (by decide))
    refine lv_iconst (v := (-1)) hx hb dX0_spread_47 (by decide) ?_
    refine hend _ _ _ _ _ hS dX0_spread_48 ?_
    exact ⟨_, rfl, _, hG, Eqx.rf, ((ho2.1 _ _)).symm⟩
  refine iv (y := nI 1) hz2 ?_
  have hl : lv_has ls 3 [(0, .ref o), (1, .int (nI x1)), (2, .int v2)] := hl
  refine n_if_eq (tgt := 47) hx hb dX0_spread_5 (by decide) (by decide) (fun z => absurd z (by decide)) (fun _ => ?_)
  refine lv_iload_n hx hb dX0_spread_8 rfl (lv_at hl 2 rfl) ?_
  refine c_SI hx hb hml hts hown hK hl.1 hS ⟨Nat.le_refl _, Nat.le_refl _⟩ (met_X0_isPlan l D dA v2) (cw_X0_231 hts ⟨Nat.le_of_ble_eq_true rfl, Nat.le_of_ble_eq_true rfl⟩) rfl rfl (Nat.le_of_ble_eq_true rfl) dX0_spread_9 (fun _ h => h.elim) (fun r H1 locs hq hF hS => ?_)
  obtain ⟨rfl, rfl⟩ := hq
  rcases (inZ_cases v2 0 24 (by decide) (by decide)).symm with ⟨hz9, ho9⟩ | ⟨x2, hlo_x2, hhi_x2, rfl, hz9⟩
  · refine iv (y := nI 0) hz9 ?_
    refine n_if_eq (tgt := 47) hx hb dX0_spread_12 (by decide) (by decide) (fun _ => ?_) (fun z => absurd z (by decide))
    refine lv_iconst (v := (-1)) hx hb dX0_spread_47 (by decide) ?_
    refine hend _ _ _ _ _ hS dX0_spread_48 ?_
    exact ⟨_, rfl, _, hG, Eqx.rf, ((rng_in hlo_x1 hhi_x1 (by omega)).trans ((ho9.1 _ _))).symm⟩
  refine iv (y := nI 1) hz9 ?_
  have hl : lv_has ls 3 [(0, .ref o), (1, .int (nI x1)), (2, .int (nI x2))] := hl
  refine n_if_eq (tgt := 47) hx hb dX0_spread_12 (by decide) (by decide) (fun z => absurd z (by decide)) (fun _ => ?_)
  refine lv_aload_n hx hb dX0_spread_15 rfl (lv_at hl 0 rfl) ?_
  refine lv_aload_n hx hb dX0_spread_16 rfl (lv_at hl 0 rfl) ?_
  refine g_get hx hb hts hown hK hG 0 rfl rfl ok_X0 7 (by decide) q529 rfl rfl dX0_spread_17 ?_
  refine g_get (v := .int (nI (rbF f (xN T)))) hx hb hts hown hK hG 15 rfl rfl ok_X5 4 (by decide) q442 rfl (congrArg Value.int hB.1.1) dX0_spread_20 ?_
  refine lv_iload_n hx hb dX0_spread_23 rfl (lv_at hl 2 rfl) ?_
  refine c_VI hx hb hml hts hown hK hl.1 hS ⟨Nat.le_refl _, Nat.le_refl _⟩ (met_X0_rowAfter l D dA hG (clS_E hC0 hS hOA Eqx.rf) hOA (rbF f (xN T)) x2 (rbF_lt _ _) (by omega)) (cw_X0_228 hts ⟨Nat.le_of_ble_eq_true rfl, Nat.le_of_ble_eq_true rfl⟩) (hG 0 _ rfl) rfl rfl rfl rfl (Nat.le_of_ble_eq_true rfl) dX0_spread_24 (fun _ h => h) (fun r H1 locs hq hF hS => ?_)
  obtain ⟨V1, hG, hE1, hr1⟩ := hq
  generalize hHe1 : H1 = H at hG hS ⊢
  clear hHe1 hF
  subst hr1
  have hra1 := raF_lt T f (rbF f (xN T)) x2
  refine lv_aload_n hx hb dX0_spread_27 rfl (lv_at hl 0 rfl) ?_
  refine lv_aload_n hx hb dX0_spread_28 rfl (lv_at hl 0 rfl) ?_
  refine g_get hx hb hts hown hK hG 0 rfl rfl ok_X0 7 (by decide) q529 rfl rfl dX0_spread_29 ?_
  refine g_get (v := .int (nI (rbF f (xN T)))) hx hb hts hown hK hG 15 rfl rfl ok_X5 4 (by decide) q442 rfl (congrArg Value.int ((hE1 15 4 rfl).trans hB.1.1)) dX0_spread_32 ?_
  refine lv_iconst (v := (nI 1)) hx hb dX0_spread_35 (by decide) ?_
  refine lv_iload_n hx hb dX0_spread_36 rfl (lv_at hl 1 rfl) ?_
  refine n_ishl hx hb dX0_spread_37 (by omega) ?_
  refine n_ixor hx hb dX0_spread_38 ?_
  refine lv_iload_n hx hb dX0_spread_39 rfl (lv_at hl 2 rfl) ?_
  refine c_VI hx hb hml hts hown hK hl.1 hS ⟨Nat.le_refl _, Nat.le_refl _⟩ (met_X0_rowAfter l D dA hG (clS_E hC0 hS hOA (hE1.mono PT26_PQw)) hOA ((rbF f (xN T)) ^^^ (1 * 2 ^ x1)) x2 (xr2 (rbF_lt _ _) (p2n (by omega))) (by omega)) (cw_X0_228 hts ⟨Nat.le_of_ble_eq_true rfl, Nat.le_of_ble_eq_true rfl⟩) (hG 0 _ rfl) rfl rfl rfl rfl (Nat.le_of_ble_eq_true rfl) dX0_spread_40 (fun _ h => h) (fun r H1 locs hq hF hS => ?_)
  obtain ⟨V2, hG, hE2, hr2⟩ := hq
  generalize hHe2 : H1 = H at hG hS ⊢
  clear hHe2 hF
  subst hr2
  have hra2 := raF_lt T f ((rbF f (xN T)) ^^^ (1 * 2 ^ x1)) x2
  refine n_ixor hx hb dX0_spread_43 ?_
  refine lv_goto (tgt := 48) hx hb dX0_spread_44 (by decide) ?_
  refine hend _ _ _ _ _ hS dX0_spread_48 ?_
  exact ⟨_, rfl, _, hG, ((hE1.mono PT26_PQw).trans (hE2.mono PT26_PQw)), ((rng_in hlo_x1 hhi_x1 (by omega)).trans ((rng_in hlo_x2 hhi_x2 (by omega)).trans (rfl))).symm⟩
set_option maxHeartbeats 4000000 in
theorem met_J16_bitCount (l : Launch) (D : va_G) (dA : Nat → ClassId) {H0 : Heap} {x : Nat} (hx5 : x < 512) : Ctr l D dA yJ16_bitCount cJ16_bitCount 1 (some .int) (mkRm 0 0) [.int (nI x)] H0 A0 (QI (fun r H1 => H0 = H1 ∧ r = nI (bc x))) := by
  refine ctr_I (by decide) (Nat.le_of_ble_eq_true rfl) ?_
  intro p e s m args below meth c ls QQ locs hx hb hml hown hts hK hend hS hl
  have hl : lv_has ls 1 [(0, .int (nI x))] := hl
  refine lv_iload_n hx hb dJ16_bitCount_0 rfl (lv_at hl 0 rfl) ?_
  refine lv_iload_n hx hb dJ16_bitCount_1 rfl (lv_at hl 0 rfl) ?_
  refine lv_iconst (v := (nI 1)) hx hb dJ16_bitCount_2 (by decide) ?_
  refine lv_iushr (v := ((nI x).toUInt32 >>> ((nI 1).toUInt32 &&& Int32.toUInt32 31)).toInt32) hx hb dJ16_bitCount_3 rfl ?_
  refine lv_ldcw (v := (nI 1431655765)) hx hb hown (hts _ q1291) dJ16_bitCount_4 ?_
  refine lv_iand hx hb dJ16_bitCount_7 ?_
  refine lv_isub hx hb dJ16_bitCount_8 ?_
  refine lv_istore_n (lv' := [(0, .int ((nI x) - ((((nI x).toUInt32 >>> ((nI 1).toUInt32 &&& Int32.toUInt32 31)).toInt32) &&& (nI 1431655765))))]) hx hb dJ16_bitCount_9 rfl hl (by decide) rfl (fun ls hl => ?_)
  refine lv_iload_n hx hb dJ16_bitCount_10 rfl (lv_at hl 0 rfl) ?_
  refine lv_ldcw (v := (nI 858993459)) hx hb hown (hts _ q1292) dJ16_bitCount_11 ?_
  refine lv_iand hx hb dJ16_bitCount_14 ?_
  refine lv_iload_n hx hb dJ16_bitCount_15 rfl (lv_at hl 0 rfl) ?_
  refine lv_iconst (v := (nI 2)) hx hb dJ16_bitCount_16 (by decide) ?_
  refine lv_iushr (v := (((nI x) - ((((nI x).toUInt32 >>> ((nI 1).toUInt32 &&& Int32.toUInt32 31)).toInt32) &&& (nI 1431655765))).toUInt32 >>> ((nI 2).toUInt32 &&& Int32.toUInt32 31)).toInt32) hx hb dJ16_bitCount_17 rfl ?_
  refine lv_ldcw (v := (nI 858993459)) hx hb hown (hts _ q1292) dJ16_bitCount_18 ?_
  refine lv_iand hx hb dJ16_bitCount_21 ?_
  refine lv_iadd hx hb dJ16_bitCount_22 ?_
  refine lv_istore_n (lv' := [(0, .int ((((nI x) - ((((nI x).toUInt32 >>> ((nI 1).toUInt32 &&& Int32.toUInt32 31)).toInt32) &&& (nI 1431655765))) &&& (nI 858993459)) + (((((nI x) - ((((nI x).toUInt32 >>> ((nI 1).toUInt32 &&& Int32.toUInt32 31)).toInt32) &&& (nI 1431655765))).toUInt32 >>> ((nI 2).toUInt32 &&& Int32.toUInt32 31)).toInt32) &&& (nI 858993459))))]) hx hb dJ16_bitCount_23 rfl hl (by decide) rfl (fun ls hl => ?_)
  refine lv_iload_n hx hb dJ16_bitCount_24 rfl (lv_at hl 0 rfl) ?_
  refine lv_iload_n hx hb dJ16_bitCount_25 rfl (lv_at hl 0 rfl) ?_
  refine lv_iconst (v := (nI 4)) hx hb dJ16_bitCount_26 (by decide) ?_
  refine lv_iushr (v := (((((nI x) - ((((nI x).toUInt32 >>> ((nI 1).toUInt32 &&& Int32.toUInt32 31)).toInt32) &&& (nI 1431655765))) &&& (nI 858993459)) + (((((nI x) - ((((nI x).toUInt32 >>> ((nI 1).toUInt32 &&& Int32.toUInt32 31)).toInt32) &&& (nI 1431655765))).toUInt32 >>> ((nI 2).toUInt32 &&& Int32.toUInt32 31)).toInt32) &&& (nI 858993459))).toUInt32 >>> ((nI 4).toUInt32 &&& Int32.toUInt32 31)).toInt32) hx hb dJ16_bitCount_27 rfl ?_
  refine lv_iadd hx hb dJ16_bitCount_28 ?_
  refine lv_ldcw (v := (nI 252645135)) hx hb hown (hts _ q1293) dJ16_bitCount_29 ?_
  refine lv_iand hx hb dJ16_bitCount_32 ?_
  refine lv_istore_n (lv' := [(0, .int ((((((nI x) - ((((nI x).toUInt32 >>> ((nI 1).toUInt32 &&& Int32.toUInt32 31)).toInt32) &&& (nI 1431655765))) &&& (nI 858993459)) + (((((nI x) - ((((nI x).toUInt32 >>> ((nI 1).toUInt32 &&& Int32.toUInt32 31)).toInt32) &&& (nI 1431655765))).toUInt32 >>> ((nI 2).toUInt32 &&& Int32.toUInt32 31)).toInt32) &&& (nI 858993459))) + ((((((nI x) - ((((nI x).toUInt32 >>> ((nI 1).toUInt32 &&& Int32.toUInt32 31)).toInt32) &&& (nI 1431655765))) &&& (nI 858993459)) + (((((nI x) - ((((nI x).toUInt32 >>> ((nI 1).toUInt32 &&& Int32.toUInt32 31)).toInt32) &&& (nI 1431655765))).toUInt32 >>> ((nI 2).toUInt32 &&& Int32.toUInt32 31)).toInt32) &&& (nI 858993459))).toUInt32 >>> ((nI 4).toUInt32 &&& Int32.toUInt32 31)).toInt32)) &&& (nI 252645135)))]) hx hb dJ16_bitCount_33 rfl hl (by decide) rfl (fun ls hl => ?_)
  refine lv_iload_n hx hb dJ16_bitCount_34 rfl (lv_at hl 0 rfl) ?_
  refine lv_iload_n hx hb dJ16_bitCount_35 rfl (lv_at hl 0 rfl) ?_
  refine lv_bipush (v := (nI 8)) hx hb dJ16_bitCount_36 (by decide) ?_
  refine lv_iushr (v := (((((((nI x) - ((((nI x).toUInt32 >>> ((nI 1).toUInt32 &&& Int32.toUInt32 31)).toInt32) &&& (nI 1431655765))) &&& (nI 858993459)) + (((((nI x) - ((((nI x).toUInt32 >>> ((nI 1).toUInt32 &&& Int32.toUInt32 31)).toInt32) &&& (nI 1431655765))).toUInt32 >>> ((nI 2).toUInt32 &&& Int32.toUInt32 31)).toInt32) &&& (nI 858993459))) + ((((((nI x) - ((((nI x).toUInt32 >>> ((nI 1).toUInt32 &&& Int32.toUInt32 31)).toInt32) &&& (nI 1431655765))) &&& (nI 858993459)) + (((((nI x) - ((((nI x).toUInt32 >>> ((nI 1).toUInt32 &&& Int32.toUInt32 31)).toInt32) &&& (nI 1431655765))).toUInt32 >>> ((nI 2).toUInt32 &&& Int32.toUInt32 31)).toInt32) &&& (nI 858993459))).toUInt32 >>> ((nI 4).toUInt32 &&& Int32.toUInt32 31)).toInt32)) &&& (nI 252645135)).toUInt32 >>> ((nI 8).toUInt32 &&& Int32.toUInt32 31)).toInt32) hx hb dJ16_bitCount_38 rfl ?_
  refine lv_iadd hx hb dJ16_bitCount_39 ?_
  refine lv_istore_n (lv' := [(0, .int (((((((nI x) - ((((nI x).toUInt32 >>> ((nI 1).toUInt32 &&& Int32.toUInt32 31)).toInt32) &&& (nI 1431655765))) &&& (nI 858993459)) + (((((nI x) - ((((nI x).toUInt32 >>> ((nI 1).toUInt32 &&& Int32.toUInt32 31)).toInt32) &&& (nI 1431655765))).toUInt32 >>> ((nI 2).toUInt32 &&& Int32.toUInt32 31)).toInt32) &&& (nI 858993459))) + ((((((nI x) - ((((nI x).toUInt32 >>> ((nI 1).toUInt32 &&& Int32.toUInt32 31)).toInt32) &&& (nI 1431655765))) &&& (nI 858993459)) + (((((nI x) - ((((nI x).toUInt32 >>> ((nI 1).toUInt32 &&& Int32.toUInt32 31)).toInt32) &&& (nI 1431655765))).toUInt32 >>> ((nI 2).toUInt32 &&& Int32.toUInt32 31)).toInt32) &&& (nI 858993459))).toUInt32 >>> ((nI 4).toUInt32 &&& Int32.toUInt32 31)).toInt32)) &&& (nI 252645135)) + ((((((((nI x) - ((((nI x).toUInt32 >>> ((nI 1).toUInt32 &&& Int32.toUInt32 31)).toInt32) &&& (nI 1431655765))) &&& (nI 858993459)) + (((((nI x) - ((((nI x).toUInt32 >>> ((nI 1).toUInt32 &&& Int32.toUInt32 31)).toInt32) &&& (nI 1431655765))).toUInt32 >>> ((nI 2).toUInt32 &&& Int32.toUInt32 31)).toInt32) &&& (nI 858993459))) + ((((((nI x) - ((((nI x).toUInt32 >>> ((nI 1).toUInt32 &&& Int32.toUInt32 31)).toInt32) &&& (nI 1431655765))) &&& (nI 858993459)) + (((((nI x) - ((((nI x).toUInt32 >>> ((nI 1).toUInt32 &&& Int32.toUInt32 31)).toInt32) &&& (nI 1431655765))).toUInt32 >>> ((nI 2).toUInt32 &&& Int32.toUInt32 31)).toInt32) &&& (nI 858993459))).toUInt32 >>> ((nI 4).toUInt32 &&& Int32.toUInt32 31)).toInt32)) &&& (nI 252645135)).toUInt32 >>> ((nI 8).toUInt32 &&& Int32.toUInt32 31)).toInt32)))]) hx hb dJ16_bitCount_40 rfl hl (by decide) rfl (fun ls hl => ?_)
  refine lv_iload_n hx hb dJ16_bitCount_41 rfl (lv_at hl 0 rfl) ?_
  refine lv_iload_n hx hb dJ16_bitCount_42 rfl (lv_at hl 0 rfl) ?_
  refine lv_bipush (v := (nI 16)) hx hb dJ16_bitCount_43 (by decide) ?_
  refine lv_iushr (v := ((((((((nI x) - ((((nI x).toUInt32 >>> ((nI 1).toUInt32 &&& Int32.toUInt32 31)).toInt32) &&& (nI 1431655765))) &&& (nI 858993459)) + (((((nI x) - ((((nI x).toUInt32 >>> ((nI 1).toUInt32 &&& Int32.toUInt32 31)).toInt32) &&& (nI 1431655765))).toUInt32 >>> ((nI 2).toUInt32 &&& Int32.toUInt32 31)).toInt32) &&& (nI 858993459))) + ((((((nI x) - ((((nI x).toUInt32 >>> ((nI 1).toUInt32 &&& Int32.toUInt32 31)).toInt32) &&& (nI 1431655765))) &&& (nI 858993459)) + (((((nI x) - ((((nI x).toUInt32 >>> ((nI 1).toUInt32 &&& Int32.toUInt32 31)).toInt32) &&& (nI 1431655765))).toUInt32 >>> ((nI 2).toUInt32 &&& Int32.toUInt32 31)).toInt32) &&& (nI 858993459))).toUInt32 >>> ((nI 4).toUInt32 &&& Int32.toUInt32 31)).toInt32)) &&& (nI 252645135)) + ((((((((nI x) - ((((nI x).toUInt32 >>> ((nI 1).toUInt32 &&& Int32.toUInt32 31)).toInt32) &&& (nI 1431655765))) &&& (nI 858993459)) + (((((nI x) - ((((nI x).toUInt32 >>> ((nI 1).toUInt32 &&& Int32.toUInt32 31)).toInt32) &&& (nI 1431655765))).toUInt32 >>> ((nI 2).toUInt32 &&& Int32.toUInt32 31)).toInt32) &&& (nI 858993459))) + ((((((nI x) - ((((nI x).toUInt32 >>> ((nI 1).toUInt32 &&& Int32.toUInt32 31)).toInt32) &&& (nI 1431655765))) &&& (nI 858993459)) + (((((nI x) - ((((nI x).toUInt32 >>> ((nI 1).toUInt32 &&& Int32.toUInt32 31)).toInt32) &&& (nI 1431655765))).toUInt32 >>> ((nI 2).toUInt32 &&& Int32.toUInt32 31)).toInt32) &&& (nI 858993459))).toUInt32 >>> ((nI 4).toUInt32 &&& Int32.toUInt32 31)).toInt32)) &&& (nI 252645135)).toUInt32 >>> ((nI 8).toUInt32 &&& Int32.toUInt32 31)).toInt32)).toUInt32 >>> ((nI 16).toUInt32 &&& Int32.toUInt32 31)).toInt32) hx hb dJ16_bitCount_45 rfl ?_
  refine lv_iadd hx hb dJ16_bitCount_46 ?_
  refine lv_istore_n (lv' := [(0, .int ((((((((nI x) - ((((nI x).toUInt32 >>> ((nI 1).toUInt32 &&& Int32.toUInt32 31)).toInt32) &&& (nI 1431655765))) &&& (nI 858993459)) + (((((nI x) - ((((nI x).toUInt32 >>> ((nI 1).toUInt32 &&& Int32.toUInt32 31)).toInt32) &&& (nI 1431655765))).toUInt32 >>> ((nI 2).toUInt32 &&& Int32.toUInt32 31)).toInt32) &&& (nI 858993459))) + ((((((nI x) - ((((nI x).toUInt32 >>> ((nI 1).toUInt32 &&& Int32.toUInt32 31)).toInt32) &&& (nI 1431655765))) &&& (nI 858993459)) + (((((nI x) - ((((nI x).toUInt32 >>> ((nI 1).toUInt32 &&& Int32.toUInt32 31)).toInt32) &&& (nI 1431655765))).toUInt32 >>> ((nI 2).toUInt32 &&& Int32.toUInt32 31)).toInt32) &&& (nI 858993459))).toUInt32 >>> ((nI 4).toUInt32 &&& Int32.toUInt32 31)).toInt32)) &&& (nI 252645135)) + ((((((((nI x) - ((((nI x).toUInt32 >>> ((nI 1).toUInt32 &&& Int32.toUInt32 31)).toInt32) &&& (nI 1431655765))) &&& (nI 858993459)) + (((((nI x) - ((((nI x).toUInt32 >>> ((nI 1).toUInt32 &&& Int32.toUInt32 31)).toInt32) &&& (nI 1431655765))).toUInt32 >>> ((nI 2).toUInt32 &&& Int32.toUInt32 31)).toInt32) &&& (nI 858993459))) + ((((((nI x) - ((((nI x).toUInt32 >>> ((nI 1).toUInt32 &&& Int32.toUInt32 31)).toInt32) &&& (nI 1431655765))) &&& (nI 858993459)) + (((((nI x) - ((((nI x).toUInt32 >>> ((nI 1).toUInt32 &&& Int32.toUInt32 31)).toInt32) &&& (nI 1431655765))).toUInt32 >>> ((nI 2).toUInt32 &&& Int32.toUInt32 31)).toInt32) &&& (nI 858993459))).toUInt32 >>> ((nI 4).toUInt32 &&& Int32.toUInt32 31)).toInt32)) &&& (nI 252645135)).toUInt32 >>> ((nI 8).toUInt32 &&& Int32.toUInt32 31)).toInt32)) + (((((((((nI x) - ((((nI x).toUInt32 >>> ((nI 1).toUInt32 &&& Int32.toUInt32 31)).toInt32) &&& (nI 1431655765))) &&& (nI 858993459)) + (((((nI x) - ((((nI x).toUInt32 >>> ((nI 1).toUInt32 &&& Int32.toUInt32 31)).toInt32) &&& (nI 1431655765))).toUInt32 >>> ((nI 2).toUInt32 &&& Int32.toUInt32 31)).toInt32) &&& (nI 858993459))) + ((((((nI x) - ((((nI x).toUInt32 >>> ((nI 1).toUInt32 &&& Int32.toUInt32 31)).toInt32) &&& (nI 1431655765))) &&& (nI 858993459)) + (((((nI x) - ((((nI x).toUInt32 >>> ((nI 1).toUInt32 &&& Int32.toUInt32 31)).toInt32) &&& (nI 1431655765))).toUInt32 >>> ((nI 2).toUInt32 &&& Int32.toUInt32 31)).toInt32) &&& (nI 858993459))).toUInt32 >>> ((nI 4).toUInt32 &&& Int32.toUInt32 31)).toInt32)) &&& (nI 252645135)) + ((((((((nI x) - ((((nI x).toUInt32 >>> ((nI 1).toUInt32 &&& Int32.toUInt32 31)).toInt32) &&& (nI 1431655765))) &&& (nI 858993459)) + (((((nI x) - ((((nI x).toUInt32 >>> ((nI 1).toUInt32 &&& Int32.toUInt32 31)).toInt32) &&& (nI 1431655765))).toUInt32 >>> ((nI 2).toUInt32 &&& Int32.toUInt32 31)).toInt32) &&& (nI 858993459))) + ((((((nI x) - ((((nI x).toUInt32 >>> ((nI 1).toUInt32 &&& Int32.toUInt32 31)).toInt32) &&& (nI 1431655765))) &&& (nI 858993459)) + (((((nI x) - ((((nI x).toUInt32 >>> ((nI 1).toUInt32 &&& Int32.toUInt32 31)).toInt32) &&& (nI 1431655765))).toUInt32 >>> ((nI 2).toUInt32 &&& Int32.toUInt32 31)).toInt32) &&& (nI 858993459))).toUInt32 >>> ((nI 4).toUInt32 &&& Int32.toUInt32 31)).toInt32)) &&& (nI 252645135)).toUInt32 >>> ((nI 8).toUInt32 &&& Int32.toUInt32 31)).toInt32)).toUInt32 >>> ((nI 16).toUInt32 &&& Int32.toUInt32 31)).toInt32)))]) hx hb dJ16_bitCount_47 rfl hl (by decide) rfl (fun ls hl => ?_)
  refine lv_iload_n hx hb dJ16_bitCount_48 rfl (lv_at hl 0 rfl) ?_
  refine lv_bipush (v := (nI 63)) hx hb dJ16_bitCount_49 (by decide) ?_
  refine lv_iand hx hb dJ16_bitCount_51 ?_
  refine hend _ _ _ _ _ hS dJ16_bitCount_52 ?_
  exact ⟨_, rfl, rfl, bcI ⟨x, hx5⟩⟩
