set_option maxHeartbeats 4000000 in
theorem met_X13_sleeper (l : Launch) (D : va_G) (dA : Nat → ClassId) {o : Nat} {V : GI} {L : GL} {Rf : GR} {H0 : Heap} (hG : gP D dA o dM V L Rf H0) {lv : Nat} {t : Txt} (hX : txM V lv t) (hrv : RV (xN t) (V 30)) (v1 v2 : Int32) : Ctr l D dA yX13_sleeper cX13_sleeper 3 (some .int) (mkRm 5 106) [.ref o, .int v1, .int v2] H0 (AM o) (QI (fun r H1 => ∃ V1, gP D dA o dM V1 L Rf H1 ∧ Eqx PW V V1 ∧ r = sleeperA t (V 30) v1 v2)) := by
  have hT := hX.1
  have hT1 := hT.1
  have hT2 := hT.2.1
  have hp2 := two9 hT2
  have hpp := Nat.two_pow_pos (xN t)
  refine ctr_I (by decide) (Nat.le_of_ble_eq_true rfl) ?_
  intro p e s m args below meth c ls QQ locs hx hb hml hown hts hK hend hS hl
  have hl : lv_has ls 3 [(0, .ref o), (1, .int v1), (2, .int v2)] := hl
  refine lv_aload_n hx hb dX13_sleeper_0 rfl (lv_at hl 0 rfl) ?_
  refine lv_iload_n hx hb dX13_sleeper_1 rfl (lv_at hl 1 rfl) ?_
  refine c_VI hx hb hml hts hown hK hl.1 hS ⟨Nat.le_refl _, Nat.le_refl _⟩ (met_X13_isBed l D dA hG hT v1) (cw_X13_328 hts ⟨by decide, by decide⟩) (hG 0 _ rfl) rfl rfl rfl rfl (Nat.le_of_ble_eq_true rfl) dX13_sleeper_2 (fun _ h => h.elim) (fun r H1 locs hq hF hS => ?_)
  obtain ⟨rfl, rfl⟩ := hq
  rcases (bedN_cases hT2 v1).symm with ⟨hz2, ho2⟩ | ⟨x1, hlo_x1, hhi_x1, rfl, hz2⟩
  · refine iv (y := nI 0) hz2 ?_
    refine n_if_ne (tgt := 12) hx hb dX13_sleeper_5 (by decide) (by decide) (fun z => absurd z (by decide)) (fun _ => ?_)
    refine lv_ldcw (v := (-100000)) hx hb hown (hts _ q1789) dX13_sleeper_8 ?_
    refine hend _ _ _ _ _ hS dX13_sleeper_11 ?_
    exact ⟨_, rfl, _, hG, Eqx.rf, ((ho2.1 _ _)).symm⟩
  refine iv (y := nI 1) hz2 ?_
  have hl : lv_has ls 3 [(0, .ref o), (1, .int (nI x1)), (2, .int v2)] := hl
  refine n_if_ne (tgt := 12) hx hb dX13_sleeper_5 (by decide) (by decide) (fun _ => ?_) (fun z => absurd z (by decide))
  refine lv_aload_n hx hb dX13_sleeper_12 rfl (lv_at hl 0 rfl) ?_
  refine c_VV hx hb hml hts hown hK hl.1 hS ⟨Nat.le_refl _, Nat.le_refl _⟩ (met_X13_copies l D dA hG hX) (cw_X13_321 hts ⟨by decide, by decide⟩) (hG 0 _ rfl) rfl rfl rfl rfl (Nat.le_of_ble_eq_true rfl) dX13_sleeper_13 (fun _ h => h) (fun H1 locs hq hF hS => ?_)
  obtain ⟨V1, hG, hE1, hr1, hl1, hs1⟩ := hq
  generalize hHe1 : H1 = H at hG hS ⊢
  clear hHe1
  refine lv_iload_n hx hb dX13_sleeper_16 rfl (lv_at hl 2 rfl) ?_
  rcases tsw_cases v2 10 (by decide) with ⟨hsw, ho17⟩ | ⟨kk, hkk, rfl⟩
  · refine lv_tableOut (tgt := 158) hx hb dX13_sleeper_17 (by rcases hsw with h | h; exact Or.inl h; exact Or.inr h) (by decide) ?_
    refine lv_ldcw (v := (-100000)) hx hb hown (hts _ q1789) dX13_sleeper_158 ?_
    refine hend _ _ _ _ _ hS dX13_sleeper_161 ?_
    exact ⟨_, rfl, _, hG, (hE1.mono PC_PW), ((rng_in hlo_x1 hhi_x1 (by omega)).trans ((ho17.1 _ _))).symm⟩
  rcases (show kk = 0 ∨ kk = 1 ∨ kk = 2 ∨ kk = 3 ∨ kk = 4 ∨ kk = 5 ∨ kk = 6 ∨ kk = 7 ∨ kk = 8 ∨ kk = 9 by omega) with rfl | rfl | rfl | rfl | rfl | rfl | rfl | rfl | rfl | rfl
  · have hl : lv_has ls 3 [(0, .ref o), (1, .int (nI x1)), (2, .int (nI 0))] := hl
    refine lv_tableIn (tgt := 72) (off := 55) hx hb dX13_sleeper_17 (by decide) (by decide) rfl (by decide) ?_
    refine lv_aload_n hx hb dX13_sleeper_72 rfl (lv_at hl 0 rfl) ?_
    refine g_get hx hb hts hown hK hG 0 rfl rfl ok_X13 48 (by decide) q1519 rfl rfl dX13_sleeper_73 ?_
    refine lv_iload_n hx hb dX13_sleeper_76 rfl (lv_at hl 1 rfl) ?_
    refine n_iald hx hb hK hG 31 rfl (by omega) (by decide) dX13_sleeper_77 ?_
    refine iv (y := (V 30 (x1))) (congrFun hr1 (x1)) ?_
    refine hend _ _ _ _ _ hS dX13_sleeper_78 ?_
    exact ⟨_, rfl, _, hG, (hE1.mono PC_PW), ((rng_in hlo_x1 hhi_x1 (by omega)).trans ((rng_in (k := 0) (lo := 0) (hi := 10) (Nat.zero_le _) (by decide) (by decide)).trans (rfl))).symm⟩
  · have hl : lv_has ls 3 [(0, .ref o), (1, .int (nI x1)), (2, .int (nI 1))] := hl
    refine lv_tableIn (tgt := 79) (off := 62) hx hb dX13_sleeper_17 (by decide) (by decide) rfl (by decide) ?_
    refine lv_aload_n hx hb dX13_sleeper_79 rfl (lv_at hl 0 rfl) ?_
    refine g_get hx hb hts hown hK hG 0 rfl rfl ok_X13 48 (by decide) q1519 rfl rfl dX13_sleeper_80 ?_
    refine lv_bipush (v := (nI 9)) hx hb dX13_sleeper_83 (by decide) ?_
    refine lv_iload_n hx hb dX13_sleeper_85 rfl (lv_at hl 1 rfl) ?_
    refine n_iadd hx hb dX13_sleeper_86 ?_
    refine n_iald hx hb hK hG 31 rfl (by omega) (by decide) dX13_sleeper_87 ?_
    refine iv (y := (V 30 (9 + x1))) (congrFun hr1 (9 + x1)) ?_
    refine hend _ _ _ _ _ hS dX13_sleeper_88 ?_
    exact ⟨_, rfl, _, hG, (hE1.mono PC_PW), ((rng_in hlo_x1 hhi_x1 (by omega)).trans ((rng_in (k := 1) (lo := 0) (hi := 10) (Nat.zero_le _) (by decide) (by decide)).trans (rfl))).symm⟩
  · have hl : lv_has ls 3 [(0, .ref o), (1, .int (nI x1)), (2, .int (nI 2))] := hl
    refine lv_tableIn (tgt := 89) (off := 72) hx hb dX13_sleeper_17 (by decide) (by decide) rfl (by decide) ?_
    refine lv_aload_n hx hb dX13_sleeper_89 rfl (lv_at hl 0 rfl) ?_
    refine g_get hx hb hts hown hK hG 0 rfl rfl ok_X13 48 (by decide) q1519 rfl rfl dX13_sleeper_90 ?_
    refine lv_bipush (v := (nI 27)) hx hb dX13_sleeper_93 (by decide) ?_
    refine lv_iload_n hx hb dX13_sleeper_95 rfl (lv_at hl 1 rfl) ?_
    refine n_iadd hx hb dX13_sleeper_96 ?_
    refine n_iald hx hb hK hG 31 rfl (by omega) (by decide) dX13_sleeper_97 ?_
    refine iv (y := (V 30 (27 + x1))) (congrFun hr1 (27 + x1)) ?_
    refine hend _ _ _ _ _ hS dX13_sleeper_98 ?_
    exact ⟨_, rfl, _, hG, (hE1.mono PC_PW), ((rng_in hlo_x1 hhi_x1 (by omega)).trans ((rng_in (k := 2) (lo := 0) (hi := 10) (Nat.zero_le _) (by decide) (by decide)).trans (rfl))).symm⟩
  · have hl : lv_has ls 3 [(0, .ref o), (1, .int (nI x1)), (2, .int (nI 3))] := hl
    refine lv_tableIn (tgt := 99) (off := 82) hx hb dX13_sleeper_17 (by decide) (by decide) rfl (by decide) ?_
    refine lv_aload_n hx hb dX13_sleeper_99 rfl (lv_at hl 0 rfl) ?_
    refine g_get hx hb hts hown hK hG 0 rfl rfl ok_X13 25 (by decide) q1496 rfl rfl dX13_sleeper_100 ?_
    refine lv_bipush (v := (nI 9)) hx hb dX13_sleeper_103 (by decide) ?_
    refine lv_aload_n hx hb dX13_sleeper_105 rfl (lv_at hl 0 rfl) ?_
    refine g_get (v := .int (nI lv)) hx hb hts hown hK hG 0 rfl rfl ok_X13 18 (by decide) q1489 rfl (congrArg Value.int ((hE1 0 18 rfl).trans hT.2.2.1)) dX13_sleeper_106 ?_
    refine n_imul hx hb dX13_sleeper_109 ?_
    refine lv_iload_n hx hb dX13_sleeper_110 rfl (lv_at hl 1 rfl) ?_
    refine n_iadd hx hb dX13_sleeper_111 ?_
    refine n_iald hx hb hK hG 12 rfl (by omega) (by decide) dX13_sleeper_112 ?_
    refine iv (y := (xC t x1)) ((hE1 12 ((9 * lv) + x1) rfl).trans (hX.2.2.1 x1 (by omega))) ?_
    refine hend _ _ _ _ _ hS dX13_sleeper_113 ?_
    exact ⟨_, rfl, _, hG, (hE1.mono PC_PW), ((rng_in hlo_x1 hhi_x1 (by omega)).trans ((rng_in (k := 3) (lo := 0) (hi := 10) (Nat.zero_le _) (by decide) (by decide)).trans (rfl))).symm⟩
  · have hl : lv_has ls 3 [(0, .ref o), (1, .int (nI x1)), (2, .int (nI 4))] := hl
    refine lv_tableIn (tgt := 114) (off := 97) hx hb dX13_sleeper_17 (by decide) (by decide) rfl (by decide) ?_
    refine lv_aload_n hx hb dX13_sleeper_114 rfl (lv_at hl 0 rfl) ?_
    refine g_get hx hb hts hown hK hG 0 rfl rfl ok_X13 48 (by decide) q1519 rfl rfl dX13_sleeper_115 ?_
    refine lv_bipush (v := (nI 18)) hx hb dX13_sleeper_118 (by decide) ?_
    refine lv_iload_n hx hb dX13_sleeper_120 rfl (lv_at hl 1 rfl) ?_
    refine n_iadd hx hb dX13_sleeper_121 ?_
    refine n_iald hx hb hK hG 31 rfl (by omega) (by decide) dX13_sleeper_122 ?_
    refine iv (y := (V 30 (18 + x1))) (congrFun hr1 (18 + x1)) ?_
    refine hend _ _ _ _ _ hS dX13_sleeper_123 ?_
    exact ⟨_, rfl, _, hG, (hE1.mono PC_PW), ((rng_in hlo_x1 hhi_x1 (by omega)).trans ((rng_in (k := 4) (lo := 0) (hi := 10) (Nat.zero_le _) (by decide) (by decide)).trans (rfl))).symm⟩
  · have hl : lv_has ls 3 [(0, .ref o), (1, .int (nI x1)), (2, .int (nI 5))] := hl
    refine lv_tableIn (tgt := 124) (off := 107) hx hb dX13_sleeper_17 (by decide) (by decide) rfl (by decide) ?_
    refine lv_aload_n hx hb dX13_sleeper_124 rfl (lv_at hl 0 rfl) ?_
    refine lv_iload_n hx hb dX13_sleeper_125 rfl (lv_at hl 1 rfl) ?_
    refine c_VI hx hb hml hts hown hK hl.1 hS ⟨Nat.le_refl _, Nat.le_refl _⟩ (met_X13_liesThen l D dA hG (txM_PW (hE1.mono PC_PW) hX) x1 (by omega)) (cw_X13_349 hts ⟨by decide, by decide⟩) (hG 0 _ rfl) rfl rfl rfl rfl (Nat.le_of_ble_eq_true rfl) dX13_sleeper_126 (fun _ h => h) (fun r H1 locs hq hF hS => ?_)
    obtain ⟨V2, hG, hE2, hr2⟩ := hq
    generalize hHe2 : H1 = H at hG hS ⊢
    clear hHe2
    have hr2 : r = lieF t (V 30) x1 := hr2.trans (congrArg (fun z => lieF t z x1) (hr1))
    subst hr2
    refine hend _ _ _ _ _ hS dX13_sleeper_129 ?_
    exact ⟨_, rfl, _, hG, ((hE1.mono PC_PW).trans (hE2.mono PE_PW)), ((rng_in hlo_x1 hhi_x1 (by omega)).trans ((rng_in (k := 5) (lo := 0) (hi := 10) (Nat.zero_le _) (by decide) (by decide)).trans (rfl))).symm⟩
  · have hl : lv_has ls 3 [(0, .ref o), (1, .int (nI x1)), (2, .int (nI 6))] := hl
    refine lv_tableIn (tgt := 130) (off := 113) hx hb dX13_sleeper_17 (by decide) (by decide) rfl (by decide) ?_
    refine lv_aload_n hx hb dX13_sleeper_130 rfl (lv_at hl 0 rfl) ?_
    refine lv_iload_n hx hb dX13_sleeper_131 rfl (lv_at hl 1 rfl) ?_
    refine c_VI hx hb hml hts hown hK hl.1 hS ⟨Nat.le_refl _, Nat.le_refl _⟩ (met_X13_partsOf l D dA hG (txM_PW (hE1.mono PC_PW) hX) x1 (by omega)) (cw_X13_346 hts ⟨by decide, by decide⟩) (hG 0 _ rfl) rfl rfl rfl rfl (Nat.le_of_ble_eq_true rfl) dX13_sleeper_132 (fun _ h => h) (fun r H1 locs hq hF hS => ?_)
    obtain ⟨V3, hG, hE3, hr3⟩ := hq
    generalize hHe3 : H1 = H at hG hS ⊢
    clear hHe3
    have hr3 : r = parF t (V 30) x1 := hr3.trans (congrArg (fun z => parF t z x1) (hr1))
    subst hr3
    refine hend _ _ _ _ _ hS dX13_sleeper_135 ?_
    exact ⟨_, rfl, _, hG, ((hE1.mono PC_PW).trans (hE3.mono PE_PW)), ((rng_in hlo_x1 hhi_x1 (by omega)).trans ((rng_in (k := 6) (lo := 0) (hi := 10) (Nat.zero_le _) (by decide) (by decide)).trans (rfl))).symm⟩
  · have hl : lv_has ls 3 [(0, .ref o), (1, .int (nI x1)), (2, .int (nI 7))] := hl
    refine lv_tableIn (tgt := 136) (off := 119) hx hb dX13_sleeper_17 (by decide) (by decide) rfl (by decide) ?_
    refine lv_aload_n hx hb dX13_sleeper_136 rfl (lv_at hl 0 rfl) ?_
    refine lv_iload_n hx hb dX13_sleeper_137 rfl (lv_at hl 1 rfl) ?_
    refine c_VI hx hb hml hts hown hK hl.1 hS ⟨Nat.le_refl _, Nat.le_refl _⟩ (met_X13_chillsOf l D dA hG (txM_PW (hE1.mono PC_PW) hX) x1 (by omega)) (cw_X13_355 hts ⟨by decide, by decide⟩) (hG 0 _ rfl) rfl rfl rfl rfl (Nat.le_of_ble_eq_true rfl) dX13_sleeper_138 (fun _ h => h) (fun r H1 locs hq hF hS => ?_)
    obtain ⟨V4, hG, hE4, hr4⟩ := hq
    generalize hHe4 : H1 = H at hG hS ⊢
    clear hHe4
    have hr4 : r = chiF t (V 30) x1 := hr4.trans (congrArg (fun z => chiF t z x1) (hr1))
    subst hr4
    refine hend _ _ _ _ _ hS dX13_sleeper_141 ?_
    exact ⟨_, rfl, _, hG, ((hE1.mono PC_PW).trans (hE4.mono PE_PW)), ((rng_in hlo_x1 hhi_x1 (by omega)).trans ((rng_in (k := 7) (lo := 0) (hi := 10) (Nat.zero_le _) (by decide) (by decide)).trans (rfl))).symm⟩
  · have hl : lv_has ls 3 [(0, .ref o), (1, .int (nI x1)), (2, .int (nI 8))] := hl
    refine lv_tableIn (tgt := 142) (off := 125) hx hb dX13_sleeper_17 (by decide) (by decide) rfl (by decide) ?_
    refine lv_aload_n hx hb dX13_sleeper_142 rfl (lv_at hl 0 rfl) ?_
    refine lv_iload_n hx hb dX13_sleeper_143 rfl (lv_at hl 1 rfl) ?_
    refine c_VI hx hb hml hts hown hK hl.1 hS ⟨Nat.le_refl _, Nat.le_refl _⟩ (met_X13_costsOf l D dA hG (txM_PW (hE1.mono PC_PW) hX) x1 (by omega)) (cw_X13_374 hts ⟨by decide, by decide⟩) (hG 0 _ rfl) rfl rfl rfl rfl (Nat.le_of_ble_eq_true rfl) dX13_sleeper_144 (fun _ h => h) (fun r H1 locs hq hF hS => ?_)
    obtain ⟨V5, hG, hE5, hr5⟩ := hq
    generalize hHe5 : H1 = H at hG hS ⊢
    clear hHe5
    have hr5 : r = cosF t (V 30) x1 := hr5.trans (congrArg (fun z => cosF t z x1) (hr1))
    subst hr5
    refine hend _ _ _ _ _ hS dX13_sleeper_147 ?_
    exact ⟨_, rfl, _, hG, ((hE1.mono PC_PW).trans (hE5.mono PE_PW)), ((rng_in hlo_x1 hhi_x1 (by omega)).trans ((rng_in (k := 8) (lo := 0) (hi := 10) (Nat.zero_le _) (by decide) (by decide)).trans (rfl))).symm⟩
  · have hl : lv_has ls 3 [(0, .ref o), (1, .int (nI x1)), (2, .int (nI 9))] := hl
    refine lv_tableIn (tgt := 148) (off := 131) hx hb dX13_sleeper_17 (by decide) (by decide) rfl (by decide) ?_
    refine lv_aload_n hx hb dX13_sleeper_148 rfl (lv_at hl 0 rfl) ?_
    refine g_get hx hb hts hown hK hG 0 rfl rfl ok_X13 48 (by decide) q1519 rfl rfl dX13_sleeper_149 ?_
    refine lv_bipush (v := (nI 36)) hx hb dX13_sleeper_152 (by decide) ?_
    refine lv_iload_n hx hb dX13_sleeper_154 rfl (lv_at hl 1 rfl) ?_
    refine n_iadd hx hb dX13_sleeper_155 ?_
    refine n_iald hx hb hK hG 31 rfl (by omega) (by decide) dX13_sleeper_156 ?_
    refine iv (y := (V 30 (36 + x1))) (congrFun hr1 (36 + x1)) ?_
    refine hend _ _ _ _ _ hS dX13_sleeper_157 ?_
    exact ⟨_, rfl, _, hG, (hE1.mono PC_PW), ((rng_in hlo_x1 hhi_x1 (by omega)).trans ((rng_in (k := 9) (lo := 0) (hi := 10) (Nat.zero_le _) (by decide) (by decide)).trans (rfl))).symm⟩
theorem cw_X13_434 {R : Room} {s : State} {args : Array Value} (hts : ∀ w ∈ lw_all, w.before args s = true) {f w k j : Nat} (hR : f + 1 ≤ R.frames ∧ 8 + (4 + 11) + w ≤ R.locals) : CallW R s args RX13 RX13 434 yX13_sumNow cX13_sumNow 4 (some .int) (ws_ yX13_sumNow cX13_sumNow 4 (some .int)) (mkRmC f w k j) k j 1 := cwV 1 hts (lw_V q2074 q2076 qs106 q129 q2077) rfl rfl rfl (by decide +kernel) hR
set_option maxHeartbeats 4000000 in
theorem met_X13_count (l : Launch) (D : va_G) (dA : Nat → ClassId) {o : Nat} {V : GI} {L : GL} {Rf : GR} {H0 : Heap} (hG : gP D dA o dM V L Rf H0) {lv : Nat} {t : Txt} (hX : txM V lv t) (hrv : RV (xN t) (V 30)) (tp : List Int32) (htp : tpM V tp) (hs : List Rw) (hh : hiM V hs) (tl : List Tl) (htl : tlM V tl) (hd : Nat → Option Rw) (hhd : hdM V hd) (v1 : Int32) : Ctr l D dA yX13_count cX13_count 4 (some .int) (mkRm 5 106) [.ref o, .int v1] H0 (AM o) (QI (fun r H1 => ∃ V1, gP D dA o dM V1 L Rf H1 ∧ Eqx PW V V1 ∧ r = countA t (V 30) tp.length hs.length tl.length hd v1)) := by
  have hT := hX.1
  have hT1 := hT.1
  have hT2 := hT.2.1
  have hp2 := two9 hT2
  have hpp := Nat.two_pow_pos (xN t)
  have hq1 := htp.1
  have hq2 := hh.1
  have hq3 := htl.1
  refine ctr_I (by decide) (Nat.le_of_ble_eq_true rfl) ?_
  intro p e s m args below meth c ls QQ locs hx hb hml hown hts hK hend hS hl
  have hl : lv_has ls 4 [(0, .ref o), (1, .int v1)] := hl
  refine lv_aload_n hx hb dX13_count_0 rfl (lv_at hl 0 rfl) ?_
  refine c_VV hx hb hml hts hown hK hl.1 hS ⟨Nat.le_refl _, Nat.le_refl _⟩ (met_X13_copies l D dA hG hX) (cw_X13_321 hts ⟨by decide, by decide⟩) (hG 0 _ rfl) rfl rfl rfl rfl (Nat.le_of_ble_eq_true rfl) dX13_count_1 (fun _ h => h) (fun H1 locs hq hF hS => ?_)
  obtain ⟨V1, hG, hE1, hr1, hl1, hs1⟩ := hq
  generalize hHe1 : H1 = H at hG hS ⊢
  clear hHe1
  refine lv_iconst (v := (nI 0)) hx hb dX13_count_4 (by decide) ?_
  refine lv_istore_n (lv' := [(2, .int (nI 0)), (0, .ref o), (1, .int v1)]) hx hb dX13_count_5 rfl hl (by decide) rfl (fun ls hl => ?_)
  refine lv_iload_n hx hb dX13_count_6 rfl (lv_at hl 2 rfl) ?_
  rcases tsw_cases v1 17 (by decide) with ⟨hsw, ho7⟩ | ⟨kk, hkk, rfl⟩
  · refine lv_tableOut (tgt := 293) hx hb dX13_count_7 (by rcases hsw with h | h; exact Or.inl h; exact Or.inr h) (by decide) ?_
    refine lv_iconst (v := (-1)) hx hb dX13_count_293 (by decide) ?_
    refine hend _ _ _ _ _ hS dX13_count_294 ?_
    exact ⟨_, rfl, _, hG, (hE1.mono PC_PW), ((ho7.1 _ _)).symm⟩
  rcases (show kk = 0 ∨ kk = 1 ∨ kk = 2 ∨ kk = 3 ∨ kk = 4 ∨ kk = 5 ∨ kk = 6 ∨ kk = 7 ∨ kk = 8 ∨ kk = 9 ∨ kk = 10 ∨ kk = 11 ∨ kk = 12 ∨ kk = 13 ∨ kk = 14 ∨ kk = 15 ∨ kk = 16 by omega) with rfl | rfl | rfl | rfl | rfl | rfl | rfl | rfl | rfl | rfl | rfl | rfl | rfl | rfl | rfl | rfl | rfl
  · have hl : lv_has ls 4 [(2, .int (nI 0)), (0, .ref o), (1, .int (nI 0))] := hl
    refine lv_tableIn (tgt := 88) (off := 81) hx hb dX13_count_7 (by decide) (by decide) rfl (by decide) ?_
    refine lv_aload_n hx hb dX13_count_88 rfl (lv_at hl 1 rfl) ?_
    refine c_VI hx hb hml hts hown hK hl.1 hS ⟨Nat.le_refl _, Nat.le_refl _⟩ (met_X13_many l D dA hG (tM_to hT (hE1 0 18 rfl) (hE1 9 lv rfl))) (cw_X13_304 hts ⟨by decide, by decide⟩) (hG 0 _ rfl) rfl rfl rfl rfl (Nat.le_of_ble_eq_true rfl) dX13_count_89 (fun _ h => h.elim) (fun r H1 locs hq hF hS => ?_)
    obtain ⟨rfl, rfl⟩ := hq
    refine hend _ _ _ _ _ hS dX13_count_92 ?_
    exact ⟨_, rfl, _, hG, (hE1.mono PC_PW), ((rng_in (k := 0) (lo := 0) (hi := 17) (Nat.zero_le _) (by decide) (by decide)).trans ((show cuT t (V 30) tp.length hs.length tl.length hd 0 = (nI (xN t)) from rfl))).symm⟩
  · have hl : lv_has ls 4 [(2, .int (nI 0)), (0, .ref o), (1, .int (nI 1))] := hl
    refine lv_tableIn (tgt := 93) (off := 86) hx hb dX13_count_7 (by decide) (by decide) rfl (by decide) ?_
    refine lv_aload_n hx hb dX13_count_93 rfl (lv_at hl 1 rfl) ?_
    refine g_get hx hb hts hown hK hG 0 rfl rfl ok_X13 48 (by decide) q1519 rfl rfl dX13_count_94 ?_
    refine lv_bipush (v := (nI 45)) hx hb dX13_count_97 (by decide) ?_
    refine n_iald hx hb hK hG 31 rfl (by omega) (by decide) dX13_count_99 ?_
    refine iv (y := (V 30 45)) (congrFun hr1 45) ?_
    refine hend _ _ _ _ _ hS dX13_count_100 ?_
    exact ⟨_, rfl, _, hG, (hE1.mono PC_PW), ((rng_in (k := 1) (lo := 0) (hi := 17) (Nat.zero_le _) (by decide) (by decide)).trans ((show cuT t (V 30) tp.length hs.length tl.length hd 1 = (V 30 45) from rfl))).symm⟩
  · have hl : lv_has ls 4 [(2, .int (nI 0)), (0, .ref o), (1, .int (nI 2))] := hl
    refine lv_tableIn (tgt := 101) (off := 94) hx hb dX13_count_7 (by decide) (by decide) rfl (by decide) ?_
    refine lv_aload_n hx hb dX13_count_101 rfl (lv_at hl 1 rfl) ?_
    refine g_get hx hb hts hown hK hG 0 rfl rfl ok_X13 48 (by decide) q1519 rfl rfl dX13_count_102 ?_
    refine lv_bipush (v := (nI 45)) hx hb dX13_count_105 (by decide) ?_
    refine n_iald hx hb hK hG 31 rfl (by omega) (by decide) dX13_count_107 ?_
    refine iv (y := (V 30 45)) (congrFun hr1 45) ?_
    refine lv_bipush (v := (nI 24)) hx hb dX13_count_108 (by decide) ?_
    refine lv_irem hx hb dX13_count_110 (by decide) ?_
    refine hend _ _ _ _ _ hS dX13_count_111 ?_
    exact ⟨_, rfl, _, hG, (hE1.mono PC_PW), ((rng_in (k := 2) (lo := 0) (hi := 17) (Nat.zero_le _) (by decide) (by decide)).trans ((show cuT t (V 30) tp.length hs.length tl.length hd 2 = ((V 30 45) - (V 30 45) / (nI 24) * (nI 24)) from rfl))).symm⟩
  · have hl : lv_has ls 4 [(2, .int (nI 0)), (0, .ref o), (1, .int (nI 3))] := hl
    refine lv_tableIn (tgt := 112) (off := 105) hx hb dX13_count_7 (by decide) (by decide) rfl (by decide) ?_
    refine lv_aload_n hx hb dX13_count_112 rfl (lv_at hl 1 rfl) ?_
    refine c_VI hx hb hml hts hown hK hl.1 hS ⟨Nat.le_refl _, Nat.le_refl _⟩ (met_X13_rowBits l D dA hG (txM_PW (hE1.mono PC_PW) hX) (by rw [hr1]; exact hrv)) (cw_X13_370 hts ⟨by decide, by decide⟩) (hG 0 _ rfl) rfl rfl rfl rfl (Nat.le_of_ble_eq_true rfl) dX13_count_113 (fun _ h => h.elim) (fun r H1 locs hq hF hS => ?_)
    obtain ⟨rfl, rfl⟩ := hq
    refine iv (y := nI (rbF (V 30) (xN t))) (congrArg (fun z => nI (rbF z (xN t))) (hr1)) ?_
    have hrb113 : rbF (V 30) (xN t) < 512 := rb9 hT2
    refine hend _ _ _ _ _ hS dX13_count_116 ?_
    exact ⟨_, rfl, _, hG, (hE1.mono PC_PW), ((rng_in (k := 3) (lo := 0) (hi := 17) (Nat.zero_le _) (by decide) (by decide)).trans ((show cuT t (V 30) tp.length hs.length tl.length hd 3 = (nI (rbF (V 30) (xN t))) from rfl))).symm⟩
  · have hl : lv_has ls 4 [(2, .int (nI 0)), (0, .ref o), (1, .int (nI 4))] := hl
    refine lv_tableIn (tgt := 117) (off := 110) hx hb dX13_count_7 (by decide) (by decide) rfl (by decide) ?_
    refine lv_aload_n hx hb dX13_count_117 rfl (lv_at hl 1 rfl) ?_
    refine c_VI hx hb hml hts hown hK hl.1 hS ⟨Nat.le_refl _, Nat.le_refl _⟩ (met_X13_rowBits l D dA hG (txM_PW (hE1.mono PC_PW) hX) (by rw [hr1]; exact hrv)) (cw_X13_370 hts ⟨by decide, by decide⟩) (hG 0 _ rfl) rfl rfl rfl rfl (Nat.le_of_ble_eq_true rfl) dX13_count_118 (fun _ h => h.elim) (fun r H1 locs hq hF hS => ?_)
    obtain ⟨rfl, rfl⟩ := hq
    refine iv (y := nI (rbF (V 30) (xN t))) (congrArg (fun z => nI (rbF z (xN t))) (hr1)) ?_
    have hrb118 : rbF (V 30) (xN t) < 512 := rb9 hT2
    refine c_SI hx hb hml hts hown hK hl.1 hS ⟨Nat.le_refl _, Nat.le_refl _⟩ (met_X13_bits l D dA (rbF (V 30) (xN t)) (rb9 hT2)) (cw_X13_398 hts ⟨by decide, by decide⟩) rfl rfl (Nat.le_of_ble_eq_true rfl) dX13_count_121 (fun _ h => h.elim) (fun r H1 locs hq hF hS => ?_)
    obtain ⟨rfl, rfl⟩ := hq
    have hbc121 := bc9 (rbF (V 30) (xN t))
    refine hend _ _ _ _ _ hS dX13_count_124 ?_
    exact ⟨_, rfl, _, hG, (hE1.mono PC_PW), ((rng_in (k := 4) (lo := 0) (hi := 17) (Nat.zero_le _) (by decide) (by decide)).trans ((show cuT t (V 30) tp.length hs.length tl.length hd 4 = (nI (bc (rbF (V 30) (xN t)))) from rfl))).symm⟩
  · have hl : lv_has ls 4 [(2, .int (nI 0)), (0, .ref o), (1, .int (nI 5))] := hl
    refine lv_tableIn (tgt := 125) (off := 118) hx hb dX13_count_7 (by decide) (by decide) rfl (by decide) ?_
    refine lv_aload_n hx hb dX13_count_125 rfl (lv_at hl 1 rfl) ?_
    refine c_VI hx hb hml hts hown hK hl.1 hS ⟨Nat.le_refl _, Nat.le_refl _⟩ (met_X13_showBits l D dA hG (txM_PW (hE1.mono PC_PW) hX)) (cw_X13_425 hts ⟨by decide, by decide⟩) (hG 0 _ rfl) rfl rfl rfl rfl (Nat.le_of_ble_eq_true rfl) dX13_count_126 (fun _ h => h.elim) (fun r H1 locs hq hF hS => ?_)
    obtain ⟨rfl, rfl⟩ := hq
    refine iv (y := nI (obF (shB (V 30)) (xN t))) (congrArg (fun z => nI (obF (shB z) (xN t))) (hr1)) ?_
    refine hend _ _ _ _ _ hS dX13_count_129 ?_
    exact ⟨_, rfl, _, hG, (hE1.mono PC_PW), ((rng_in (k := 5) (lo := 0) (hi := 17) (Nat.zero_le _) (by decide) (by decide)).trans ((show cuT t (V 30) tp.length hs.length tl.length hd 5 = (nI (obF (shB (V 30)) (xN t))) from rfl))).symm⟩
  · have hl : lv_has ls 4 [(2, .int (nI 0)), (0, .ref o), (1, .int (nI 6))] := hl
    refine lv_tableIn (tgt := 130) (off := 123) hx hb dX13_count_7 (by decide) (by decide) rfl (by decide) ?_
    refine lv_iconst (v := (nI 0)) hx hb dX13_count_130 (by decide) ?_
    refine lv_istore_n (lv' := [(3, .int (nI 0)), (2, .int (nI 0)), (0, .ref o), (1, .int (nI 6))]) hx hb dX13_count_131 rfl hl (by decide) rfl (fun ls hl => ?_)
    have loop2 : ∀ (fu2 : Nat) (b : Nat) (y : Nat) (V2 : GI) (H : Heap) (locs : List Loc) (ls : Array Slot), xN t - b < fu2 → (b ≤ xN t) → (obF (liB t (V 30)) b = y) → (Eqx PE V1 V2) → (V2 31 = V 30) → gP D dA o dM V2 L Rf H → va_S (AM o) H0 H locs → lv_has ls 4 [(3, .int (nI b)), (2, .int (nI y)), (0, .ref o), (1, .int (nI 6))] → W p l e (mkRm 5 106) s m args below meth c H locs 0 0 QQ (F0 m 132 ls []) := by
      intro fu2
      induction fu2 with
      | zero => intro b y V2 H locs ls hfu; exact absurd hfu (Nat.not_lt_zero _)
      | succ fu2 ih2 =>
        intro b y V2 H locs ls hfu hbn hy hE2 hrw hG hS hl
        refine lv_iload_n hx hb dX13_count_132 rfl (lv_at hl 0 rfl) ?_
        refine lv_aload_n hx hb dX13_count_133 rfl (lv_at hl 2 rfl) ?_
        refine c_VI hx hb hml hts hown hK hl.1 hS ⟨Nat.le_refl _, Nat.le_refl _⟩ (met_X13_many l D dA hG (tM_to hT ((hE2 0 18 rfl).trans (hE1 0 18 rfl)) ((hE2 9 lv rfl).trans (hE1 9 lv rfl)))) (cw_X13_304 hts ⟨by decide, by decide⟩) (hG 0 _ rfl) rfl rfl rfl rfl (Nat.le_of_ble_eq_true rfl) dX13_count_134 (fun _ h => h.elim) (fun r H1 locs hq hF hS => ?_)
        obtain ⟨rfl, rfl⟩ := hq
        refine n_icmp_ge (tgt := 156) hx hb dX13_count_137 (by decide) (by omega) (by omega) (fun c137 => ?_) (fun c137 => ?_)
        · obtain rfl : b = xN t := by omega
          refine lv_iload_n hx hb dX13_count_156 rfl (lv_at hl 1 rfl) ?_
          refine hend _ _ _ _ _ hS dX13_count_157 ?_
          exact ⟨_, rfl, _, hG, ((hE1.mono PC_PW).trans (hE2.mono PE_PW)), ((rng_in (k := 6) (lo := 0) (hi := 17) (Nat.zero_le _) (by decide) (by decide)).trans ((show cuT t (V 30) tp.length hs.length tl.length hd 6 = (nI y) from congrArg nI hy))).symm⟩
        refine lv_iload_n hx hb dX13_count_140 rfl (lv_at hl 1 rfl) ?_
        refine lv_aload_n hx hb dX13_count_141 rfl (lv_at hl 2 rfl) ?_
        refine lv_iload_n hx hb dX13_count_142 rfl (lv_at hl 0 rfl) ?_
        refine c_VI hx hb hml hts hown hK hl.1 hS ⟨Nat.le_refl _, Nat.le_refl _⟩ (met_X13_liesThen l D dA hG (txM_PW ((hE1.mono PC_PW).trans (hE2.mono PE_PW)) hX) b (by omega)) (cw_X13_349 hts ⟨by decide, by decide⟩) (hG 0 _ rfl) rfl rfl rfl rfl (Nat.le_of_ble_eq_true rfl) dX13_count_143 (fun _ h => h) (fun r H1 locs hq hF hS => ?_)
        obtain ⟨V3, hG, hE3, hr3⟩ := hq
        generalize hHe3 : H1 = H at hG hS ⊢
        clear hHe3
        have hr3 : r = lieF t (V 30) b := hr3.trans (congrArg (fun z => lieF t z b) (((funext (fun j => hE2 31 j rfl)).trans hr1)))
        subst hr3
        refine iv (y := nI (bN (liB t (V 30) b))) (lie_b _ _ _) ?_
        refine lv_iload_n hx hb dX13_count_146 rfl (lv_at hl 0 rfl) ?_
        refine n_ishl hx hb dX13_count_147 (by omega) ?_
        refine n_ior hx hb dX13_count_148 ?_
        refine lv_istore_n (lv' := [(2, .int (nI (y ||| ((bN (liB t (V 30) b)) * 2 ^ b)))), (3, .int (nI b)), (0, .ref o), (1, .int (nI 6))]) hx hb dX13_count_149 rfl hl (by decide) rfl (fun ls hl => ?_)
        refine lv_iinc (v := (nI (b + 1))) (lv' := [(3, .int (nI (b + 1))), (2, .int (nI (y ||| ((bN (liB t (V 30) b)) * 2 ^ b)))), (0, .ref o), (1, .int (nI 6))]) hx hb dX13_count_150 hl (k := 1) rfl (nI_add _ _) (by decide) rfl (fun ls hl => ?_)
        refine lv_goto (tgt := 132) hx hb dX13_count_153 (by decide) ?_
        have hrz4 : V3 31 = V 30 := (((funext (fun j => hE3 31 j rfl)).trans (funext (fun j => hE2 31 j rfl))).trans hr1)
        exact ih2 (b + 1) (y ||| ((bN (liB t (V 30) b)) * 2 ^ b)) V3 _ _ _ (by omega) (by omega) (ob_step hy) (Eqx.trans hE2 hE3) hrz4 hG hS (lv_sub hl [0, 1, 2, 3] rfl)
    exact loop2 ((xN t - 0) + 1) 0 0 V1 _ _ _ (Nat.lt_succ_self _) (by omega) rfl Eqx.rf hr1 hG hS (lv_sub hl [0, 1, 2, 3] rfl)
  · have hl : lv_has ls 4 [(2, .int (nI 0)), (0, .ref o), (1, .int (nI 7))] := hl
    refine lv_tableIn (tgt := 158) (off := 151) hx hb dX13_count_7 (by decide) (by decide) rfl (by decide) ?_
    refine lv_aload_n hx hb dX13_count_158 rfl (lv_at hl 1 rfl) ?_
    refine g_get (v := .int (nI tp.length)) hx hb hts hown hK hG 0 rfl rfl ok_X13 2 (by decide) q1473 rfl (congrArg Value.int ((hE1 0 2 rfl).trans htp.2.1)) dX13_count_159 ?_
    refine hend _ _ _ _ _ hS dX13_count_162 ?_
    exact ⟨_, rfl, _, hG, (hE1.mono PC_PW), ((rng_in (k := 7) (lo := 0) (hi := 17) (Nat.zero_le _) (by decide) (by decide)).trans ((show cuT t (V 30) tp.length hs.length tl.length hd 7 = (nI tp.length) from rfl))).symm⟩
  · have hl : lv_has ls 4 [(2, .int (nI 0)), (0, .ref o), (1, .int (nI 8))] := hl
    refine lv_tableIn (tgt := 163) (off := 156) hx hb dX13_count_7 (by decide) (by decide) rfl (by decide) ?_
    refine lv_aload_n hx hb dX13_count_163 rfl (lv_at hl 1 rfl) ?_
    refine g_get (v := .int (nI hs.length)) hx hb hts hown hK hG 0 rfl rfl ok_X13 53 (by decide) q1524 rfl (congrArg Value.int ((hE1 0 53 rfl).trans hh.2.1)) dX13_count_164 ?_
    refine hend _ _ _ _ _ hS dX13_count_167 ?_
    exact ⟨_, rfl, _, hG, (hE1.mono PC_PW), ((rng_in (k := 8) (lo := 0) (hi := 17) (Nat.zero_le _) (by decide) (by decide)).trans ((show cuT t (V 30) tp.length hs.length tl.length hd 8 = (nI hs.length) from rfl))).symm⟩
  · have hl : lv_has ls 4 [(2, .int (nI 0)), (0, .ref o), (1, .int (nI 9))] := hl
    refine lv_tableIn (tgt := 168) (off := 161) hx hb dX13_count_7 (by decide) (by decide) rfl (by decide) ?_
    refine lv_aload_n hx hb dX13_count_168 rfl (lv_at hl 1 rfl) ?_
    refine g_get (v := .int (nI tl.length)) hx hb hts hown hK hG 0 rfl rfl ok_X13 58 (by decide) q1529 rfl (congrArg Value.int ((hE1 0 58 rfl).trans htl.2.1)) dX13_count_169 ?_
    refine hend _ _ _ _ _ hS dX13_count_172 ?_
    exact ⟨_, rfl, _, hG, (hE1.mono PC_PW), ((rng_in (k := 9) (lo := 0) (hi := 17) (Nat.zero_le _) (by decide) (by decide)).trans ((show cuT t (V 30) tp.length hs.length tl.length hd 9 = (nI tl.length) from rfl))).symm⟩
  · have hl : lv_has ls 4 [(2, .int (nI 0)), (0, .ref o), (1, .int (nI 10))] := hl
    refine lv_tableIn (tgt := 173) (off := 166) hx hb dX13_count_7 (by decide) (by decide) rfl (by decide) ?_
    have hh0 := (hhd 0 (by decide)).1
    rcases hs0 : (hd 0).isSome with _ | _
    · rw [hs0] at hh0
      refine lv_aload_n hx hb dX13_count_173 rfl (lv_at hl 1 rfl) ?_
      refine g_get hx hb hts hown hK hG 0 rfl rfl ok_X13 63 (by decide) q1534 rfl rfl dX13_count_174 ?_
      refine lv_iconst (v := (nI 0)) hx hb dX13_count_177 (by decide) ?_
      refine n_zald hx hb hK hG 42 rfl (by omega) (by decide) dX13_count_178 ?_
      refine iv (y := (nI 0)) ((hE1 42 0 rfl).trans hh0) ?_
      refine n_if_eq (tgt := 186) hx hb dX13_count_179 (by decide) (by decide) (fun _ => ?_) (fun z => absurd z (by decide))
      refine lv_iconst (v := (nI 0)) hx hb dX13_count_186 (by decide) ?_
      have hh1 := (hhd 1 (by decide)).1
      rcases hs1 : (hd 1).isSome with _ | _
      · rw [hs1] at hh1
        refine lv_aload_n hx hb dX13_count_187 rfl (lv_at hl 1 rfl) ?_
        refine g_get hx hb hts hown hK hG 0 rfl rfl ok_X13 63 (by decide) q1534 rfl rfl dX13_count_188 ?_
        refine lv_iconst (v := (nI 1)) hx hb dX13_count_191 (by decide) ?_
        refine n_zald hx hb hK hG 42 rfl (by omega) (by decide) dX13_count_192 ?_
        refine iv (y := (nI 0)) ((hE1 42 1 rfl).trans hh1) ?_
        refine n_if_eq (tgt := 200) hx hb dX13_count_193 (by decide) (by decide) (fun _ => ?_) (fun z => absurd z (by decide))
        refine lv_iconst (v := (nI 0)) hx hb dX13_count_200 (by decide) ?_
        refine n_iadd hx hb dX13_count_201 ?_
        have hh2 := (hhd 2 (by decide)).1
        rcases hs2 : (hd 2).isSome with _ | _
        · rw [hs2] at hh2
          refine lv_aload_n hx hb dX13_count_202 rfl (lv_at hl 1 rfl) ?_
          refine g_get hx hb hts hown hK hG 0 rfl rfl ok_X13 63 (by decide) q1534 rfl rfl dX13_count_203 ?_
          refine lv_iconst (v := (nI 2)) hx hb dX13_count_206 (by decide) ?_
          refine n_zald hx hb hK hG 42 rfl (by omega) (by decide) dX13_count_207 ?_
          refine iv (y := (nI 0)) ((hE1 42 2 rfl).trans hh2) ?_
          refine n_if_eq (tgt := 215) hx hb dX13_count_208 (by decide) (by decide) (fun _ => ?_) (fun z => absurd z (by decide))
          refine lv_iconst (v := (nI 0)) hx hb dX13_count_215 (by decide) ?_
          refine n_iadd hx hb dX13_count_216 ?_
          refine hend _ _ _ _ _ hS dX13_count_217 ?_
          exact ⟨_, rfl, _, hG, (hE1.mono PC_PW), ((rng_in (k := 10) (lo := 0) (hi := 17) (Nat.zero_le _) (by decide) (by decide)).trans ((show cuT t (V 30) tp.length hs.length tl.length hd 10 = (nI 0) from congrArg nI (by unfold heN; rw [hs0, hs1, hs2]; rfl)))).symm⟩
        rw [hs2] at hh2
        refine lv_aload_n hx hb dX13_count_202 rfl (lv_at hl 1 rfl) ?_
        refine g_get hx hb hts hown hK hG 0 rfl rfl ok_X13 63 (by decide) q1534 rfl rfl dX13_count_203 ?_
        refine lv_iconst (v := (nI 2)) hx hb dX13_count_206 (by decide) ?_
        refine n_zald hx hb hK hG 42 rfl (by omega) (by decide) dX13_count_207 ?_
        refine iv (y := (nI 1)) ((hE1 42 2 rfl).trans hh2) ?_
        refine n_if_eq (tgt := 215) hx hb dX13_count_208 (by decide) (by decide) (fun z => absurd z (by decide)) (fun _ => ?_)
        refine lv_iconst (v := (nI 1)) hx hb dX13_count_211 (by decide) ?_
        refine lv_goto (tgt := 216) hx hb dX13_count_212 (by decide) ?_
        refine n_iadd hx hb dX13_count_216 ?_
        refine hend _ _ _ _ _ hS dX13_count_217 ?_
        exact ⟨_, rfl, _, hG, (hE1.mono PC_PW), ((rng_in (k := 10) (lo := 0) (hi := 17) (Nat.zero_le _) (by decide) (by decide)).trans ((show cuT t (V 30) tp.length hs.length tl.length hd 10 = (nI 1) from congrArg nI (by unfold heN; rw [hs0, hs1, hs2]; rfl)))).symm⟩
      rw [hs1] at hh1
      refine lv_aload_n hx hb dX13_count_187 rfl (lv_at hl 1 rfl) ?_
      refine g_get hx hb hts hown hK hG 0 rfl rfl ok_X13 63 (by decide) q1534 rfl rfl dX13_count_188 ?_
      refine lv_iconst (v := (nI 1)) hx hb dX13_count_191 (by decide) ?_
      refine n_zald hx hb hK hG 42 rfl (by omega) (by decide) dX13_count_192 ?_
      refine iv (y := (nI 1)) ((hE1 42 1 rfl).trans hh1) ?_
      refine n_if_eq (tgt := 200) hx hb dX13_count_193 (by decide) (by decide) (fun z => absurd z (by decide)) (fun _ => ?_)
      refine lv_iconst (v := (nI 1)) hx hb dX13_count_196 (by decide) ?_
      refine lv_goto (tgt := 201) hx hb dX13_count_197 (by decide) ?_
      refine n_iadd hx hb dX13_count_201 ?_
      have hh2 := (hhd 2 (by decide)).1
      rcases hs2 : (hd 2).isSome with _ | _
      · rw [hs2] at hh2
        refine lv_aload_n hx hb dX13_count_202 rfl (lv_at hl 1 rfl) ?_
        refine g_get hx hb hts hown hK hG 0 rfl rfl ok_X13 63 (by decide) q1534 rfl rfl dX13_count_203 ?_
        refine lv_iconst (v := (nI 2)) hx hb dX13_count_206 (by decide) ?_
        refine n_zald hx hb hK hG 42 rfl (by omega) (by decide) dX13_count_207 ?_
        refine iv (y := (nI 0)) ((hE1 42 2 rfl).trans hh2) ?_
        refine n_if_eq (tgt := 215) hx hb dX13_count_208 (by decide) (by decide) (fun _ => ?_) (fun z => absurd z (by decide))
        refine lv_iconst (v := (nI 0)) hx hb dX13_count_215 (by decide) ?_
        refine n_iadd hx hb dX13_count_216 ?_
        refine hend _ _ _ _ _ hS dX13_count_217 ?_
        exact ⟨_, rfl, _, hG, (hE1.mono PC_PW), ((rng_in (k := 10) (lo := 0) (hi := 17) (Nat.zero_le _) (by decide) (by decide)).trans ((show cuT t (V 30) tp.length hs.length tl.length hd 10 = (nI 1) from congrArg nI (by unfold heN; rw [hs0, hs1, hs2]; rfl)))).symm⟩
      rw [hs2] at hh2
      refine lv_aload_n hx hb dX13_count_202 rfl (lv_at hl 1 rfl) ?_
      refine g_get hx hb hts hown hK hG 0 rfl rfl ok_X13 63 (by decide) q1534 rfl rfl dX13_count_203 ?_
      refine lv_iconst (v := (nI 2)) hx hb dX13_count_206 (by decide) ?_
      refine n_zald hx hb hK hG 42 rfl (by omega) (by decide) dX13_count_207 ?_
      refine iv (y := (nI 1)) ((hE1 42 2 rfl).trans hh2) ?_
      refine n_if_eq (tgt := 215) hx hb dX13_count_208 (by decide) (by decide) (fun z => absurd z (by decide)) (fun _ => ?_)
      refine lv_iconst (v := (nI 1)) hx hb dX13_count_211 (by decide) ?_
      refine lv_goto (tgt := 216) hx hb dX13_count_212 (by decide) ?_
      refine n_iadd hx hb dX13_count_216 ?_
      refine hend _ _ _ _ _ hS dX13_count_217 ?_
      exact ⟨_, rfl, _, hG, (hE1.mono PC_PW), ((rng_in (k := 10) (lo := 0) (hi := 17) (Nat.zero_le _) (by decide) (by decide)).trans ((show cuT t (V 30) tp.length hs.length tl.length hd 10 = (nI 2) from congrArg nI (by unfold heN; rw [hs0, hs1, hs2]; rfl)))).symm⟩
    rw [hs0] at hh0
    refine lv_aload_n hx hb dX13_count_173 rfl (lv_at hl 1 rfl) ?_
    refine g_get hx hb hts hown hK hG 0 rfl rfl ok_X13 63 (by decide) q1534 rfl rfl dX13_count_174 ?_
    refine lv_iconst (v := (nI 0)) hx hb dX13_count_177 (by decide) ?_
    refine n_zald hx hb hK hG 42 rfl (by omega) (by decide) dX13_count_178 ?_
    refine iv (y := (nI 1)) ((hE1 42 0 rfl).trans hh0) ?_
    refine n_if_eq (tgt := 186) hx hb dX13_count_179 (by decide) (by decide) (fun z => absurd z (by decide)) (fun _ => ?_)
    refine lv_iconst (v := (nI 1)) hx hb dX13_count_182 (by decide) ?_
    refine lv_goto (tgt := 187) hx hb dX13_count_183 (by decide) ?_
    have hh1 := (hhd 1 (by decide)).1
    rcases hs1 : (hd 1).isSome with _ | _
    · rw [hs1] at hh1
      refine lv_aload_n hx hb dX13_count_187 rfl (lv_at hl 1 rfl) ?_
      refine g_get hx hb hts hown hK hG 0 rfl rfl ok_X13 63 (by decide) q1534 rfl rfl dX13_count_188 ?_
      refine lv_iconst (v := (nI 1)) hx hb dX13_count_191 (by decide) ?_
      refine n_zald hx hb hK hG 42 rfl (by omega) (by decide) dX13_count_192 ?_
      refine iv (y := (nI 0)) ((hE1 42 1 rfl).trans hh1) ?_
      refine n_if_eq (tgt := 200) hx hb dX13_count_193 (by decide) (by decide) (fun _ => ?_) (fun z => absurd z (by decide))
      refine lv_iconst (v := (nI 0)) hx hb dX13_count_200 (by decide) ?_
      refine n_iadd hx hb dX13_count_201 ?_
      have hh2 := (hhd 2 (by decide)).1
      rcases hs2 : (hd 2).isSome with _ | _
      · rw [hs2] at hh2
        refine lv_aload_n hx hb dX13_count_202 rfl (lv_at hl 1 rfl) ?_
        refine g_get hx hb hts hown hK hG 0 rfl rfl ok_X13 63 (by decide) q1534 rfl rfl dX13_count_203 ?_
        refine lv_iconst (v := (nI 2)) hx hb dX13_count_206 (by decide) ?_
        refine n_zald hx hb hK hG 42 rfl (by omega) (by decide) dX13_count_207 ?_
        refine iv (y := (nI 0)) ((hE1 42 2 rfl).trans hh2) ?_
        refine n_if_eq (tgt := 215) hx hb dX13_count_208 (by decide) (by decide) (fun _ => ?_) (fun z => absurd z (by decide))
        refine lv_iconst (v := (nI 0)) hx hb dX13_count_215 (by decide) ?_
        refine n_iadd hx hb dX13_count_216 ?_
        refine hend _ _ _ _ _ hS dX13_count_217 ?_
        exact ⟨_, rfl, _, hG, (hE1.mono PC_PW), ((rng_in (k := 10) (lo := 0) (hi := 17) (Nat.zero_le _) (by decide) (by decide)).trans ((show cuT t (V 30) tp.length hs.length tl.length hd 10 = (nI 1) from congrArg nI (by unfold heN; rw [hs0, hs1, hs2]; rfl)))).symm⟩
      rw [hs2] at hh2
      refine lv_aload_n hx hb dX13_count_202 rfl (lv_at hl 1 rfl) ?_
      refine g_get hx hb hts hown hK hG 0 rfl rfl ok_X13 63 (by decide) q1534 rfl rfl dX13_count_203 ?_
      refine lv_iconst (v := (nI 2)) hx hb dX13_count_206 (by decide) ?_
      refine n_zald hx hb hK hG 42 rfl (by omega) (by decide) dX13_count_207 ?_
      refine iv (y := (nI 1)) ((hE1 42 2 rfl).trans hh2) ?_
      refine n_if_eq (tgt := 215) hx hb dX13_count_208 (by decide) (by decide) (fun z => absurd z (by decide)) (fun _ => ?_)
      refine lv_iconst (v := (nI 1)) hx hb dX13_count_211 (by decide) ?_
      refine lv_goto (tgt := 216) hx hb dX13_count_212 (by decide) ?_
      refine n_iadd hx hb dX13_count_216 ?_
      refine hend _ _ _ _ _ hS dX13_count_217 ?_
      exact ⟨_, rfl, _, hG, (hE1.mono PC_PW), ((rng_in (k := 10) (lo := 0) (hi := 17) (Nat.zero_le _) (by decide) (by decide)).trans ((show cuT t (V 30) tp.length hs.length tl.length hd 10 = (nI 2) from congrArg nI (by unfold heN; rw [hs0, hs1, hs2]; rfl)))).symm⟩
    rw [hs1] at hh1
    refine lv_aload_n hx hb dX13_count_187 rfl (lv_at hl 1 rfl) ?_
    refine g_get hx hb hts hown hK hG 0 rfl rfl ok_X13 63 (by decide) q1534 rfl rfl dX13_count_188 ?_
    refine lv_iconst (v := (nI 1)) hx hb dX13_count_191 (by decide) ?_
    refine n_zald hx hb hK hG 42 rfl (by omega) (by decide) dX13_count_192 ?_
    refine iv (y := (nI 1)) ((hE1 42 1 rfl).trans hh1) ?_
    refine n_if_eq (tgt := 200) hx hb dX13_count_193 (by decide) (by decide) (fun z => absurd z (by decide)) (fun _ => ?_)
    refine lv_iconst (v := (nI 1)) hx hb dX13_count_196 (by decide) ?_
    refine lv_goto (tgt := 201) hx hb dX13_count_197 (by decide) ?_
    refine n_iadd hx hb dX13_count_201 ?_
    have hh2 := (hhd 2 (by decide)).1
    rcases hs2 : (hd 2).isSome with _ | _
    · rw [hs2] at hh2
      refine lv_aload_n hx hb dX13_count_202 rfl (lv_at hl 1 rfl) ?_
      refine g_get hx hb hts hown hK hG 0 rfl rfl ok_X13 63 (by decide) q1534 rfl rfl dX13_count_203 ?_
      refine lv_iconst (v := (nI 2)) hx hb dX13_count_206 (by decide) ?_
      refine n_zald hx hb hK hG 42 rfl (by omega) (by decide) dX13_count_207 ?_
      refine iv (y := (nI 0)) ((hE1 42 2 rfl).trans hh2) ?_
      refine n_if_eq (tgt := 215) hx hb dX13_count_208 (by decide) (by decide) (fun _ => ?_) (fun z => absurd z (by decide))
      refine lv_iconst (v := (nI 0)) hx hb dX13_count_215 (by decide) ?_
      refine n_iadd hx hb dX13_count_216 ?_
      refine hend _ _ _ _ _ hS dX13_count_217 ?_
      exact ⟨_, rfl, _, hG, (hE1.mono PC_PW), ((rng_in (k := 10) (lo := 0) (hi := 17) (Nat.zero_le _) (by decide) (by decide)).trans ((show cuT t (V 30) tp.length hs.length tl.length hd 10 = (nI 2) from congrArg nI (by unfold heN; rw [hs0, hs1, hs2]; rfl)))).symm⟩
    rw [hs2] at hh2
    refine lv_aload_n hx hb dX13_count_202 rfl (lv_at hl 1 rfl) ?_
    refine g_get hx hb hts hown hK hG 0 rfl rfl ok_X13 63 (by decide) q1534 rfl rfl dX13_count_203 ?_
    refine lv_iconst (v := (nI 2)) hx hb dX13_count_206 (by decide) ?_
    refine n_zald hx hb hK hG 42 rfl (by omega) (by decide) dX13_count_207 ?_
    refine iv (y := (nI 1)) ((hE1 42 2 rfl).trans hh2) ?_
    refine n_if_eq (tgt := 215) hx hb dX13_count_208 (by decide) (by decide) (fun z => absurd z (by decide)) (fun _ => ?_)
    refine lv_iconst (v := (nI 1)) hx hb dX13_count_211 (by decide) ?_
    refine lv_goto (tgt := 216) hx hb dX13_count_212 (by decide) ?_
    refine n_iadd hx hb dX13_count_216 ?_
    refine hend _ _ _ _ _ hS dX13_count_217 ?_
    exact ⟨_, rfl, _, hG, (hE1.mono PC_PW), ((rng_in (k := 10) (lo := 0) (hi := 17) (Nat.zero_le _) (by decide) (by decide)).trans ((show cuT t (V 30) tp.length hs.length tl.length hd 10 = (nI 3) from congrArg nI (by unfold heN; rw [hs0, hs1, hs2]; rfl)))).symm⟩
  · have hl : lv_has ls 4 [(2, .int (nI 0)), (0, .ref o), (1, .int (nI 11))] := hl
    refine lv_tableIn (tgt := 218) (off := 211) hx hb dX13_count_7 (by decide) (by decide) rfl (by decide) ?_
    refine lv_aload_n hx hb dX13_count_218 rfl (lv_at hl 1 rfl) ?_
    refine g_get hx hb hts hown hK hG 0 rfl rfl ok_X13 48 (by decide) q1519 rfl rfl dX13_count_219 ?_
    refine lv_bipush (v := (nI 46)) hx hb dX13_count_222 (by decide) ?_
    refine n_iald hx hb hK hG 31 rfl (by omega) (by decide) dX13_count_224 ?_
    refine iv (y := (V 30 46)) (congrFun hr1 46) ?_
    refine hend _ _ _ _ _ hS dX13_count_225 ?_
    exact ⟨_, rfl, _, hG, (hE1.mono PC_PW), ((rng_in (k := 11) (lo := 0) (hi := 17) (Nat.zero_le _) (by decide) (by decide)).trans ((show cuT t (V 30) tp.length hs.length tl.length hd 11 = (V 30 46) from rfl))).symm⟩
  · have hl : lv_has ls 4 [(2, .int (nI 0)), (0, .ref o), (1, .int (nI 12))] := hl
    refine lv_tableIn (tgt := 226) (off := 219) hx hb dX13_count_7 (by decide) (by decide) rfl (by decide) ?_
    refine lv_iconst (v := (nI 0)) hx hb dX13_count_226 (by decide) ?_
    refine lv_istore_n (lv' := [(3, .int (nI 0)), (2, .int (nI 0)), (0, .ref o), (1, .int (nI 12))]) hx hb dX13_count_227 rfl hl (by decide) rfl (fun ls hl => ?_)
    have loop5 : ∀ (fu5 : Nat) (b : Nat) (y : Nat) (V5 : GI) (H : Heap) (locs : List Loc) (ls : Array Slot), xN t - b < fu5 → (b ≤ xN t) → (ncF t (V 30) b = y) → (Eqx PE V1 V5) → (V5 31 = V 30) → gP D dA o dM V5 L Rf H → va_S (AM o) H0 H locs → lv_has ls 4 [(3, .int (nI b)), (2, .int (nI y)), (0, .ref o), (1, .int (nI 12))] → W p l e (mkRm 5 106) s m args below meth c H locs 0 0 QQ (F0 m 228 ls []) := by
      intro fu5
      induction fu5 with
      | zero => intro b y V5 H locs ls hfu; exact absurd hfu (Nat.not_lt_zero _)
      | succ fu5 ih5 =>
        intro b y V5 H locs ls hfu hbn hy hE5 hrw hG hS hl
        have hyl := ncF_le t (V 30) b
        refine lv_iload_n hx hb dX13_count_228 rfl (lv_at hl 0 rfl) ?_
        refine lv_aload_n hx hb dX13_count_229 rfl (lv_at hl 2 rfl) ?_
        refine c_VI hx hb hml hts hown hK hl.1 hS ⟨Nat.le_refl _, Nat.le_refl _⟩ (met_X13_many l D dA hG (tM_to hT ((hE5 0 18 rfl).trans (hE1 0 18 rfl)) ((hE5 9 lv rfl).trans (hE1 9 lv rfl)))) (cw_X13_304 hts ⟨by decide, by decide⟩) (hG 0 _ rfl) rfl rfl rfl rfl (Nat.le_of_ble_eq_true rfl) dX13_count_230 (fun _ h => h.elim) (fun r H1 locs hq hF hS => ?_)
        obtain ⟨rfl, rfl⟩ := hq
        refine n_icmp_ge (tgt := 259) hx hb dX13_count_233 (by decide) (by omega) (by omega) (fun c233 => ?_) (fun c233 => ?_)
        · obtain rfl : b = xN t := by omega
          refine lv_iload_n hx hb dX13_count_259 rfl (lv_at hl 1 rfl) ?_
          refine hend _ _ _ _ _ hS dX13_count_260 ?_
          exact ⟨_, rfl, _, hG, ((hE1.mono PC_PW).trans (hE5.mono PE_PW)), ((rng_in (k := 12) (lo := 0) (hi := 17) (Nat.zero_le _) (by decide) (by decide)).trans ((show cuT t (V 30) tp.length hs.length tl.length hd 12 = (nI y) from congrArg nI hy))).symm⟩
        refine lv_aload_n hx hb dX13_count_236 rfl (lv_at hl 2 rfl) ?_
        refine g_get hx hb hts hown hK hG 0 rfl rfl ok_X13 48 (by decide) q1519 rfl rfl dX13_count_237 ?_
        refine lv_iload_n hx hb dX13_count_240 rfl (lv_at hl 0 rfl) ?_
        refine n_iald hx hb hK hG 31 rfl (by omega) (by decide) dX13_count_241 ?_
        refine iv (y := (V 30 b)) ((hE5 31 b rfl).trans (congrFun hr1 b)) ?_
        refine lv_if_ne (tgt := 253) hx hb dX13_count_242 (by decide) (fun c242 => ?_) (fun c242 => ?_)
        · refine lv_iinc (v := (nI (b + 1))) (lv' := [(3, .int (nI (b + 1))), (2, .int (nI y)), (0, .ref o), (1, .int (nI 12))]) hx hb dX13_count_253 hl (k := 0) rfl (nI_add _ _) (by decide) rfl (fun ls hl => ?_)
          refine lv_goto (tgt := 228) hx hb dX13_count_256 (by decide) ?_
          have hrz6 : V5 31 = V 30 := ((funext (fun j => hE5 31 j rfl)).trans hr1)
          exact ih5 (b + 1) y V5 _ _ _ (by omega) (by omega) ((nc_f c242).trans hy) hE5 hrz6 hG hS (lv_sub hl [0, 1, 2, 3] rfl)
        refine lv_iload_n hx hb dX13_count_245 rfl (lv_at hl 1 rfl) ?_
        refine lv_aload_n hx hb dX13_count_246 rfl (lv_at hl 2 rfl) ?_
        refine lv_iload_n hx hb dX13_count_247 rfl (lv_at hl 0 rfl) ?_
        refine c_VI hx hb hml hts hown hK hl.1 hS ⟨Nat.le_refl _, Nat.le_refl _⟩ (met_X13_costsOf l D dA hG (txM_PW ((hE1.mono PC_PW).trans (hE5.mono PE_PW)) hX) b (by omega)) (cw_X13_374 hts ⟨by decide, by decide⟩) (hG 0 _ rfl) rfl rfl rfl rfl (Nat.le_of_ble_eq_true rfl) dX13_count_248 (fun _ h => h) (fun r H1 locs hq hF hS => ?_)
        obtain ⟨V7, hG, hE7, hr7⟩ := hq
        generalize hHe7 : H1 = H at hG hS ⊢
        clear hHe7
        have hr7 : r = cosF t (V 30) b := hr7.trans (congrArg (fun z => cosF t z b) (((funext (fun j => hE5 31 j rfl)).trans hr1)))
        subst hr7
        refine iv (y := nI (coN t (V 30) b)) (cos_n t (V 30) b).1 ?_
        have hle248 := (cos_n t (V 30) b).2
        refine n_iadd hx hb dX13_count_251 ?_
        refine lv_istore_n (lv' := [(2, .int (nI (y + (coN t (V 30) b)))), (3, .int (nI b)), (0, .ref o), (1, .int (nI 12))]) hx hb dX13_count_252 rfl hl (by decide) rfl (fun ls hl => ?_)
        refine lv_iinc (v := (nI (b + 1))) (lv' := [(3, .int (nI (b + 1))), (2, .int (nI (y + (coN t (V 30) b)))), (0, .ref o), (1, .int (nI 12))]) hx hb dX13_count_253 hl (k := 1) rfl (nI_add _ _) (by decide) rfl (fun ls hl => ?_)
        refine lv_goto (tgt := 228) hx hb dX13_count_256 (by decide) ?_
        have hrz8 : V7 31 = V 30 := (((funext (fun j => hE7 31 j rfl)).trans (funext (fun j => hE5 31 j rfl))).trans hr1)
        exact ih5 (b + 1) (y + (coN t (V 30) b)) V7 _ _ _ (by omega) (by omega) ((nc_t c242).trans (by rw [hy])) (Eqx.trans hE5 hE7) hrz8 hG hS (lv_sub hl [0, 1, 2, 3] rfl)
    exact loop5 ((xN t - 0) + 1) 0 0 V1 _ _ _ (Nat.lt_succ_self _) (by omega) rfl Eqx.rf hr1 hG hS (lv_sub hl [0, 1, 2, 3] rfl)
  · have hl : lv_has ls 4 [(2, .int (nI 0)), (0, .ref o), (1, .int (nI 13))] := hl
    refine lv_tableIn (tgt := 261) (off := 254) hx hb dX13_count_7 (by decide) (by decide) rfl (by decide) ?_
    refine lv_aload_n hx hb dX13_count_261 rfl (lv_at hl 1 rfl) ?_
    refine g_get hx hb hts hown hK hG 0 rfl rfl ok_X13 28 (by decide) q1499 rfl rfl dX13_count_262 ?_
    refine lv_aload_n hx hb dX13_count_265 rfl (lv_at hl 1 rfl) ?_
    refine g_get (v := .int (nI lv)) hx hb hts hown hK hG 0 rfl rfl ok_X13 18 (by decide) q1489 rfl (congrArg Value.int ((hE1 0 18 rfl).trans hT.2.2.1)) dX13_count_266 ?_
    refine n_iald hx hb hK hG 15 rfl (by omega) (by decide) dX13_count_269 ?_
    refine iv (y := (xR t)) ((hE1 15 lv rfl).trans hX.2.1) ?_
    refine hend _ _ _ _ _ hS dX13_count_270 ?_
    exact ⟨_, rfl, _, hG, (hE1.mono PC_PW), ((rng_in (k := 13) (lo := 0) (hi := 17) (Nat.zero_le _) (by decide) (by decide)).trans ((show cuT t (V 30) tp.length hs.length tl.length hd 13 = (xR t) from rfl))).symm⟩
  · have hl : lv_has ls 4 [(2, .int (nI 0)), (0, .ref o), (1, .int (nI 14))] := hl
    refine lv_tableIn (tgt := 271) (off := 264) hx hb dX13_count_7 (by decide) (by decide) rfl (by decide) ?_
    refine lv_aload_n hx hb dX13_count_271 rfl (lv_at hl 1 rfl) ?_
    refine lv_bipush (v := (nI 36)) hx hb dX13_count_272 (by decide) ?_
    refine c_VI hx hb hml hts hown hK hl.1 hS ⟨Nat.le_refl _, Nat.le_refl _⟩ (met_X13_sumNow l D dA hG 36 (by decide)) (cw_X13_434 hts ⟨by decide, by decide⟩) (hG 0 _ rfl) rfl rfl rfl rfl (Nat.le_of_ble_eq_true rfl) dX13_count_274 (fun _ h => h.elim) (fun r H1 locs hq hF hS => ?_)
    obtain ⟨rfl, rfl⟩ := hq
    refine iv (y := sumI (V 30) 36 9) (congrArg (fun z => sumI z 36 9) ((funext (fun j => hE1 30 j rfl)))) ?_
    refine hend _ _ _ _ _ hS dX13_count_277 ?_
    exact ⟨_, rfl, _, hG, (hE1.mono PC_PW), ((rng_in (k := 14) (lo := 0) (hi := 17) (Nat.zero_le _) (by decide) (by decide)).trans ((show cuT t (V 30) tp.length hs.length tl.length hd 14 = (sumI (V 30) 36 9) from rfl))).symm⟩
  · have hl : lv_has ls 4 [(2, .int (nI 0)), (0, .ref o), (1, .int (nI 15))] := hl
    refine lv_tableIn (tgt := 278) (off := 271) hx hb dX13_count_7 (by decide) (by decide) rfl (by decide) ?_
    refine lv_aload_n hx hb dX13_count_278 rfl (lv_at hl 1 rfl) ?_
    refine g_get hx hb hts hown hK hG 0 rfl rfl ok_X13 48 (by decide) q1519 rfl rfl dX13_count_279 ?_
    refine lv_bipush (v := (nI 47)) hx hb dX13_count_282 (by decide) ?_
    refine n_iald hx hb hK hG 31 rfl (by omega) (by decide) dX13_count_284 ?_
    refine iv (y := (V 30 47)) (congrFun hr1 47) ?_
    refine hend _ _ _ _ _ hS dX13_count_285 ?_
    exact ⟨_, rfl, _, hG, (hE1.mono PC_PW), ((rng_in (k := 15) (lo := 0) (hi := 17) (Nat.zero_le _) (by decide) (by decide)).trans ((show cuT t (V 30) tp.length hs.length tl.length hd 15 = (V 30 47) from rfl))).symm⟩
  · have hl : lv_has ls 4 [(2, .int (nI 0)), (0, .ref o), (1, .int (nI 16))] := hl
    refine lv_tableIn (tgt := 286) (off := 279) hx hb dX13_count_7 (by decide) (by decide) rfl (by decide) ?_
    refine lv_aload_n hx hb dX13_count_286 rfl (lv_at hl 1 rfl) ?_
    refine lv_bipush (v := (nI 9)) hx hb dX13_count_287 (by decide) ?_
    refine c_VI hx hb hml hts hown hK hl.1 hS ⟨Nat.le_refl _, Nat.le_refl _⟩ (met_X13_sumNow l D dA hG 9 (by decide)) (cw_X13_434 hts ⟨by decide, by decide⟩) (hG 0 _ rfl) rfl rfl rfl rfl (Nat.le_of_ble_eq_true rfl) dX13_count_289 (fun _ h => h.elim) (fun r H1 locs hq hF hS => ?_)
    obtain ⟨rfl, rfl⟩ := hq
    refine iv (y := sumI (V 30) 9 9) (congrArg (fun z => sumI z 9 9) ((funext (fun j => hE1 30 j rfl)))) ?_
    refine hend _ _ _ _ _ hS dX13_count_292 ?_
    exact ⟨_, rfl, _, hG, (hE1.mono PC_PW), ((rng_in (k := 16) (lo := 0) (hi := 17) (Nat.zero_le _) (by decide) (by decide)).trans ((show cuT t (V 30) tp.length hs.length tl.length hd 16 = (sumI (V 30) 9 9) from rfl))).symm⟩
