
theorem hour_cg {t : Txt} {a a' b b' : Int32} {f f' : Nat → Int32} (h1 : a = a') (h2 : b = b') (h3 : f = f') : hourF t a b f = hourF t a' b' f' := by rw [h1, h2, h3]
theorem go_cg {t : Txt} {a a' b b' : Int32} {k : Nat} {f f' : Nat → Int32} (h1 : a = a') (h2 : b = b') (h3 : f = f') : goF t a b k f = goF t a' b' k f' := by rw [h1, h2, h3]
theorem cw_X13_358 {R : Room} {s : State} {args : Array Value} (hts : ∀ w ∈ lw_all, w.before args s = true) {f w k j : Nat} (hR : f + 1 ≤ R.frames ∧ 8 + (3 + 11) + w ≤ R.locals) : CallW R s args RX13 RX13 358 yX13_hourGoes cX13_hourGoes 3 none (ws_ yX13_hourGoes cX13_hourGoes 3 none) (mkRmC f w k j) k j 0 := cwV 0 hts (lw_V q1860 q1862 qs86 q129 q1863) rfl rfl rfl (by decide +kernel) hR
set_option maxHeartbeats 4000000 in
theorem met_X13_goes (l : Launch) (D : va_G) (dA : Nat → ClassId) {o : Nat} {V : GI} {L : GL} {Rf : GR} {H0 : Heap} (hG : gP D dA o dM V L Rf H0) {lv : Nat} {t : Txt} (hX : txM V lv t) (q : Nat) (hq9 : q < 1000) : Ctr l D dA yX13_goes cX13_goes 3 none (mkRm 6 128) [.ref o, .int (nI q)] H0 (AM o) (QV (fun H1 => ∃ V1, gP D dA o dM V1 L Rf H1 ∧ Eqx PH V V1 ∧ V1 31 = goF t (V 0 50) (V 0 49) q (V 31))) := by
  have hT := hX.1
  have hT1 := hT.1
  have hT2 := hT.2.1
  refine ctr_V (by decide) (Nat.le_of_ble_eq_true rfl) ?_
  intro p e s m args below meth c ls QQ locs hx hb hml hown hts hK hend hS hl
  have hl : lv_has ls 3 [(0, .ref o), (1, .int (nI q))] := hl
  refine lv_iconst (v := (nI 0)) hx hb dX13_goes_0 (by decide) ?_
  refine lv_istore_n (lv' := [(2, .int (nI 0)), (0, .ref o), (1, .int (nI q))]) hx hb dX13_goes_1 rfl hl (by decide) rfl (fun ls hl => ?_)
  have loop1 : ∀ (fu1 : Nat) (k : Nat) (V1 : GI) (H : Heap) (locs : List Loc) (ls : Array Slot), q - k < fu1 → (k ≤ q) → (Eqx PH V V1) → (V1 31 = goF t (V 0 50) (V 0 49) k (V 31)) → gP D dA o dM V1 L Rf H → va_S (AM o) H0 H locs → lv_has ls 3 [(2, .int (nI k)), (0, .ref o), (1, .int (nI q))] → W p l e (mkRm 6 128) s m args below meth c H locs 0 0 QQ (F0 m 2 ls []) := by
    intro fu1
    induction fu1 with
    | zero => intro k V1 H locs ls hfu; exact absurd hfu (Nat.not_lt_zero _)
    | succ fu1 ih1 =>
      intro k V1 H locs ls hfu hk hE1 hgo hG hS hl
      refine lv_iload_n hx hb dX13_goes_2 rfl (lv_at hl 0 rfl) ?_
      refine lv_iload_n hx hb dX13_goes_3 rfl (lv_at hl 2 rfl) ?_
      refine n_icmp_ge (tgt := 17) hx hb dX13_goes_4 (by decide) (by omega) (by omega) (fun c4 => ?_) (fun c4 => ?_)
      · refine hend _ _ _ _ hS dX13_goes_17 ?_
        obtain rfl : k = q := by omega
        exact ⟨rfl, _, hG, hE1, hgo⟩
      refine lv_aload_n hx hb dX13_goes_7 rfl (lv_at hl 1 rfl) ?_
      refine c_VV hx hb hml hts hown hK hl.1 hS ⟨Nat.le_refl _, Nat.le_refl _⟩ (met_X13_hourGoes l D dA hG (txM_PH hE1 hX)) (cw_X13_358 hts ⟨by decide, by decide⟩) (hG 0 _ rfl) rfl rfl rfl rfl (Nat.le_of_ble_eq_true rfl) dX13_goes_8 (fun _ h => h) (fun H1 locs hq hF hS => ?_)
      obtain ⟨V2, hG, hE2, hr2⟩ := hq
      generalize hHe2 : H1 = H at hG hS ⊢
      clear hHe2
      have hr2 : V2 31 = hourF t (V 0 50) (V 0 49) (goF t (V 0 50) (V 0 49) k (V 31)) := hr2.trans (hour_cg (hE1 0 50 rfl) (hE1 0 49 rfl) hgo)
      refine lv_iinc (v := (nI (k + 1))) (lv' := [(2, .int (nI (k + 1))), (0, .ref o), (1, .int (nI q))]) hx hb dX13_goes_11 hl (k := 0) rfl (nI_add _ _) (by decide) rfl (fun ls hl => ?_)
      refine lv_goto (tgt := 2) hx hb dX13_goes_14 (by decide) ?_
      exact ih1 (k + 1) V2 _ _ _ (by omega) (by omega) (Eqx.trans hE1 hE2) hr2 hG hS (lv_sub hl [0, 1, 2] rfl)
  exact loop1 ((q - 0) + 1) 0 V _ _ _ (Nat.lt_succ_self _) (by omega) Eqx.rf rfl hG hS (lv_sub hl [0, 1, 2] rfl)
theorem cw_X13_361 {R : Room} {s : State} {args : Array Value} (hts : ∀ w ∈ lw_all, w.before args s = true) {f w k j : Nat} (hR : f + 1 ≤ R.frames ∧ 8 + (1 + 11) + w ≤ R.locals) : CallW R s args RX13 RX13 361 yX13_copiesStill cX13_copiesStill 1 none (ws_ yX13_copiesStill cX13_copiesStill 1 none) (mkRmC f w k j) k j 0 := cwV 0 hts (lw_V q1892 q1894 qs91 q129 q1895) rfl rfl rfl (by decide +kernel) hR
theorem cw_X13_364 {R : Room} {s : State} {args : Array Value} (hts : ∀ w ∈ lw_all, w.before args s = true) {f w k j : Nat} (hR : f + 1 ≤ R.frames ∧ 8 + (3 + 11) + w ≤ R.locals) : CallW R s args RX13 RX13 364 yX13_laysRow cX13_laysRow 3 none (ws_ yX13_laysRow cX13_laysRow 3 none) (mkRmC f w k j) k j 1 := cwV 1 hts (lw_V q1896 q1898 qs92 q129 q1899) rfl rfl rfl (by decide +kernel) hR
theorem cw_X13_367 {R : Room} {s : State} {args : Array Value} (hts : ∀ w ∈ lw_all, w.before args s = true) {f w k j : Nat} (hR : f + 1 ≤ R.frames ∧ 8 + (3 + 11) + w ≤ R.locals) : CallW R s args RX13 RX13 367 yX13_goes cX13_goes 3 none (ws_ yX13_goes cX13_goes 3 none) (mkRmC f w k j) k j 1 := cwV 1 hts (lw_V q1856 q1858 qs85 q129 q1859) rfl rfl rfl (by decide +kernel) hR
theorem cw_X13_370 {R : Room} {s : State} {args : Array Value} (hts : ∀ w ∈ lw_all, w.before args s = true) {f w k j : Nat} (hR : f + 1 ≤ R.frames ∧ 8 + (3 + 11) + w ≤ R.locals) : CallW R s args RX13 RX13 370 yX13_rowBits cX13_rowBits 3 (some .int) (ws_ yX13_rowBits cX13_rowBits 3 (some .int)) (mkRmC f w k j) k j 0 := cwV 0 hts (lw_V q1900 q1902 qs93 q129 q1903) rfl rfl rfl (by decide +kernel) hR
set_option maxHeartbeats 4000000 in
theorem met_X13_rowAfter (l : Launch) (D : va_G) (dA : Nat → ClassId) {o : Nat} {V : GI} {L : GL} {Rf : GR} {H0 : Heap} (hG : gP D dA o dM V L Rf H0) {lv : Nat} {t : Txt} (hX : txM V lv t) (x q : Nat) (hx9 : x < 512) (hq9 : q < 1000) : Ctr l D dA yX13_rowAfter cX13_rowAfter 3 (some .int) (mkRm 7 150) [.ref o, .int (nI x), .int (nI q)] H0 (AM o) (QI (fun r H1 => ∃ V1, gP D dA o dM V1 L Rf H1 ∧ Eqx PW V V1 ∧ r = nI (raF t (V 30) x q))) := by
  have hT := hX.1
  have hT1 := hT.1
  have hT2 := hT.2.1
  refine ctr_I (by decide) (Nat.le_of_ble_eq_true rfl) ?_
  intro p e s m args below meth c ls QQ locs hx hb hml hown hts hK hend hS hl
  have hl : lv_has ls 3 [(0, .ref o), (1, .int (nI x)), (2, .int (nI q))] := hl
  refine lv_aload_n hx hb dX13_rowAfter_0 rfl (lv_at hl 0 rfl) ?_
  refine c_VV hx hb hml hts hown hK hl.1 hS ⟨Nat.le_refl _, Nat.le_refl _⟩ (met_X13_copiesStill l D dA hG hX) (cw_X13_361 hts ⟨by decide, by decide⟩) (hG 0 _ rfl) rfl rfl rfl rfl (Nat.le_of_ble_eq_true rfl) dX13_rowAfter_1 (fun _ h => h) (fun H1 locs hq hF hS => ?_)
  obtain ⟨V1, hG, hE1, hr1, hl1, hs1⟩ := hq
  generalize hHe1 : H1 = H at hG hS ⊢
  clear hHe1
  refine lv_aload_n hx hb dX13_rowAfter_4 rfl (lv_at hl 0 rfl) ?_
  refine lv_iload_n hx hb dX13_rowAfter_5 rfl (lv_at hl 1 rfl) ?_
  refine c_VV hx hb hml hts hown hK hl.1 hS ⟨Nat.le_refl _, Nat.le_refl _⟩ (met_X13_laysRow l D dA hG (txM_PW (hE1.mono PC_PW) hX) x (by omega)) (cw_X13_364 hts ⟨by decide, by decide⟩) (hG 0 _ rfl) rfl rfl rfl rfl (Nat.le_of_ble_eq_true rfl) dX13_rowAfter_6 (fun _ h => h) (fun H1 locs hq hF hS => ?_)
  obtain ⟨V2, hG, hE2, hr2⟩ := hq
  generalize hHe2 : H1 = H at hG hS ⊢
  clear hHe2
  rw [hr1] at hr2
  refine lv_aload_n hx hb dX13_rowAfter_9 rfl (lv_at hl 0 rfl) ?_
  refine lv_iload_n hx hb dX13_rowAfter_10 rfl (lv_at hl 2 rfl) ?_
  refine c_VV hx hb hml hts hown hK hl.1 hS ⟨Nat.le_refl _, Nat.le_refl _⟩ (met_X13_goes l D dA hG (txM_PW ((hE1.mono PC_PW).trans (hE2.mono PR_PW)) hX) q (by omega)) (cw_X13_367 hts ⟨by decide, by decide⟩) (hG 0 _ rfl) rfl rfl rfl rfl (Nat.le_of_ble_eq_true rfl) dX13_rowAfter_11 (fun _ h => h) (fun H1 locs hq hF hS => ?_)
  obtain ⟨V3, hG, hE3, hr3⟩ := hq
  generalize hHe3 : H1 = H at hG hS ⊢
  clear hHe3
  have hr3 : V3 31 = goF t (nI 1) (xS t) q (layF (xN t) x (V 30)) := hr3.trans (go_cg ((hE2 0 50 rfl).trans hs1) ((hE2 0 49 rfl).trans hl1) hr2)
  refine lv_aload_n hx hb dX13_rowAfter_14 rfl (lv_at hl 0 rfl) ?_
  refine c_VI hx hb hml hts hown hK hl.1 hS ⟨Nat.le_refl _, Nat.le_refl _⟩ (met_X13_rowBits l D dA hG (txM_PW (((hE1.mono PC_PW).trans (hE2.mono PR_PW)).trans (hE3.mono PH_PW)) hX) (by rw [hr3]; exact (go_RV lay_RV _))) (cw_X13_370 hts ⟨by decide, by decide⟩) (hG 0 _ rfl) rfl rfl rfl rfl (Nat.le_of_ble_eq_true rfl) dX13_rowAfter_15 (fun _ h => h.elim) (fun r H1 locs hq hF hS => ?_)
  obtain ⟨rfl, rfl⟩ := hq
  refine iv (y := nI (rbF (goF t (nI 1) (xS t) q (layF (xN t) x (V 30))) (xN t))) (by rw [hr3]) ?_
  refine hend _ _ _ _ _ hS dX13_rowAfter_18 ?_
  exact ⟨_, rfl, _, hG, (((hE1.mono PC_PW).trans (hE2.mono PR_PW)).trans (hE3.mono PH_PW)), rfl⟩
