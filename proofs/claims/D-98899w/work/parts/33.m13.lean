theorem obF_t {hit : Nat → Bool} {k : Nat} (h : hit k = true) : obF hit (k + 1) = obF hit k ||| 1 * 2 ^ k := by simp only [obF]; rw [if_pos h]
theorem obF_f {hit : Nat → Bool} {k : Nat} (h : ¬ hit k = true) : obF hit (k + 1) = obF hit k := by simp only [obF]; rw [if_neg h]
theorem rc_t {f : Nat → Int32} {b : Nat} (h : f b = nI 1) : rcF f (b + 1) = rcF f b := by simp only [rcF]; rw [if_pos h]
theorem rc_f {f : Nat → Int32} {b : Nat} (h : ¬ f b = nI 1) : rcF f (b + 1) = rcF f b + 1 := by simp only [rcF]; rw [if_neg h]
theorem rs_t {t : Txt} {f : Nat → Int32} {b : Nat} (h : f b = nI 1) : rsF t f (b + 1) = rsF t f b := by simp only [rsF]; rw [if_pos h]
theorem rs_f {t : Txt} {f : Nat → Int32} {b : Nat} (h : ¬ f b = nI 1) : rsF t f (b + 1) = rsF t f b + coN t f b := by simp only [rsF]; rw [if_neg h]
set_option maxHeartbeats 4000000 in
theorem met_X13_round (l : Launch) (D : va_G) (dA : Nat → ClassId) {o : Nat} {V : GI} {L : GL} {Rf : GR} {H0 : Heap} (hG : gP D dA o dM V L Rf H0) {lv : Nat} {t : Txt} (hX : txM V lv t) (hrv : RV (xN t) (V 30)) (v1 v2 : Int32) : Ctr l D dA yX13_round cX13_round 7 (some .int) (mkRm 6 128) [.ref o, .int v1, .int v2] H0 (AM o) (QI (fun r H1 => ∃ V1, gP D dA o dM V1 L Rf H1 ∧ Eqx PW V V1 ∧ r = roundA t (V 30) v1 v2)) := by
  have hT := hX.1
  have hT1 := hT.1
  have hT2 := hT.2.1
  have hp2 := two9 hT2
  have hpp := Nat.two_pow_pos (xN t)
  refine ctr_I (by decide) (Nat.le_of_ble_eq_true rfl) ?_
  intro p e s m args below meth c ls QQ locs hx hb hml hown hts hK hend hS hl
  have hl : lv_has ls 7 [(0, .ref o), (1, .int v1), (2, .int v2)] := hl
  refine lv_iload_n hx hb dX13_round_0 rfl (lv_at hl 1 rfl) ?_
  refine lv_iconst (v := (nI 1)) hx hb dX13_round_1 (by decide) ?_
  refine lv_bipush (v := (nI 48)) hx hb dX13_round_2 (by decide) ?_
  refine c_SI hx hb hml hts hown hK hl.1 hS ⟨Nat.le_refl _, Nat.le_refl _⟩ (met_X13_in l D dA v1 (nI 1) (nI 48)) (cw_X13_308 hts ⟨by decide, by decide⟩) rfl rfl (Nat.le_of_ble_eq_true rfl) dX13_round_4 (fun _ h => h.elim) (fun r H1 locs hq hF hS => ?_)
  obtain ⟨rfl, rfl⟩ := hq
  rcases (inZ_cases v1 1 48 (by decide) (by decide)).symm with ⟨hz4, ho4⟩ | ⟨x1, hlo_x1, hhi_x1, rfl, hz4⟩
  · refine iv (y := nI 0) hz4 ?_
    refine n_if_eq (tgt := 19) hx hb dX13_round_7 (by decide) (by decide) (fun _ => ?_) (fun z => absurd z (by decide))
    refine lv_iconst (v := (-1)) hx hb dX13_round_19 (by decide) ?_
    refine hend _ _ _ _ _ hS dX13_round_20 ?_
    exact ⟨_, rfl, _, hG, Eqx.rf, ((ho4.1 _ _)).symm⟩
  refine iv (y := nI 1) hz4 ?_
  have hl : lv_has ls 7 [(0, .ref o), (1, .int (nI x1)), (2, .int v2)] := hl
  refine n_if_eq (tgt := 19) hx hb dX13_round_7 (by decide) (by decide) (fun z => absurd z (by decide)) (fun _ => ?_)
  refine lv_iload_n hx hb dX13_round_10 rfl (lv_at hl 2 rfl) ?_
  refine lv_iconst (v := (nI 0)) hx hb dX13_round_11 (by decide) ?_
  refine lv_iconst (v := (nI 1)) hx hb dX13_round_12 (by decide) ?_
  refine c_SI hx hb hml hts hown hK hl.1 hS ⟨Nat.le_refl _, Nat.le_refl _⟩ (met_X13_in l D dA v2 (nI 0) (nI 1)) (cw_X13_308 hts ⟨by decide, by decide⟩) rfl rfl (Nat.le_of_ble_eq_true rfl) dX13_round_13 (fun _ h => h.elim) (fun r H1 locs hq hF hS => ?_)
  obtain ⟨rfl, rfl⟩ := hq
  rcases (inZ_cases v2 0 1 (by decide) (by decide)).symm with ⟨hz13, ho13⟩ | ⟨x2, hlo_x2, hhi_x2, rfl, hz13⟩
  · refine iv (y := nI 0) hz13 ?_
    refine n_if_ne (tgt := 21) hx hb dX13_round_16 (by decide) (by decide) (fun z => absurd z (by decide)) (fun _ => ?_)
    refine lv_iconst (v := (-1)) hx hb dX13_round_19 (by decide) ?_
    refine hend _ _ _ _ _ hS dX13_round_20 ?_
    exact ⟨_, rfl, _, hG, Eqx.rf, ((rng_in hlo_x1 hhi_x1 (by omega)).trans ((ho13.1 _ _))).symm⟩
  refine iv (y := nI 1) hz13 ?_
  have hl : lv_has ls 7 [(0, .ref o), (1, .int (nI x1)), (2, .int (nI x2))] := hl
  refine n_if_ne (tgt := 21) hx hb dX13_round_16 (by decide) (by decide) (fun _ => ?_) (fun z => absurd z (by decide))
  refine lv_aload_n hx hb dX13_round_21 rfl (lv_at hl 0 rfl) ?_
  refine c_VV hx hb hml hts hown hK hl.1 hS ⟨Nat.le_refl _, Nat.le_refl _⟩ (met_X13_copiesStill l D dA hG hX) (cw_X13_361 hts ⟨by decide, by decide⟩) (hG 0 _ rfl) rfl rfl rfl rfl (Nat.le_of_ble_eq_true rfl) dX13_round_22 (fun _ h => h) (fun H1 locs hq hF hS => ?_)
  obtain ⟨V1, hG, hE1, hr1, hl1, hs1⟩ := hq
  generalize hHe1 : H1 = H at hG hS ⊢
  clear hHe1
  refine lv_iconst (v := (nI 0)) hx hb dX13_round_25 (by decide) ?_
  refine lv_istore_n (lv' := [(3, .int (nI 0)), (0, .ref o), (1, .int (nI x1)), (2, .int (nI x2))]) hx hb dX13_round_26 rfl hl (by decide) rfl (fun ls hl => ?_)
  refine lv_iconst (v := (nI 0)) hx hb dX13_round_27 (by decide) ?_
  refine lv_istore (lv' := [(4, .int (nI 0)), (3, .int (nI 0)), (0, .ref o), (1, .int (nI x1)), (2, .int (nI x2))]) hx hb dX13_round_28 hl (by decide) rfl (fun ls hl => ?_)
  refine lv_iconst (v := (nI 0)) hx hb dX13_round_30 (by decide) ?_
  refine lv_istore (lv' := [(5, .int (nI 0)), (4, .int (nI 0)), (3, .int (nI 0)), (0, .ref o), (1, .int (nI x1)), (2, .int (nI x2))]) hx hb dX13_round_31 hl (by decide) rfl (fun ls hl => ?_)
  have loop2 : ∀ (fu2 : Nat) (k : Nat) (y : Nat) (z : Nat) (V2 : GI) (H : Heap) (locs : List Loc) (ls : Array Slot), x1 - k < fu2 → (k ≤ x1) → (rdC t (V 30) k = y) → (rdS t (V 30) k = z) → (Eqx PH V1 V2) → (V2 31 = rdR t (V 30) k) → gP D dA o dM V2 L Rf H → va_S (AM o) H0 H locs → lv_has ls 7 [(5, .int (nI k)), (4, .int (nI z)), (3, .int (nI y)), (0, .ref o), (1, .int (nI x1)), (2, .int (nI x2))] → W p l e (mkRm 6 128) s m args below meth c H locs 0 0 QQ (F0 m 33 ls []) := by
    intro fu2
    induction fu2 with
    | zero => intro k y z V2 H locs ls hfu; exact absurd hfu (Nat.not_lt_zero _)
    | succ fu2 ih2 =>
      intro k y z V2 H locs ls hfu hk hy hz hE2 hrw hG hS hl
      have hb1 := rdC_le (t := t) (f := V 30) hT2 k
      have hb2 := rdS_le (t := t) (f := V 30) hT2 k
      refine lv_iload hx hb dX13_round_33 (lv_at hl 0 rfl) ?_
      refine lv_iload_n hx hb dX13_round_35 rfl (lv_at hl 4 rfl) ?_
      refine n_icmp_ge (tgt := 103) hx hb dX13_round_36 (by decide) (by omega) (by omega) (fun c36 => ?_) (fun c36 => ?_)
      · obtain rfl : k = x1 := by omega
        refine lv_iload_n hx hb dX13_round_103 rfl (lv_at hl 5 rfl) ?_
        refine n_if_ne (tgt := 111) hx hb dX13_round_104 (by decide) (by omega) (fun c104 => ?_) (fun c104 => ?_)
        · refine lv_iload hx hb dX13_round_111 (lv_at hl 1 rfl) ?_
          refine hend _ _ _ _ _ hS dX13_round_113 ?_
          exact ⟨_, rfl, _, hG, ((hE1.mono PC_PW).trans (hE2.mono PH_PW)), ((rng_in hlo_x1 hhi_x1 (by omega)).trans ((rng_in hlo_x2 hhi_x2 (by omega)).trans (((if_neg (by omega)).trans (congrArg nI hz))))).symm⟩
        refine lv_iload_n hx hb dX13_round_107 rfl (lv_at hl 2 rfl) ?_
        refine lv_goto (tgt := 113) hx hb dX13_round_108 (by decide) ?_
        refine hend _ _ _ _ _ hS dX13_round_113 ?_
        exact ⟨_, rfl, _, hG, ((hE1.mono PC_PW).trans (hE2.mono PH_PW)), ((rng_in hlo_x1 hhi_x1 (by omega)).trans ((rng_in hlo_x2 hhi_x2 (by omega)).trans (((if_pos c104).trans (congrArg nI hy))))).symm⟩
      refine lv_iconst (v := (nI 0)) hx hb dX13_round_39 (by decide) ?_
      refine lv_istore (lv' := [(6, .int (nI 0)), (5, .int (nI k)), (4, .int (nI z)), (3, .int (nI y)), (0, .ref o), (1, .int (nI x1)), (2, .int (nI x2))]) hx hb dX13_round_40 hl (by decide) rfl (fun ls hl => ?_)
      have loop3 : ∀ (fu3 : Nat) (b : Nat) (y : Nat) (z : Nat) (V3 : GI) (H : Heap) (locs : List Loc) (ls : Array Slot), xN t - b < fu3 → (b ≤ xN t) → (rdC t (V 30) k + rcF (rdR t (V 30) k) b = y) → (rdS t (V 30) k + rsF t (rdR t (V 30) k) b = z) → (Eqx PE V2 V3) → (V3 31 = rdR t (V 30) k) → gP D dA o dM V3 L Rf H → va_S (AM o) H0 H locs → lv_has ls 7 [(6, .int (nI b)), (5, .int (nI k)), (4, .int (nI z)), (3, .int (nI y)), (0, .ref o), (1, .int (nI x1)), (2, .int (nI x2))] → W p l e (mkRm 6 128) s m args below meth c H locs 0 0 QQ (F0 m 42 ls []) := by
        intro fu3
        induction fu3 with
        | zero => intro b y z V3 H locs ls hfu; exact absurd hfu (Nat.not_lt_zero _)
        | succ fu3 ih3 =>
          intro b y z V3 H locs ls hfu hbn hy hz hE3 hrw2 hG hS hl
          have hb3 := rcF_le (rdR t (V 30) k) b
          have hb4 := rsF_le t (rdR t (V 30) k) b
          refine lv_iload hx hb dX13_round_42 (lv_at hl 0 rfl) ?_
          refine lv_aload_n hx hb dX13_round_44 rfl (lv_at hl 4 rfl) ?_
          refine c_VI hx hb hml hts hown hK hl.1 hS ⟨Nat.le_refl _, Nat.le_refl _⟩ (met_X13_many l D dA hG (tM_to hT ((hE3 0 18 rfl).trans ((hE2 0 18 rfl).trans (hE1 0 18 rfl))) ((hE3 9 lv rfl).trans ((hE2 9 lv rfl).trans (hE1 9 lv rfl))))) (cw_X13_304 hts ⟨by decide, by decide⟩) (hG 0 _ rfl) rfl rfl rfl rfl (Nat.le_of_ble_eq_true rfl) dX13_round_45 (fun _ h => h.elim) (fun r H1 locs hq hF hS => ?_)
          obtain ⟨rfl, rfl⟩ := hq
          refine n_icmp_ge (tgt := 85) hx hb dX13_round_48 (by decide) (by omega) (by omega) (fun c48 => ?_) (fun c48 => ?_)
          · obtain rfl : b = xN t := by omega
            refine lv_aload_n hx hb dX13_round_85 rfl (lv_at hl 4 rfl) ?_
            refine lv_aload_n hx hb dX13_round_86 rfl (lv_at hl 4 rfl) ?_
            refine c_VI hx hb hml hts hown hK hl.1 hS ⟨Nat.le_refl _, Nat.le_refl _⟩ (met_X13_allBits l D dA hG (tM_to hT ((hE3 0 18 rfl).trans ((hE2 0 18 rfl).trans (hE1 0 18 rfl))) ((hE3 9 lv rfl).trans ((hE2 9 lv rfl).trans (hE1 9 lv rfl))))) (cw_X13_312 hts ⟨by decide, by decide⟩) (hG 0 _ rfl) rfl rfl rfl rfl (Nat.le_of_ble_eq_true rfl) dX13_round_87 (fun _ h => h.elim) (fun r H1 locs hq hF hS => ?_)
            obtain ⟨rfl, rfl⟩ := hq
            refine c_VV hx hb hml hts hown hK hl.1 hS ⟨Nat.le_refl _, Nat.le_refl _⟩ (met_X13_laysRow l D dA hG (txM_PW (((hE1.mono PC_PW).trans (hE2.mono PH_PW)).trans (hE3.mono PE_PW)) hX) (2 ^ (xN t) - 1) (by omega)) (cw_X13_364 hts ⟨by decide, by decide⟩) (hG 0 _ rfl) rfl rfl rfl rfl (Nat.le_of_ble_eq_true rfl) dX13_round_90 (fun _ h => h) (fun H1 locs hq hF hS => ?_)
            obtain ⟨V4, hG, hE4, hr4⟩ := hq
            generalize hHe4 : H1 = H at hG hS ⊢
            clear hHe4
            rw [((funext (fun j => hE3 31 j rfl)).trans hrw)] at hr4
            refine lv_aload_n hx hb dX13_round_93 rfl (lv_at hl 4 rfl) ?_
            refine c_VV hx hb hml hts hown hK hl.1 hS ⟨Nat.le_refl _, Nat.le_refl _⟩ (met_X13_hourGoes l D dA hG (txM_PW ((((hE1.mono PC_PW).trans (hE2.mono PH_PW)).trans (hE3.mono PE_PW)).trans (hE4.mono PR_PW)) hX)) (cw_X13_358 hts ⟨by decide, by decide⟩) (hG 0 _ rfl) rfl rfl rfl rfl (Nat.le_of_ble_eq_true rfl) dX13_round_94 (fun _ h => h) (fun H1 locs hq hF hS => ?_)
            obtain ⟨V5, hG, hE5, hr5⟩ := hq
            generalize hHe5 : H1 = H at hG hS ⊢
            clear hHe5
            have hr5 : V5 31 = hourF t (nI 1) (xS t) (layF (xN t) (2 ^ (xN t) - 1) (rdR t (V 30) k)) := hr5.trans (hour_cg (((hE4 0 50 rfl).trans ((hE3 0 50 rfl).trans (hE2 0 50 rfl))).trans hs1) (((hE4 0 49 rfl).trans ((hE3 0 49 rfl).trans (hE2 0 49 rfl))).trans hl1) hr4)
            refine lv_iinc (v := (nI (k + 1))) (lv' := [(5, .int (nI (k + 1))), (6, .int (nI (xN t))), (4, .int (nI z)), (3, .int (nI y)), (0, .ref o), (1, .int (nI x1)), (2, .int (nI x2))]) hx hb dX13_round_97 hl (k := 1) rfl (nI_add _ _) (by decide) rfl (fun ls hl => ?_)
            refine lv_goto (tgt := 33) hx hb dX13_round_100 (by decide) ?_
            have hrz6 : V5 31 = rdR t (V 30) (k + 1) := hr5
            exact ih2 (k + 1) y z V5 _ _ _ (by omega) (by omega) (by simp only [rdC]; exact hy) (by simp only [rdS]; exact hz) (Eqx.trans (Eqx.trans (Eqx.trans hE2 (hE3.mono PE_PH)) (hE4.mono PR_PH)) hE5) hrz6 hG hS (lv_sub hl [0, 2, 3, 4, 5, 6] rfl)
          refine lv_aload_n hx hb dX13_round_51 rfl (lv_at hl 4 rfl) ?_
          refine g_get hx hb hts hown hK hG 0 rfl rfl ok_X13 48 (by decide) q1519 rfl rfl dX13_round_52 ?_
          refine lv_iload hx hb dX13_round_55 (lv_at hl 0 rfl) ?_
          refine n_iald hx hb hK hG 31 rfl (by omega) (by decide) dX13_round_57 ?_
          refine iv (y := (rdR t (V 30) k b)) ((hE3 31 b rfl).trans (congrFun hrw b)) ?_
          refine lv_iconst (v := (nI 1)) hx hb dX13_round_58 (by decide) ?_
          refine lv_icmp_ne (tgt := 65) hx hb dX13_round_59 (by decide) (fun c59 => ?_) (fun c59 => ?_)
          · refine lv_iinc (v := (nI (y + 1))) (lv' := [(3, .int (nI (y + 1))), (6, .int (nI b)), (5, .int (nI k)), (4, .int (nI z)), (0, .ref o), (1, .int (nI x1)), (2, .int (nI x2))]) hx hb dX13_round_65 hl (k := 3) rfl (nI_add _ _) (by decide) rfl (fun ls hl => ?_)
            refine lv_iload hx hb dX13_round_68 (lv_at hl 3 rfl) ?_
            refine lv_aload_n hx hb dX13_round_70 rfl (lv_at hl 4 rfl) ?_
            refine lv_iload hx hb dX13_round_71 (lv_at hl 1 rfl) ?_
            refine c_VI hx hb hml hts hown hK hl.1 hS ⟨Nat.le_refl _, Nat.le_refl _⟩ (met_X13_costsOf l D dA hG (txM_PW (((hE1.mono PC_PW).trans (hE2.mono PH_PW)).trans (hE3.mono PE_PW)) hX) b (by omega)) (cw_X13_374 hts ⟨by decide, by decide⟩) (hG 0 _ rfl) rfl rfl rfl rfl (Nat.le_of_ble_eq_true rfl) dX13_round_73 (fun _ h => h) (fun r H1 locs hq hF hS => ?_)
            obtain ⟨V7, hG, hE7, hr7⟩ := hq
            generalize hHe7 : H1 = H at hG hS ⊢
            clear hHe7
            have hr7 : r = cosF t (rdR t (V 30) k) b := hr7.trans (congrArg (fun z => cosF t z b) (((funext (fun j => hE3 31 j rfl)).trans hrw)))
            subst hr7
            refine iv (y := nI (coN t (rdR t (V 30) k) b)) (cos_n t (rdR t (V 30) k) b).1 ?_
            have hle73 := (cos_n t (rdR t (V 30) k) b).2
            refine n_iadd hx hb dX13_round_76 ?_
            refine lv_istore (lv' := [(4, .int (nI (z + (coN t (rdR t (V 30) k) b)))), (3, .int (nI (y + 1))), (6, .int (nI b)), (5, .int (nI k)), (0, .ref o), (1, .int (nI x1)), (2, .int (nI x2))]) hx hb dX13_round_77 hl (by decide) rfl (fun ls hl => ?_)
            refine lv_iinc (v := (nI (b + 1))) (lv' := [(6, .int (nI (b + 1))), (4, .int (nI (z + (coN t (rdR t (V 30) k) b)))), (3, .int (nI (y + 1))), (5, .int (nI k)), (0, .ref o), (1, .int (nI x1)), (2, .int (nI x2))]) hx hb dX13_round_79 hl (k := 2) rfl (nI_add _ _) (by decide) rfl (fun ls hl => ?_)
            refine lv_goto (tgt := 42) hx hb dX13_round_82 (by decide) ?_
            have hrz8 : V7 31 = rdR t (V 30) k := (((funext (fun j => hE7 31 j rfl)).trans (funext (fun j => hE3 31 j rfl))).trans hrw)
            exact ih3 (b + 1) (y + 1) (z + (coN t (rdR t (V 30) k) b)) V7 _ _ _ (by omega) (by omega) (by rw [rc_f c59]; omega) (by rw [rs_f c59]; omega) (Eqx.trans hE3 hE7) hrz8 hG hS (lv_sub hl [0, 3, 1, 2, 4, 5, 6] rfl)
          refine lv_goto (tgt := 79) hx hb dX13_round_62 (by decide) ?_
          refine lv_iinc (v := (nI (b + 1))) (lv' := [(6, .int (nI (b + 1))), (5, .int (nI k)), (4, .int (nI z)), (3, .int (nI y)), (0, .ref o), (1, .int (nI x1)), (2, .int (nI x2))]) hx hb dX13_round_79 hl (k := 0) rfl (nI_add _ _) (by decide) rfl (fun ls hl => ?_)
          refine lv_goto (tgt := 42) hx hb dX13_round_82 (by decide) ?_
          have hrz9 : V3 31 = rdR t (V 30) k := ((funext (fun j => hE3 31 j rfl)).trans hrw)
          exact ih3 (b + 1) y z V3 _ _ _ (by omega) (by omega) (by rw [rc_t c59]; exact hy) (by rw [rs_t c59]; exact hz) hE3 hrz9 hG hS (lv_sub hl [0, 1, 2, 3, 4, 5, 6] rfl)
      exact loop3 ((xN t - 0) + 1) 0 y z V2 _ _ _ (Nat.lt_succ_self _) (by omega) (by rw [← hy]; rfl) (by rw [← hz]; rfl) Eqx.rf hrw hG hS (lv_sub hl [0, 1, 2, 3, 4, 5, 6] rfl)
  exact loop2 ((x1 - 0) + 1) 0 0 0 V1 _ _ _ (Nat.lt_succ_self _) (by omega) rfl rfl Eqx.rf hr1 hG hS (lv_sub hl [0, 1, 2, 3, 4, 5] rfl)
set_option maxHeartbeats 4000000 in
theorem met_X13_coldest (l : Launch) (D : va_G) (dA : Nat → ClassId) {o : Nat} {V : GI} {L : GL} {Rf : GR} {H0 : Heap} (hG : gP D dA o dM V L Rf H0) {lv : Nat} {t : Txt} (hX : txM V lv t) (hrv : RV (xN t) (V 30)) (v1 : Int32) : Ctr l D dA yX13_coldest cX13_coldest 7 (some .int) (mkRm 6 128) [.ref o, .int v1] H0 (AM o) (QI (fun r H1 => ∃ V1, gP D dA o dM V1 L Rf H1 ∧ Eqx PW V V1 ∧ r = coldestA t (V 30) v1)) := by
  have hT := hX.1
  have hT1 := hT.1
  have hT2 := hT.2.1
  have hp2 := two9 hT2
  have hpp := Nat.two_pow_pos (xN t)
  refine ctr_I (by decide) (Nat.le_of_ble_eq_true rfl) ?_
  intro p e s m args below meth c ls QQ locs hx hb hml hown hts hK hend hS hl
  have hl : lv_has ls 7 [(0, .ref o), (1, .int v1)] := hl
  refine lv_iload_n hx hb dX13_coldest_0 rfl (lv_at hl 1 rfl) ?_
  refine lv_iconst (v := (nI 0)) hx hb dX13_coldest_1 (by decide) ?_
  refine lv_iconst (v := (nI 1)) hx hb dX13_coldest_2 (by decide) ?_
  refine c_SI hx hb hml hts hown hK hl.1 hS ⟨Nat.le_refl _, Nat.le_refl _⟩ (met_X13_in l D dA v1 (nI 0) (nI 1)) (cw_X13_308 hts ⟨by decide, by decide⟩) rfl rfl (Nat.le_of_ble_eq_true rfl) dX13_coldest_3 (fun _ h => h.elim) (fun r H1 locs hq hF hS => ?_)
  obtain ⟨rfl, rfl⟩ := hq
  rcases (inZ_cases v1 0 1 (by decide) (by decide)).symm with ⟨hz3, ho3⟩ | ⟨x1, hlo_x1, hhi_x1, rfl, hz3⟩
  · refine iv (y := nI 0) hz3 ?_
    refine n_if_ne (tgt := 11) hx hb dX13_coldest_6 (by decide) (by decide) (fun z => absurd z (by decide)) (fun _ => ?_)
    refine lv_iconst (v := (-1)) hx hb dX13_coldest_9 (by decide) ?_
    refine hend _ _ _ _ _ hS dX13_coldest_10 ?_
    exact ⟨_, rfl, _, hG, Eqx.rf, ((ho3.1 _ _)).symm⟩
  refine iv (y := nI 1) hz3 ?_
  have hl : lv_has ls 7 [(0, .ref o), (1, .int (nI x1))] := hl
  refine n_if_ne (tgt := 11) hx hb dX13_coldest_6 (by decide) (by decide) (fun _ => ?_) (fun z => absurd z (by decide))
  refine lv_aload_n hx hb dX13_coldest_11 rfl (lv_at hl 0 rfl) ?_
  refine c_VV hx hb hml hts hown hK hl.1 hS ⟨Nat.le_refl _, Nat.le_refl _⟩ (met_X13_copiesStill l D dA hG hX) (cw_X13_361 hts ⟨by decide, by decide⟩) (hG 0 _ rfl) rfl rfl rfl rfl (Nat.le_of_ble_eq_true rfl) dX13_coldest_12 (fun _ h => h) (fun H1 locs hq hF hS => ?_)
  obtain ⟨V1, hG, hE1, hr1, hl1, hs1⟩ := hq
  generalize hHe1 : H1 = H at hG hS ⊢
  clear hHe1
  refine lv_iconst (v := (nI 0)) hx hb dX13_coldest_15 (by decide) ?_
  refine lv_istore_n (lv' := [(2, .int (nI 0)), (0, .ref o), (1, .int (nI x1))]) hx hb dX13_coldest_16 rfl hl (by decide) rfl (fun ls hl => ?_)
  refine lv_iconst (v := (nI 0)) hx hb dX13_coldest_17 (by decide) ?_
  refine lv_istore_n (lv' := [(3, .int (nI 0)), (2, .int (nI 0)), (0, .ref o), (1, .int (nI x1))]) hx hb dX13_coldest_18 rfl hl (by decide) rfl (fun ls hl => ?_)
  refine lv_iconst (v := (nI 0)) hx hb dX13_coldest_19 (by decide) ?_
  refine lv_istore (lv' := [(4, .int (nI 0)), (3, .int (nI 0)), (2, .int (nI 0)), (0, .ref o), (1, .int (nI x1))]) hx hb dX13_coldest_20 hl (by decide) rfl (fun ls hl => ?_)
  have loop2 : ∀ (fu2 : Nat) (k : Nat) (op : Option (Nat × Nat)) (V2 : GI) (H : Heap) (locs : List Loc) (ls : Array Slot), 24 - k < fu2 → (k ≤ 24) → (mxF (cdF t (V 30)) k = op) → (Eqx PH V1 V2) → (V2 31 = goF t (nI 1) (xS t) k (V 30)) → gP D dA o dM V2 L Rf H → va_S (AM o) H0 H locs → lv_has ls 7 [(4, .int (nI k)), (3, .int (oV 0 op)), (2, .int (oI 0 op)), (0, .ref o), (1, .int (nI x1))] → W p l e (mkRm 6 128) s m args below meth c H locs 0 0 QQ (F0 m 22 ls []) := by
    intro fu2
    induction fu2 with
    | zero => intro k op V2 H locs ls hfu; exact absurd hfu (Nat.not_lt_zero _)
    | succ fu2 ih2 =>
      intro k op V2 H locs ls hfu hk hp hE2 hrw hG hS hl
      refine lv_iload hx hb dX13_coldest_22 (lv_at hl 0 rfl) ?_
      refine lv_bipush (v := (nI 24)) hx hb dX13_coldest_24 (by decide) ?_
      refine n_icmp_ge (tgt := 86) hx hb dX13_coldest_26 (by decide) (by omega) (by omega) (fun c26 => ?_) (fun c26 => ?_)
      · obtain rfl : k = 24 := by omega
        refine lv_iload_n hx hb dX13_coldest_86 rfl (lv_at hl 4 rfl) ?_
        refine n_if_ne (tgt := 94) hx hb dX13_coldest_87 (by decide) (by omega) (fun c87 => ?_) (fun c87 => ?_)
        · refine lv_iload_n hx hb dX13_coldest_94 rfl (lv_at hl 1 rfl) ?_
          refine hend _ _ _ _ _ hS dX13_coldest_95 ?_
          exact ⟨_, rfl, _, hG, ((hE1.mono PC_PW).trans (hE2.mono PH_PW)), ((rng_in hlo_x1 hhi_x1 (by omega)).trans (((if_neg (by omega)).trans (congrArg (oV 0) hp)))).symm⟩
        refine lv_iload_n hx hb dX13_coldest_90 rfl (lv_at hl 2 rfl) ?_
        refine lv_goto (tgt := 95) hx hb dX13_coldest_91 (by decide) ?_
        refine hend _ _ _ _ _ hS dX13_coldest_95 ?_
        exact ⟨_, rfl, _, hG, ((hE1.mono PC_PW).trans (hE2.mono PH_PW)), ((rng_in hlo_x1 hhi_x1 (by omega)).trans (((if_pos c87).trans (congrArg (oI 0) hp)))).symm⟩
      rcases op with _ | ⟨i, v⟩
      · have hl : lv_has ls 7 [(4, .int (nI k)), (3, .int (nI 0)), (2, .int (nI 0)), (0, .ref o), (1, .int (nI x1))] := hl
        refine lv_iconst (v := (nI 0)) hx hb dX13_coldest_29 (by decide) ?_
        refine lv_istore (lv' := [(5, .int (nI 0)), (4, .int (nI k)), (3, .int (nI 0)), (2, .int (nI 0)), (0, .ref o), (1, .int (nI x1))]) hx hb dX13_coldest_30 hl (by decide) rfl (fun ls hl => ?_)
        refine lv_iconst (v := (nI 0)) hx hb dX13_coldest_32 (by decide) ?_
        refine lv_istore (lv' := [(6, .int (nI 0)), (5, .int (nI 0)), (4, .int (nI k)), (3, .int (nI 0)), (2, .int (nI 0)), (0, .ref o), (1, .int (nI x1))]) hx hb dX13_coldest_33 hl (by decide) rfl (fun ls hl => ?_)
        have loop3 : ∀ (fu3 : Nat) (b : Nat) (s1 : Nat) (V3 : GI) (H : Heap) (locs : List Loc) (ls : Array Slot), xN t - b < fu3 → (b ≤ xN t) → (smF (ciN t (goF t (nI 1) (xS t) k (V 30))) b = s1) → (Eqx PE V2 V3) → (V3 31 = goF t (nI 1) (xS t) k (V 30)) → gP D dA o dM V3 L Rf H → va_S (AM o) H0 H locs → lv_has ls 7 [(6, .int (nI b)), (5, .int (nI s1)), (4, .int (nI k)), (3, .int (nI 0)), (2, .int (nI 0)), (0, .ref o), (1, .int (nI x1))] → W p l e (mkRm 6 128) s m args below meth c H locs 0 0 QQ (F0 m 35 ls []) := by
          intro fu3
          induction fu3 with
          | zero => intro b s1 V3 H locs ls hfu; exact absurd hfu (Nat.not_lt_zero _)
          | succ fu3 ih3 =>
            intro b s1 V3 H locs ls hfu hbn hsm hE3 hrw2 hG hS hl
            have hb1 := smF_le (G := ciN t (goF t (nI 1) (xS t) k (V 30))) (fun b => (chi_n t _ b).2) b
            refine lv_iload hx hb dX13_coldest_35 (lv_at hl 0 rfl) ?_
            refine lv_aload_n hx hb dX13_coldest_37 rfl (lv_at hl 5 rfl) ?_
            refine c_VI hx hb hml hts hown hK hl.1 hS ⟨Nat.le_refl _, Nat.le_refl _⟩ (met_X13_many l D dA hG (tM_to hT ((hE3 0 18 rfl).trans ((hE2 0 18 rfl).trans (hE1 0 18 rfl))) ((hE3 9 lv rfl).trans ((hE2 9 lv rfl).trans (hE1 9 lv rfl))))) (cw_X13_304 hts ⟨by decide, by decide⟩) (hG 0 _ rfl) rfl rfl rfl rfl (Nat.le_of_ble_eq_true rfl) dX13_coldest_38 (fun _ h => h.elim) (fun r H1 locs hq hF hS => ?_)
            obtain ⟨rfl, rfl⟩ := hq
            refine n_icmp_ge (tgt := 61) hx hb dX13_coldest_41 (by decide) (by omega) (by omega) (fun c41 => ?_) (fun c41 => ?_)
            · obtain rfl : b = xN t := by omega
              refine lv_aload_n hx hb dX13_coldest_61 rfl (lv_at hl 5 rfl) ?_
              refine c_VV hx hb hml hts hown hK hl.1 hS ⟨Nat.le_refl _, Nat.le_refl _⟩ (met_X13_hourGoes l D dA hG (txM_PW (((hE1.mono PC_PW).trans (hE2.mono PH_PW)).trans (hE3.mono PE_PW)) hX)) (cw_X13_358 hts ⟨by decide, by decide⟩) (hG 0 _ rfl) rfl rfl rfl rfl (Nat.le_of_ble_eq_true rfl) dX13_coldest_62 (fun _ h => h) (fun H1 locs hq hF hS => ?_)
              obtain ⟨V4, hG, hE4, hr4⟩ := hq
              generalize hHe4 : H1 = H at hG hS ⊢
              clear hHe4
              have hr4 : V4 31 = hourF t (nI 1) (xS t) (goF t (nI 1) (xS t) k (V 30)) := hr4.trans (hour_cg (((hE3 0 50 rfl).trans (hE2 0 50 rfl)).trans hs1) (((hE3 0 49 rfl).trans (hE2 0 49 rfl)).trans hl1) ((funext (fun j => hE3 31 j rfl)).trans hrw))
              refine lv_iload hx hb dX13_coldest_65 (lv_at hl 1 rfl) ?_
              refine lv_iload_n hx hb dX13_coldest_67 rfl (lv_at hl 3 rfl) ?_
              refine n_icmp_gt (tgt := 74) hx hb dX13_coldest_68 (by decide) (by omega) (by omega) (fun c68 => ?_) (fun c68 => ?_)
              · refine lv_iload hx hb dX13_coldest_74 (lv_at hl 2 rfl) ?_
                refine lv_istore_n (lv' := [(2, .int (nI k)), (6, .int (nI (xN t))), (5, .int (nI s1)), (4, .int (nI k)), (3, .int (nI 0)), (0, .ref o), (1, .int (nI x1))]) hx hb dX13_coldest_76 rfl hl (by decide) rfl (fun ls hl => ?_)
                refine lv_iload hx hb dX13_coldest_77 (lv_at hl 2 rfl) ?_
                refine lv_istore_n (lv' := [(3, .int (nI s1)), (2, .int (nI k)), (6, .int (nI (xN t))), (5, .int (nI s1)), (4, .int (nI k)), (0, .ref o), (1, .int (nI x1))]) hx hb dX13_coldest_79 rfl hl (by decide) rfl (fun ls hl => ?_)
                refine lv_iinc (v := (nI (k + 1))) (lv' := [(4, .int (nI (k + 1))), (3, .int (nI s1)), (2, .int (nI k)), (6, .int (nI (xN t))), (5, .int (nI s1)), (0, .ref o), (1, .int (nI x1))]) hx hb dX13_coldest_80 hl (k := 4) rfl (nI_add _ _) (by decide) rfl (fun ls hl => ?_)
                refine lv_goto (tgt := 22) hx hb dX13_coldest_83 (by decide) ?_
                have hrz5 : V4 31 = goF t (nI 1) (xS t) (k + 1) (V 30) := hr4
                have hs : cdF t (V 30) k = s1 := hsm
                exact ih2 (k + 1) (some (k, cdF t (V 30) k)) V4 _ _ _ (by omega) (by omega) (mxF_n hp) (Eqx.trans (Eqx.trans hE2 (hE3.mono PE_PH)) hE4) hrz5 hG hS (by rw [show oV 0 (some (k, cdF t (V 30) k)) = nI s1 from congrArg nI hs]; exact lv_sub hl [0, 1, 2, 5, 6] rfl)
              refine lv_goto (tgt := 80) hx hb dX13_coldest_71 (by decide) ?_
              refine lv_iinc (v := (nI (k + 1))) (lv' := [(4, .int (nI (k + 1))), (6, .int (nI (xN t))), (5, .int (nI s1)), (3, .int (nI 0)), (2, .int (nI 0)), (0, .ref o), (1, .int (nI x1))]) hx hb dX13_coldest_80 hl (k := 2) rfl (nI_add _ _) (by decide) rfl (fun ls hl => ?_)
              refine lv_goto (tgt := 22) hx hb dX13_coldest_83 (by decide) ?_
              have hrz6 : V4 31 = goF t (nI 1) (xS t) (k + 1) (V 30) := hr4
              have hs : cdF t (V 30) k = s1 := hsm
              exact ih2 (k + 1) (some (0, 0)) V4 _ _ _ (by omega) (by omega) (by obtain rfl := mxF_0 hp; rw [mxF_n hp, show cdF t (V 30) 0 = 0 by omega]) (Eqx.trans (Eqx.trans hE2 (hE3.mono PE_PH)) hE4) hrz6 hG hS (lv_sub hl [0, 3, 4, 5, 6] rfl)
            refine lv_iload hx hb dX13_coldest_44 (lv_at hl 1 rfl) ?_
            refine lv_aload_n hx hb dX13_coldest_46 rfl (lv_at hl 5 rfl) ?_
            refine lv_iload hx hb dX13_coldest_47 (lv_at hl 0 rfl) ?_
            refine c_VI hx hb hml hts hown hK hl.1 hS ⟨Nat.le_refl _, Nat.le_refl _⟩ (met_X13_chillsOf l D dA hG (txM_PW (((hE1.mono PC_PW).trans (hE2.mono PH_PW)).trans (hE3.mono PE_PW)) hX) b (by omega)) (cw_X13_355 hts ⟨by decide, by decide⟩) (hG 0 _ rfl) rfl rfl rfl rfl (Nat.le_of_ble_eq_true rfl) dX13_coldest_49 (fun _ h => h) (fun r H1 locs hq hF hS => ?_)
            obtain ⟨V7, hG, hE7, hr7⟩ := hq
            generalize hHe7 : H1 = H at hG hS ⊢
            clear hHe7
            have hr7 : r = chiF t (goF t (nI 1) (xS t) k (V 30)) b := hr7.trans (congrArg (fun z => chiF t z b) (((funext (fun j => hE3 31 j rfl)).trans hrw)))
            subst hr7
            refine iv (y := nI (ciN t (goF t (nI 1) (xS t) k (V 30)) b)) (chi_n t (goF t (nI 1) (xS t) k (V 30)) b).1 ?_
            have hle49 := (chi_n t (goF t (nI 1) (xS t) k (V 30)) b).2
            refine n_iadd hx hb dX13_coldest_52 ?_
            refine lv_istore (lv' := [(5, .int (nI (s1 + (ciN t (goF t (nI 1) (xS t) k (V 30)) b)))), (6, .int (nI b)), (4, .int (nI k)), (3, .int (nI 0)), (2, .int (nI 0)), (0, .ref o), (1, .int (nI x1))]) hx hb dX13_coldest_53 hl (by decide) rfl (fun ls hl => ?_)
            refine lv_iinc (v := (nI (b + 1))) (lv' := [(6, .int (nI (b + 1))), (5, .int (nI (s1 + (ciN t (goF t (nI 1) (xS t) k (V 30)) b)))), (4, .int (nI k)), (3, .int (nI 0)), (2, .int (nI 0)), (0, .ref o), (1, .int (nI x1))]) hx hb dX13_coldest_55 hl (k := 1) rfl (nI_add _ _) (by decide) rfl (fun ls hl => ?_)
            refine lv_goto (tgt := 35) hx hb dX13_coldest_58 (by decide) ?_
            have hrz8 : V7 31 = goF t (nI 1) (xS t) k (V 30) := (((funext (fun j => hE7 31 j rfl)).trans (funext (fun j => hE3 31 j rfl))).trans hrw)
            exact ih3 (b + 1) (s1 + (ciN t (goF t (nI 1) (xS t) k (V 30)) b)) V7 _ _ _ (by omega) (by omega) (by simp only [smF]; omega) (Eqx.trans hE3 hE7) hrz8 hG hS (lv_sub hl [0, 1, 2, 3, 4, 5, 6] rfl)
        exact loop3 ((xN t - 0) + 1) 0 0 V2 _ _ _ (Nat.lt_succ_self _) (by omega) rfl Eqx.rf hrw hG hS (lv_sub hl [0, 1, 2, 3, 4, 5, 6] rfl)
      have hl : lv_has ls 7 [(4, .int (nI k)), (3, .int (nI v)), (2, .int (nI i)), (0, .ref o), (1, .int (nI x1))] := hl
      have hi9 := (mxF_lt hp).1
      have hv9 : v ≤ 900 := (mxF_lt hp).2 ▸ cdF_le hT2
      refine lv_iconst (v := (nI 0)) hx hb dX13_coldest_29 (by decide) ?_
      refine lv_istore (lv' := [(5, .int (nI 0)), (4, .int (nI k)), (3, .int (nI v)), (2, .int (nI i)), (0, .ref o), (1, .int (nI x1))]) hx hb dX13_coldest_30 hl (by decide) rfl (fun ls hl => ?_)
      refine lv_iconst (v := (nI 0)) hx hb dX13_coldest_32 (by decide) ?_
      refine lv_istore (lv' := [(6, .int (nI 0)), (5, .int (nI 0)), (4, .int (nI k)), (3, .int (nI v)), (2, .int (nI i)), (0, .ref o), (1, .int (nI x1))]) hx hb dX13_coldest_33 hl (by decide) rfl (fun ls hl => ?_)
      have loop9 : ∀ (fu9 : Nat) (b : Nat) (s1 : Nat) (V9 : GI) (H : Heap) (locs : List Loc) (ls : Array Slot), xN t - b < fu9 → (b ≤ xN t) → (smF (ciN t (goF t (nI 1) (xS t) k (V 30))) b = s1) → (Eqx PE V2 V9) → (V9 31 = goF t (nI 1) (xS t) k (V 30)) → gP D dA o dM V9 L Rf H → va_S (AM o) H0 H locs → lv_has ls 7 [(6, .int (nI b)), (5, .int (nI s1)), (4, .int (nI k)), (3, .int (nI v)), (2, .int (nI i)), (0, .ref o), (1, .int (nI x1))] → W p l e (mkRm 6 128) s m args below meth c H locs 0 0 QQ (F0 m 35 ls []) := by
        intro fu9
        induction fu9 with
        | zero => intro b s1 V9 H locs ls hfu; exact absurd hfu (Nat.not_lt_zero _)
        | succ fu9 ih9 =>
          intro b s1 V9 H locs ls hfu hbn hsm hE9 hrw2 hG hS hl
          have hb1 := smF_le (G := ciN t (goF t (nI 1) (xS t) k (V 30))) (fun b => (chi_n t _ b).2) b
          refine lv_iload hx hb dX13_coldest_35 (lv_at hl 0 rfl) ?_
          refine lv_aload_n hx hb dX13_coldest_37 rfl (lv_at hl 5 rfl) ?_
          refine c_VI hx hb hml hts hown hK hl.1 hS ⟨Nat.le_refl _, Nat.le_refl _⟩ (met_X13_many l D dA hG (tM_to hT ((hE9 0 18 rfl).trans ((hE2 0 18 rfl).trans (hE1 0 18 rfl))) ((hE9 9 lv rfl).trans ((hE2 9 lv rfl).trans (hE1 9 lv rfl))))) (cw_X13_304 hts ⟨by decide, by decide⟩) (hG 0 _ rfl) rfl rfl rfl rfl (Nat.le_of_ble_eq_true rfl) dX13_coldest_38 (fun _ h => h.elim) (fun r H1 locs hq hF hS => ?_)
          obtain ⟨rfl, rfl⟩ := hq
          refine n_icmp_ge (tgt := 61) hx hb dX13_coldest_41 (by decide) (by omega) (by omega) (fun c41 => ?_) (fun c41 => ?_)
          · obtain rfl : b = xN t := by omega
            refine lv_aload_n hx hb dX13_coldest_61 rfl (lv_at hl 5 rfl) ?_
            refine c_VV hx hb hml hts hown hK hl.1 hS ⟨Nat.le_refl _, Nat.le_refl _⟩ (met_X13_hourGoes l D dA hG (txM_PW (((hE1.mono PC_PW).trans (hE2.mono PH_PW)).trans (hE9.mono PE_PW)) hX)) (cw_X13_358 hts ⟨by decide, by decide⟩) (hG 0 _ rfl) rfl rfl rfl rfl (Nat.le_of_ble_eq_true rfl) dX13_coldest_62 (fun _ h => h) (fun H1 locs hq hF hS => ?_)
            obtain ⟨V10, hG, hE10, hr10⟩ := hq
            generalize hHe10 : H1 = H at hG hS ⊢
            clear hHe10
            have hr10 : V10 31 = hourF t (nI 1) (xS t) (goF t (nI 1) (xS t) k (V 30)) := hr10.trans (hour_cg (((hE9 0 50 rfl).trans (hE2 0 50 rfl)).trans hs1) (((hE9 0 49 rfl).trans (hE2 0 49 rfl)).trans hl1) ((funext (fun j => hE9 31 j rfl)).trans hrw))
            refine lv_iload hx hb dX13_coldest_65 (lv_at hl 1 rfl) ?_
            refine lv_iload_n hx hb dX13_coldest_67 rfl (lv_at hl 3 rfl) ?_
            refine n_icmp_gt (tgt := 74) hx hb dX13_coldest_68 (by decide) (by omega) (by omega) (fun c68 => ?_) (fun c68 => ?_)
            · refine lv_iload hx hb dX13_coldest_74 (lv_at hl 2 rfl) ?_
              refine lv_istore_n (lv' := [(2, .int (nI k)), (6, .int (nI (xN t))), (5, .int (nI s1)), (4, .int (nI k)), (3, .int (nI v)), (0, .ref o), (1, .int (nI x1))]) hx hb dX13_coldest_76 rfl hl (by decide) rfl (fun ls hl => ?_)
              refine lv_iload hx hb dX13_coldest_77 (lv_at hl 2 rfl) ?_
              refine lv_istore_n (lv' := [(3, .int (nI s1)), (2, .int (nI k)), (6, .int (nI (xN t))), (5, .int (nI s1)), (4, .int (nI k)), (0, .ref o), (1, .int (nI x1))]) hx hb dX13_coldest_79 rfl hl (by decide) rfl (fun ls hl => ?_)
              refine lv_iinc (v := (nI (k + 1))) (lv' := [(4, .int (nI (k + 1))), (3, .int (nI s1)), (2, .int (nI k)), (6, .int (nI (xN t))), (5, .int (nI s1)), (0, .ref o), (1, .int (nI x1))]) hx hb dX13_coldest_80 hl (k := 4) rfl (nI_add _ _) (by decide) rfl (fun ls hl => ?_)
              refine lv_goto (tgt := 22) hx hb dX13_coldest_83 (by decide) ?_
              have hrz11 : V10 31 = goF t (nI 1) (xS t) (k + 1) (V 30) := hr10
              have hs : cdF t (V 30) k = s1 := hsm
              exact ih2 (k + 1) (some (k, cdF t (V 30) k)) V10 _ _ _ (by omega) (by omega) (mxF_t hp (by omega)) (Eqx.trans (Eqx.trans hE2 (hE9.mono PE_PH)) hE10) hrz11 hG hS (by rw [show oV 0 (some (k, cdF t (V 30) k)) = nI s1 from congrArg nI hs]; exact lv_sub hl [0, 1, 2, 5, 6] rfl)
            refine lv_goto (tgt := 80) hx hb dX13_coldest_71 (by decide) ?_
            refine lv_iinc (v := (nI (k + 1))) (lv' := [(4, .int (nI (k + 1))), (6, .int (nI (xN t))), (5, .int (nI s1)), (3, .int (nI v)), (2, .int (nI i)), (0, .ref o), (1, .int (nI x1))]) hx hb dX13_coldest_80 hl (k := 2) rfl (nI_add _ _) (by decide) rfl (fun ls hl => ?_)
            refine lv_goto (tgt := 22) hx hb dX13_coldest_83 (by decide) ?_
            have hrz12 : V10 31 = goF t (nI 1) (xS t) (k + 1) (V 30) := hr10
            have hs : cdF t (V 30) k = s1 := hsm
            exact ih2 (k + 1) (some (i, v)) V10 _ _ _ (by omega) (by omega) (mxF_f hp (by omega)) (Eqx.trans (Eqx.trans hE2 (hE9.mono PE_PH)) hE10) hrz12 hG hS (lv_sub hl [0, 3, 4, 5, 6] rfl)
          refine lv_iload hx hb dX13_coldest_44 (lv_at hl 1 rfl) ?_
          refine lv_aload_n hx hb dX13_coldest_46 rfl (lv_at hl 5 rfl) ?_
          refine lv_iload hx hb dX13_coldest_47 (lv_at hl 0 rfl) ?_
          refine c_VI hx hb hml hts hown hK hl.1 hS ⟨Nat.le_refl _, Nat.le_refl _⟩ (met_X13_chillsOf l D dA hG (txM_PW (((hE1.mono PC_PW).trans (hE2.mono PH_PW)).trans (hE9.mono PE_PW)) hX) b (by omega)) (cw_X13_355 hts ⟨by decide, by decide⟩) (hG 0 _ rfl) rfl rfl rfl rfl (Nat.le_of_ble_eq_true rfl) dX13_coldest_49 (fun _ h => h) (fun r H1 locs hq hF hS => ?_)
          obtain ⟨V13, hG, hE13, hr13⟩ := hq
          generalize hHe13 : H1 = H at hG hS ⊢
          clear hHe13
          have hr13 : r = chiF t (goF t (nI 1) (xS t) k (V 30)) b := hr13.trans (congrArg (fun z => chiF t z b) (((funext (fun j => hE9 31 j rfl)).trans hrw)))
          subst hr13
          refine iv (y := nI (ciN t (goF t (nI 1) (xS t) k (V 30)) b)) (chi_n t (goF t (nI 1) (xS t) k (V 30)) b).1 ?_
          have hle49 := (chi_n t (goF t (nI 1) (xS t) k (V 30)) b).2
          refine n_iadd hx hb dX13_coldest_52 ?_
          refine lv_istore (lv' := [(5, .int (nI (s1 + (ciN t (goF t (nI 1) (xS t) k (V 30)) b)))), (6, .int (nI b)), (4, .int (nI k)), (3, .int (nI v)), (2, .int (nI i)), (0, .ref o), (1, .int (nI x1))]) hx hb dX13_coldest_53 hl (by decide) rfl (fun ls hl => ?_)
          refine lv_iinc (v := (nI (b + 1))) (lv' := [(6, .int (nI (b + 1))), (5, .int (nI (s1 + (ciN t (goF t (nI 1) (xS t) k (V 30)) b)))), (4, .int (nI k)), (3, .int (nI v)), (2, .int (nI i)), (0, .ref o), (1, .int (nI x1))]) hx hb dX13_coldest_55 hl (k := 1) rfl (nI_add _ _) (by decide) rfl (fun ls hl => ?_)
          refine lv_goto (tgt := 35) hx hb dX13_coldest_58 (by decide) ?_
          have hrz14 : V13 31 = goF t (nI 1) (xS t) k (V 30) := (((funext (fun j => hE13 31 j rfl)).trans (funext (fun j => hE9 31 j rfl))).trans hrw)
          exact ih9 (b + 1) (s1 + (ciN t (goF t (nI 1) (xS t) k (V 30)) b)) V13 _ _ _ (by omega) (by omega) (by simp only [smF]; omega) (Eqx.trans hE9 hE13) hrz14 hG hS (lv_sub hl [0, 1, 2, 3, 4, 5, 6] rfl)
      exact loop9 ((xN t - 0) + 1) 0 0 V2 _ _ _ (Nat.lt_succ_self _) (by omega) rfl Eqx.rf hrw hG hS (lv_sub hl [0, 1, 2, 3, 4, 5, 6] rfl)
  exact loop2 ((24 - 0) + 1) 0 none V1 _ _ _ (Nat.lt_succ_self _) (by omega) rfl Eqx.rf hr1 hG hS (lv_sub hl [0, 1, 2, 3, 4] rfl)
set_option maxHeartbeats 4000000 in
theorem met_X13_rule (l : Launch) (D : va_G) (dA : Nat → ClassId) {o : Nat} {V : GI} {L : GL} {Rf : GR} {H0 : Heap} (hG : gP D dA o dM V L Rf H0) {lv : Nat} {t : Txt} (hX : txM V lv t) (hrv : RV (xN t) (V 30)) (v1 : Int32) : Ctr l D dA yX13_rule cX13_rule 4 (some .int) (mkRm 4 85) [.ref o, .int v1] H0 (AM o) (QI (fun r H1 => ∃ V1, gP D dA o dM V1 L Rf H1 ∧ Eqx PW V V1 ∧ r = ruleA t (V 30) v1)) := by
  have hT := hX.1
  have hT1 := hT.1
  have hT2 := hT.2.1
  have hp2 := two9 hT2
  have hpp := Nat.two_pow_pos (xN t)
  refine ctr_I (by decide) (Nat.le_of_ble_eq_true rfl) ?_
  intro p e s m args below meth c ls QQ locs hx hb hml hown hts hK hend hS hl
  have hl : lv_has ls 4 [(0, .ref o), (1, .int v1)] := hl
  refine lv_aload_n hx hb dX13_rule_0 rfl (lv_at hl 0 rfl) ?_
  refine lv_iload_n hx hb dX13_rule_1 rfl (lv_at hl 1 rfl) ?_
  refine c_VI hx hb hml hts hown hK hl.1 hS ⟨Nat.le_refl _, Nat.le_refl _⟩ (met_X13_isBed l D dA hG hT v1) (cw_X13_328 hts ⟨by decide, by decide⟩) (hG 0 _ rfl) rfl rfl rfl rfl (Nat.le_of_ble_eq_true rfl) dX13_rule_2 (fun _ h => h.elim) (fun r H1 locs hq hF hS => ?_)
  obtain ⟨rfl, rfl⟩ := hq
  rcases (bedN_cases hT2 v1).symm with ⟨hz2, ho2⟩ | ⟨x1, hlo_x1, hhi_x1, rfl, hz2⟩
  · refine iv (y := nI 0) hz2 ?_
    refine n_if_ne (tgt := 10) hx hb dX13_rule_5 (by decide) (by decide) (fun z => absurd z (by decide)) (fun _ => ?_)
    refine lv_iconst (v := (-1)) hx hb dX13_rule_8 (by decide) ?_
    refine hend _ _ _ _ _ hS dX13_rule_9 ?_
    exact ⟨_, rfl, _, hG, Eqx.rf, ((ho2.1 _ _)).symm⟩
  refine iv (y := nI 1) hz2 ?_
  have hl : lv_has ls 4 [(0, .ref o), (1, .int (nI x1))] := hl
  refine n_if_ne (tgt := 10) hx hb dX13_rule_5 (by decide) (by decide) (fun _ => ?_) (fun z => absurd z (by decide))
  refine lv_aload_n hx hb dX13_rule_10 rfl (lv_at hl 0 rfl) ?_
  refine c_VV hx hb hml hts hown hK hl.1 hS ⟨Nat.le_refl _, Nat.le_refl _⟩ (met_X13_copies l D dA hG hX) (cw_X13_321 hts ⟨by decide, by decide⟩) (hG 0 _ rfl) rfl rfl rfl rfl (Nat.le_of_ble_eq_true rfl) dX13_rule_11 (fun _ h => h) (fun H1 locs hq hF hS => ?_)
  obtain ⟨V1, hG, hE1, hr1, hl1, hs1⟩ := hq
  generalize hHe1 : H1 = H at hG hS ⊢
  clear hHe1
  refine lv_iconst (v := (nI 0)) hx hb dX13_rule_14 (by decide) ?_
  refine lv_istore_n (lv' := [(2, .int (nI 0)), (0, .ref o), (1, .int (nI x1))]) hx hb dX13_rule_15 rfl hl (by decide) rfl (fun ls hl => ?_)
  refine lv_iconst (v := (nI 0)) hx hb dX13_rule_16 (by decide) ?_
  refine lv_istore_n (lv' := [(3, .int (nI 0)), (2, .int (nI 0)), (0, .ref o), (1, .int (nI x1))]) hx hb dX13_rule_17 rfl hl (by decide) rfl (fun ls hl => ?_)
  have loop2 : ∀ (fu2 : Nat) (k : Nat) (y : Nat) (V2 : GI) (H : Heap) (locs : List Loc) (ls : Array Slot), 8 - k < fu2 → (k ≤ 8) → (obF (rlB t (V 30) x1) k = y) → (Eqx PE V1 V2) → (V2 31 = V 30) → gP D dA o dM V2 L Rf H → va_S (AM o) H0 H locs → lv_has ls 4 [(3, .int (nI k)), (2, .int (nI y)), (0, .ref o), (1, .int (nI x1))] → W p l e (mkRm 4 85) s m args below meth c H locs 0 0 QQ (F0 m 18 ls []) := by
    intro fu2
    induction fu2 with
    | zero => intro k y V2 H locs ls hfu; exact absurd hfu (Nat.not_lt_zero _)
    | succ fu2 ih2 =>
      intro k y V2 H locs ls hfu hk hy hE2 hrw hG hS hl
      refine lv_iload_n hx hb dX13_rule_18 rfl (lv_at hl 0 rfl) ?_
      refine lv_bipush (v := (nI 8)) hx hb dX13_rule_19 (by decide) ?_
      refine n_icmp_ge (tgt := 84) hx hb dX13_rule_21 (by decide) (by omega) (by omega) (fun c21 => ?_) (fun c21 => ?_)
      · obtain rfl : k = 8 := by omega
        refine lv_iload_n hx hb dX13_rule_84 rfl (lv_at hl 1 rfl) ?_
        refine hend _ _ _ _ _ hS dX13_rule_85 ?_
        exact ⟨_, rfl, _, hG, ((hE1.mono PC_PW).trans (hE2.mono PE_PW)), ((rng_in hlo_x1 hhi_x1 (by omega)).trans ((show nI (obF _ _) = nI y from congrArg nI hy))).symm⟩
      refine lv_aload_n hx hb dX13_rule_24 rfl (lv_at hl 2 rfl) ?_
      refine lv_iload_n hx hb dX13_rule_25 rfl (lv_at hl 3 rfl) ?_
      refine c_VV hx hb hml hts hown hK hl.1 hS ⟨Nat.le_refl _, Nat.le_refl _⟩ (met_X13_looks l D dA hG (txM_PW ((hE1.mono PC_PW).trans (hE2.mono PE_PW)) hX) x1 (by omega)) (cw_X13_337 hts ⟨by decide, by decide⟩) (hG 0 _ rfl) rfl rfl rfl rfl (Nat.le_of_ble_eq_true rfl) dX13_rule_26 (fun _ h => h) (fun H1 locs hq hF hS => ?_)
      obtain ⟨V3, hG, hE3, hv3⟩ := hq
      generalize hHe3 : H1 = H at hG hS ⊢
      clear hHe3
      have hv3 : V3 28 = vrF t (V 30) x1 := hv3.trans (congrArg (fun z => vrF t z x1) (((funext (fun j => hE2 31 j rfl)).trans hr1)))
      refine lv_aload_n hx hb dX13_rule_29 rfl (lv_at hl 2 rfl) ?_
      refine g_get hx hb hts hown hK hG 0 rfl rfl ok_X13 44 (by decide) q1515 rfl rfl dX13_rule_30 ?_
      refine lv_iconst (v := (nI 0)) hx hb dX13_rule_33 (by decide) ?_
      refine lv_iload_n hx hb dX13_rule_34 rfl (lv_at hl 0 rfl) ?_
      refine lv_iconst (v := (nI 1)) hx hb dX13_rule_35 (by decide) ?_
      refine n_and1 hx hb dX13_rule_36 ?_
      refine n_iast hx hb hK hG hS 28 (AM_in 28 (by decide)) rfl (by omega) (by decide) dX13_rule_37 (fun H locs hG hO hS => ?_)
      refine lv_aload_n hx hb dX13_rule_38 rfl (lv_at hl 2 rfl) ?_
      refine g_get hx hb hts hown hK hG 0 rfl rfl ok_X13 44 (by decide) q1515 rfl rfl dX13_rule_39 ?_
      refine lv_iconst (v := (nI 1)) hx hb dX13_rule_42 (by decide) ?_
      refine lv_iload_n hx hb dX13_rule_43 rfl (lv_at hl 0 rfl) ?_
      refine lv_iconst (v := (nI 1)) hx hb dX13_rule_44 (by decide) ?_
      refine n_ishr hx hb dX13_rule_45 (by omega) (by omega) ?_
      refine lv_iconst (v := (nI 1)) hx hb dX13_rule_46 (by decide) ?_
      refine n_and1 hx hb dX13_rule_47 ?_
      refine n_iast hx hb hK hG hS 28 (AM_in 28 (by decide)) rfl (by omega) (by decide) dX13_rule_48 (fun H locs hG hO hS => ?_)
      refine lv_aload_n hx hb dX13_rule_49 rfl (lv_at hl 2 rfl) ?_
      refine g_get hx hb hts hown hK hG 0 rfl rfl ok_X13 44 (by decide) q1515 rfl rfl dX13_rule_50 ?_
      refine lv_iconst (v := (nI 2)) hx hb dX13_rule_53 (by decide) ?_
      refine lv_iload_n hx hb dX13_rule_54 rfl (lv_at hl 0 rfl) ?_
      refine lv_iconst (v := (nI 2)) hx hb dX13_rule_55 (by decide) ?_
      refine n_ishr hx hb dX13_rule_56 (by omega) (by omega) ?_
      refine n_iast hx hb hK hG hS 28 (AM_in 28 (by decide)) rfl (by omega) (by decide) dX13_rule_57 (fun H locs hG hO hS => ?_)
      refine lv_aload_n hx hb dX13_rule_58 rfl (lv_at hl 2 rfl) ?_
      refine lv_iconst (v := (nI 0)) hx hb dX13_rule_59 (by decide) ?_
      refine lv_aload_n hx hb dX13_rule_60 rfl (lv_at hl 2 rfl) ?_
      refine g_get hx hb hts hown hK hG 0 rfl rfl ok_X13 44 (by decide) q1515 rfl rfl dX13_rule_61 ?_
      refine lv_iconst (v := (nI 0)) hx hb dX13_rule_64 (by decide) ?_
      refine n_iald hx hb hK hG 28 rfl (by omega) (by decide) dX13_rule_65 ?_
      refine iv (y := (nI (k % 2))) rfl ?_
      refine c_VI hx hb hml hts hown hK hl.1 hS ⟨Nat.le_refl _, Nat.le_refl _⟩ (met_X13_lawTells l D dA hG (txM_PW ((((((hE1.mono PC_PW).trans (hE2.mono PE_PW)).trans (hE3.mono PL_PW)).up rfl).up rfl).up rfl) hX).1 0 (by decide) (nI (k % 2)) (xL t 0) ((txM_PW ((((((hE1.mono PC_PW).trans (hE2.mono PE_PW)).trans (hE3.mono PL_PW)).up rfl).up rfl).up rfl) hX).2.2.2.1 0 (by decide))) (cw_X13_340 hts ⟨by decide, by decide⟩) (hG 0 _ rfl) rfl rfl rfl rfl (Nat.le_of_ble_eq_true rfl) dX13_rule_66 (fun _ h => h) (fun r H1 locs hq hF hS => ?_)
      have hc28_1 : (up2 V3 28 0 (nI (k % 2))) 28 = va_up (V3 28) 0 (nI (k % 2)) := rfl
      have hc28_2 : (up2 (up2 V3 28 0 (nI (k % 2))) 28 1 (nI ((k / 2 ^ 1) % 2))) 28 = va_up (va_up (V3 28) 0 (nI (k % 2))) 1 (nI ((k / 2 ^ 1) % 2)) := congrArg (fun g => va_up g 1 (nI ((k / 2 ^ 1) % 2))) hc28_1
      have hc28_3 : (up2 (up2 (up2 V3 28 0 (nI (k % 2))) 28 1 (nI ((k / 2 ^ 1) % 2))) 28 2 (nI (k / 2 ^ 2))) 28 = va_up (va_up (va_up (V3 28) 0 (nI (k % 2))) 1 (nI ((k / 2 ^ 1) % 2))) 2 (nI (k / 2 ^ 2)) := congrArg (fun g => va_up g 2 (nI (k / 2 ^ 2))) hc28_2
      have hc28 : (up2 (up2 (up2 V3 28 0 (nI (k % 2))) 28 1 (nI ((k / 2 ^ 1) % 2))) 28 2 (nI (k / 2 ^ 2))) 28 = va_up (va_up (va_up (V3 28) 0 (nI (k % 2))) 1 (nI ((k / 2 ^ 1) % 2))) 2 (nI (k / 2 ^ 2)) := hc28_3
      obtain ⟨V4, hG, hE4, hr4⟩ := hq
      generalize hHe4 : H1 = H at hG hS ⊢
      clear hHe4
      have hr4 : r = lwO (rlV t (V 30) x1 k) (nI (k % 2)) (xL t 0) := hr4.trans (congrArg (fun z => lwO z (nI (k % 2)) (xL t 0)) (hc28.trans (by unfold rlV; rw [hv3])))
      subst hr4
      refine lv_if_le (tgt := 78) hx hb dX13_rule_69 (by decide) (fun c69 => ?_) (fun c69 => ?_)
      · refine lv_iinc (v := (nI (k + 1))) (lv' := [(3, .int (nI (k + 1))), (2, .int (nI y)), (0, .ref o), (1, .int (nI x1))]) hx hb dX13_rule_78 hl (k := 0) rfl (nI_add _ _) (by decide) rfl (fun ls hl => ?_)
        refine lv_goto (tgt := 18) hx hb dX13_rule_81 (by decide) ?_
        have hrz5 : V4 31 = V 30 := (((funext (fun j => hE4 31 j rfl)).trans ((funext (fun j => hE3 31 j rfl)).trans (funext (fun j => hE2 31 j rfl)))).trans hr1)
        exact ih2 (k + 1) y V4 _ _ _ (by omega) (by omega) ((obF_f (hit := rlB t (V 30) x1) (dcF (Int32.not_lt.mpr c69))).trans hy) (Eqx.trans (Eqx.up (Eqx.up (Eqx.up (Eqx.trans hE2 (hE3.mono PL_PE)) rfl) rfl) rfl) (hE4.mono PT_PE)) hrz5 hG hS (lv_sub hl [0, 1, 2, 3] rfl)
      refine lv_iload_n hx hb dX13_rule_72 rfl (lv_at hl 1 rfl) ?_
      refine lv_iconst (v := (nI 1)) hx hb dX13_rule_73 (by decide) ?_
      refine lv_iload_n hx hb dX13_rule_74 rfl (lv_at hl 0 rfl) ?_
      refine n_ishl hx hb dX13_rule_75 (by omega) ?_
      refine n_ior hx hb dX13_rule_76 ?_
      refine lv_istore_n (lv' := [(2, .int (nI (y ||| (1 * 2 ^ k)))), (3, .int (nI k)), (0, .ref o), (1, .int (nI x1))]) hx hb dX13_rule_77 rfl hl (by decide) rfl (fun ls hl => ?_)
      refine lv_iinc (v := (nI (k + 1))) (lv' := [(3, .int (nI (k + 1))), (2, .int (nI (y ||| (1 * 2 ^ k)))), (0, .ref o), (1, .int (nI x1))]) hx hb dX13_rule_78 hl (k := 1) rfl (nI_add _ _) (by decide) rfl (fun ls hl => ?_)
      refine lv_goto (tgt := 18) hx hb dX13_rule_81 (by decide) ?_
      have hrz6 : V4 31 = V 30 := (((funext (fun j => hE4 31 j rfl)).trans ((funext (fun j => hE3 31 j rfl)).trans (funext (fun j => hE2 31 j rfl)))).trans hr1)
      exact ih2 (k + 1) (y ||| (1 * 2 ^ k)) V4 _ _ _ (by omega) (by omega) ((obF_t (hit := rlB t (V 30) x1) (dcT (Int32.not_le.mp c69))).trans (by rw [hy])) (Eqx.trans (Eqx.up (Eqx.up (Eqx.up (Eqx.trans hE2 (hE3.mono PL_PE)) rfl) rfl) rfl) (hE4.mono PT_PE)) hrz6 hG hS (lv_sub hl [0, 1, 2, 3] rfl)
  exact loop2 ((8 - 0) + 1) 0 0 V1 _ _ _ (Nat.lt_succ_self _) (by omega) rfl Eqx.rf hr1 hG hS (lv_sub hl [0, 1, 2, 3] rfl)
