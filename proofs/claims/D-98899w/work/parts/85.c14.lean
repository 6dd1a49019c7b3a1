theorem mod_step {n x : Nat} : (x % n + 1) % n = (x + 1) % n := Nat.mod_add_mod x n 1
theorem rn_end {f : Rw} {n b u j e : Nat} (hR : rnG f n b u (b + j) = rnG f n b (e - b) b) (h : u = 0 ∨ ¬ f ((b + j) % n) = f b) : j = rnG f n b (e - b) b - b := by
  have hr : rnG f n b u (b + j) = b + j := by
    rcases h with rfl | h
    · rfl
    · cases u with
      | zero => rfl
      | succ u => exact rnG_f h
  rw [← hR, hr]; omega
theorem enF_c {n b : Nat} {rg : Int32} : (rg = nI 1 ∧ enF n b rg = b + n) ∨ (¬ rg = nI 1 ∧ enF n b rg = n) := by
  unfold enF
  by_cases h : rg = nI 1
  · exact Or.inl ⟨h, if_pos h⟩
  · exact Or.inr ⟨h, if_neg h⟩
theorem f_b01 {n : Nat} {f : Rw} (hrv : RV n f) {x y : Nat} (hx : x < n) (hy : y < n) : b01 (f x) = b01 (f y) ↔ f x = f y := by
  constructor
  · intro h; rw [hrv x hx, hrv y hy, h]
  · intro h; rw [h]
theorem un_in {T : Txt} {f : Rw} {b : Nat} (hn : xN T ≤ 9) (hrv : RV (xN T) f) (hb : b + 1 < xN T) : unB T f b = true ↔ ¬ f (b + 1) = f b := by
  unfold unB
  have e : bhI (xN T) (xR T) b = nI (b + 1) := if_pos hb
  rw [e, decide_eq_true_iff, lfI_n (by omega), f_b01 hrv hb (by omega)]
  exact ⟨fun h => h.2, fun h => ⟨fun z => ng_ne (by decide) (by omega) z, h⟩⟩
theorem un_last {T : Txt} {f : Rw} (hn : xN T ≤ 9) (hrv : RV (xN T) f) (h0 : 0 < xN T) : unB T f (xN T - 1) = true ↔ xR T = nI 1 ∧ ¬ f 0 = f (xN T - 1) := by
  unfold unB bhI
  rw [if_neg (by omega), decide_eq_true_iff]
  by_cases h : xR T = nI 1
  · rw [if_pos h, lfI_n (by omega), f_b01 hrv h0 (by omega)]
    exact ⟨fun z => ⟨h, z.2⟩, fun z => ⟨by decide, z.2⟩⟩
  · rw [if_neg h]
    exact ⟨fun z => absurd rfl z.1, fun z => absurd z.1 h⟩
theorem un_cn {T : Txt} {f : Rw} (hn : xN T ≤ 9) (hrv : RV (xN T) f) : ∀ b, b < xN T → cnF (unB T f) b = ulF f (b + 1)
  | 0, _ => rfl
  | b + 1, h => by
    have ih := un_cn hn hrv b (by omega)
    by_cases e : f (b + 1) = f b
    · rw [cnF_f (fun z => (un_in hn hrv h).mp z e), ih, ulF_t (b := b + 1) (by omega) e]
    · rw [cnF_t ((un_in hn hrv h).mpr e), ih, ulF_f (b := b + 1) (by omega) e]
theorem un_all {T : Txt} {f : Rw} (hn : xN T ≤ 9) (hrv : RV (xN T) f) : cnF (unB T f) (xN T) = ulF f (xN T) + (if 0 < xN T ∧ xR T = nI 1 ∧ ¬ f 0 = f (xN T - 1) then 1 else 0) := by
  rcases Nat.eq_zero_or_pos (xN T) with h | h
  · rw [h]; rfl
  · have e := un_cn hn hrv (xN T - 1) (by omega)
    rw [show xN T - 1 + 1 = xN T by omega] at e
    have k : cnF (unB T f) (xN T) = cnF (unB T f) (xN T - 1 + 1) := by rw [show xN T - 1 + 1 = xN T by omega]
    rw [k]
    by_cases hc : xR T = nI 1 ∧ ¬ f 0 = f (xN T - 1)
    · rw [cnF_t ((un_last hn hrv h).mpr hc), e, if_pos ⟨h, hc⟩]
    · rw [cnF_f (fun z => hc ((un_last hn hrv h).mp z)), e, if_neg (fun z => hc z.2)]; rfl
theorem ulF_2 (f : Rw) : ulF f 2 = if f 1 = f 0 then 0 else 1 := by
  have h1 : ulF f 1 = 0 := rfl
  by_cases h : f 1 = f 0
  · rw [ulF_t (b := 1) (by omega) h, h1, if_pos h]
  · rw [ulF_f (b := 1) (by omega) h, h1, if_neg h]
theorem unl_2 {T : Txt} {f : Rw} {u : Nat} (hn : xN T = 2) (hrg : xR T = nI 1) (hrv : RV (xN T) f) (hu : cnF (unB T f) (xN T) = u) : nI u / nI 2 = unlikeA T f := by
  rw [un_all (by omega) hrv, hn, ulF_2] at hu
  unfold unlikeA
  rw [if_neg (by omega), hn, ulF_2]
  by_cases h : f 1 = f 0
  · rw [if_pos h, if_neg (fun z => z.2.2 h.symm)] at hu
    rw [if_pos h, ← hu]; rfl
  · rw [if_neg h, if_pos ⟨by omega, hrg, fun z => h z.symm⟩] at hu
    rw [if_neg h, ← hu]; rfl
theorem unl_n {T : Txt} {f : Rw} {u : Nat} (hn : xN T ≤ 9) (h2 : ¬ (xN T = 2 ∧ xR T = nI 1)) (hrv : RV (xN T) f) (hu : cnF (unB T f) (xN T) = u) : nI u = unlikeA T f := by
  rw [un_all hn hrv] at hu
  unfold unlikeA
  by_cases hc : xR T = nI 1 ∧ 2 < xN T ∧ ¬ f 0 = f (xN T - 1)
  · rw [if_pos hc, ← hu, if_pos ⟨by omega, hc.1, hc.2.2⟩]
  · rw [if_neg hc, ← hu, if_neg (fun z => ?_)]; rfl
    by_cases h3 : 2 < xN T
    · exact hc ⟨z.2.1, h3, z.2.2⟩
    · have : xN T = 1 ∨ xN T = 2 := by omega
      rcases this with h | h
      · exact z.2.2 (by rw [h])
      · exact h2 ⟨h, z.2.1⟩
theorem an_s {G : Nat → Nat} {x k : Nat} : anF G x (k + 1) = (anF G x k || decide (G k = x)) := rfl
theorem cw_X0_158 {R : Room} {s : State} {args : Array Value} (hts : ∀ w ∈ lw_all, w.before args s = true) {f w k j : Nat} (hR : f + 1 ≤ R.frames ∧ 8 + (2 + 11) + w ≤ R.locals) : CallW R s args RX0 RX5 158 yX5_isLeft cX5_isLeft 2 (some .boolean) (ws_ yX5_isLeft cX5_isLeft 2 (some .boolean)) (mkRmC f w k j) k j 1 := cwV 1 hts (lw_V q1119 q1120 q1121 q119 q1122) rfl rfl rfl (by decide +kernel) hR
set_option maxHeartbeats 4000000 in
theorem met_X0_runFrom (l : Launch) (D : va_G) (dA : Nat → ClassId) {o : Nat} {V : GI} {L : GL} {Rf : GR} {H0 : Heap} (hG : gP D dA o dS V L Rf H0) {O : Nat → Prop} {tx : Nat} {T : Txt} {f : Rw} (hC : clS D dA H0 O o V Rf tx T f) (hOA : ∀ z, O z → ¬ AS o z) {b : Nat} (hb9 : b < xN T) : Ctr l D dA yX0_runFrom cX0_runFrom 4 (some .int) (mkRm 410 9700) [.ref o, .int (nI b)] H0 A0 (QI (fun r H1 => H0 = H1 ∧ r = nI (rnF f (xN T) (xR T) b))) := by
  have hC0 := hC
  obtain ⟨hX, htx, hB, hrv, hsd1, hsd2⟩ := hC
  have hX0 := hX
  have hn9 := txA_n hX
  have hp2 := two9 hn9
  have hpp := Nat.two_pow_pos (xN T)
  obtain ⟨al, ls, cd, cb, gc, lw, mc, ea, nc, xo1, xo2, xo3, xo4, xh1, xh2, xh3, xh4, xh5, xh6, hn9⟩ := hX
  have hE := enF_c (n := xN T) (b := b) (rg := xR T)
  have hOA : ∀ z, O z → ¬ A0 z := fun _ _ h => h
  refine ctr_I (by decide) (Nat.le_of_ble_eq_true rfl) ?_
  intro p e s m args below meth c ls QQ locs hx hb hml hown hts hK hend hS hl
  have hl : lv_has ls 4 [(0, .ref o), (1, .int (nI b))] := hl
  refine lv_iconst (v := (nI 1)) hx hb dX0_runFrom_0 (by decide) ?_
  refine lv_istore_n (lv' := [(2, .int (nI 1)), (0, .ref o), (1, .int (nI b))]) hx hb dX0_runFrom_1 rfl hl (by decide) rfl (fun ls hl => ?_)
  refine lv_iload_n hx hb dX0_runFrom_2 rfl (lv_at hl 2 rfl) ?_
  refine lv_istore_n (lv' := [(3, .int (nI b)), (2, .int (nI 1)), (0, .ref o), (1, .int (nI b))]) hx hb dX0_runFrom_3 rfl hl (by decide) rfl (fun ls hl => ?_)
  have loop1 : ∀ (fu1 : Nat) (j : Nat) (u : Nat) (cu : Nat) (locs : List Loc) (ls : Array Slot), u < fu1 → (b + j + u = enF (xN T) b (xR T)) → (cu = (b + j - 1) % xN T) → (1 ≤ j + 0) → (rnG f (xN T) b u (b + j) = rnG f (xN T) b (enF (xN T) b (xR T) - b) b) → va_S A0 H0 H0 locs → lv_has ls 4 [(3, .int (nI cu)), (2, .int (nI j)), (0, .ref o), (1, .int (nI b))] → W p l e (mkRm 410 9700) s m args below meth c H0 locs 0 0 QQ (F0 m 4 ls []) := by
    intro fu1
    induction fu1 with
    | zero => intro j u cu locs ls hfu; exact absurd hfu (Nat.not_lt_zero _)
    | succ fu1 ih1 =>
      intro j u cu locs ls hfu hju hcu hjn hR hS hl
      have hcn : cu < xN T := by rw [hcu]; exact Nat.mod_lt _ (by omega)
      refine lv_iload_n hx hb dX0_runFrom_4 rfl (lv_at hl 1 rfl) ?_
      refine lv_aload_n hx hb dX0_runFrom_5 rfl (lv_at hl 2 rfl) ?_
      refine c_VI hx hb hml hts hown hK hl.1 hS ⟨Nat.le_refl _, Nat.le_refl _⟩ (met_X0_beds l D dA hG (txA_S hX0 hS hOA) htx) (cw_X0_145 hts ⟨Nat.le_of_ble_eq_true rfl, Nat.le_of_ble_eq_true rfl⟩) (hG 0 _ rfl) rfl rfl rfl rfl (Nat.le_of_ble_eq_true rfl) dX0_runFrom_6 (fun _ h => h.elim) (fun r H1 locs hq hF hS => ?_)
      obtain ⟨rfl, rfl⟩ := hq
      refine n_icmp_ge (tgt := 74) hx hb dX0_runFrom_9 (by decide) (by omega) (by omega) (fun c9 => ?_) (fun c9 => ?_)
      · have hu : u = 0 := by rcases hE with ⟨_, h⟩ | ⟨_, h⟩ <;> omega
        refine lv_iload_n hx hb dX0_runFrom_74 rfl (lv_at hl 1 rfl) ?_
        refine hend _ _ _ _ _ hS dX0_runFrom_75 ?_
        exact ⟨_, rfl, rfl, by unfold rnF; rw [← rn_end hR (Or.inl hu)]⟩
      refine lv_aload_n hx hb dX0_runFrom_12 rfl (lv_at hl 2 rfl) ?_
      refine g_get (v := .ref tx) hx hb hts hown hK hG 0 rfl rfl ok_X0 3 (by decide) q525 rfl (congrArg va_rf htx) dX0_runFrom_13 ?_
      refine x_get hx hb hts hown hK (va_at_S xh1 hS (hOA _ xo1)) rfl ok_X4 5 (by decide) q367 rfl dX0_runFrom_16 ?_
      refine lv_iconst (v := (nI 1)) hx hb dX0_runFrom_19 (by decide) ?_
      refine lv_icmp_eq (tgt := 33) hx hb dX0_runFrom_20 (by decide) (fun c20 => ?_) (fun c20 => ?_)
      · have hu1 : 1 ≤ u := by rcases hE with ⟨_, h⟩ | ⟨h, _⟩; omega; exact absurd c20 h
        refine lv_aload_n hx hb dX0_runFrom_33 rfl (lv_at hl 2 rfl) ?_
        refine g_get hx hb hts hown hK hG 0 rfl rfl ok_X0 7 (by decide) q529 rfl rfl dX0_runFrom_34 ?_
        refine lv_iload_n hx hb dX0_runFrom_37 rfl (lv_at hl 0 rfl) ?_
        refine lv_iconst (v := (nI 1)) hx hb dX0_runFrom_38 (by decide) ?_
        refine n_iadd hx hb dX0_runFrom_39 ?_
        refine lv_aload_n hx hb dX0_runFrom_40 rfl (lv_at hl 2 rfl) ?_
        refine c_VI hx hb hml hts hown hK hl.1 hS ⟨Nat.le_refl _, Nat.le_refl _⟩ (met_X0_beds l D dA hG (txA_S hX0 hS hOA) htx) (cw_X0_145 hts ⟨Nat.le_of_ble_eq_true rfl, Nat.le_of_ble_eq_true rfl⟩) (hG 0 _ rfl) rfl rfl rfl rfl (Nat.le_of_ble_eq_true rfl) dX0_runFrom_41 (fun _ h => h.elim) (fun r H1 locs hq hF hS => ?_)
        obtain ⟨rfl, rfl⟩ := hq
        refine n_irem hx hb dX0_runFrom_44 (by omega) (by omega) (by omega) ?_
        refine c_VI hx hb hml hts hown hK hl.1 hS ⟨Nat.le_refl _, Nat.le_refl _⟩ (met_X5_isLeft l D dA (gP_view hG isB15) (hB).1.1 hn9 (Nat.mod_lt _ (by omega))) (cw_X0_158 hts ⟨Nat.le_of_ble_eq_true rfl, Nat.le_of_ble_eq_true rfl⟩) (hG 15 _ rfl) rfl rfl rfl rfl (Nat.le_of_ble_eq_true rfl) dX0_runFrom_45 (fun _ h => h.elim) (fun r H1 locs hq hF hS => ?_)
        obtain ⟨rfl, rfl⟩ := hq
        have hb01_2 := b01_le ((f) ((cu + 1) % (xN T)))
        refine lv_aload_n hx hb dX0_runFrom_48 rfl (lv_at hl 2 rfl) ?_
        refine g_get hx hb hts hown hK hG 0 rfl rfl ok_X0 7 (by decide) q529 rfl rfl dX0_runFrom_49 ?_
        refine lv_iload_n hx hb dX0_runFrom_52 rfl (lv_at hl 3 rfl) ?_
        refine c_VI hx hb hml hts hown hK hl.1 hS ⟨Nat.le_refl _, Nat.le_refl _⟩ (met_X5_isLeft l D dA (gP_view hG isB15) (hB).1.1 hn9 (by omega)) (cw_X0_158 hts ⟨Nat.le_of_ble_eq_true rfl, Nat.le_of_ble_eq_true rfl⟩) (hG 15 _ rfl) rfl rfl rfl rfl (Nat.le_of_ble_eq_true rfl) dX0_runFrom_53 (fun _ h => h.elim) (fun r H1 locs hq hF hS => ?_)
        obtain ⟨rfl, rfl⟩ := hq
        have hb01_3 := b01_le ((f) b)
        refine n_icmp_ne (tgt := 74) hx hb dX0_runFrom_56 (by decide) (by omega) (by omega) (fun c56 => ?_) (fun c56 => ?_)
        · have hmE : (cu + 1) % xN T = (b + j) % xN T := by rw [hcu, mod_step]; congr 1; omega
          have hfe : ¬ f ((b + j) % xN T) = f b := by rw [← hmE]; exact fun z => c56 ((f_b01 hrv (Nat.mod_lt _ (by omega)) (by omega)).mpr z)
          refine lv_iload_n hx hb dX0_runFrom_74 rfl (lv_at hl 1 rfl) ?_
          refine hend _ _ _ _ _ hS dX0_runFrom_75 ?_
          exact ⟨_, rfl, rfl, by unfold rnF; rw [← rn_end hR (Or.inr hfe)]⟩
        have hmE : (cu + 1) % xN T = (b + j) % xN T := by rw [hcu, mod_step]; congr 1; omega
        have hfe : f ((b + j) % xN T) = f b := by rw [← hmE]; exact (f_b01 hrv (Nat.mod_lt _ (by omega)) (by omega)).mp c56
        refine lv_iload_n hx hb dX0_runFrom_59 rfl (lv_at hl 0 rfl) ?_
        refine lv_iconst (v := (nI 1)) hx hb dX0_runFrom_60 (by decide) ?_
        refine n_iadd hx hb dX0_runFrom_61 ?_
        refine lv_aload_n hx hb dX0_runFrom_62 rfl (lv_at hl 2 rfl) ?_
        refine c_VI hx hb hml hts hown hK hl.1 hS ⟨Nat.le_refl _, Nat.le_refl _⟩ (met_X0_beds l D dA hG (txA_S hX0 hS hOA) htx) (cw_X0_145 hts ⟨Nat.le_of_ble_eq_true rfl, Nat.le_of_ble_eq_true rfl⟩) (hG 0 _ rfl) rfl rfl rfl rfl (Nat.le_of_ble_eq_true rfl) dX0_runFrom_63 (fun _ h => h.elim) (fun r H1 locs hq hF hS => ?_)
        obtain ⟨rfl, rfl⟩ := hq
        refine n_irem hx hb dX0_runFrom_66 (by omega) (by omega) (by omega) ?_
        refine lv_istore_n (lv' := [(3, .int (nI ((cu + 1) % (xN T)))), (2, .int (nI j)), (0, .ref o), (1, .int (nI b))]) hx hb dX0_runFrom_67 rfl hl (by decide) rfl (fun ls hl => ?_)
        refine lv_iinc (v := (nI (j + 1))) (lv' := [(2, .int (nI (j + 1))), (3, .int (nI ((cu + 1) % (xN T)))), (0, .ref o), (1, .int (nI b))]) hx hb dX0_runFrom_68 hl (k := 1) rfl (nI_add _ _) (by decide) rfl (fun ls hl => ?_)
        refine lv_goto (tgt := 4) hx hb dX0_runFrom_71 (by decide) ?_
        exact ih1 (j + 1) (u - 1) ((cu + 1) % (xN T)) _ _ (by omega) (by omega) (by rw [hcu, mod_step]; congr 1; omega) (by omega) ((rnG_t (u := u - 1) hfe).symm.trans (by rw [show u - 1 + 1 = u by omega]; exact hR)) hS (lv_sub hl [1, 0, 2, 3] rfl)
      refine lv_iload_n hx hb dX0_runFrom_23 rfl (lv_at hl 0 rfl) ?_
      refine lv_iconst (v := (nI 1)) hx hb dX0_runFrom_24 (by decide) ?_
      refine n_iadd hx hb dX0_runFrom_25 ?_
      refine lv_aload_n hx hb dX0_runFrom_26 rfl (lv_at hl 2 rfl) ?_
      refine c_VI hx hb hml hts hown hK hl.1 hS ⟨Nat.le_refl _, Nat.le_refl _⟩ (met_X0_beds l D dA hG (txA_S hX0 hS hOA) htx) (cw_X0_145 hts ⟨Nat.le_of_ble_eq_true rfl, Nat.le_of_ble_eq_true rfl⟩) (hG 0 _ rfl) rfl rfl rfl rfl (Nat.le_of_ble_eq_true rfl) dX0_runFrom_27 (fun _ h => h.elim) (fun r H1 locs hq hF hS => ?_)
      obtain ⟨rfl, rfl⟩ := hq
      refine n_icmp_ge (tgt := 74) hx hb dX0_runFrom_30 (by decide) (by omega) (by omega) (fun c30 => ?_) (fun c30 => ?_)
      · have hu : u = 0 := by
          rcases hE with ⟨h, _⟩ | ⟨_, h⟩
          · exact absurd h c20
          · rw [Nat.mod_eq_of_lt (by omega)] at hcu; omega
        refine lv_iload_n hx hb dX0_runFrom_74 rfl (lv_at hl 1 rfl) ?_
        refine hend _ _ _ _ _ hS dX0_runFrom_75 ?_
        exact ⟨_, rfl, rfl, by unfold rnF; rw [← rn_end hR (Or.inl hu)]⟩
      have hu1 : 1 ≤ u := by
        rcases hE with ⟨h, _⟩ | ⟨_, h⟩
        · exact absurd h c20
        · rw [Nat.mod_eq_of_lt (by omega)] at hcu; omega
      refine lv_aload_n hx hb dX0_runFrom_33 rfl (lv_at hl 2 rfl) ?_
      refine g_get hx hb hts hown hK hG 0 rfl rfl ok_X0 7 (by decide) q529 rfl rfl dX0_runFrom_34 ?_
      refine lv_iload_n hx hb dX0_runFrom_37 rfl (lv_at hl 0 rfl) ?_
      refine lv_iconst (v := (nI 1)) hx hb dX0_runFrom_38 (by decide) ?_
      refine n_iadd hx hb dX0_runFrom_39 ?_
      refine lv_aload_n hx hb dX0_runFrom_40 rfl (lv_at hl 2 rfl) ?_
      refine c_VI hx hb hml hts hown hK hl.1 hS ⟨Nat.le_refl _, Nat.le_refl _⟩ (met_X0_beds l D dA hG (txA_S hX0 hS hOA) htx) (cw_X0_145 hts ⟨Nat.le_of_ble_eq_true rfl, Nat.le_of_ble_eq_true rfl⟩) (hG 0 _ rfl) rfl rfl rfl rfl (Nat.le_of_ble_eq_true rfl) dX0_runFrom_41 (fun _ h => h.elim) (fun r H1 locs hq hF hS => ?_)
      obtain ⟨rfl, rfl⟩ := hq
      refine n_irem hx hb dX0_runFrom_44 (by omega) (by omega) (by omega) ?_
      refine c_VI hx hb hml hts hown hK hl.1 hS ⟨Nat.le_refl _, Nat.le_refl _⟩ (met_X5_isLeft l D dA (gP_view hG isB15) (hB).1.1 hn9 (Nat.mod_lt _ (by omega))) (cw_X0_158 hts ⟨Nat.le_of_ble_eq_true rfl, Nat.le_of_ble_eq_true rfl⟩) (hG 15 _ rfl) rfl rfl rfl rfl (Nat.le_of_ble_eq_true rfl) dX0_runFrom_45 (fun _ h => h.elim) (fun r H1 locs hq hF hS => ?_)
      obtain ⟨rfl, rfl⟩ := hq
      have hb01_4 := b01_le ((f) ((cu + 1) % (xN T)))
      refine lv_aload_n hx hb dX0_runFrom_48 rfl (lv_at hl 2 rfl) ?_
      refine g_get hx hb hts hown hK hG 0 rfl rfl ok_X0 7 (by decide) q529 rfl rfl dX0_runFrom_49 ?_
      refine lv_iload_n hx hb dX0_runFrom_52 rfl (lv_at hl 3 rfl) ?_
      refine c_VI hx hb hml hts hown hK hl.1 hS ⟨Nat.le_refl _, Nat.le_refl _⟩ (met_X5_isLeft l D dA (gP_view hG isB15) (hB).1.1 hn9 (by omega)) (cw_X0_158 hts ⟨Nat.le_of_ble_eq_true rfl, Nat.le_of_ble_eq_true rfl⟩) (hG 15 _ rfl) rfl rfl rfl rfl (Nat.le_of_ble_eq_true rfl) dX0_runFrom_53 (fun _ h => h.elim) (fun r H1 locs hq hF hS => ?_)
      obtain ⟨rfl, rfl⟩ := hq
      have hb01_5 := b01_le ((f) b)
      refine n_icmp_ne (tgt := 74) hx hb dX0_runFrom_56 (by decide) (by omega) (by omega) (fun c56 => ?_) (fun c56 => ?_)
      · have hmE : (cu + 1) % xN T = (b + j) % xN T := by rw [hcu, mod_step]; congr 1; omega
        have hfe : ¬ f ((b + j) % xN T) = f b := by rw [← hmE]; exact fun z => c56 ((f_b01 hrv (Nat.mod_lt _ (by omega)) (by omega)).mpr z)
        refine lv_iload_n hx hb dX0_runFrom_74 rfl (lv_at hl 1 rfl) ?_
        refine hend _ _ _ _ _ hS dX0_runFrom_75 ?_
        exact ⟨_, rfl, rfl, by unfold rnF; rw [← rn_end hR (Or.inr hfe)]⟩
      have hmE : (cu + 1) % xN T = (b + j) % xN T := by rw [hcu, mod_step]; congr 1; omega
      have hfe : f ((b + j) % xN T) = f b := by rw [← hmE]; exact (f_b01 hrv (Nat.mod_lt _ (by omega)) (by omega)).mp c56
      refine lv_iload_n hx hb dX0_runFrom_59 rfl (lv_at hl 0 rfl) ?_
      refine lv_iconst (v := (nI 1)) hx hb dX0_runFrom_60 (by decide) ?_
      refine n_iadd hx hb dX0_runFrom_61 ?_
      refine lv_aload_n hx hb dX0_runFrom_62 rfl (lv_at hl 2 rfl) ?_
      refine c_VI hx hb hml hts hown hK hl.1 hS ⟨Nat.le_refl _, Nat.le_refl _⟩ (met_X0_beds l D dA hG (txA_S hX0 hS hOA) htx) (cw_X0_145 hts ⟨Nat.le_of_ble_eq_true rfl, Nat.le_of_ble_eq_true rfl⟩) (hG 0 _ rfl) rfl rfl rfl rfl (Nat.le_of_ble_eq_true rfl) dX0_runFrom_63 (fun _ h => h.elim) (fun r H1 locs hq hF hS => ?_)
      obtain ⟨rfl, rfl⟩ := hq
      refine n_irem hx hb dX0_runFrom_66 (by omega) (by omega) (by omega) ?_
      refine lv_istore_n (lv' := [(3, .int (nI ((cu + 1) % (xN T)))), (2, .int (nI j)), (0, .ref o), (1, .int (nI b))]) hx hb dX0_runFrom_67 rfl hl (by decide) rfl (fun ls hl => ?_)
      refine lv_iinc (v := (nI (j + 1))) (lv' := [(2, .int (nI (j + 1))), (3, .int (nI ((cu + 1) % (xN T)))), (0, .ref o), (1, .int (nI b))]) hx hb dX0_runFrom_68 hl (k := 1) rfl (nI_add _ _) (by decide) rfl (fun ls hl => ?_)
      refine lv_goto (tgt := 4) hx hb dX0_runFrom_71 (by decide) ?_
      exact ih1 (j + 1) (u - 1) ((cu + 1) % (xN T)) _ _ (by omega) (by omega) (by rw [hcu, mod_step]; congr 1; omega) (by omega) ((rnG_t (u := u - 1) hfe).symm.trans (by rw [show u - 1 + 1 = u by omega]; exact hR)) hS (lv_sub hl [1, 0, 2, 3] rfl)
  exact loop1 ((enF (xN T) b (xR T) - b - 1) + 1) 1 (enF (xN T) b (xR T) - b - 1) b _ _ (Nat.lt_succ_self _) (by rcases hE with ⟨_, h⟩ | ⟨_, h⟩ <;> omega) (by rw [Nat.add_sub_cancel, Nat.mod_eq_of_lt hb9]) (by omega) ((rnG_t (f := f) (n := xN T) (b := b) (u := enF (xN T) b (xR T) - b - 1) (k := b) (by rw [Nat.mod_eq_of_lt hb9])).symm.trans (by rw [show enF (xN T) b (xR T) - b - 1 + 1 = enF (xN T) b (xR T) - b by rcases hE with ⟨_, h⟩ | ⟨_, h⟩ <;> omega])) hS (lv_sub hl [0, 1, 2, 3] rfl)
theorem cw_X0_254 {R : Room} {s : State} {args : Array Value} (hts : ∀ w ∈ lw_all, w.before args s = true) {f w k j : Nat} (hR : f + 1 ≤ R.frames ∧ 8 + (4 + 11) + w ≤ R.locals) : CallW R s args RX0 RX0 254 yX0_runFrom cX0_runFrom 4 (some .int) (ws_ yX0_runFrom cX0_runFrom 4 (some .int)) (mkRmC f w k j) k j 1 := cwV 1 hts (lw_V q1334 q1336 qs41 q108 q1337) rfl rfl rfl (by decide +kernel) hR
set_option maxHeartbeats 4000000 in
theorem met_X0_run (l : Launch) (D : va_G) (dA : Nat → ClassId) {o : Nat} {V : GI} {L : GL} {Rf : GR} {H0 : Heap} (hG : gP D dA o dS V L Rf H0) {O : Nat → Prop} {tx : Nat} {T : Txt} {f : Rw} (hC : clS D dA H0 O o V Rf tx T f) (hOA : ∀ z, O z → ¬ AS o z) (v1 : Int32) : Ctr l D dA yX0_run cX0_run 6 (some .int) (mkRm 411 9800) [.ref o, .int v1] H0 (AS o) (QI (fun r H1 => ∃ V1, gP D dA o dS V1 L Rf H1 ∧ Eqx PQw V V1 ∧ r = runA T f v1)) := by
  have hC0 := hC
  obtain ⟨hX, htx, hB, hrv, hsd1, hsd2⟩ := hC
  have hX0 := hX
  have hn9 := txA_n hX
  have hp2 := two9 hn9
  have hpp := Nat.two_pow_pos (xN T)
  obtain ⟨fsx, hatx⟩ := txA_at hX
  have hotx := txA_o hX
  refine ctr_I (by decide) (Nat.le_of_ble_eq_true rfl) ?_
  intro p e s m args below meth c ls QQ locs hx hb hml hown hts hK hend hS hl
  have hl : lv_has ls 6 [(0, .ref o), (1, .int v1)] := hl
  refine lv_iload_n hx hb dX0_run_0 rfl (lv_at hl 1 rfl) ?_
  refine lv_iconst (v := (nI 0)) hx hb dX0_run_1 (by decide) ?_
  refine lv_iconst (v := (nI 1)) hx hb dX0_run_2 (by decide) ?_
  refine c_SI hx hb hml hts hown hK hl.1 hS ⟨Nat.le_refl _, Nat.le_refl _⟩ (met_X0_isIn l D dA v1 (nI 0) (nI 1)) (cw_X0_146 hts ⟨Nat.le_of_ble_eq_true rfl, Nat.le_of_ble_eq_true rfl⟩) rfl rfl (Nat.le_of_ble_eq_true rfl) dX0_run_3 (fun _ h => h.elim) (fun r H1 locs hq hF hS => ?_)
  obtain ⟨rfl, rfl⟩ := hq
  rcases (inZ_cases v1 0 1 (by decide) (by decide)).symm with ⟨hz3, ho3⟩ | ⟨x1, hlo_x1, hhi_x1, rfl, hz3⟩
  · refine iv (y := nI 0) hz3 ?_
    refine n_if_ne (tgt := 11) hx hb dX0_run_6 (by decide) (by decide) (fun z => absurd z (by decide)) (fun _ => ?_)
    refine lv_iconst (v := (-1)) hx hb dX0_run_9 (by decide) ?_
    refine hend _ _ _ _ _ hS dX0_run_10 ?_
    exact ⟨_, rfl, _, hG, Eqx.rf, ((ho3.1 _ _)).symm⟩
  refine iv (y := nI 1) hz3 ?_
  have hl : lv_has ls 6 [(0, .ref o), (1, .int (nI x1))] := hl
  refine n_if_ne (tgt := 11) hx hb dX0_run_6 (by decide) (by decide) (fun _ => ?_) (fun z => absurd z (by decide))
  refine lv_bipush (v := (-2)) hx hb dX0_run_11 (by decide) ?_
  refine lv_istore_n (lv' := [(2, .int (-2)), (0, .ref o), (1, .int (nI x1))]) hx hb dX0_run_13 rfl hl (by decide) rfl (fun ls hl => ?_)
  refine lv_iconst (v := (nI 0)) hx hb dX0_run_14 (by decide) ?_
  refine lv_istore_n (lv' := [(3, .int (nI 0)), (2, .int (-2)), (0, .ref o), (1, .int (nI x1))]) hx hb dX0_run_15 rfl hl (by decide) rfl (fun ls hl => ?_)
  refine lv_iconst (v := (nI 0)) hx hb dX0_run_16 (by decide) ?_
  refine lv_istore (lv' := [(4, .int (nI 0)), (3, .int (nI 0)), (2, .int (-2)), (0, .ref o), (1, .int (nI x1))]) hx hb dX0_run_17 hl (by decide) rfl (fun ls hl => ?_)
  have loop1 : ∀ (fu1 : Nat) (b : Nat) (op : Option (Nat × Nat)) (V1 : GI) (H : Heap) (locs : List Loc) (ls : Array Slot), xN T - b < fu1 → (b ≤ xN T) → (mxF (rnF f (xN T) (xR T)) b = op) → (Eqx PQw V V1) → gP D dA o dS V1 L Rf H → va_S (AS o) H0 H locs → lv_has ls 6 [(4, .int (nI b)), (3, .int (nI (oF 0 op))), (2, .int (oI (-2) op)), (0, .ref o), (1, .int (nI x1))] → W p l e (mkRm 411 9800) s m args below meth c H locs 0 0 QQ (F0 m 19 ls []) := by
    intro fu1
    induction fu1 with
    | zero => intro b op V1 H locs ls hfu; exact absurd hfu (Nat.not_lt_zero _)
    | succ fu1 ih1 =>
      intro b op V1 H locs ls hfu hbn hp hE1 hG hS hl
      refine lv_iload hx hb dX0_run_19 (lv_at hl 0 rfl) ?_
      refine lv_aload_n hx hb dX0_run_21 rfl (lv_at hl 3 rfl) ?_
      refine c_VI hx hb hml hts hown hK hl.1 hS ⟨Nat.le_refl _, Nat.le_refl _⟩ (met_X0_beds l D dA hG (txA_S hX0 hS hOA) htx) (cw_X0_145 hts ⟨Nat.le_of_ble_eq_true rfl, Nat.le_of_ble_eq_true rfl⟩) (hG 0 _ rfl) rfl rfl rfl rfl (Nat.le_of_ble_eq_true rfl) dX0_run_22 (fun _ h => h.elim) (fun r H1 locs hq hF hS => ?_)
      obtain ⟨rfl, rfl⟩ := hq
      refine n_icmp_ge (tgt := 57) hx hb dX0_run_25 (by decide) (by omega) (by omega) (fun c25 => ?_) (fun c25 => ?_)
      · obtain rfl : b = xN T := by omega
        rcases op with _ | ⟨i, v⟩
        · have hl : lv_has ls 6 [(4, .int (nI (xN T))), (3, .int (nI 0)), (2, .int (-2)), (0, .ref o), (1, .int (nI x1))] := hl
          refine lv_iload_n hx hb dX0_run_57 rfl (lv_at hl 4 rfl) ?_
          refine n_if_ne (tgt := 65) hx hb dX0_run_58 (by decide) (by omega) (fun c58 => ?_) (fun c58 => ?_)
          · refine lv_iload_n hx hb dX0_run_65 rfl (lv_at hl 2 rfl) ?_
            refine hend _ _ _ _ _ hS dX0_run_66 ?_
            exact ⟨_, rfl, _, hG, hE1, ((rng_in hlo_x1 hhi_x1 (by omega)).trans (((if_neg (by omega)).trans (congrArg (oI (-2)) hp)))).symm⟩
          refine lv_iload_n hx hb dX0_run_61 rfl (lv_at hl 1 rfl) ?_
          refine lv_goto (tgt := 66) hx hb dX0_run_62 (by decide) ?_
          refine hend _ _ _ _ _ hS dX0_run_66 ?_
          exact ⟨_, rfl, _, hG, hE1, ((rng_in hlo_x1 hhi_x1 (by omega)).trans (((if_pos c58).trans (congrArg (oV 0) hp)))).symm⟩
        have hl : lv_has ls 6 [(4, .int (nI (xN T))), (3, .int (nI v)), (2, .int (nI i)), (0, .ref o), (1, .int (nI x1))] := hl
        have hi9 := (mxF_lt hp).1
        have hv9 : v ≤ 9 := (mxF_lt hp).2 ▸ Nat.le_trans (rnF_le (by omega)) hn9
        refine lv_iload_n hx hb dX0_run_57 rfl (lv_at hl 4 rfl) ?_
        refine n_if_ne (tgt := 65) hx hb dX0_run_58 (by decide) (by omega) (fun c58 => ?_) (fun c58 => ?_)
        · refine lv_iload_n hx hb dX0_run_65 rfl (lv_at hl 2 rfl) ?_
          refine hend _ _ _ _ _ hS dX0_run_66 ?_
          exact ⟨_, rfl, _, hG, hE1, ((rng_in hlo_x1 hhi_x1 (by omega)).trans (((if_neg (by omega)).trans (congrArg (oI (-2)) hp)))).symm⟩
        refine lv_iload_n hx hb dX0_run_61 rfl (lv_at hl 1 rfl) ?_
        refine lv_goto (tgt := 66) hx hb dX0_run_62 (by decide) ?_
        refine hend _ _ _ _ _ hS dX0_run_66 ?_
        exact ⟨_, rfl, _, hG, hE1, ((rng_in hlo_x1 hhi_x1 (by omega)).trans (((if_pos c58).trans (congrArg (oV 0) hp)))).symm⟩
      rcases op with _ | ⟨i, v⟩
      · have hl : lv_has ls 6 [(4, .int (nI b)), (3, .int (nI 0)), (2, .int (-2)), (0, .ref o), (1, .int (nI x1))] := hl
        refine lv_aload_n hx hb dX0_run_28 rfl (lv_at hl 3 rfl) ?_
        refine lv_iload hx hb dX0_run_29 (lv_at hl 0 rfl) ?_
        refine c_VI hx hb hml hts hown hK hl.1 hS ⟨Nat.le_refl _, Nat.le_refl _⟩ (met_X0_runFrom l D dA hG (clS_E hC0 hS hOA hE1) hOA (by omega)) (cw_X0_254 hts ⟨Nat.le_of_ble_eq_true rfl, Nat.le_of_ble_eq_true rfl⟩) (hG 0 _ rfl) rfl rfl rfl rfl (Nat.le_of_ble_eq_true rfl) dX0_run_31 (fun _ h => h.elim) (fun r H1 locs hq hF hS => ?_)
        obtain ⟨rfl, rfl⟩ := hq
        have hrp := rnF_pos (f := f) (n := xN T) (rg := xR T) (b := b) (by omega)
        have hrl := rnF_le (f := f) (n := xN T) (rg := xR T) (b := b) (by omega)
        refine lv_istore (lv' := [(5, .int (nI (rnF f (xN T) (xR T) b))), (4, .int (nI b)), (3, .int (nI 0)), (2, .int (-2)), (0, .ref o), (1, .int (nI x1))]) hx hb dX0_run_34 hl (by decide) rfl (fun ls hl => ?_)
        refine lv_iload hx hb dX0_run_36 (lv_at hl 0 rfl) ?_
        refine lv_iload_n hx hb dX0_run_38 rfl (lv_at hl 2 rfl) ?_
        refine n_icmp_gt (tgt := 45) hx hb dX0_run_39 (by decide) (by omega) (by omega) (fun c39 => ?_) (fun c39 => ?_)
        · refine lv_iload hx hb dX0_run_45 (lv_at hl 1 rfl) ?_
          refine lv_istore_n (lv' := [(2, .int (nI b)), (5, .int (nI (rnF f (xN T) (xR T) b))), (4, .int (nI b)), (3, .int (nI 0)), (0, .ref o), (1, .int (nI x1))]) hx hb dX0_run_47 rfl hl (by decide) rfl (fun ls hl => ?_)
          refine lv_iload hx hb dX0_run_48 (lv_at hl 1 rfl) ?_
          refine lv_istore_n (lv' := [(3, .int (nI (rnF f (xN T) (xR T) b))), (2, .int (nI b)), (5, .int (nI (rnF f (xN T) (xR T) b))), (4, .int (nI b)), (0, .ref o), (1, .int (nI x1))]) hx hb dX0_run_50 rfl hl (by decide) rfl (fun ls hl => ?_)
          refine lv_iinc (v := (nI (b + 1))) (lv' := [(4, .int (nI (b + 1))), (3, .int (nI (rnF f (xN T) (xR T) b))), (2, .int (nI b)), (5, .int (nI (rnF f (xN T) (xR T) b))), (0, .ref o), (1, .int (nI x1))]) hx hb dX0_run_51 hl (k := 3) rfl (nI_add _ _) (by decide) rfl (fun ls hl => ?_)
          refine lv_goto (tgt := 19) hx hb dX0_run_54 (by decide) ?_
          exact ih1 (b + 1) (some (b, rnF f (xN T) (xR T) b)) V1 _ _ _ (by omega) (by omega) (mxF_n hp) hE1 hG hS (lv_sub hl [0, 1, 2, 4, 5] rfl)
        exact absurd c39 (by omega)
      have hl : lv_has ls 6 [(4, .int (nI b)), (3, .int (nI v)), (2, .int (nI i)), (0, .ref o), (1, .int (nI x1))] := hl
      have hi9 := (mxF_lt hp).1
      have hv9 : v ≤ 9 := (mxF_lt hp).2 ▸ Nat.le_trans (rnF_le (by omega)) hn9
      refine lv_aload_n hx hb dX0_run_28 rfl (lv_at hl 3 rfl) ?_
      refine lv_iload hx hb dX0_run_29 (lv_at hl 0 rfl) ?_
      refine c_VI hx hb hml hts hown hK hl.1 hS ⟨Nat.le_refl _, Nat.le_refl _⟩ (met_X0_runFrom l D dA hG (clS_E hC0 hS hOA hE1) hOA (by omega)) (cw_X0_254 hts ⟨Nat.le_of_ble_eq_true rfl, Nat.le_of_ble_eq_true rfl⟩) (hG 0 _ rfl) rfl rfl rfl rfl (Nat.le_of_ble_eq_true rfl) dX0_run_31 (fun _ h => h.elim) (fun r H1 locs hq hF hS => ?_)
      obtain ⟨rfl, rfl⟩ := hq
      have hrp := rnF_pos (f := f) (n := xN T) (rg := xR T) (b := b) (by omega)
      have hrl := rnF_le (f := f) (n := xN T) (rg := xR T) (b := b) (by omega)
      refine lv_istore (lv' := [(5, .int (nI (rnF f (xN T) (xR T) b))), (4, .int (nI b)), (3, .int (nI v)), (2, .int (nI i)), (0, .ref o), (1, .int (nI x1))]) hx hb dX0_run_34 hl (by decide) rfl (fun ls hl => ?_)
      refine lv_iload hx hb dX0_run_36 (lv_at hl 0 rfl) ?_
      refine lv_iload_n hx hb dX0_run_38 rfl (lv_at hl 2 rfl) ?_
      refine n_icmp_gt (tgt := 45) hx hb dX0_run_39 (by decide) (by omega) (by omega) (fun c39 => ?_) (fun c39 => ?_)
      · refine lv_iload hx hb dX0_run_45 (lv_at hl 1 rfl) ?_
        refine lv_istore_n (lv' := [(2, .int (nI b)), (5, .int (nI (rnF f (xN T) (xR T) b))), (4, .int (nI b)), (3, .int (nI v)), (0, .ref o), (1, .int (nI x1))]) hx hb dX0_run_47 rfl hl (by decide) rfl (fun ls hl => ?_)
        refine lv_iload hx hb dX0_run_48 (lv_at hl 1 rfl) ?_
        refine lv_istore_n (lv' := [(3, .int (nI (rnF f (xN T) (xR T) b))), (2, .int (nI b)), (5, .int (nI (rnF f (xN T) (xR T) b))), (4, .int (nI b)), (0, .ref o), (1, .int (nI x1))]) hx hb dX0_run_50 rfl hl (by decide) rfl (fun ls hl => ?_)
        refine lv_iinc (v := (nI (b + 1))) (lv' := [(4, .int (nI (b + 1))), (3, .int (nI (rnF f (xN T) (xR T) b))), (2, .int (nI b)), (5, .int (nI (rnF f (xN T) (xR T) b))), (0, .ref o), (1, .int (nI x1))]) hx hb dX0_run_51 hl (k := 3) rfl (nI_add _ _) (by decide) rfl (fun ls hl => ?_)
        refine lv_goto (tgt := 19) hx hb dX0_run_54 (by decide) ?_
        exact ih1 (b + 1) (some (b, rnF f (xN T) (xR T) b)) V1 _ _ _ (by omega) (by omega) (mxF_t hp c39) hE1 hG hS (lv_sub hl [0, 1, 2, 4, 5] rfl)
      refine lv_goto (tgt := 51) hx hb dX0_run_42 (by decide) ?_
      refine lv_iinc (v := (nI (b + 1))) (lv' := [(4, .int (nI (b + 1))), (5, .int (nI (rnF f (xN T) (xR T) b))), (3, .int (nI v)), (2, .int (nI i)), (0, .ref o), (1, .int (nI x1))]) hx hb dX0_run_51 hl (k := 1) rfl (nI_add _ _) (by decide) rfl (fun ls hl => ?_)
      refine lv_goto (tgt := 19) hx hb dX0_run_54 (by decide) ?_
      exact ih1 (b + 1) (some (i, v)) V1 _ _ _ (by omega) (by omega) (mxF_f hp (by omega)) hE1 hG hS (lv_sub hl [0, 2, 3, 4, 5] rfl)
  exact loop1 ((xN T - 0) + 1) 0 none V _ _ _ (Nat.lt_succ_self _) (Nat.zero_le _) rfl Eqx.rf hG hS (lv_sub hl [0, 1, 2, 3, 4] rfl)
theorem cw_X0_257 {R : Room} {s : State} {args : Array Value} (hts : ∀ w ∈ lw_all, w.before args s = true) {f w k j : Nat} (hR : f + 1 ≤ R.frames ∧ 8 + (4 + 11) + w ≤ R.locals) : CallW R s args RX0 RX5 257 yX5_areUnlike cX5_areUnlike 4 (some .boolean) (ws_ yX5_areUnlike cX5_areUnlike 4 (some .boolean)) (mkRmC f w k j) k j 2 := cwV 2 hts (lw_V q1342 q1343 q1344 q119 q1345) rfl rfl rfl (by decide +kernel) hR
set_option maxHeartbeats 4000000 in
theorem met_X0_unlike (l : Launch) (D : va_G) (dA : Nat → ClassId) {o : Nat} {V : GI} {L : GL} {Rf : GR} {H0 : Heap} (hG : gP D dA o dS V L Rf H0) {O : Nat → Prop} {tx : Nat} {T : Txt} {f : Rw} (hC : clS D dA H0 O o V Rf tx T f) (hOA : ∀ z, O z → ¬ AS o z) : Ctr l D dA yX0_unlike cX0_unlike 3 (some .int) (mkRm 410 9700) [.ref o] H0 A0 (QI (fun r H1 => H0 = H1 ∧ r = unlikeA T f)) := by
  have hC0 := hC
  obtain ⟨hX, htx, hB, hrv, hsd1, hsd2⟩ := hC
  have hX0 := hX
  have hn9 := txA_n hX
  have hp2 := two9 hn9
  have hpp := Nat.two_pow_pos (xN T)
  obtain ⟨al, ls, cd, cb, gc, lw, mc, ea, nc, xo1, xo2, xo3, xo4, xh1, xh2, xh3, xh4, xh5, xh6, hn9⟩ := hX
  have hOA : ∀ z, O z → ¬ A0 z := fun _ _ h => h
  refine ctr_I (by decide) (Nat.le_of_ble_eq_true rfl) ?_
  intro p e s m args below meth c ls QQ locs hx hb hml hown hts hK hend hS hl
  have hl : lv_has ls 3 [(0, .ref o)] := hl
  refine lv_iconst (v := (nI 0)) hx hb dX0_unlike_0 (by decide) ?_
  refine lv_istore_n (lv' := [(1, .int (nI 0)), (0, .ref o)]) hx hb dX0_unlike_1 rfl hl (by decide) rfl (fun ls hl => ?_)
  refine lv_iconst (v := (nI 0)) hx hb dX0_unlike_2 (by decide) ?_
  refine lv_istore_n (lv' := [(2, .int (nI 0)), (1, .int (nI 0)), (0, .ref o)]) hx hb dX0_unlike_3 rfl hl (by decide) rfl (fun ls hl => ?_)
  have loop1 : ∀ (fu1 : Nat) (b : Nat) (u : Nat) (locs : List Loc) (ls : Array Slot), xN T - b < fu1 → (b ≤ xN T) → (cnF (unB T f) b = u) → va_S A0 H0 H0 locs → lv_has ls 3 [(2, .int (nI b)), (1, .int (nI u)), (0, .ref o)] → W p l e (mkRm 410 9700) s m args below meth c H0 locs 0 0 QQ (F0 m 4 ls []) := by
    intro fu1
    induction fu1 with
    | zero => intro b u locs ls hfu; exact absurd hfu (Nat.not_lt_zero _)
    | succ fu1 ih1 =>
      intro b u locs ls hfu hbn hu hS hl
      have hul9 := cnF_le (unB T f) b
      refine lv_iload_n hx hb dX0_unlike_4 rfl (lv_at hl 0 rfl) ?_
      refine lv_aload_n hx hb dX0_unlike_5 rfl (lv_at hl 2 rfl) ?_
      refine c_VI hx hb hml hts hown hK hl.1 hS ⟨Nat.le_refl _, Nat.le_refl _⟩ (met_X0_beds l D dA hG (txA_S hX0 hS hOA) htx) (cw_X0_145 hts ⟨Nat.le_of_ble_eq_true rfl, Nat.le_of_ble_eq_true rfl⟩) (hG 0 _ rfl) rfl rfl rfl rfl (Nat.le_of_ble_eq_true rfl) dX0_unlike_6 (fun _ h => h.elim) (fun r H1 locs hq hF hS => ?_)
      obtain ⟨rfl, rfl⟩ := hq
      refine n_icmp_ge (tgt := 41) hx hb dX0_unlike_9 (by decide) (by omega) (by omega) (fun c9 => ?_) (fun c9 => ?_)
      · obtain rfl : b = xN T := by omega
        refine lv_aload_n hx hb dX0_unlike_41 rfl (lv_at hl 2 rfl) ?_
        refine c_VI hx hb hml hts hown hK hl.1 hS ⟨Nat.le_refl _, Nat.le_refl _⟩ (met_X0_beds l D dA hG (txA_S hX0 hS hOA) htx) (cw_X0_145 hts ⟨Nat.le_of_ble_eq_true rfl, Nat.le_of_ble_eq_true rfl⟩) (hG 0 _ rfl) rfl rfl rfl rfl (Nat.le_of_ble_eq_true rfl) dX0_unlike_42 (fun _ h => h.elim) (fun r H1 locs hq hF hS => ?_)
        obtain ⟨rfl, rfl⟩ := hq
        refine lv_iconst (v := (nI 2)) hx hb dX0_unlike_45 (by decide) ?_
        refine n_icmp_ne (tgt := 66) hx hb dX0_unlike_46 (by decide) (by omega) (by omega) (fun c46 => ?_) (fun c46 => ?_)
        · refine lv_iload_n hx hb dX0_unlike_66 rfl (lv_at hl 1 rfl) ?_
          refine hend _ _ _ _ _ hS dX0_unlike_67 ?_
          exact ⟨_, rfl, rfl, unl_n hn9 (fun z => by first | exact absurd z.1 c46 | exact absurd z.2 c57) hrv hu⟩
        refine lv_aload_n hx hb dX0_unlike_49 rfl (lv_at hl 2 rfl) ?_
        refine g_get (v := .ref tx) hx hb hts hown hK hG 0 rfl rfl ok_X0 3 (by decide) q525 rfl (congrArg va_rf htx) dX0_unlike_50 ?_
        refine x_get hx hb hts hown hK (va_at_S xh1 hS (hOA _ xo1)) rfl ok_X4 5 (by decide) q367 rfl dX0_unlike_53 ?_
        refine lv_iconst (v := (nI 1)) hx hb dX0_unlike_56 (by decide) ?_
        refine lv_icmp_ne (tgt := 66) hx hb dX0_unlike_57 (by decide) (fun c57 => ?_) (fun c57 => ?_)
        · refine lv_iload_n hx hb dX0_unlike_66 rfl (lv_at hl 1 rfl) ?_
          refine hend _ _ _ _ _ hS dX0_unlike_67 ?_
          exact ⟨_, rfl, rfl, unl_n hn9 (fun z => by first | exact absurd z.1 c46 | exact absurd z.2 c57) hrv hu⟩
        refine lv_iload_n hx hb dX0_unlike_60 rfl (lv_at hl 1 rfl) ?_
        refine lv_iconst (v := (nI 2)) hx hb dX0_unlike_61 (by decide) ?_
        refine lv_idiv hx hb dX0_unlike_62 (by decide) ?_
        refine lv_goto (tgt := 67) hx hb dX0_unlike_63 (by decide) ?_
        refine hend _ _ _ _ _ hS dX0_unlike_67 ?_
        exact ⟨_, rfl, rfl, unl_2 (by omega) c57 hrv hu⟩
      refine lv_iload_n hx hb dX0_unlike_12 rfl (lv_at hl 1 rfl) ?_
      refine lv_aload_n hx hb dX0_unlike_13 rfl (lv_at hl 2 rfl) ?_
      refine g_get hx hb hts hown hK hG 0 rfl rfl ok_X0 7 (by decide) q529 rfl rfl dX0_unlike_14 ?_
      refine lv_aload_n hx hb dX0_unlike_17 rfl (lv_at hl 2 rfl) ?_
      refine g_get (v := .ref tx) hx hb hts hown hK hG 0 rfl rfl ok_X0 3 (by decide) q525 rfl (congrArg va_rf htx) dX0_unlike_18 ?_
      refine lv_iload_n hx hb dX0_unlike_21 rfl (lv_at hl 0 rfl) ?_
      refine c_VI hx hb hml hts hown hK hl.1 hS ⟨Nat.le_refl _, Nat.le_refl _⟩ (met_X5_areUnlike l D dA (gP_view hG isB15) (txA_S hX0 hS hOA) hsd1 (hB).1 hrv (by omega)) (cw_X0_257 hts ⟨Nat.le_of_ble_eq_true rfl, Nat.le_of_ble_eq_true rfl⟩) (hG 15 _ rfl) rfl rfl rfl rfl (Nat.le_of_ble_eq_true rfl) dX0_unlike_22 (fun _ h => h.elim) (fun r H1 locs hq hF hS => ?_)
      obtain ⟨rfl, rfl⟩ := hq
      have hbl2 := bN_lt (unB T f b)
      refine n_if_eq (tgt := 32) hx hb dX0_unlike_25 (by decide) (by omega) (fun c25 => ?_) (fun c25 => ?_)
      · refine lv_iconst (v := (nI 0)) hx hb dX0_unlike_32 (by decide) ?_
        refine n_iadd hx hb dX0_unlike_33 ?_
        refine lv_istore_n (lv' := [(1, .int (nI (u + 0))), (2, .int (nI b)), (0, .ref o)]) hx hb dX0_unlike_34 rfl hl (by decide) rfl (fun ls hl => ?_)
        refine lv_iinc (v := (nI (b + 1))) (lv' := [(2, .int (nI (b + 1))), (1, .int (nI (u + 0))), (0, .ref o)]) hx hb dX0_unlike_35 hl (k := 1) rfl (nI_add _ _) (by decide) rfl (fun ls hl => ?_)
        refine lv_goto (tgt := 4) hx hb dX0_unlike_38 (by decide) ?_
        exact ih1 (b + 1) (u + 0) _ _ (by omega) (by omega) ((cnF_f (bN0 (by omega))).trans hu) hS (lv_sub hl [0, 1, 2] rfl)
      refine lv_iconst (v := (nI 1)) hx hb dX0_unlike_28 (by decide) ?_
      refine lv_goto (tgt := 33) hx hb dX0_unlike_29 (by decide) ?_
      refine n_iadd hx hb dX0_unlike_33 ?_
      refine lv_istore_n (lv' := [(1, .int (nI (u + 1))), (2, .int (nI b)), (0, .ref o)]) hx hb dX0_unlike_34 rfl hl (by decide) rfl (fun ls hl => ?_)
      refine lv_iinc (v := (nI (b + 1))) (lv' := [(2, .int (nI (b + 1))), (1, .int (nI (u + 1))), (0, .ref o)]) hx hb dX0_unlike_35 hl (k := 1) rfl (nI_add _ _) (by decide) rfl (fun ls hl => ?_)
      refine lv_goto (tgt := 4) hx hb dX0_unlike_38 (by decide) ?_
      exact ih1 (b + 1) (u + 1) _ _ (by omega) (by omega) ((cnF_t (bN1 (by omega))).trans (by omega)) hS (lv_sub hl [0, 1, 2] rfl)
  exact loop1 ((xN T - 0) + 1) 0 0 _ _ (Nat.lt_succ_self _) (Nat.zero_le _) rfl hS (lv_sub hl [0, 1, 2] rfl)
theorem cw_X0_247 {R : Room} {s : State} {args : Array Value} (hts : ∀ w ∈ lw_all, w.before args s = true) {f w k j : Nat} (hR : f + 1 ≤ R.frames ∧ 8 + (6 + 11) + w ≤ R.locals) : CallW R s args RX0 RX5 247 yX5_liesIn cX5_liesIn 6 (some .boolean) (ws_ yX5_liesIn cX5_liesIn 6 (some .boolean)) (mkRmC f w k j) k j 5 := cwV 5 hts (lw_V q1322 q1323 q1324 q119 q1325) rfl rfl rfl (by decide +kernel) hR
set_option maxHeartbeats 4000000 in
theorem met_X0_rule (l : Launch) (D : va_G) (dA : Nat → ClassId) {o : Nat} {V : GI} {L : GL} {Rf : GR} {H0 : Heap} (hG : gP D dA o dS V L Rf H0) {O : Nat → Prop} {tx : Nat} {T : Txt} {f : Rw} (hC : clS D dA H0 O o V Rf tx T f) (hOA : ∀ z, O z → ¬ AS o z) (v1 : Int32) : Ctr l D dA yX0_rule cX0_rule 4 (some .int) (mkRm 404 9400) [.ref o, .int v1] H0 (AS o) (QI (fun r H1 => ∃ V1, gP D dA o dS V1 L Rf H1 ∧ Eqx PQw V V1 ∧ r = ruleA T f v1)) := by
  have hC0 := hC
  obtain ⟨hX, htx, hB, hrv, hsd1, hsd2⟩ := hC
  have hX0 := hX
  have hn9 := txA_n hX
  have hp2 := two9 hn9
  have hpp := Nat.two_pow_pos (xN T)
  obtain ⟨fsx, hatx⟩ := txA_at hX
  have hotx := txA_o hX
  refine ctr_I (by decide) (Nat.le_of_ble_eq_true rfl) ?_
  intro p e s m args below meth c ls QQ locs hx hb hml hown hts hK hend hS hl
  have hl : lv_has ls 4 [(0, .ref o), (1, .int v1)] := hl
  refine lv_aload_n hx hb dX0_rule_0 rfl (lv_at hl 0 rfl) ?_
  refine lv_iload_n hx hb dX0_rule_1 rfl (lv_at hl 1 rfl) ?_
  refine c_VI hx hb hml hts hown hK hl.1 hS ⟨Nat.le_refl _, Nat.le_refl _⟩ (met_X0_isBed l D dA hG (txA_S hX0 hS hOA) htx v1) (cw_X0_150 hts ⟨Nat.le_of_ble_eq_true rfl, Nat.le_of_ble_eq_true rfl⟩) (hG 0 _ rfl) rfl rfl rfl rfl (Nat.le_of_ble_eq_true rfl) dX0_rule_2 (fun _ h => h.elim) (fun r H1 locs hq hF hS => ?_)
  obtain ⟨rfl, rfl⟩ := hq
  rcases (bedN_cases hn9 v1).symm with ⟨hz2, ho2⟩ | ⟨x1, hlo_x1, hhi_x1, rfl, hz2⟩
  · refine iv (y := nI 0) hz2 ?_
    refine n_if_ne (tgt := 10) hx hb dX0_rule_5 (by decide) (by decide) (fun z => absurd z (by decide)) (fun _ => ?_)
    refine lv_iconst (v := (-1)) hx hb dX0_rule_8 (by decide) ?_
    refine hend _ _ _ _ _ hS dX0_rule_9 ?_
    exact ⟨_, rfl, _, hG, Eqx.rf, ((ho2.1 _ _)).symm⟩
  refine iv (y := nI 1) hz2 ?_
  have hl : lv_has ls 4 [(0, .ref o), (1, .int (nI x1))] := hl
  refine n_if_ne (tgt := 10) hx hb dX0_rule_5 (by decide) (by decide) (fun _ => ?_) (fun z => absurd z (by decide))
  refine lv_iconst (v := (nI 0)) hx hb dX0_rule_10 (by decide) ?_
  refine lv_istore_n (lv' := [(2, .int (nI 0)), (0, .ref o), (1, .int (nI x1))]) hx hb dX0_rule_11 rfl hl (by decide) rfl (fun ls hl => ?_)
  refine lv_iconst (v := (nI 0)) hx hb dX0_rule_12 (by decide) ?_
  refine lv_istore_n (lv' := [(3, .int (nI 0)), (2, .int (nI 0)), (0, .ref o), (1, .int (nI x1))]) hx hb dX0_rule_13 rfl hl (by decide) rfl (fun ls hl => ?_)
  have loop1 : ∀ (fu1 : Nat) (cs : Nat) (y : Nat) (V1 : GI) (H : Heap) (locs : List Loc) (ls : Array Slot), 8 - cs < fu1 → (cs ≤ 8) → (obF (rlB T f x1) cs = y) → (Eqx PQw V V1) → gP D dA o dS V1 L Rf H → va_S (AS o) H0 H locs → lv_has ls 4 [(3, .int (nI cs)), (2, .int (nI y)), (0, .ref o), (1, .int (nI x1))] → W p l e (mkRm 404 9400) s m args below meth c H locs 0 0 QQ (F0 m 14 ls []) := by
    intro fu1
    induction fu1 with
    | zero => intro cs y V1 H locs ls hfu; exact absurd hfu (Nat.not_lt_zero _)
    | succ fu1 ih1 =>
      intro cs y V1 H locs ls hfu hcs hy hE1 hG hS hl
      refine lv_iload_n hx hb dX0_rule_14 rfl (lv_at hl 0 rfl) ?_
      refine lv_bipush (v := (nI 8)) hx hb dX0_rule_15 (by decide) ?_
      refine n_icmp_ge (tgt := 62) hx hb dX0_rule_17 (by decide) (by omega) (by omega) (fun c17 => ?_) (fun c17 => ?_)
      · refine lv_iload_n hx hb dX0_rule_62 rfl (lv_at hl 1 rfl) ?_
        refine hend _ _ _ _ _ hS dX0_rule_63 ?_
        exact ⟨_, rfl, _, hG, hE1, ((rng_in hlo_x1 hhi_x1 (by omega)).trans ((by obtain rfl : cs = 8 := (by omega); rw [hy]))).symm⟩
      refine lv_iload_n hx hb dX0_rule_20 rfl (lv_at hl 1 rfl) ?_
      refine lv_aload_n hx hb dX0_rule_21 rfl (lv_at hl 2 rfl) ?_
      refine g_get hx hb hts hown hK hG 0 rfl rfl ok_X0 7 (by decide) q529 rfl rfl dX0_rule_22 ?_
      refine lv_aload_n hx hb dX0_rule_25 rfl (lv_at hl 2 rfl) ?_
      refine g_get (v := .ref tx) hx hb hts hown hK hG 0 rfl rfl ok_X0 3 (by decide) q525 rfl (congrArg va_rf htx) dX0_rule_26 ?_
      refine lv_iload_n hx hb dX0_rule_29 rfl (lv_at hl 3 rfl) ?_
      refine lv_iload_n hx hb dX0_rule_30 rfl (lv_at hl 0 rfl) ?_
      refine lv_iconst (v := (nI 1)) hx hb dX0_rule_31 (by decide) ?_
      refine n_and1 hx hb dX0_rule_32 ?_
      refine lv_iload_n hx hb dX0_rule_33 rfl (lv_at hl 0 rfl) ?_
      refine lv_iconst (v := (nI 1)) hx hb dX0_rule_34 (by decide) ?_
      refine n_ishr hx hb dX0_rule_35 (by omega) (by omega) ?_
      refine lv_iconst (v := (nI 1)) hx hb dX0_rule_36 (by decide) ?_
      refine n_and1 hx hb dX0_rule_37 ?_
      refine lv_iload_n hx hb dX0_rule_38 rfl (lv_at hl 0 rfl) ?_
      refine lv_iconst (v := (nI 2)) hx hb dX0_rule_39 (by decide) ?_
      refine n_ishr hx hb dX0_rule_40 (by omega) (by omega) ?_
      refine c_VI hx hb hml hts hown hK hl.1 hS ⟨Nat.le_refl _, Nat.le_refl _⟩ (met_X5_liesIn l D dA (gP_view hG isB15) (txA_S hX0 hS hOA) (fun z hz hb => hOA z hz (AB_AS isB15 z hb)) hsd1 ((bkS_to (fun k j hk => (hE1 : Eqx PQw V _) _ j (PQw_bk k j hk)) hB)).1 hrv (by omega) (by omega)) (cw_X0_247 hts ⟨Nat.le_of_ble_eq_true rfl, Nat.le_of_ble_eq_true rfl⟩) (hG 15 _ rfl) rfl rfl rfl rfl (Nat.le_of_ble_eq_true rfl) dX0_rule_41 (AB_AS isB15) (fun r H1 locs hq hF hS => ?_)
      obtain ⟨rfl, W2, hGv, hEv⟩ := hq
      obtain ⟨V2, hV2⟩ : ∃ X, X = spl V1 15 W2 := ⟨_, rfl⟩
      have hGn := gP_back hG isB15 hF (fun _ h => h) hGv
      rw [← hV2] at hGn
      replace hG := hGn
      have hE2 : Eqx PSc V1 V2 := by rw [hV2]; exact spl_E hEv PSc_h
      clear hGn hGv hEv hV2
      generalize hHe2 : H1 = H at hG hS ⊢
      clear hHe2 hF
      have hbl3 := bN_lt (rlB T f x1 cs)
      refine n_if_eq (tgt := 53) hx hb dX0_rule_44 (by decide) (by omega) (fun c44 => ?_) (fun c44 => ?_)
      · refine lv_iconst (v := (nI 0)) hx hb dX0_rule_53 (by decide) ?_
        refine n_ior hx hb dX0_rule_54 ?_
        refine lv_istore_n (lv' := [(2, .int (nI (y ||| 0))), (3, .int (nI cs)), (0, .ref o), (1, .int (nI x1))]) hx hb dX0_rule_55 rfl hl (by decide) rfl (fun ls hl => ?_)
        refine lv_iinc (v := (nI (cs + 1))) (lv' := [(3, .int (nI (cs + 1))), (2, .int (nI (y ||| 0))), (0, .ref o), (1, .int (nI x1))]) hx hb dX0_rule_56 hl (k := 1) rfl (nI_add _ _) (by decide) rfl (fun ls hl => ?_)
        refine lv_goto (tgt := 14) hx hb dX0_rule_59 (by decide) ?_
        exact ih1 (cs + 1) (y ||| 0) V2 _ _ _ (by omega) (by omega) (ob_f (bN0 (by omega)) hy) (Eqx.trans hE1 (hE2.mono PSc_PQw)) hG hS (lv_sub hl [0, 1, 2, 3] rfl)
      refine lv_iconst (v := (nI 1)) hx hb dX0_rule_47 (by decide) ?_
      refine lv_iload_n hx hb dX0_rule_48 rfl (lv_at hl 0 rfl) ?_
      refine n_ishl hx hb dX0_rule_49 (by omega) ?_
      refine lv_goto (tgt := 54) hx hb dX0_rule_50 (by decide) ?_
      refine n_ior hx hb dX0_rule_54 ?_
      refine lv_istore_n (lv' := [(2, .int (nI (y ||| (1 * 2 ^ cs)))), (3, .int (nI cs)), (0, .ref o), (1, .int (nI x1))]) hx hb dX0_rule_55 rfl hl (by decide) rfl (fun ls hl => ?_)
      refine lv_iinc (v := (nI (cs + 1))) (lv' := [(3, .int (nI (cs + 1))), (2, .int (nI (y ||| (1 * 2 ^ cs)))), (0, .ref o), (1, .int (nI x1))]) hx hb dX0_rule_56 hl (k := 1) rfl (nI_add _ _) (by decide) rfl (fun ls hl => ?_)
      refine lv_goto (tgt := 14) hx hb dX0_rule_59 (by decide) ?_
      exact ih1 (cs + 1) (y ||| (1 * 2 ^ cs)) V2 _ _ _ (by omega) (by omega) (ob_t (bN1 (by omega)) hy) (Eqx.trans hE1 (hE2.mono PSc_PQw)) hG hS (lv_sub hl [0, 1, 2, 3] rfl)
  exact loop1 ((8 - 0) + 1) 0 0 V _ _ _ (Nat.lt_succ_self _) (by decide) rfl Eqx.rf hG hS (lv_sub hl [0, 1, 2, 3] rfl)
set_option maxHeartbeats 4000000 in
theorem met_X0_parting (l : Launch) (D : va_G) (dA : Nat → ClassId) {o : Nat} {V : GI} {L : GL} {Rf : GR} {H0 : Heap} (hG : gP D dA o dS V L Rf H0) {O : Nat → Prop} {tx : Nat} {T : Txt} {f : Rw} (hC : clS D dA H0 O o V Rf tx T f) (hOA : ∀ z, O z → ¬ AS o z) (v1 : Int32) : Ctr l D dA yX0_parting cX0_parting 4 (some .int) (mkRm 410 9700) [.ref o, .int v1] H0 (AS o) (QI (fun r H1 => ∃ V1, gP D dA o dS V1 L Rf H1 ∧ Eqx PQw V V1 ∧ r = partingA T f v1)) := by
  have hC0 := hC
  obtain ⟨hX, htx, hB, hrv, hsd1, hsd2⟩ := hC
  have hX0 := hX
  have hn9 := txA_n hX
  have hp2 := two9 hn9
  have hpp := Nat.two_pow_pos (xN T)
  obtain ⟨fsx, hatx⟩ := txA_at hX
  have hotx := txA_o hX
  refine ctr_I (by decide) (Nat.le_of_ble_eq_true rfl) ?_
  intro p e s m args below meth c ls QQ locs hx hb hml hown hts hK hend hS hl
  have hl : lv_has ls 4 [(0, .ref o), (1, .int v1)] := hl
  refine lv_iload_n hx hb dX0_parting_0 rfl (lv_at hl 1 rfl) ?_
  refine lv_iconst (v := (nI 0)) hx hb dX0_parting_1 (by decide) ?_
  refine lv_iconst (v := (nI 1)) hx hb dX0_parting_2 (by decide) ?_
  refine c_SI hx hb hml hts hown hK hl.1 hS ⟨Nat.le_refl _, Nat.le_refl _⟩ (met_X0_isIn l D dA v1 (nI 0) (nI 1)) (cw_X0_146 hts ⟨Nat.le_of_ble_eq_true rfl, Nat.le_of_ble_eq_true rfl⟩) rfl rfl (Nat.le_of_ble_eq_true rfl) dX0_parting_3 (fun _ h => h.elim) (fun r H1 locs hq hF hS => ?_)
  obtain ⟨rfl, rfl⟩ := hq
  rcases (inZ_cases v1 0 1 (by decide) (by decide)).symm with ⟨hz3, ho3⟩ | ⟨x1, hlo_x1, hhi_x1, rfl, hz3⟩
  · refine iv (y := nI 0) hz3 ?_
    refine n_if_eq (tgt := 16) hx hb dX0_parting_6 (by decide) (by decide) (fun _ => ?_) (fun z => absurd z (by decide))
    refine lv_ldc (v := (-100000)) hx hb hown (hts _ q1118) dX0_parting_16 ?_
    refine hend _ _ _ _ _ hS dX0_parting_18 ?_
    exact ⟨_, rfl, _, hG, Eqx.rf, ((ho3.1 _ _)).symm⟩
  refine iv (y := nI 1) hz3 ?_
  have hl : lv_has ls 4 [(0, .ref o), (1, .int (nI x1))] := hl
  refine n_if_eq (tgt := 16) hx hb dX0_parting_6 (by decide) (by decide) (fun z => absurd z (by decide)) (fun _ => ?_)
  refine lv_aload_n hx hb dX0_parting_9 rfl (lv_at hl 0 rfl) ?_
  refine c_VI hx hb hml hts hown hK hl.1 hS ⟨Nat.le_refl _, Nat.le_refl _⟩ (met_X0_beds l D dA hG (txA_S hX0 hS hOA) htx) (cw_X0_145 hts ⟨Nat.le_of_ble_eq_true rfl, Nat.le_of_ble_eq_true rfl⟩) (hG 0 _ rfl) rfl rfl rfl rfl (Nat.le_of_ble_eq_true rfl) dX0_parting_10 (fun _ h => h.elim) (fun r H1 locs hq hF hS => ?_)
  obtain ⟨rfl, rfl⟩ := hq
  refine n_if_ne (tgt := 19) hx hb dX0_parting_13 (by decide) (by omega) (fun c13 => ?_) (fun c13 => ?_)
  · refine lv_iconst (v := (nI 0)) hx hb dX0_parting_19 (by decide) ?_
    refine lv_istore_n (lv' := [(2, .int (nI 0)), (0, .ref o), (1, .int (nI x1))]) hx hb dX0_parting_20 rfl hl (by decide) rfl (fun ls hl => ?_)
    refine lv_iconst (v := (nI 1)) hx hb dX0_parting_21 (by decide) ?_
    refine lv_istore_n (lv' := [(3, .int (nI 1)), (2, .int (nI 0)), (0, .ref o), (1, .int (nI x1))]) hx hb dX0_parting_22 rfl hl (by decide) rfl (fun ls hl => ?_)
    have loop1 : ∀ (fu1 : Nat) (b : Nat) (i : Nat) (locs : List Loc) (ls : Array Slot), xN T - b < fu1 → (1 ≤ b) → (b ≤ xN T) → (i < b) → (pgF f b = i) → va_S (AS o) H0 H0 locs → lv_has ls 4 [(3, .int (nI b)), (2, .int (nI i)), (0, .ref o), (1, .int (nI x1))] → W p l e (mkRm 410 9700) s m args below meth c H0 locs 0 0 QQ (F0 m 23 ls []) := by
      intro fu1
      induction fu1 with
      | zero => intro b i locs ls hfu; exact absurd hfu (Nat.not_lt_zero _)
      | succ fu1 ih1 =>
        intro b i locs ls hfu hb1 hbn hib hp hS hl
        refine lv_iload_n hx hb dX0_parting_23 rfl (lv_at hl 0 rfl) ?_
        refine lv_aload_n hx hb dX0_parting_24 rfl (lv_at hl 2 rfl) ?_
        refine c_VI hx hb hml hts hown hK hl.1 hS ⟨Nat.le_refl _, Nat.le_refl _⟩ (met_X0_beds l D dA hG (txA_S hX0 hS hOA) htx) (cw_X0_145 hts ⟨Nat.le_of_ble_eq_true rfl, Nat.le_of_ble_eq_true rfl⟩) (hG 0 _ rfl) rfl rfl rfl rfl (Nat.le_of_ble_eq_true rfl) dX0_parting_25 (fun _ h => h.elim) (fun r H1 locs hq hF hS => ?_)
        obtain ⟨rfl, rfl⟩ := hq
        refine n_icmp_ge (tgt := 60) hx hb dX0_parting_28 (by decide) (by omega) (by omega) (fun c28 => ?_) (fun c28 => ?_)
        · obtain rfl : b = xN T := by omega
          refine lv_iload_n hx hb dX0_parting_60 rfl (lv_at hl 3 rfl) ?_
          refine n_if_ne (tgt := 68) hx hb dX0_parting_61 (by decide) (by omega) (fun c61 => ?_) (fun c61 => ?_)
          · refine lv_aload_n hx hb dX0_parting_68 rfl (lv_at hl 2 rfl) ?_
            refine g_get hx hb hts hown hK hG 0 rfl rfl ok_X0 7 (by decide) q529 rfl rfl dX0_parting_69 ?_
            refine g_get hx hb hts hown hK hG 15 rfl rfl ok_X5 1 (by decide) q436 rfl rfl dX0_parting_72 ?_
            refine lv_iload_n hx hb dX0_parting_75 rfl (lv_at hl 1 rfl) ?_
            refine n_iald hx hb hK hG 17 rfl (by omega) (by decide) dX0_parting_76 ?_
            refine iv (y := (f (27 + i))) (hB.1.2.2.2 i (by omega)) ?_
            refine hend _ _ _ _ _ hS dX0_parting_77 ?_
            exact ⟨_, rfl, _, hG, Eqx.rf, ((rng_in hlo_x1 hhi_x1 (by omega)).trans (((if_neg (by omega)).trans ((if_neg (by omega)).trans (by rw [hp]))))).symm⟩
          refine lv_iload_n hx hb dX0_parting_64 rfl (lv_at hl 1 rfl) ?_
          refine lv_goto (tgt := 77) hx hb dX0_parting_65 (by decide) ?_
          refine hend _ _ _ _ _ hS dX0_parting_77 ?_
          exact ⟨_, rfl, _, hG, Eqx.rf, ((rng_in hlo_x1 hhi_x1 (by omega)).trans (((if_neg (by omega)).trans ((if_pos c61).trans (congrArg nI hp))))).symm⟩
        refine lv_aload_n hx hb dX0_parting_31 rfl (lv_at hl 2 rfl) ?_
        refine g_get hx hb hts hown hK hG 0 rfl rfl ok_X0 7 (by decide) q529 rfl rfl dX0_parting_32 ?_
        refine g_get hx hb hts hown hK hG 15 rfl rfl ok_X5 1 (by decide) q436 rfl rfl dX0_parting_35 ?_
        refine lv_iload_n hx hb dX0_parting_38 rfl (lv_at hl 0 rfl) ?_
        refine n_iald hx hb hK hG 17 rfl (by omega) (by decide) dX0_parting_39 ?_
        refine iv (y := (f (27 + b))) (hB.1.2.2.2 b (by omega)) ?_
        refine lv_aload_n hx hb dX0_parting_40 rfl (lv_at hl 2 rfl) ?_
        refine g_get hx hb hts hown hK hG 0 rfl rfl ok_X0 7 (by decide) q529 rfl rfl dX0_parting_41 ?_
        refine g_get hx hb hts hown hK hG 15 rfl rfl ok_X5 1 (by decide) q436 rfl rfl dX0_parting_44 ?_
        refine lv_iload_n hx hb dX0_parting_47 rfl (lv_at hl 1 rfl) ?_
        refine n_iald hx hb hK hG 17 rfl (by omega) (by decide) dX0_parting_48 ?_
        refine iv (y := (f (27 + i))) (hB.1.2.2.2 i (by omega)) ?_
        refine lv_icmp_le (tgt := 54) hx hb dX0_parting_49 (by decide) (fun c49 => ?_) (fun c49 => ?_)
        · refine lv_iinc (v := (nI (b + 1))) (lv' := [(3, .int (nI (b + 1))), (2, .int (nI i)), (0, .ref o), (1, .int (nI x1))]) hx hb dX0_parting_54 hl (k := 0) rfl (nI_add _ _) (by decide) rfl (fun ls hl => ?_)
          refine lv_goto (tgt := 23) hx hb dX0_parting_57 (by decide) ?_
          exact ih1 (b + 1) i _ _ (by omega) (by omega) (by omega) (by omega) (pgF_f hp (Int32.not_lt.mpr c49)) hS (lv_sub hl [0, 1, 2, 3] rfl)
        refine lv_iload_n hx hb dX0_parting_52 rfl (lv_at hl 0 rfl) ?_
        refine lv_istore_n (lv' := [(2, .int (nI b)), (3, .int (nI b)), (0, .ref o), (1, .int (nI x1))]) hx hb dX0_parting_53 rfl hl (by decide) rfl (fun ls hl => ?_)
        refine lv_iinc (v := (nI (b + 1))) (lv' := [(3, .int (nI (b + 1))), (2, .int (nI b)), (0, .ref o), (1, .int (nI x1))]) hx hb dX0_parting_54 hl (k := 1) rfl (nI_add _ _) (by decide) rfl (fun ls hl => ?_)
        refine lv_goto (tgt := 23) hx hb dX0_parting_57 (by decide) ?_
        exact ih1 (b + 1) b _ _ (by omega) (by omega) (by omega) (by omega) (pgF_t hp (Int32.not_le.mp c49)) hS (lv_sub hl [0, 1, 2, 3] rfl)
    exact loop1 ((xN T - 1) + 1) 1 0 _ _ (Nat.lt_succ_self _) (by omega) (by omega) (by omega) (pgF_1 f) hS (lv_sub hl [0, 1, 2, 3] rfl)
  refine lv_ldc (v := (-100000)) hx hb hown (hts _ q1118) dX0_parting_16 ?_
  refine hend _ _ _ _ _ hS dX0_parting_18 ?_
  exact ⟨_, rfl, _, hG, Eqx.rf, ((rng_in hlo_x1 hhi_x1 (by omega)).trans ((if_pos (by omega)))).symm⟩
set_option maxHeartbeats 4000000 in
theorem met_X0_eden (l : Launch) (D : va_G) (dA : Nat → ClassId) {o : Nat} {V : GI} {L : GL} {Rf : GR} {H0 : Heap} (hG : gP D dA o dS V L Rf H0) {O : Nat → Prop} {tx : Nat} {T : Txt} {f : Rw} (hC : clS D dA H0 O o V Rf tx T f) (hOA : ∀ z, O z → ¬ AS o z) (v1 : Int32) : Ctr l D dA yX0_eden cX0_eden 4 (some .int) (mkRm 410 9700) [.ref o, .int v1] H0 (AS o) (QI (fun r H1 => ∃ V1, gP D dA o dS V1 L Rf H1 ∧ Eqx PQw V V1 ∧ r = edenA T f v1)) := by
  have hC0 := hC
  obtain ⟨hX, htx, hB, hrv, hsd1, hsd2⟩ := hC
  have hX0 := hX
  have hn9 := txA_n hX
  have hp2 := two9 hn9
  have hpp := Nat.two_pow_pos (xN T)
  obtain ⟨fsx, hatx⟩ := txA_at hX
  have hotx := txA_o hX
  refine ctr_I (by decide) (Nat.le_of_ble_eq_true rfl) ?_
  intro p e s m args below meth c ls QQ locs hx hb hml hown hts hK hend hS hl
  have hl : lv_has ls 4 [(0, .ref o), (1, .int v1)] := hl
  refine lv_iload_n hx hb dX0_eden_0 rfl (lv_at hl 1 rfl) ?_
  refine lv_iconst (v := (nI 1)) hx hb dX0_eden_1 (by decide) ?_
  refine lv_bipush (v := (nI 24)) hx hb dX0_eden_2 (by decide) ?_
  refine c_SI hx hb hml hts hown hK hl.1 hS ⟨Nat.le_refl _, Nat.le_refl _⟩ (met_X0_isIn l D dA v1 (nI 1) (nI 24)) (cw_X0_146 hts ⟨Nat.le_of_ble_eq_true rfl, Nat.le_of_ble_eq_true rfl⟩) rfl rfl (Nat.le_of_ble_eq_true rfl) dX0_eden_4 (fun _ h => h.elim) (fun r H1 locs hq hF hS => ?_)
  obtain ⟨rfl, rfl⟩ := hq
  rcases (inZ_cases v1 1 24 (by decide) (by decide)).symm with ⟨hz4, ho4⟩ | ⟨x1, hlo_x1, hhi_x1, rfl, hz4⟩
  · refine iv (y := nI 0) hz4 ?_
    refine n_if_ne (tgt := 12) hx hb dX0_eden_7 (by decide) (by decide) (fun z => absurd z (by decide)) (fun _ => ?_)
    refine lv_iconst (v := (-1)) hx hb dX0_eden_10 (by decide) ?_
    refine hend _ _ _ _ _ hS dX0_eden_11 ?_
    exact ⟨_, rfl, _, hG, Eqx.rf, ((ho4.1 _ _)).symm⟩
  refine iv (y := nI 1) hz4 ?_
  have hl : lv_has ls 4 [(0, .ref o), (1, .int (nI x1))] := hl
  refine n_if_ne (tgt := 12) hx hb dX0_eden_7 (by decide) (by decide) (fun _ => ?_) (fun z => absurd z (by decide))
  refine lv_iconst (v := (nI 0)) hx hb dX0_eden_12 (by decide) ?_
  refine lv_istore_n (lv' := [(2, .int (nI 0)), (0, .ref o), (1, .int (nI x1))]) hx hb dX0_eden_13 rfl hl (by decide) rfl (fun ls hl => ?_)
  refine lv_iconst (v := (nI 0)) hx hb dX0_eden_14 (by decide) ?_
  refine lv_istore_n (lv' := [(3, .int (nI 0)), (2, .int (nI 0)), (0, .ref o), (1, .int (nI x1))]) hx hb dX0_eden_15 rfl hl (by decide) rfl (fun ls hl => ?_)
  have loop1 : ∀ (fu1 : Nat) (z : Nat) (V1 : GI) (H : Heap) (locs : List Loc) (ls : Array Slot), 2 ^ xN T - z < fu1 → (z ≤ 2 ^ xN T) → (Eqx PQw V V1) → (∀ j, j < z → V1 75 j = nI 0) → gP D dA o dS V1 L Rf H → va_S (AS o) H0 H locs → lv_has ls 4 [(3, .int (nI z)), (2, .int (nI 0)), (0, .ref o), (1, .int (nI x1))] → W p l e (mkRm 410 9700) s m args below meth c H locs 0 0 QQ (F0 m 16 ls []) := by
    intro fu1
    induction fu1 with
    | zero => intro z V1 H locs ls hfu; exact absurd hfu (Nat.not_lt_zero _)
    | succ fu1 ih1 =>
      intro z V1 H locs ls hfu hzn hE1 hre hG hS hl
      refine lv_iload_n hx hb dX0_eden_16 rfl (lv_at hl 0 rfl) ?_
      refine lv_aload_n hx hb dX0_eden_17 rfl (lv_at hl 2 rfl) ?_
      refine c_VI hx hb hml hts hown hK hl.1 hS ⟨Nat.le_refl _, Nat.le_refl _⟩ (met_X0_rows l D dA hG (txA_S hX0 hS hOA) htx) (cw_X0_154 hts ⟨Nat.le_of_ble_eq_true rfl, Nat.le_of_ble_eq_true rfl⟩) (hG 0 _ rfl) rfl rfl rfl rfl (Nat.le_of_ble_eq_true rfl) dX0_eden_18 (fun _ h => h.elim) (fun r H1 locs hq hF hS => ?_)
      obtain ⟨rfl, rfl⟩ := hq
      refine n_icmp_ge (tgt := 37) hx hb dX0_eden_21 (by decide) (by omega) (by omega) (fun c21 => ?_) (fun c21 => ?_)
      · obtain rfl : z = 2 ^ xN T := by omega
        refine lv_iconst (v := (nI 0)) hx hb dX0_eden_37 (by decide) ?_
        refine lv_istore_n (lv' := [(3, .int (nI 0)), (2, .int (nI 0)), (0, .ref o), (1, .int (nI x1))]) hx hb dX0_eden_38 rfl hl (by decide) rfl (fun ls hl => ?_)
        have loop2 : ∀ (fu2 : Nat) (z : Nat) (V2 : GI) (H : Heap) (locs : List Loc) (ls : Array Slot), 2 ^ xN T - z < fu2 → (z ≤ 2 ^ xN T) → (Eqx PQw V1 V2) → (∀ j, j < 2 ^ xN T → V2 75 j = nI (bN (anF (fun y => raF T f y x1) j z))) → gP D dA o dS V2 L Rf H → va_S (AS o) H0 H locs → lv_has ls 4 [(3, .int (nI z)), (2, .int (nI 0)), (0, .ref o), (1, .int (nI x1))] → W p l e (mkRm 410 9700) s m args below meth c H locs 0 0 QQ (F0 m 39 ls []) := by
          intro fu2
          induction fu2 with
          | zero => intro z V2 H locs ls hfu; exact absurd hfu (Nat.not_lt_zero _)
          | succ fu2 ih2 =>
            intro z V2 H locs ls hfu hzn hE2 hra2 hG hS hl
            refine lv_iload_n hx hb dX0_eden_39 rfl (lv_at hl 0 rfl) ?_
            refine lv_aload_n hx hb dX0_eden_40 rfl (lv_at hl 2 rfl) ?_
            refine c_VI hx hb hml hts hown hK hl.1 hS ⟨Nat.le_refl _, Nat.le_refl _⟩ (met_X0_rows l D dA hG (txA_S hX0 hS hOA) htx) (cw_X0_154 hts ⟨Nat.le_of_ble_eq_true rfl, Nat.le_of_ble_eq_true rfl⟩) (hG 0 _ rfl) rfl rfl rfl rfl (Nat.le_of_ble_eq_true rfl) dX0_eden_41 (fun _ h => h.elim) (fun r H1 locs hq hF hS => ?_)
            obtain ⟨rfl, rfl⟩ := hq
            refine n_icmp_ge (tgt := 65) hx hb dX0_eden_44 (by decide) (by omega) (by omega) (fun c44 => ?_) (fun c44 => ?_)
            · obtain rfl : z = 2 ^ xN T := by omega
              refine lv_iconst (v := (nI 0)) hx hb dX0_eden_65 (by decide) ?_
              refine lv_istore_n (lv' := [(3, .int (nI 0)), (2, .int (nI 0)), (0, .ref o), (1, .int (nI x1))]) hx hb dX0_eden_66 rfl hl (by decide) rfl (fun ls hl => ?_)
              have loop3 : ∀ (fu3 : Nat) (z : Nat) (u : Nat) (V3 : GI) (H : Heap) (locs : List Loc) (ls : Array Slot), 2 ^ xN T - z < fu3 → (z ≤ 2 ^ xN T) → (cnF (fun x => !anF (fun y => raF T f y x1) x (2 ^ xN T)) z = u) → (Eqx PQw V2 V3) → (∀ j, j < 2 ^ xN T → V3 75 j = nI (bN (anF (fun y => raF T f y x1) j (2 ^ xN T)))) → gP D dA o dS V3 L Rf H → va_S (AS o) H0 H locs → lv_has ls 4 [(3, .int (nI z)), (2, .int (nI u)), (0, .ref o), (1, .int (nI x1))] → W p l e (mkRm 410 9700) s m args below meth c H locs 0 0 QQ (F0 m 67 ls []) := by
                intro fu3
                induction fu3 with
                | zero => intro z u V3 H locs ls hfu; exact absurd hfu (Nat.not_lt_zero _)
                | succ fu3 ih3 =>
                  intro z u V3 H locs ls hfu hzn hu hE3 hra2 hG hS hl
                  have hbl := bN_lt (anF (fun y => raF T f y x1) z (2 ^ xN T))
                  have hcl := cnF_le (fun x => !anF (fun y => raF T f y x1) x (2 ^ xN T)) z
                  refine lv_iload_n hx hb dX0_eden_67 rfl (lv_at hl 0 rfl) ?_
                  refine lv_aload_n hx hb dX0_eden_68 rfl (lv_at hl 2 rfl) ?_
                  refine c_VI hx hb hml hts hown hK hl.1 hS ⟨Nat.le_refl _, Nat.le_refl _⟩ (met_X0_rows l D dA hG (txA_S hX0 hS hOA) htx) (cw_X0_154 hts ⟨Nat.le_of_ble_eq_true rfl, Nat.le_of_ble_eq_true rfl⟩) (hG 0 _ rfl) rfl rfl rfl rfl (Nat.le_of_ble_eq_true rfl) dX0_eden_69 (fun _ h => h.elim) (fun r H1 locs hq hF hS => ?_)
                  obtain ⟨rfl, rfl⟩ := hq
                  refine n_icmp_ge (tgt := 98) hx hb dX0_eden_72 (by decide) (by omega) (by omega) (fun c72 => ?_) (fun c72 => ?_)
                  · obtain rfl : z = 2 ^ xN T := by omega
                    refine lv_iload_n hx hb dX0_eden_98 rfl (lv_at hl 1 rfl) ?_
                    refine hend _ _ _ _ _ hS dX0_eden_99 ?_
                    exact ⟨_, rfl, _, hG, ((hE1.trans hE2).trans hE3), ((rng_in hlo_x1 hhi_x1 (by omega)).trans ((by rw [hu]))).symm⟩
                  refine lv_iload_n hx hb dX0_eden_75 rfl (lv_at hl 1 rfl) ?_
                  refine lv_aload_n hx hb dX0_eden_76 rfl (lv_at hl 2 rfl) ?_
                  refine g_get hx hb hts hown hK hG 0 rfl rfl ok_X0 14 (by decide) q536 rfl rfl dX0_eden_77 ?_
                  refine lv_iload_n hx hb dX0_eden_80 rfl (lv_at hl 0 rfl) ?_
                  refine n_zald hx hb hK hG 75 rfl (by omega) (by decide) dX0_eden_81 ?_
                  refine iv (y := (nI (bN (anF (fun y => raF T f y x1) z (2 ^ xN T))))) (hra2 z (by omega)) ?_
                  refine n_if_eq (tgt := 89) hx hb dX0_eden_82 (by decide) (by omega) (fun c82 => ?_) (fun c82 => ?_)
                  · refine lv_iconst (v := (nI 1)) hx hb dX0_eden_89 (by decide) ?_
                    refine n_iadd hx hb dX0_eden_90 ?_
                    refine lv_istore_n (lv' := [(2, .int (nI (u + 1))), (3, .int (nI z)), (0, .ref o), (1, .int (nI x1))]) hx hb dX0_eden_91 rfl hl (by decide) rfl (fun ls hl => ?_)
                    refine lv_iinc (v := (nI (z + 1))) (lv' := [(3, .int (nI (z + 1))), (2, .int (nI (u + 1))), (0, .ref o), (1, .int (nI x1))]) hx hb dX0_eden_92 hl (k := 1) rfl (nI_add _ _) (by decide) rfl (fun ls hl => ?_)
                    refine lv_goto (tgt := 67) hx hb dX0_eden_95 (by decide) ?_
                    exact ih3 (z + 1) (u + 1) V3 _ _ _ (by omega) (by omega) ((cnF_t (by show (!_) = true; rw [show anF (fun y => raF T f y x1) z (2 ^ xN T) = false by have := bN0 (b := anF (fun y => raF T f y x1) z (2 ^ xN T)) (by omega); simpa using this]; rfl)).trans (by omega)) hE3 hra2 hG hS (lv_sub hl [0, 1, 2, 3] rfl)
                  refine lv_iconst (v := (nI 0)) hx hb dX0_eden_85 (by decide) ?_
                  refine lv_goto (tgt := 90) hx hb dX0_eden_86 (by decide) ?_
                  refine n_iadd hx hb dX0_eden_90 ?_
                  refine lv_istore_n (lv' := [(2, .int (nI (u + 0))), (3, .int (nI z)), (0, .ref o), (1, .int (nI x1))]) hx hb dX0_eden_91 rfl hl (by decide) rfl (fun ls hl => ?_)
                  refine lv_iinc (v := (nI (z + 1))) (lv' := [(3, .int (nI (z + 1))), (2, .int (nI (u + 0))), (0, .ref o), (1, .int (nI x1))]) hx hb dX0_eden_92 hl (k := 1) rfl (nI_add _ _) (by decide) rfl (fun ls hl => ?_)
                  refine lv_goto (tgt := 67) hx hb dX0_eden_95 (by decide) ?_
                  exact ih3 (z + 1) (u + 0) V3 _ _ _ (by omega) (by omega) ((cnF_f (by show ¬ (!_) = true; rw [show anF (fun y => raF T f y x1) z (2 ^ xN T) = true from bN1 (by omega)]; decide)).trans hu) hE3 hra2 hG hS (lv_sub hl [0, 1, 2, 3] rfl)
              exact loop3 ((2 ^ xN T - 0) + 1) 0 0 V2 _ _ _ (Nat.lt_succ_self _) (Nat.zero_le _) rfl Eqx.rf hra2 hG hS (lv_sub hl [0, 1, 2, 3] rfl)
            refine lv_aload_n hx hb dX0_eden_47 rfl (lv_at hl 2 rfl) ?_
            refine g_get hx hb hts hown hK hG 0 rfl rfl ok_X0 14 (by decide) q536 rfl rfl dX0_eden_48 ?_
            refine lv_aload_n hx hb dX0_eden_51 rfl (lv_at hl 2 rfl) ?_
            refine lv_iload_n hx hb dX0_eden_52 rfl (lv_at hl 0 rfl) ?_
            refine lv_iload_n hx hb dX0_eden_53 rfl (lv_at hl 3 rfl) ?_
            refine c_VI hx hb hml hts hown hK hl.1 hS ⟨Nat.le_refl _, Nat.le_refl _⟩ (met_X0_rowAfter l D dA hG (clS_E hC0 hS hOA (hE1.trans hE2)) hOA z x1 (by omega) (by omega)) (cw_X0_228 hts ⟨Nat.le_of_ble_eq_true rfl, Nat.le_of_ble_eq_true rfl⟩) (hG 0 _ rfl) rfl rfl rfl rfl (Nat.le_of_ble_eq_true rfl) dX0_eden_54 (fun _ h => h) (fun r H1 locs hq hF hS => ?_)
            obtain ⟨V4, hG, hE4, hr4⟩ := hq
            generalize hHe4 : H1 = H at hG hS ⊢
            clear hHe4 hF
            subst hr4
            have hra4 := raF_lt T f z x1
            refine lv_iconst (v := (nI 1)) hx hb dX0_eden_57 (by decide) ?_
            refine n_zast (x2 := (nI 1)) hx hb hK hG hS 75 (AS_in 75 (by decide)) rfl (by omega) (by decide) (by decide) dX0_eden_58 (fun H locs hG hO hS => ?_)
            refine lv_iinc (v := (nI (z + 1))) (lv' := [(3, .int (nI (z + 1))), (2, .int (nI 0)), (0, .ref o), (1, .int (nI x1))]) hx hb dX0_eden_59 hl (k := 0) rfl (nI_add _ _) (by decide) rfl (fun ls hl => ?_)
            refine lv_goto (tgt := 39) hx hb dX0_eden_62 (by decide) ?_
            exact ih2 (z + 1) (up2 V4 75 (raF T f z x1) (nI 1)) _ _ _ (by omega) (by omega) (Eqx.up (Eqx.trans hE2 (hE4.mono PT26_PQw)) rfl) (fun j hj => by
                          have e0 : V4 75 j = nI (bN (anF (fun y => raF T f y x1) j z)) := (hE4 75 j rfl).trans (hra2 j hj)
                          rw [an_s]
                          by_cases e : j = raF T f z x1
                          · subst e
                            rw [show decide ((fun y => raF T f y x1) z = raF T f z x1) = true from decide_eq_true rfl, Bool.or_true]
                            exact up2_s
                          · rw [show decide ((fun y => raF T f y x1) z = j) = false from decide_eq_false (fun h => e h.symm), Bool.or_false]
                            exact (up2_n (fun h => e h.2)).trans e0) hG hS (lv_sub hl [0, 1, 2, 3] rfl)
        exact loop2 ((2 ^ xN T - 0) + 1) 0 V1 _ _ _ (Nat.lt_succ_self _) (Nat.zero_le _) Eqx.rf (fun j hj => hre j hj) hG hS (lv_sub hl [0, 1, 2, 3] rfl)
      refine lv_aload_n hx hb dX0_eden_24 rfl (lv_at hl 2 rfl) ?_
      refine g_get hx hb hts hown hK hG 0 rfl rfl ok_X0 14 (by decide) q536 rfl rfl dX0_eden_25 ?_
      refine lv_iload_n hx hb dX0_eden_28 rfl (lv_at hl 0 rfl) ?_
      refine lv_iconst (v := (nI 0)) hx hb dX0_eden_29 (by decide) ?_
      refine n_zast (x2 := (nI 0)) hx hb hK hG hS 75 (AS_in 75 (by decide)) rfl (by omega) (by decide) (by decide) dX0_eden_30 (fun H locs hG hO hS => ?_)
      refine lv_iinc (v := (nI (z + 1))) (lv' := [(3, .int (nI (z + 1))), (2, .int (nI 0)), (0, .ref o), (1, .int (nI x1))]) hx hb dX0_eden_31 hl (k := 0) rfl (nI_add _ _) (by decide) rfl (fun ls hl => ?_)
      refine lv_goto (tgt := 16) hx hb dX0_eden_34 (by decide) ?_
      exact ih1 (z + 1) (up2 V1 75 z (nI 0)) _ _ _ (by omega) (by omega) (Eqx.up hE1 rfl) (fun j hj => by
              by_cases e : j = z
              · subst e; exact up2_s
              · exact (up2_n (fun h => e h.2)).trans (hre j (by omega))) hG hS (lv_sub hl [0, 1, 2, 3] rfl)
  exact loop1 ((2 ^ xN T - 0) + 1) 0 V _ _ _ (Nat.lt_succ_self _) (Nat.zero_le _) Eqx.rf (fun j hj => absurd hj (Nat.not_lt_zero _)) hG hS (lv_sub hl [0, 1, 2, 3] rfl)
