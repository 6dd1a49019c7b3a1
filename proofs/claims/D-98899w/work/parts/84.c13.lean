def oF (d : Nat) : Option (Nat × Nat) → Nat
  | none => d
  | some q => q.2
theorem mx_n {a b : Nat} (ha : a < 2 ^ 30) (hb : b < 2 ^ 30) : (if nI a < nI b then nI b else nI a) = nI (if a < b then b else a) := by
  by_cases h : a < b
  · rw [if_pos h, if_pos ((nI_ltI (by omega) (by omega)).mpr h)]
  · rw [if_neg h, if_neg (fun z => h ((nI_ltI (by omega) (by omega)).mp z))]
theorem mn_n {a b : Nat} (ha : a < 2 ^ 30) (hb : b < 2 ^ 30) : (if nI b < nI a then nI b else nI a) = nI (if b < a then b else a) := by
  by_cases h : b < a
  · rw [if_pos h, if_pos ((nI_ltI (by omega) (by omega)).mpr h)]
  · rw [if_neg h, if_neg (fun z => h ((nI_ltI (by omega) (by omega)).mp z))]
theorem mwF_s {g : Nat → Nat} {x b y : Nat} (hy : mwF g x b = y) : (if y < g (x ^^^ 1 * 2 ^ b) then g (x ^^^ 1 * 2 ^ b) else y) = mwF g x (b + 1) := by
  subst hy; rfl
theorem nI_inj9 {a b : Nat} (ha : a < 1000) (hb : b < 1000) (h : nI a = nI b) : a = b := by
  have e := congrArg Int32.toNatClampNeg h
  rw [nI_clamp (by omega), nI_clamp (by omega)] at e
  exact e
theorem wb_any {G : Nat → Nat} {gd : Int32} : ∀ {n b : Nat}, b < n → ¬ nI b = gd → ∃ i, wbF G gd n = some i
  | n + 1, b, hb, hg => by
    by_cases e : nI n = gd
    · rw [wbF_g e]
      have : b ≠ n := fun z => hg (by rw [z]; exact e)
      exact wb_any (n := n) (b := b) (by omega) hg
    · cases hp : wbF G gd n with
      | none => exact ⟨n, wbF_n e hp⟩
      | some i =>
        by_cases hv : G n < G i
        · exact ⟨n, wbF_t e hp hv⟩
        · exact ⟨i, wbF_f e hp (Nat.not_lt.mp hv)⟩
/-- the least so far, from d on -/
theorem wb_s {G : Nat → Nat} {gd : Int32} {d b y : Nat} (hd : ∀ k, G k ≤ d) (hg : ¬ nI b = gd) (hy : oC d G (wbF G gd b) = y) : (if G b < y then G b else y) = oC d G (wbF G gd (b + 1)) := by
  cases hp : wbF G gd b with
  | none =>
    rw [hp] at hy
    have e : d = y := hy
    rw [wbF_n hg hp]
    have := hd b
    show _ = G b
    split <;> omega
  | some i =>
    rw [hp] at hy
    have e : G i = y := hy
    by_cases hv : G b < G i
    · rw [wbF_t hg hp hv, if_pos (by omega)]; rfl
    · rw [wbF_f hg hp (Nat.not_lt.mp hv), if_neg (by omega)]; exact e.symm
theorem wg_eq {T : Txt} {f : Rw} {q g d y : Nat} (hg : g < xN T) (hn : xN T ≤ 9) (hd : (d = 1000000 ∧ xN T ≠ 1) ∨ (xN T = 1 ∧ d = lfF T f q (rbF f (xN T)))) (hy : oC d (leftG T f q) (wbF (leftG T f q) (nI g) (xN T)) = y) : y = wgF T f q g := by
  unfold wgF
  rcases hd with ⟨h1, h2⟩ | ⟨h1, h2⟩
  · obtain ⟨i, hi⟩ := wb_any (G := leftG T f q) (gd := nI g) (n := xN T) (b := if g = 0 then 1 else 0) (by split <;> omega) (fun z => by
      have := nI_inj9 (by split <;> omega) (by omega) z
      split at this <;> omega)
    rw [hi] at hy
    rw [hi]
    exact hy.symm
  · have hg0 : g = 0 := by omega
    have e : wbF (leftG T f q) (nI g) (xN T) = none := by
      rw [h1, hg0, wbF_g rfl]
      rfl
    rw [e] at hy
    rw [e]
    have e2 : d = y := hy
    show y = lfF T f q (rbF f (xN T))
    omega
theorem oC_le {d : Nat} {G : Nat → Nat} {op : Option Nat} (h : ∀ k, G k ≤ d) : oC d G op ≤ d := by
  cases op with
  | none => exact Nat.le_refl _
  | some i => exact h i
set_option maxHeartbeats 4000000 in
theorem met_X0_mostOf (l : Launch) (D : va_G) (dA : Nat → ClassId) {o : Nat} {V : GI} {L : GL} {Rf : GR} {H0 : Heap} (hG : gP D dA o dS V L Rf H0) {O : Nat → Prop} {tx : Nat} {T : Txt} {f : Rw} (hC : clS D dA H0 O o V Rf tx T f) (hOA : ∀ z, O z → ¬ AS o z) (x q : Nat) (hx2 : x < 2 ^ xN T) (hq9 : q < 1000) : Ctr l D dA yX0_mostOf cX0_mostOf 5 (some .int) (mkRm 410 9700) [.ref o, .int (nI x), .int (nI q)] H0 (AS o) (QI (fun r H1 => ∃ V1, gP D dA o dS V1 L Rf H1 ∧ Eqx PQw V V1 ∧ r = nI (mwF (lfF T f q) x (xN T)))) := by
  have hC0 := hC
  obtain ⟨hX, htx, hB, hrv, hsd1, hsd2⟩ := hC
  have hX0 := hX
  have hn9 := txA_n hX
  have hp2 := two9 hn9
  have hpp := Nat.two_pow_pos (xN T)
  obtain ⟨fsx, hatx⟩ := txA_at hX
  have hotx := txA_o hX
  refine ctr_I (by decide) (Nat.le_of_ble_eq_true rfl) ?_
  intro p e s m args below meth c ls QQ locs hx hb hml hown hts hK hend hS hl
  have hl : lv_has ls 5 [(0, .ref o), (1, .int (nI x)), (2, .int (nI q))] := hl
  refine lv_aload_n hx hb dX0_mostOf_0 rfl (lv_at hl 0 rfl) ?_
  refine lv_iload_n hx hb dX0_mostOf_1 rfl (lv_at hl 1 rfl) ?_
  refine lv_iload_n hx hb dX0_mostOf_2 rfl (lv_at hl 2 rfl) ?_
  refine c_VI hx hb hml hts hown hK hl.1 hS ⟨Nat.le_refl _, Nat.le_refl _⟩ (met_X0_rowAfter l D dA hG (clS_E hC0 hS hOA Eqx.rf) hOA x q (by omega) (by omega)) (cw_X0_228 hts ⟨Nat.le_of_ble_eq_true rfl, Nat.le_of_ble_eq_true rfl⟩) (hG 0 _ rfl) rfl rfl rfl rfl (Nat.le_of_ble_eq_true rfl) dX0_mostOf_3 (fun _ h => h) (fun r H1 locs hq hF hS => ?_)
  obtain ⟨V1, hG, hE1, hr1⟩ := hq
  generalize hHe1 : H1 = H at hG hS ⊢
  clear hHe1 hF
  subst hr1
  have hra1 := raF_lt T f x q
  refine c_SI hx hb hml hts hown hK hl.1 hS ⟨Nat.le_refl _, Nat.le_refl _⟩ (met_J16_bitCount l D dA (Nat.lt_of_lt_of_le (raF_lt _ _ _ _) hp2)) (cw_X0_239 hts ⟨Nat.le_of_ble_eq_true rfl, Nat.le_of_ble_eq_true rfl⟩) rfl rfl (Nat.le_of_ble_eq_true rfl) dX0_mostOf_6 (fun _ h => h.elim) (fun r H1 locs hq hF hS => ?_)
  obtain ⟨rfl, rfl⟩ := hq
  have hbc2 := bc9 (raF T f x q)
  refine lv_istore_n (lv' := [(3, .int (nI (bc (raF T f x q)))), (0, .ref o), (1, .int (nI x)), (2, .int (nI q))]) hx hb dX0_mostOf_9 rfl hl (by decide) rfl (fun ls hl => ?_)
  refine lv_iconst (v := (nI 0)) hx hb dX0_mostOf_10 (by decide) ?_
  refine lv_istore (lv' := [(4, .int (nI 0)), (3, .int (nI (bc (raF T f x q)))), (0, .ref o), (1, .int (nI x)), (2, .int (nI q))]) hx hb dX0_mostOf_11 hl (by decide) rfl (fun ls hl => ?_)
  have loop3 : ∀ (fu3 : Nat) (b : Nat) (y : Nat) (V3 : GI) (H : Heap) (locs : List Loc) (ls : Array Slot), xN T - b < fu3 → (b ≤ xN T) → (mwF (lfF T f q) x b = y) → (Eqx PQw V1 V3) → gP D dA o dS V3 L Rf H → va_S (AS o) H0 H locs → lv_has ls 5 [(4, .int (nI b)), (3, .int (nI y)), (0, .ref o), (1, .int (nI x)), (2, .int (nI q))] → W p l e (mkRm 410 9700) s m args below meth c H locs 0 0 QQ (F0 m 13 ls []) := by
    intro fu3
    induction fu3 with
    | zero => intro b y V3 H locs ls hfu; exact absurd hfu (Nat.not_lt_zero _)
    | succ fu3 ih3 =>
      intro b y V3 H locs ls hfu hbn hy hE3 hG hS hl
      have hm9 : y ≤ 9 := by rw [← hy]; exact mwF_le (fun _ => bc9 _) b
      refine lv_iload hx hb dX0_mostOf_13 (lv_at hl 0 rfl) ?_
      refine lv_aload_n hx hb dX0_mostOf_15 rfl (lv_at hl 2 rfl) ?_
      refine c_VI hx hb hml hts hown hK hl.1 hS ⟨Nat.le_refl _, Nat.le_refl _⟩ (met_X0_beds l D dA hG (txA_S hX0 hS hOA) htx) (cw_X0_145 hts ⟨Nat.le_of_ble_eq_true rfl, Nat.le_of_ble_eq_true rfl⟩) (hG 0 _ rfl) rfl rfl rfl rfl (Nat.le_of_ble_eq_true rfl) dX0_mostOf_16 (fun _ h => h.elim) (fun r H1 locs hq hF hS => ?_)
      obtain ⟨rfl, rfl⟩ := hq
      refine n_icmp_ge (tgt := 47) hx hb dX0_mostOf_19 (by decide) (by omega) (by omega) (fun c19 => ?_) (fun c19 => ?_)
      · obtain rfl : b = xN T := by omega
        refine lv_iload_n hx hb dX0_mostOf_47 rfl (lv_at hl 1 rfl) ?_
        refine hend _ _ _ _ _ hS dX0_mostOf_48 ?_
        exact ⟨_, rfl, _, hG, ((hE1.mono PT26_PQw).trans hE3), (by rw [hy])⟩
      refine lv_iload_n hx hb dX0_mostOf_22 rfl (lv_at hl 1 rfl) ?_
      refine lv_aload_n hx hb dX0_mostOf_23 rfl (lv_at hl 2 rfl) ?_
      refine lv_iload_n hx hb dX0_mostOf_24 rfl (lv_at hl 3 rfl) ?_
      refine lv_iconst (v := (nI 1)) hx hb dX0_mostOf_25 (by decide) ?_
      refine lv_iload hx hb dX0_mostOf_26 (lv_at hl 0 rfl) ?_
      refine n_ishl hx hb dX0_mostOf_28 (by omega) ?_
      refine n_ixor hx hb dX0_mostOf_29 ?_
      refine lv_iload_n hx hb dX0_mostOf_30 rfl (lv_at hl 4 rfl) ?_
      refine c_VI hx hb hml hts hown hK hl.1 hS ⟨Nat.le_refl _, Nat.le_refl _⟩ (met_X0_rowAfter l D dA hG (clS_E hC0 hS hOA ((hE1.mono PT26_PQw).trans hE3)) hOA (x ^^^ (1 * 2 ^ b)) q (xr2 (by omega) (p2n (by omega))) (by omega)) (cw_X0_228 hts ⟨Nat.le_of_ble_eq_true rfl, Nat.le_of_ble_eq_true rfl⟩) (hG 0 _ rfl) rfl rfl rfl rfl (Nat.le_of_ble_eq_true rfl) dX0_mostOf_31 (fun _ h => h) (fun r H1 locs hq hF hS => ?_)
      obtain ⟨V4, hG, hE4, hr4⟩ := hq
      generalize hHe4 : H1 = H at hG hS ⊢
      clear hHe4 hF
      subst hr4
      have hra4 := raF_lt T f (x ^^^ (1 * 2 ^ b)) q
      refine c_SI hx hb hml hts hown hK hl.1 hS ⟨Nat.le_refl _, Nat.le_refl _⟩ (met_J16_bitCount l D dA (Nat.lt_of_lt_of_le (raF_lt _ _ _ _) hp2)) (cw_X0_239 hts ⟨Nat.le_of_ble_eq_true rfl, Nat.le_of_ble_eq_true rfl⟩) rfl rfl (Nat.le_of_ble_eq_true rfl) dX0_mostOf_34 (fun _ h => h.elim) (fun r H1 locs hq hF hS => ?_)
      obtain ⟨rfl, rfl⟩ := hq
      have hbc5 := bc9 (raF T f (x ^^^ (1 * 2 ^ b)) q)
      refine va_mmax hx hb (hml.trans hl.1.symm) hown (hts _ q1259) (hts _ q890) (hts _ q142) (hts _ q891) (Nat.le_of_ble_eq_true rfl) (Nat.le_of_ble_eq_true rfl) (Nat.le_refl _) (Nat.le_refl _) dX0_mostOf_37 ?_
      refine iv (y := nI (mwF (lfF T f q) x (b + 1))) ((mx_n (by omega) (by omega)).trans (congrArg nI (mwF_s (g := lfF T f q) hy))) ?_
      refine lv_istore_n (lv' := [(3, .int (nI (mwF (lfF T f q) x (b + 1)))), (4, .int (nI b)), (0, .ref o), (1, .int (nI x)), (2, .int (nI q))]) hx hb dX0_mostOf_40 rfl hl (by decide) rfl (fun ls hl => ?_)
      refine lv_iinc (v := (nI (b + 1))) (lv' := [(4, .int (nI (b + 1))), (3, .int (nI (mwF (lfF T f q) x (b + 1)))), (0, .ref o), (1, .int (nI x)), (2, .int (nI q))]) hx hb dX0_mostOf_41 hl (k := 1) rfl (nI_add _ _) (by decide) rfl (fun ls hl => ?_)
      refine lv_goto (tgt := 13) hx hb dX0_mostOf_44 (by decide) ?_
      exact ih3 (b + 1) (mwF (lfF T f q) x (b + 1)) V4 _ _ _ (by omega) (by omega) rfl (Eqx.trans hE3 (hE4.mono PT26_PQw)) hG hS (lv_sub hl [0, 1, 2, 3, 4] rfl)
  exact loop3 ((xN T - 0) + 1) 0 (bc (raF T f x q)) V1 _ _ _ (Nat.lt_succ_self _) (Nat.zero_le _) rfl Eqx.rf hG hS (lv_sub hl [0, 1, 2, 3, 4] rfl)
theorem cw_X0_260 {R : Room} {s : State} {args : Array Value} (hts : ∀ w ∈ lw_all, w.before args s = true) {f w k j : Nat} (hR : f + 1 ≤ R.frames ∧ 8 + (5 + 11) + w ≤ R.locals) : CallW R s args RX0 RX0 260 yX0_mostOf cX0_mostOf 5 (some .int) (ws_ yX0_mostOf cX0_mostOf 5 (some .int)) (mkRmC f w k j) k j 2 := cwV 2 hts (lw_V q1354 q1356 qs42 q108 q1357) rfl rfl rfl (by decide +kernel) hR
set_option maxHeartbeats 4000000 in
theorem met_X0_duel (l : Launch) (D : va_G) (dA : Nat → ClassId) {o : Nat} {V : GI} {L : GL} {Rf : GR} {H0 : Heap} (hG : gP D dA o dS V L Rf H0) {O : Nat → Prop} {tx : Nat} {T : Txt} {f : Rw} (hC : clS D dA H0 O o V Rf tx T f) (hOA : ∀ z, O z → ¬ AS o z) (v1 v2 : Int32) : Ctr l D dA yX0_duel cX0_duel 7 (some .int) (mkRm 412 9900) [.ref o, .int v1, .int v2] H0 (AS o) (QI (fun r H1 => ∃ V1, gP D dA o dS V1 L Rf H1 ∧ Eqx PQw V V1 ∧ r = duelA T f v1 v2)) := by
  have hC0 := hC
  obtain ⟨hX, htx, hB, hrv, hsd1, hsd2⟩ := hC
  have hX0 := hX
  have hn9 := txA_n hX
  have hp2 := two9 hn9
  have hpp := Nat.two_pow_pos (xN T)
  obtain ⟨fsx, hatx⟩ := txA_at hX
  have hotx := txA_o hX
  refine ctr_I (by decide) (Nat.le_of_ble_eq_true rfl) ?_
  intro p e s m args below meth c ls QQ locs hx hb hml hown hts hK hend hS hl
  have hl : lv_has ls 7 [(0, .ref o), (1, .int v1), (2, .int v2)] := hl
  refine lv_iload_n hx hb dX0_duel_0 rfl (lv_at hl 1 rfl) ?_
  refine c_SI hx hb hml hts hown hK hl.1 hS ⟨Nat.le_refl _, Nat.le_refl _⟩ (met_X0_isPlan l D dA v1) (cw_X0_231 hts ⟨Nat.le_of_ble_eq_true rfl, Nat.le_of_ble_eq_true rfl⟩) rfl rfl (Nat.le_of_ble_eq_true rfl) dX0_duel_1 (fun _ h => h.elim) (fun r H1 locs hq hF hS => ?_)
  obtain ⟨rfl, rfl⟩ := hq
  rcases (inZ_cases v1 0 24 (by decide) (by decide)).symm with ⟨hz1, ho1⟩ | ⟨x1, hlo_x1, hhi_x1, rfl, hz1⟩
  · refine iv (y := nI 0) hz1 ?_
    refine n_if_eq (tgt := 16) hx hb dX0_duel_4 (by decide) (by decide) (fun _ => ?_) (fun z => absurd z (by decide))
    refine lv_iconst (v := (-1)) hx hb dX0_duel_16 (by decide) ?_
    refine hend _ _ _ _ _ hS dX0_duel_17 ?_
    exact ⟨_, rfl, _, hG, Eqx.rf, ((ho1.1 _ _)).symm⟩
  refine iv (y := nI 1) hz1 ?_
  have hl : lv_has ls 7 [(0, .ref o), (1, .int (nI x1)), (2, .int v2)] := hl
  refine n_if_eq (tgt := 16) hx hb dX0_duel_4 (by decide) (by decide) (fun z => absurd z (by decide)) (fun _ => ?_)
  refine lv_iload_n hx hb dX0_duel_7 rfl (lv_at hl 2 rfl) ?_
  refine lv_iconst (v := (nI 0)) hx hb dX0_duel_8 (by decide) ?_
  refine lv_iconst (v := (nI 1)) hx hb dX0_duel_9 (by decide) ?_
  refine c_SI hx hb hml hts hown hK hl.1 hS ⟨Nat.le_refl _, Nat.le_refl _⟩ (met_X0_isIn l D dA v2 (nI 0) (nI 1)) (cw_X0_146 hts ⟨Nat.le_of_ble_eq_true rfl, Nat.le_of_ble_eq_true rfl⟩) rfl rfl (Nat.le_of_ble_eq_true rfl) dX0_duel_10 (fun _ h => h.elim) (fun r H1 locs hq hF hS => ?_)
  obtain ⟨rfl, rfl⟩ := hq
  rcases (inZ_cases v2 0 1 (by decide) (by decide)).symm with ⟨hz10, ho10⟩ | ⟨x2, hlo_x2, hhi_x2, rfl, hz10⟩
  · refine iv (y := nI 0) hz10 ?_
    refine n_if_ne (tgt := 18) hx hb dX0_duel_13 (by decide) (by decide) (fun z => absurd z (by decide)) (fun _ => ?_)
    refine lv_iconst (v := (-1)) hx hb dX0_duel_16 (by decide) ?_
    refine hend _ _ _ _ _ hS dX0_duel_17 ?_
    exact ⟨_, rfl, _, hG, Eqx.rf, ((rng_in hlo_x1 hhi_x1 (by omega)).trans ((ho10.1 _ _))).symm⟩
  refine iv (y := nI 1) hz10 ?_
  have hl : lv_has ls 7 [(0, .ref o), (1, .int (nI x1)), (2, .int (nI x2))] := hl
  refine n_if_ne (tgt := 18) hx hb dX0_duel_13 (by decide) (by decide) (fun _ => ?_) (fun z => absurd z (by decide))
  refine lv_bipush (v := (-2)) hx hb dX0_duel_18 (by decide) ?_
  refine lv_istore_n (lv' := [(3, .int (-2)), (0, .ref o), (1, .int (nI x1)), (2, .int (nI x2))]) hx hb dX0_duel_20 rfl hl (by decide) rfl (fun ls hl => ?_)
  refine lv_ldc (v := (nI 1000000)) hx hb hown (hts _ q1283) dX0_duel_21 ?_
  refine lv_istore (lv' := [(4, .int (nI 1000000)), (3, .int (-2)), (0, .ref o), (1, .int (nI x1)), (2, .int (nI x2))]) hx hb dX0_duel_23 hl (by decide) rfl (fun ls hl => ?_)
  refine lv_iconst (v := (nI 0)) hx hb dX0_duel_25 (by decide) ?_
  refine lv_istore (lv' := [(5, .int (nI 0)), (4, .int (nI 1000000)), (3, .int (-2)), (0, .ref o), (1, .int (nI x1)), (2, .int (nI x2))]) hx hb dX0_duel_26 hl (by decide) rfl (fun ls hl => ?_)
  have loop1 : ∀ (fu1 : Nat) (b : Nat) (op : Option (Nat × Nat)) (V1 : GI) (H : Heap) (locs : List Loc) (ls : Array Slot), xN T - b < fu1 → (b ≤ xN T) → (mnF (fun b => mwF (lfF T f x1) (rbF f (xN T) ^^^ 1 * 2 ^ b) (xN T)) b = op) → (Eqx PQw V V1) → gP D dA o dS V1 L Rf H → va_S (AS o) H0 H locs → lv_has ls 7 [(5, .int (nI b)), (4, .int (nI (oF 1000000 op))), (3, .int (oI (-2) op)), (0, .ref o), (1, .int (nI x1)), (2, .int (nI x2))] → W p l e (mkRm 412 9900) s m args below meth c H locs 0 0 QQ (F0 m 28 ls []) := by
    intro fu1
    induction fu1 with
    | zero => intro b op V1 H locs ls hfu; exact absurd hfu (Nat.not_lt_zero _)
    | succ fu1 ih1 =>
      intro b op V1 H locs ls hfu hbn hp hE1 hG hS hl
      refine lv_iload hx hb dX0_duel_28 (lv_at hl 0 rfl) ?_
      refine lv_aload_n hx hb dX0_duel_30 rfl (lv_at hl 3 rfl) ?_
      refine c_VI hx hb hml hts hown hK hl.1 hS ⟨Nat.le_refl _, Nat.le_refl _⟩ (met_X0_beds l D dA hG (txA_S hX0 hS hOA) htx) (cw_X0_145 hts ⟨Nat.le_of_ble_eq_true rfl, Nat.le_of_ble_eq_true rfl⟩) (hG 0 _ rfl) rfl rfl rfl rfl (Nat.le_of_ble_eq_true rfl) dX0_duel_31 (fun _ h => h.elim) (fun r H1 locs hq hF hS => ?_)
      obtain ⟨rfl, rfl⟩ := hq
      refine n_icmp_ge (tgt := 79) hx hb dX0_duel_34 (by decide) (by omega) (by omega) (fun c34 => ?_) (fun c34 => ?_)
      · obtain rfl : b = xN T := by omega
        rcases op with _ | ⟨i, v⟩
        · have hl : lv_has ls 7 [(5, .int (nI (xN T))), (4, .int (nI 1000000)), (3, .int (-2)), (0, .ref o), (1, .int (nI x1)), (2, .int (nI x2))] := hl
          refine lv_iload_n hx hb dX0_duel_79 rfl (lv_at hl 2 rfl) ?_
          refine lv_if_lt (tgt := 88) hx hb dX0_duel_80 (by decide) (fun _ => ?_) (fun z => absurd (by decide) z)
          refine lv_iload_n hx hb dX0_duel_88 rfl (lv_at hl 2 rfl) ?_
          refine lv_goto (tgt := 94) hx hb dX0_duel_89 (by decide) ?_
          refine hend _ _ _ _ _ hS dX0_duel_94 ?_
          exact ⟨_, rfl, _, hG, hE1, ((rng_in hlo_x1 hhi_x1 (by omega)).trans ((rng_in hlo_x2 hhi_x2 (by omega)).trans ((by have hpp : duelP T f x1 = none := hp; simp only [hpp]; split <;> rfl)))).symm⟩
        have hl : lv_has ls 7 [(5, .int (nI (xN T))), (4, .int (nI v)), (3, .int (nI i)), (0, .ref o), (1, .int (nI x1)), (2, .int (nI x2))] := hl
        have hv9 : v ≤ 9 := (mnF_lt hp).2 ▸ mwF_le (fun _ => bc9 _) _
        have hi9 := (mnF_lt hp).1
        refine lv_iload_n hx hb dX0_duel_79 rfl (lv_at hl 2 rfl) ?_
        refine n_if_lt (tgt := 88) hx hb dX0_duel_80 (by decide) (by omega) ?_
        refine lv_iload_n hx hb dX0_duel_83 rfl (lv_at hl 5 rfl) ?_
        refine lv_iconst (v := (nI 1)) hx hb dX0_duel_84 (by decide) ?_
        refine n_icmp_ne (tgt := 92) hx hb dX0_duel_85 (by decide) (by omega) (by omega) (fun c85 => ?_) (fun c85 => ?_)
        · refine lv_iload hx hb dX0_duel_92 (lv_at hl 1 rfl) ?_
          refine hend _ _ _ _ _ hS dX0_duel_94 ?_
          exact ⟨_, rfl, _, hG, hE1, ((rng_in hlo_x1 hhi_x1 (by omega)).trans ((rng_in hlo_x2 hhi_x2 (by omega)).trans ((by have hpp : duelP T f x1 = some (i, v) := hp; simp only [hpp]; exact if_pos (by omega))))).symm⟩
        refine lv_iload_n hx hb dX0_duel_88 rfl (lv_at hl 2 rfl) ?_
        refine lv_goto (tgt := 94) hx hb dX0_duel_89 (by decide) ?_
        refine hend _ _ _ _ _ hS dX0_duel_94 ?_
        exact ⟨_, rfl, _, hG, hE1, ((rng_in hlo_x1 hhi_x1 (by omega)).trans ((rng_in hlo_x2 hhi_x2 (by omega)).trans ((by have hpp : duelP T f x1 = some (i, v) := hp; simp only [hpp]; exact if_neg (by omega))))).symm⟩
      rcases op with _ | ⟨i, v⟩
      · have hl : lv_has ls 7 [(5, .int (nI b)), (4, .int (nI 1000000)), (3, .int (-2)), (0, .ref o), (1, .int (nI x1)), (2, .int (nI x2))] := hl
        refine lv_aload_n hx hb dX0_duel_37 rfl (lv_at hl 3 rfl) ?_
        refine lv_aload_n hx hb dX0_duel_38 rfl (lv_at hl 3 rfl) ?_
        refine g_get hx hb hts hown hK hG 0 rfl rfl ok_X0 7 (by decide) q529 rfl rfl dX0_duel_39 ?_
        refine g_get (v := .int (nI (rbF f (xN T)))) hx hb hts hown hK hG 15 rfl rfl ok_X5 4 (by decide) q442 rfl (congrArg Value.int ((hE1 15 4 rfl).trans hB.1.1)) dX0_duel_42 ?_
        refine lv_iconst (v := (nI 1)) hx hb dX0_duel_45 (by decide) ?_
        refine lv_iload hx hb dX0_duel_46 (lv_at hl 0 rfl) ?_
        refine n_ishl hx hb dX0_duel_48 (by omega) ?_
        refine n_ixor hx hb dX0_duel_49 ?_
        refine lv_iload_n hx hb dX0_duel_50 rfl (lv_at hl 4 rfl) ?_
        refine c_VI hx hb hml hts hown hK hl.1 hS ⟨Nat.le_refl _, Nat.le_refl _⟩ (met_X0_mostOf l D dA hG (clS_E hC0 hS hOA hE1) hOA ((rbF f (xN T)) ^^^ (1 * 2 ^ b)) x1 (xr2 (rbF_lt _ _) (p2n (by omega))) (by omega)) (cw_X0_260 hts ⟨Nat.le_of_ble_eq_true rfl, Nat.le_of_ble_eq_true rfl⟩) (hG 0 _ rfl) rfl rfl rfl rfl (Nat.le_of_ble_eq_true rfl) dX0_duel_51 (fun _ h => h) (fun r H1 locs hq hF hS => ?_)
        obtain ⟨V2, hG, hE2, hr2⟩ := hq
        generalize hHe2 : H1 = H at hG hS ⊢
        clear hHe2 hF
        subst hr2
        have hmw2 : mwF (lfF T f x1) ((rbF f (xN T)) ^^^ (1 * 2 ^ b)) (xN T) ≤ 9 := mwF_le (fun _ => bc9 _) _
        refine lv_istore (lv' := [(6, .int (nI (mwF (lfF T f x1) ((rbF f (xN T)) ^^^ (1 * 2 ^ b)) (xN T)))), (5, .int (nI b)), (4, .int (nI 1000000)), (3, .int (-2)), (0, .ref o), (1, .int (nI x1)), (2, .int (nI x2))]) hx hb dX0_duel_54 hl (by decide) rfl (fun ls hl => ?_)
        refine lv_iload hx hb dX0_duel_56 (lv_at hl 0 rfl) ?_
        refine lv_iload hx hb dX0_duel_58 (lv_at hl 2 rfl) ?_
        refine n_icmp_lt (tgt := 66) hx hb dX0_duel_60 (by decide) (by omega) (by omega) (fun c60 => ?_) (fun c60 => ?_)
        · refine lv_iload hx hb dX0_duel_66 (lv_at hl 1 rfl) ?_
          refine lv_istore_n (lv' := [(3, .int (nI b)), (6, .int (nI (mwF (lfF T f x1) ((rbF f (xN T)) ^^^ (1 * 2 ^ b)) (xN T)))), (5, .int (nI b)), (4, .int (nI 1000000)), (0, .ref o), (1, .int (nI x1)), (2, .int (nI x2))]) hx hb dX0_duel_68 rfl hl (by decide) rfl (fun ls hl => ?_)
          refine lv_iload hx hb dX0_duel_69 (lv_at hl 1 rfl) ?_
          refine lv_istore (lv' := [(4, .int (nI (mwF (lfF T f x1) ((rbF f (xN T)) ^^^ (1 * 2 ^ b)) (xN T)))), (3, .int (nI b)), (6, .int (nI (mwF (lfF T f x1) ((rbF f (xN T)) ^^^ (1 * 2 ^ b)) (xN T)))), (5, .int (nI b)), (0, .ref o), (1, .int (nI x1)), (2, .int (nI x2))]) hx hb dX0_duel_71 hl (by decide) rfl (fun ls hl => ?_)
          refine lv_iinc (v := (nI (b + 1))) (lv' := [(5, .int (nI (b + 1))), (4, .int (nI (mwF (lfF T f x1) ((rbF f (xN T)) ^^^ (1 * 2 ^ b)) (xN T)))), (3, .int (nI b)), (6, .int (nI (mwF (lfF T f x1) ((rbF f (xN T)) ^^^ (1 * 2 ^ b)) (xN T)))), (0, .ref o), (1, .int (nI x1)), (2, .int (nI x2))]) hx hb dX0_duel_73 hl (k := 3) rfl (nI_add _ _) (by decide) rfl (fun ls hl => ?_)
          refine lv_goto (tgt := 28) hx hb dX0_duel_76 (by decide) ?_
          exact ih1 (b + 1) (some (b, mwF (lfF T f x1) ((rbF f (xN T)) ^^^ (1 * 2 ^ b)) (xN T))) V2 _ _ _ (by omega) (by omega) (mnF_n hp) (Eqx.trans hE1 hE2) hG hS (lv_sub hl [0, 1, 2, 4, 5, 6] rfl)
        exact absurd c60 (by omega)
      have hl : lv_has ls 7 [(5, .int (nI b)), (4, .int (nI v)), (3, .int (nI i)), (0, .ref o), (1, .int (nI x1)), (2, .int (nI x2))] := hl
      have hv9 : v ≤ 9 := (mnF_lt hp).2 ▸ mwF_le (fun _ => bc9 _) _
      have hi9 := (mnF_lt hp).1
      refine lv_aload_n hx hb dX0_duel_37 rfl (lv_at hl 3 rfl) ?_
      refine lv_aload_n hx hb dX0_duel_38 rfl (lv_at hl 3 rfl) ?_
      refine g_get hx hb hts hown hK hG 0 rfl rfl ok_X0 7 (by decide) q529 rfl rfl dX0_duel_39 ?_
      refine g_get (v := .int (nI (rbF f (xN T)))) hx hb hts hown hK hG 15 rfl rfl ok_X5 4 (by decide) q442 rfl (congrArg Value.int ((hE1 15 4 rfl).trans hB.1.1)) dX0_duel_42 ?_
      refine lv_iconst (v := (nI 1)) hx hb dX0_duel_45 (by decide) ?_
      refine lv_iload hx hb dX0_duel_46 (lv_at hl 0 rfl) ?_
      refine n_ishl hx hb dX0_duel_48 (by omega) ?_
      refine n_ixor hx hb dX0_duel_49 ?_
      refine lv_iload_n hx hb dX0_duel_50 rfl (lv_at hl 4 rfl) ?_
      refine c_VI hx hb hml hts hown hK hl.1 hS ⟨Nat.le_refl _, Nat.le_refl _⟩ (met_X0_mostOf l D dA hG (clS_E hC0 hS hOA hE1) hOA ((rbF f (xN T)) ^^^ (1 * 2 ^ b)) x1 (xr2 (rbF_lt _ _) (p2n (by omega))) (by omega)) (cw_X0_260 hts ⟨Nat.le_of_ble_eq_true rfl, Nat.le_of_ble_eq_true rfl⟩) (hG 0 _ rfl) rfl rfl rfl rfl (Nat.le_of_ble_eq_true rfl) dX0_duel_51 (fun _ h => h) (fun r H1 locs hq hF hS => ?_)
      obtain ⟨V3, hG, hE3, hr3⟩ := hq
      generalize hHe3 : H1 = H at hG hS ⊢
      clear hHe3 hF
      subst hr3
      have hmw3 : mwF (lfF T f x1) ((rbF f (xN T)) ^^^ (1 * 2 ^ b)) (xN T) ≤ 9 := mwF_le (fun _ => bc9 _) _
      refine lv_istore (lv' := [(6, .int (nI (mwF (lfF T f x1) ((rbF f (xN T)) ^^^ (1 * 2 ^ b)) (xN T)))), (5, .int (nI b)), (4, .int (nI v)), (3, .int (nI i)), (0, .ref o), (1, .int (nI x1)), (2, .int (nI x2))]) hx hb dX0_duel_54 hl (by decide) rfl (fun ls hl => ?_)
      refine lv_iload hx hb dX0_duel_56 (lv_at hl 0 rfl) ?_
      refine lv_iload hx hb dX0_duel_58 (lv_at hl 2 rfl) ?_
      refine n_icmp_lt (tgt := 66) hx hb dX0_duel_60 (by decide) (by omega) (by omega) (fun c60 => ?_) (fun c60 => ?_)
      · refine lv_iload hx hb dX0_duel_66 (lv_at hl 1 rfl) ?_
        refine lv_istore_n (lv' := [(3, .int (nI b)), (6, .int (nI (mwF (lfF T f x1) ((rbF f (xN T)) ^^^ (1 * 2 ^ b)) (xN T)))), (5, .int (nI b)), (4, .int (nI v)), (0, .ref o), (1, .int (nI x1)), (2, .int (nI x2))]) hx hb dX0_duel_68 rfl hl (by decide) rfl (fun ls hl => ?_)
        refine lv_iload hx hb dX0_duel_69 (lv_at hl 1 rfl) ?_
        refine lv_istore (lv' := [(4, .int (nI (mwF (lfF T f x1) ((rbF f (xN T)) ^^^ (1 * 2 ^ b)) (xN T)))), (3, .int (nI b)), (6, .int (nI (mwF (lfF T f x1) ((rbF f (xN T)) ^^^ (1 * 2 ^ b)) (xN T)))), (5, .int (nI b)), (0, .ref o), (1, .int (nI x1)), (2, .int (nI x2))]) hx hb dX0_duel_71 hl (by decide) rfl (fun ls hl => ?_)
        refine lv_iinc (v := (nI (b + 1))) (lv' := [(5, .int (nI (b + 1))), (4, .int (nI (mwF (lfF T f x1) ((rbF f (xN T)) ^^^ (1 * 2 ^ b)) (xN T)))), (3, .int (nI b)), (6, .int (nI (mwF (lfF T f x1) ((rbF f (xN T)) ^^^ (1 * 2 ^ b)) (xN T)))), (0, .ref o), (1, .int (nI x1)), (2, .int (nI x2))]) hx hb dX0_duel_73 hl (k := 3) rfl (nI_add _ _) (by decide) rfl (fun ls hl => ?_)
        refine lv_goto (tgt := 28) hx hb dX0_duel_76 (by decide) ?_
        exact ih1 (b + 1) (some (b, mwF (lfF T f x1) ((rbF f (xN T)) ^^^ (1 * 2 ^ b)) (xN T))) V3 _ _ _ (by omega) (by omega) (mnF_t hp c60) (Eqx.trans hE1 hE3) hG hS (lv_sub hl [0, 1, 2, 4, 5, 6] rfl)
      refine lv_goto (tgt := 73) hx hb dX0_duel_63 (by decide) ?_
      refine lv_iinc (v := (nI (b + 1))) (lv' := [(5, .int (nI (b + 1))), (6, .int (nI (mwF (lfF T f x1) ((rbF f (xN T)) ^^^ (1 * 2 ^ b)) (xN T)))), (4, .int (nI v)), (3, .int (nI i)), (0, .ref o), (1, .int (nI x1)), (2, .int (nI x2))]) hx hb dX0_duel_73 hl (k := 1) rfl (nI_add _ _) (by decide) rfl (fun ls hl => ?_)
      refine lv_goto (tgt := 28) hx hb dX0_duel_76 (by decide) ?_
      exact ih1 (b + 1) (some (i, v)) V3 _ _ _ (by omega) (by omega) (mnF_f hp (by omega)) (Eqx.trans hE1 hE3) hG hS (lv_sub hl [0, 2, 3, 4, 5, 6] rfl)
  exact loop1 ((xN T - 0) + 1) 0 none V _ _ _ (Nat.lt_succ_self _) (Nat.zero_le _) rfl Eqx.rf hG hS (lv_sub hl [0, 1, 2, 3, 4, 5] rfl)
set_option maxHeartbeats 4000000 in
theorem met_X0_worstBut (l : Launch) (D : va_G) (dA : Nat → ClassId) {o : Nat} {V : GI} {L : GL} {Rf : GR} {H0 : Heap} (hG : gP D dA o dS V L Rf H0) {O : Nat → Prop} {tx : Nat} {T : Txt} {f : Rw} (hC : clS D dA H0 O o V Rf tx T f) (hOA : ∀ z, O z → ¬ AS o z) (g q : Nat) (hg9 : g < xN T) (hq9 : q < 1000) : Ctr l D dA yX0_worstBut cX0_worstBut 5 (some .int) (mkRm 410 9700) [.ref o, .int (nI g), .int (nI q)] H0 (AS o) (QI (fun r H1 => ∃ V1, gP D dA o dS V1 L Rf H1 ∧ Eqx PQw V V1 ∧ r = nI (wgF T f q g))) := by
  have hC0 := hC
  obtain ⟨hX, htx, hB, hrv, hsd1, hsd2⟩ := hC
  have hX0 := hX
  have hn9 := txA_n hX
  have hp2 := two9 hn9
  have hpp := Nat.two_pow_pos (xN T)
  obtain ⟨fsx, hatx⟩ := txA_at hX
  have hotx := txA_o hX
  refine ctr_I (by decide) (Nat.le_of_ble_eq_true rfl) ?_
  intro p e s m args below meth c ls QQ locs hx hb hml hown hts hK hend hS hl
  have hl : lv_has ls 5 [(0, .ref o), (1, .int (nI g)), (2, .int (nI q))] := hl
  refine lv_aload_n hx hb dX0_worstBut_0 rfl (lv_at hl 0 rfl) ?_
  refine c_VI hx hb hml hts hown hK hl.1 hS ⟨Nat.le_refl _, Nat.le_refl _⟩ (met_X0_beds l D dA hG (txA_S hX0 hS hOA) htx) (cw_X0_145 hts ⟨Nat.le_of_ble_eq_true rfl, Nat.le_of_ble_eq_true rfl⟩) (hG 0 _ rfl) rfl rfl rfl rfl (Nat.le_of_ble_eq_true rfl) dX0_worstBut_1 (fun _ h => h.elim) (fun r H1 locs hq hF hS => ?_)
  obtain ⟨rfl, rfl⟩ := hq
  refine lv_iconst (v := (nI 1)) hx hb dX0_worstBut_4 (by decide) ?_
  refine n_icmp_ne (tgt := 26) hx hb dX0_worstBut_5 (by decide) (by omega) (by omega) (fun c5 => ?_) (fun c5 => ?_)
  · refine lv_ldc (v := (nI 1000000)) hx hb hown (hts _ q1283) dX0_worstBut_26 ?_
    refine lv_istore_n (lv' := [(3, .int (nI 1000000)), (0, .ref o), (1, .int (nI g)), (2, .int (nI q))]) hx hb dX0_worstBut_28 rfl hl (by decide) rfl (fun ls hl => ?_)
    refine lv_iconst (v := (nI 0)) hx hb dX0_worstBut_29 (by decide) ?_
    refine lv_istore (lv' := [(4, .int (nI 0)), (3, .int (nI 1000000)), (0, .ref o), (1, .int (nI g)), (2, .int (nI q))]) hx hb dX0_worstBut_30 hl (by decide) rfl (fun ls hl => ?_)
    have loop1 : ∀ (fu1 : Nat) (b : Nat) (y : Nat) (d : Nat) (V1 : GI) (H : Heap) (locs : List Loc) (ls : Array Slot), xN T - b < fu1 → (b ≤ xN T) → (oC d (leftG T f q) (wbF (leftG T f q) (nI g) b) = y) → (y ≤ 1000000) → ((d = 1000000 ∧ xN T ≠ 1) ∨ (xN T = 1 ∧ d = lfF T f q (rbF f (xN T)))) → (Eqx PQw V V1) → gP D dA o dS V1 L Rf H → va_S (AS o) H0 H locs → lv_has ls 5 [(4, .int (nI b)), (3, .int (nI y)), (0, .ref o), (1, .int (nI g)), (2, .int (nI q))] → W p l e (mkRm 410 9700) s m args below meth c H locs 0 0 QQ (F0 m 32 ls []) := by
      intro fu1
      induction fu1 with
      | zero => intro b y d V1 H locs ls hfu; exact absurd hfu (Nat.not_lt_zero _)
      | succ fu1 ih1 =>
        intro b y d V1 H locs ls hfu hbn hy hyF hd hE1 hG hS hl
        refine lv_iload hx hb dX0_worstBut_32 (lv_at hl 0 rfl) ?_
        refine lv_aload_n hx hb dX0_worstBut_34 rfl (lv_at hl 2 rfl) ?_
        refine c_VI hx hb hml hts hown hK hl.1 hS ⟨Nat.le_refl _, Nat.le_refl _⟩ (met_X0_beds l D dA hG (txA_S hX0 hS hOA) htx) (cw_X0_145 hts ⟨Nat.le_of_ble_eq_true rfl, Nat.le_of_ble_eq_true rfl⟩) (hG 0 _ rfl) rfl rfl rfl rfl (Nat.le_of_ble_eq_true rfl) dX0_worstBut_35 (fun _ h => h.elim) (fun r H1 locs hq hF hS => ?_)
        obtain ⟨rfl, rfl⟩ := hq
        refine n_icmp_ge (tgt := 78) hx hb dX0_worstBut_38 (by decide) (by omega) (by omega) (fun c38 => ?_) (fun c38 => ?_)
        · obtain rfl : b = xN T := by omega
          refine lv_iload_n hx hb dX0_worstBut_78 rfl (lv_at hl 1 rfl) ?_
          refine hend _ _ _ _ _ hS dX0_worstBut_79 ?_
          exact ⟨_, rfl, _, hG, hE1, (congrArg nI (wg_eq hg9 hn9 hd hy))⟩
        refine lv_iload hx hb dX0_worstBut_41 (lv_at hl 0 rfl) ?_
        refine lv_iload_n hx hb dX0_worstBut_43 rfl (lv_at hl 3 rfl) ?_
        refine n_icmp_eq (tgt := 72) hx hb dX0_worstBut_44 (by decide) (by omega) (by omega) (fun c44 => ?_) (fun c44 => ?_)
        · refine lv_iinc (v := (nI (b + 1))) (lv' := [(4, .int (nI (b + 1))), (3, .int (nI y)), (0, .ref o), (1, .int (nI g)), (2, .int (nI q))]) hx hb dX0_worstBut_72 hl (k := 0) rfl (nI_add _ _) (by decide) rfl (fun ls hl => ?_)
          refine lv_goto (tgt := 32) hx hb dX0_worstBut_75 (by decide) ?_
          exact ih1 (b + 1) y d V1 _ _ _ (by omega) (by omega) (by rw [wbF_g (by rw [c44])]; exact hy) hyF hd hE1 hG hS (lv_sub hl [0, 1, 2, 3, 4] rfl)
        refine lv_iload_n hx hb dX0_worstBut_47 rfl (lv_at hl 1 rfl) ?_
        refine lv_aload_n hx hb dX0_worstBut_48 rfl (lv_at hl 2 rfl) ?_
        refine lv_aload_n hx hb dX0_worstBut_49 rfl (lv_at hl 2 rfl) ?_
        refine g_get hx hb hts hown hK hG 0 rfl rfl ok_X0 7 (by decide) q529 rfl rfl dX0_worstBut_50 ?_
        refine g_get (v := .int (nI (rbF f (xN T)))) hx hb hts hown hK hG 15 rfl rfl ok_X5 4 (by decide) q442 rfl (congrArg Value.int ((hE1 15 4 rfl).trans hB.1.1)) dX0_worstBut_53 ?_
        refine lv_iconst (v := (nI 1)) hx hb dX0_worstBut_56 (by decide) ?_
        refine lv_iload hx hb dX0_worstBut_57 (lv_at hl 0 rfl) ?_
        refine n_ishl hx hb dX0_worstBut_59 (by omega) ?_
        refine n_ixor hx hb dX0_worstBut_60 ?_
        refine lv_iload_n hx hb dX0_worstBut_61 rfl (lv_at hl 4 rfl) ?_
        refine c_VI hx hb hml hts hown hK hl.1 hS ⟨Nat.le_refl _, Nat.le_refl _⟩ (met_X0_rowAfter l D dA hG (clS_E hC0 hS hOA hE1) hOA ((rbF f (xN T)) ^^^ (1 * 2 ^ b)) q (xr2 (rbF_lt _ _) (p2n (by omega))) (by omega)) (cw_X0_228 hts ⟨Nat.le_of_ble_eq_true rfl, Nat.le_of_ble_eq_true rfl⟩) (hG 0 _ rfl) rfl rfl rfl rfl (Nat.le_of_ble_eq_true rfl) dX0_worstBut_62 (fun _ h => h) (fun r H1 locs hq hF hS => ?_)
        obtain ⟨V2, hG, hE2, hr2⟩ := hq
        generalize hHe2 : H1 = H at hG hS ⊢
        clear hHe2 hF
        subst hr2
        have hra2 := raF_lt T f ((rbF f (xN T)) ^^^ (1 * 2 ^ b)) q
        refine c_SI hx hb hml hts hown hK hl.1 hS ⟨Nat.le_refl _, Nat.le_refl _⟩ (met_J16_bitCount l D dA (Nat.lt_of_lt_of_le (raF_lt _ _ _ _) hp2)) (cw_X0_239 hts ⟨Nat.le_of_ble_eq_true rfl, Nat.le_of_ble_eq_true rfl⟩) rfl rfl (Nat.le_of_ble_eq_true rfl) dX0_worstBut_65 (fun _ h => h.elim) (fun r H1 locs hq hF hS => ?_)
        obtain ⟨rfl, rfl⟩ := hq
        have hbc3 := bc9 (raF T f ((rbF f (xN T)) ^^^ (1 * 2 ^ b)) q)
        refine va_mmin hx hb (hml.trans hl.1.symm) hown (hts _ q1194) (hts _ q908) (hts _ q142) (hts _ q909) (Nat.le_of_ble_eq_true rfl) (Nat.le_of_ble_eq_true rfl) (Nat.le_refl _) (Nat.le_refl _) dX0_worstBut_68 ?_
        have hng : ¬ nI b = nI g := fun z => c44 (nI_inj9 (by omega) (by omega) z)
        have hdG : ∀ k, leftG T f q k ≤ d := fun k => by have h9 : leftG T f q k ≤ 9 := bc9 _; rcases hd with hd | hd; omega; omega
        have hdF : d ≤ 1000000 := by have h9 : lfF T f q (rbF f (xN T)) ≤ 9 := bc9 _; rcases hd with hd | hd; omega; omega
        refine iv (y := nI (oC d (leftG T f q) (wbF (leftG T f q) (nI g) (b + 1)))) ((mn_n (by omega) (by omega)).trans (congrArg nI (wb_s (G := leftG T f q) hdG hng hy))) ?_
        refine lv_istore_n (lv' := [(3, .int (nI (oC d (leftG T f q) (wbF (leftG T f q) (nI g) (b + 1))))), (4, .int (nI b)), (0, .ref o), (1, .int (nI g)), (2, .int (nI q))]) hx hb dX0_worstBut_71 rfl hl (by decide) rfl (fun ls hl => ?_)
        refine lv_iinc (v := (nI (b + 1))) (lv' := [(4, .int (nI (b + 1))), (3, .int (nI (oC d (leftG T f q) (wbF (leftG T f q) (nI g) (b + 1))))), (0, .ref o), (1, .int (nI g)), (2, .int (nI q))]) hx hb dX0_worstBut_72 hl (k := 1) rfl (nI_add _ _) (by decide) rfl (fun ls hl => ?_)
        refine lv_goto (tgt := 32) hx hb dX0_worstBut_75 (by decide) ?_
        exact ih1 (b + 1) (oC d (leftG T f q) (wbF (leftG T f q) (nI g) (b + 1))) d V2 _ _ _ (by omega) (by omega) rfl (Nat.le_trans (oC_le hdG) hdF) hd (Eqx.trans hE1 (hE2.mono PT26_PQw)) hG hS (lv_sub hl [0, 1, 2, 3, 4] rfl)
    exact loop1 ((xN T - 0) + 1) 0 1000000 1000000 V _ _ _ (Nat.lt_succ_self _) (Nat.zero_le _) rfl (by omega) (Or.inl ⟨rfl, c5⟩) Eqx.rf hG hS (lv_sub hl [0, 1, 2, 3, 4] rfl)
  refine lv_aload_n hx hb dX0_worstBut_8 rfl (lv_at hl 0 rfl) ?_
  refine lv_aload_n hx hb dX0_worstBut_9 rfl (lv_at hl 0 rfl) ?_
  refine g_get hx hb hts hown hK hG 0 rfl rfl ok_X0 7 (by decide) q529 rfl rfl dX0_worstBut_10 ?_
  refine g_get (v := .int (nI (rbF f (xN T)))) hx hb hts hown hK hG 15 rfl rfl ok_X5 4 (by decide) q442 rfl (congrArg Value.int hB.1.1) dX0_worstBut_13 ?_
  refine lv_iload_n hx hb dX0_worstBut_16 rfl (lv_at hl 2 rfl) ?_
  refine c_VI hx hb hml hts hown hK hl.1 hS ⟨Nat.le_refl _, Nat.le_refl _⟩ (met_X0_rowAfter l D dA hG (clS_E hC0 hS hOA Eqx.rf) hOA (rbF f (xN T)) q (rbF_lt _ _) (by omega)) (cw_X0_228 hts ⟨Nat.le_of_ble_eq_true rfl, Nat.le_of_ble_eq_true rfl⟩) (hG 0 _ rfl) rfl rfl rfl rfl (Nat.le_of_ble_eq_true rfl) dX0_worstBut_17 (fun _ h => h) (fun r H1 locs hq hF hS => ?_)
  obtain ⟨V4, hG, hE4, hr4⟩ := hq
  generalize hHe4 : H1 = H at hG hS ⊢
  clear hHe4 hF
  subst hr4
  have hra4 := raF_lt T f (rbF f (xN T)) q
  refine c_SI hx hb hml hts hown hK hl.1 hS ⟨Nat.le_refl _, Nat.le_refl _⟩ (met_J16_bitCount l D dA (Nat.lt_of_lt_of_le (raF_lt _ _ _ _) hp2)) (cw_X0_239 hts ⟨Nat.le_of_ble_eq_true rfl, Nat.le_of_ble_eq_true rfl⟩) rfl rfl (Nat.le_of_ble_eq_true rfl) dX0_worstBut_20 (fun _ h => h.elim) (fun r H1 locs hq hF hS => ?_)
  obtain ⟨rfl, rfl⟩ := hq
  have hbc5 := bc9 (raF T f (rbF f (xN T)) q)
  refine lv_goto (tgt := 28) hx hb dX0_worstBut_23 (by decide) ?_
  refine lv_istore_n (lv' := [(3, .int (nI (bc (raF T f (rbF f (xN T)) q)))), (0, .ref o), (1, .int (nI g)), (2, .int (nI q))]) hx hb dX0_worstBut_28 rfl hl (by decide) rfl (fun ls hl => ?_)
  refine lv_iconst (v := (nI 0)) hx hb dX0_worstBut_29 (by decide) ?_
  refine lv_istore (lv' := [(4, .int (nI 0)), (3, .int (nI (bc (raF T f (rbF f (xN T)) q)))), (0, .ref o), (1, .int (nI g)), (2, .int (nI q))]) hx hb dX0_worstBut_30 hl (by decide) rfl (fun ls hl => ?_)
  have loop6 : ∀ (fu6 : Nat) (b : Nat) (y : Nat) (d : Nat) (V6 : GI) (H : Heap) (locs : List Loc) (ls : Array Slot), xN T - b < fu6 → (b ≤ xN T) → (oC d (leftG T f q) (wbF (leftG T f q) (nI g) b) = y) → (y ≤ 1000000) → ((d = 1000000 ∧ xN T ≠ 1) ∨ (xN T = 1 ∧ d = lfF T f q (rbF f (xN T)))) → (Eqx PQw V4 V6) → gP D dA o dS V6 L Rf H → va_S (AS o) H0 H locs → lv_has ls 5 [(4, .int (nI b)), (3, .int (nI y)), (0, .ref o), (1, .int (nI g)), (2, .int (nI q))] → W p l e (mkRm 410 9700) s m args below meth c H locs 0 0 QQ (F0 m 32 ls []) := by
    intro fu6
    induction fu6 with
    | zero => intro b y d V6 H locs ls hfu; exact absurd hfu (Nat.not_lt_zero _)
    | succ fu6 ih6 =>
      intro b y d V6 H locs ls hfu hbn hy hyF hd hE6 hG hS hl
      refine lv_iload hx hb dX0_worstBut_32 (lv_at hl 0 rfl) ?_
      refine lv_aload_n hx hb dX0_worstBut_34 rfl (lv_at hl 2 rfl) ?_
      refine c_VI hx hb hml hts hown hK hl.1 hS ⟨Nat.le_refl _, Nat.le_refl _⟩ (met_X0_beds l D dA hG (txA_S hX0 hS hOA) htx) (cw_X0_145 hts ⟨Nat.le_of_ble_eq_true rfl, Nat.le_of_ble_eq_true rfl⟩) (hG 0 _ rfl) rfl rfl rfl rfl (Nat.le_of_ble_eq_true rfl) dX0_worstBut_35 (fun _ h => h.elim) (fun r H1 locs hq hF hS => ?_)
      obtain ⟨rfl, rfl⟩ := hq
      refine n_icmp_ge (tgt := 78) hx hb dX0_worstBut_38 (by decide) (by omega) (by omega) (fun c38 => ?_) (fun c38 => ?_)
      · obtain rfl : b = xN T := by omega
        refine lv_iload_n hx hb dX0_worstBut_78 rfl (lv_at hl 1 rfl) ?_
        refine hend _ _ _ _ _ hS dX0_worstBut_79 ?_
        exact ⟨_, rfl, _, hG, ((hE4.mono PT26_PQw).trans hE6), (congrArg nI (wg_eq hg9 hn9 hd hy))⟩
      refine lv_iload hx hb dX0_worstBut_41 (lv_at hl 0 rfl) ?_
      refine lv_iload_n hx hb dX0_worstBut_43 rfl (lv_at hl 3 rfl) ?_
      refine n_icmp_eq (tgt := 72) hx hb dX0_worstBut_44 (by decide) (by omega) (by omega) (fun c44 => ?_) (fun c44 => ?_)
      · refine lv_iinc (v := (nI (b + 1))) (lv' := [(4, .int (nI (b + 1))), (3, .int (nI y)), (0, .ref o), (1, .int (nI g)), (2, .int (nI q))]) hx hb dX0_worstBut_72 hl (k := 0) rfl (nI_add _ _) (by decide) rfl (fun ls hl => ?_)
        refine lv_goto (tgt := 32) hx hb dX0_worstBut_75 (by decide) ?_
        exact ih6 (b + 1) y d V6 _ _ _ (by omega) (by omega) (by rw [wbF_g (by rw [c44])]; exact hy) hyF hd hE6 hG hS (lv_sub hl [0, 1, 2, 3, 4] rfl)
      refine lv_iload_n hx hb dX0_worstBut_47 rfl (lv_at hl 1 rfl) ?_
      refine lv_aload_n hx hb dX0_worstBut_48 rfl (lv_at hl 2 rfl) ?_
      refine lv_aload_n hx hb dX0_worstBut_49 rfl (lv_at hl 2 rfl) ?_
      refine g_get hx hb hts hown hK hG 0 rfl rfl ok_X0 7 (by decide) q529 rfl rfl dX0_worstBut_50 ?_
      refine g_get (v := .int (nI (rbF f (xN T)))) hx hb hts hown hK hG 15 rfl rfl ok_X5 4 (by decide) q442 rfl (congrArg Value.int (((hE6 15 4 rfl).trans (hE4 15 4 rfl)).trans hB.1.1)) dX0_worstBut_53 ?_
      refine lv_iconst (v := (nI 1)) hx hb dX0_worstBut_56 (by decide) ?_
      refine lv_iload hx hb dX0_worstBut_57 (lv_at hl 0 rfl) ?_
      refine n_ishl hx hb dX0_worstBut_59 (by omega) ?_
      refine n_ixor hx hb dX0_worstBut_60 ?_
      refine lv_iload_n hx hb dX0_worstBut_61 rfl (lv_at hl 4 rfl) ?_
      refine c_VI hx hb hml hts hown hK hl.1 hS ⟨Nat.le_refl _, Nat.le_refl _⟩ (met_X0_rowAfter l D dA hG (clS_E hC0 hS hOA ((hE4.mono PT26_PQw).trans hE6)) hOA ((rbF f (xN T)) ^^^ (1 * 2 ^ b)) q (xr2 (rbF_lt _ _) (p2n (by omega))) (by omega)) (cw_X0_228 hts ⟨Nat.le_of_ble_eq_true rfl, Nat.le_of_ble_eq_true rfl⟩) (hG 0 _ rfl) rfl rfl rfl rfl (Nat.le_of_ble_eq_true rfl) dX0_worstBut_62 (fun _ h => h) (fun r H1 locs hq hF hS => ?_)
      obtain ⟨V7, hG, hE7, hr7⟩ := hq
      generalize hHe7 : H1 = H at hG hS ⊢
      clear hHe7 hF
      subst hr7
      have hra7 := raF_lt T f ((rbF f (xN T)) ^^^ (1 * 2 ^ b)) q
      refine c_SI hx hb hml hts hown hK hl.1 hS ⟨Nat.le_refl _, Nat.le_refl _⟩ (met_J16_bitCount l D dA (Nat.lt_of_lt_of_le (raF_lt _ _ _ _) hp2)) (cw_X0_239 hts ⟨Nat.le_of_ble_eq_true rfl, Nat.le_of_ble_eq_true rfl⟩) rfl rfl (Nat.le_of_ble_eq_true rfl) dX0_worstBut_65 (fun _ h => h.elim) (fun r H1 locs hq hF hS => ?_)
      obtain ⟨rfl, rfl⟩ := hq
      have hbc8 := bc9 (raF T f ((rbF f (xN T)) ^^^ (1 * 2 ^ b)) q)
      refine va_mmin hx hb (hml.trans hl.1.symm) hown (hts _ q1194) (hts _ q908) (hts _ q142) (hts _ q909) (Nat.le_of_ble_eq_true rfl) (Nat.le_of_ble_eq_true rfl) (Nat.le_refl _) (Nat.le_refl _) dX0_worstBut_68 ?_
      have hng : ¬ nI b = nI g := fun z => c44 (nI_inj9 (by omega) (by omega) z)
      have hdG : ∀ k, leftG T f q k ≤ d := fun k => by have h9 : leftG T f q k ≤ 9 := bc9 _; rcases hd with hd | hd; omega; omega
      have hdF : d ≤ 1000000 := by have h9 : lfF T f q (rbF f (xN T)) ≤ 9 := bc9 _; rcases hd with hd | hd; omega; omega
      refine iv (y := nI (oC d (leftG T f q) (wbF (leftG T f q) (nI g) (b + 1)))) ((mn_n (by omega) (by omega)).trans (congrArg nI (wb_s (G := leftG T f q) hdG hng hy))) ?_
      refine lv_istore_n (lv' := [(3, .int (nI (oC d (leftG T f q) (wbF (leftG T f q) (nI g) (b + 1))))), (4, .int (nI b)), (0, .ref o), (1, .int (nI g)), (2, .int (nI q))]) hx hb dX0_worstBut_71 rfl hl (by decide) rfl (fun ls hl => ?_)
      refine lv_iinc (v := (nI (b + 1))) (lv' := [(4, .int (nI (b + 1))), (3, .int (nI (oC d (leftG T f q) (wbF (leftG T f q) (nI g) (b + 1))))), (0, .ref o), (1, .int (nI g)), (2, .int (nI q))]) hx hb dX0_worstBut_72 hl (k := 1) rfl (nI_add _ _) (by decide) rfl (fun ls hl => ?_)
      refine lv_goto (tgt := 32) hx hb dX0_worstBut_75 (by decide) ?_
      exact ih6 (b + 1) (oC d (leftG T f q) (wbF (leftG T f q) (nI g) (b + 1))) d V7 _ _ _ (by omega) (by omega) rfl (Nat.le_trans (oC_le hdG) hdF) hd (Eqx.trans hE6 (hE7.mono PT26_PQw)) hG hS (lv_sub hl [0, 1, 2, 3, 4] rfl)
  exact loop6 ((xN T - 0) + 1) 0 (bc (raF T f (rbF f (xN T)) q)) (bc (raF T f (rbF f (xN T)) q)) V4 _ _ _ (Nat.lt_succ_self _) (Nat.zero_le _) rfl (by omega) (Or.inr ⟨c5, rfl⟩) Eqx.rf hG hS (lv_sub hl [0, 1, 2, 3, 4] rfl)
theorem cw_X0_263 {R : Room} {s : State} {args : Array Value} (hts : ∀ w ∈ lw_all, w.before args s = true) {f w k j : Nat} (hR : f + 1 ≤ R.frames ∧ 8 + (5 + 11) + w ≤ R.locals) : CallW R s args RX0 RX0 263 yX0_worstBut cX0_worstBut 5 (some .int) (ws_ yX0_worstBut cX0_worstBut 5 (some .int)) (mkRmC f w k j) k j 2 := cwV 2 hts (lw_V q1362 q1364 qs43 q108 q1365) rfl rfl rfl (by decide +kernel) hR
set_option maxHeartbeats 4000000 in
theorem met_X0_sentry (l : Launch) (D : va_G) (dA : Nat → ClassId) {o : Nat} {V : GI} {L : GL} {Rf : GR} {H0 : Heap} (hG : gP D dA o dS V L Rf H0) {O : Nat → Prop} {tx : Nat} {T : Txt} {f : Rw} (hC : clS D dA H0 O o V Rf tx T f) (hOA : ∀ z, O z → ¬ AS o z) (v1 v2 : Int32) : Ctr l D dA yX0_sentry cX0_sentry 7 (some .int) (mkRm 412 9900) [.ref o, .int v1, .int v2] H0 (AS o) (QI (fun r H1 => ∃ V1, gP D dA o dS V1 L Rf H1 ∧ Eqx PQw V V1 ∧ r = sentryA T f v1 v2)) := by
  have hC0 := hC
  obtain ⟨hX, htx, hB, hrv, hsd1, hsd2⟩ := hC
  have hX0 := hX
  have hn9 := txA_n hX
  have hp2 := two9 hn9
  have hpp := Nat.two_pow_pos (xN T)
  obtain ⟨fsx, hatx⟩ := txA_at hX
  have hotx := txA_o hX
  refine ctr_I (by decide) (Nat.le_of_ble_eq_true rfl) ?_
  intro p e s m args below meth c ls QQ locs hx hb hml hown hts hK hend hS hl
  have hl : lv_has ls 7 [(0, .ref o), (1, .int v1), (2, .int v2)] := hl
  refine lv_iload_n hx hb dX0_sentry_0 rfl (lv_at hl 1 rfl) ?_
  refine c_SI hx hb hml hts hown hK hl.1 hS ⟨Nat.le_refl _, Nat.le_refl _⟩ (met_X0_isPlan l D dA v1) (cw_X0_231 hts ⟨Nat.le_of_ble_eq_true rfl, Nat.le_of_ble_eq_true rfl⟩) rfl rfl (Nat.le_of_ble_eq_true rfl) dX0_sentry_1 (fun _ h => h.elim) (fun r H1 locs hq hF hS => ?_)
  obtain ⟨rfl, rfl⟩ := hq
  rcases (inZ_cases v1 0 24 (by decide) (by decide)).symm with ⟨hz1, ho1⟩ | ⟨x1, hlo_x1, hhi_x1, rfl, hz1⟩
  · refine iv (y := nI 0) hz1 ?_
    refine n_if_eq (tgt := 16) hx hb dX0_sentry_4 (by decide) (by decide) (fun _ => ?_) (fun z => absurd z (by decide))
    refine lv_iconst (v := (-1)) hx hb dX0_sentry_16 (by decide) ?_
    refine hend _ _ _ _ _ hS dX0_sentry_17 ?_
    exact ⟨_, rfl, _, hG, Eqx.rf, ((ho1.1 _ _)).symm⟩
  refine iv (y := nI 1) hz1 ?_
  have hl : lv_has ls 7 [(0, .ref o), (1, .int (nI x1)), (2, .int v2)] := hl
  refine n_if_eq (tgt := 16) hx hb dX0_sentry_4 (by decide) (by decide) (fun z => absurd z (by decide)) (fun _ => ?_)
  refine lv_iload_n hx hb dX0_sentry_7 rfl (lv_at hl 2 rfl) ?_
  refine lv_iconst (v := (nI 0)) hx hb dX0_sentry_8 (by decide) ?_
  refine lv_iconst (v := (nI 1)) hx hb dX0_sentry_9 (by decide) ?_
  refine c_SI hx hb hml hts hown hK hl.1 hS ⟨Nat.le_refl _, Nat.le_refl _⟩ (met_X0_isIn l D dA v2 (nI 0) (nI 1)) (cw_X0_146 hts ⟨Nat.le_of_ble_eq_true rfl, Nat.le_of_ble_eq_true rfl⟩) rfl rfl (Nat.le_of_ble_eq_true rfl) dX0_sentry_10 (fun _ h => h.elim) (fun r H1 locs hq hF hS => ?_)
  obtain ⟨rfl, rfl⟩ := hq
  rcases (inZ_cases v2 0 1 (by decide) (by decide)).symm with ⟨hz10, ho10⟩ | ⟨x2, hlo_x2, hhi_x2, rfl, hz10⟩
  · refine iv (y := nI 0) hz10 ?_
    refine n_if_ne (tgt := 18) hx hb dX0_sentry_13 (by decide) (by decide) (fun z => absurd z (by decide)) (fun _ => ?_)
    refine lv_iconst (v := (-1)) hx hb dX0_sentry_16 (by decide) ?_
    refine hend _ _ _ _ _ hS dX0_sentry_17 ?_
    exact ⟨_, rfl, _, hG, Eqx.rf, ((rng_in hlo_x1 hhi_x1 (by omega)).trans ((ho10.1 _ _))).symm⟩
  refine iv (y := nI 1) hz10 ?_
  have hl : lv_has ls 7 [(0, .ref o), (1, .int (nI x1)), (2, .int (nI x2))] := hl
  refine n_if_ne (tgt := 18) hx hb dX0_sentry_13 (by decide) (by decide) (fun _ => ?_) (fun z => absurd z (by decide))
  refine lv_bipush (v := (-2)) hx hb dX0_sentry_18 (by decide) ?_
  refine lv_istore_n (lv' := [(3, .int (-2)), (0, .ref o), (1, .int (nI x1)), (2, .int (nI x2))]) hx hb dX0_sentry_20 rfl hl (by decide) rfl (fun ls hl => ?_)
  refine lv_iconst (v := (-1)) hx hb dX0_sentry_21 (by decide) ?_
  refine lv_istore (lv' := [(4, .int (-1)), (3, .int (-2)), (0, .ref o), (1, .int (nI x1)), (2, .int (nI x2))]) hx hb dX0_sentry_22 hl (by decide) rfl (fun ls hl => ?_)
  refine lv_iconst (v := (nI 0)) hx hb dX0_sentry_24 (by decide) ?_
  refine lv_istore (lv' := [(5, .int (nI 0)), (4, .int (-1)), (3, .int (-2)), (0, .ref o), (1, .int (nI x1)), (2, .int (nI x2))]) hx hb dX0_sentry_25 hl (by decide) rfl (fun ls hl => ?_)
  have loop1 : ∀ (fu1 : Nat) (b : Nat) (op : Option (Nat × Nat)) (V1 : GI) (H : Heap) (locs : List Loc) (ls : Array Slot), xN T - b < fu1 → (b ≤ xN T) → (mxF (wgF T f x1) b = op) → (Eqx PQw V V1) → gP D dA o dS V1 L Rf H → va_S (AS o) H0 H locs → lv_has ls 7 [(5, .int (nI b)), (4, .int (oV (-1) op)), (3, .int (oI (-2) op)), (0, .ref o), (1, .int (nI x1)), (2, .int (nI x2))] → W p l e (mkRm 412 9900) s m args below meth c H locs 0 0 QQ (F0 m 27 ls []) := by
    intro fu1
    induction fu1 with
    | zero => intro b op V1 H locs ls hfu; exact absurd hfu (Nat.not_lt_zero _)
    | succ fu1 ih1 =>
      intro b op V1 H locs ls hfu hbn hp hE1 hG hS hl
      refine lv_iload hx hb dX0_sentry_27 (lv_at hl 0 rfl) ?_
      refine lv_aload_n hx hb dX0_sentry_29 rfl (lv_at hl 3 rfl) ?_
      refine c_VI hx hb hml hts hown hK hl.1 hS ⟨Nat.le_refl _, Nat.le_refl _⟩ (met_X0_beds l D dA hG (txA_S hX0 hS hOA) htx) (cw_X0_145 hts ⟨Nat.le_of_ble_eq_true rfl, Nat.le_of_ble_eq_true rfl⟩) (hG 0 _ rfl) rfl rfl rfl rfl (Nat.le_of_ble_eq_true rfl) dX0_sentry_30 (fun _ h => h.elim) (fun r H1 locs hq hF hS => ?_)
      obtain ⟨rfl, rfl⟩ := hq
      refine n_icmp_ge (tgt := 68) hx hb dX0_sentry_33 (by decide) (by omega) (by omega) (fun c33 => ?_) (fun c33 => ?_)
      · obtain rfl : b = xN T := by omega
        rcases op with _ | ⟨i, v⟩
        · have hl : lv_has ls 7 [(5, .int (nI (xN T))), (4, .int (-1)), (3, .int (-2)), (0, .ref o), (1, .int (nI x1)), (2, .int (nI x2))] := hl
          refine lv_iload_n hx hb dX0_sentry_68 rfl (lv_at hl 2 rfl) ?_
          refine lv_if_lt (tgt := 76) hx hb dX0_sentry_69 (by decide) (fun _ => ?_) (fun z => absurd (by decide) z)
          refine lv_iload_n hx hb dX0_sentry_76 rfl (lv_at hl 2 rfl) ?_
          refine lv_goto (tgt := 82) hx hb dX0_sentry_77 (by decide) ?_
          refine hend _ _ _ _ _ hS dX0_sentry_82 ?_
          exact ⟨_, rfl, _, hG, hE1, ((rng_in hlo_x1 hhi_x1 (by omega)).trans ((rng_in hlo_x2 hhi_x2 (by omega)).trans ((if_pos (mxF_0 hp))))).symm⟩
        have hl : lv_has ls 7 [(5, .int (nI (xN T))), (4, .int (nI v)), (3, .int (nI i)), (0, .ref o), (1, .int (nI x1)), (2, .int (nI x2))] := hl
        have hv9 : v ≤ 9 := (mxF_lt hp).2 ▸ wgF_le _ _ _ _
        have hi9 := (mxF_lt hp).1
        refine lv_iload_n hx hb dX0_sentry_68 rfl (lv_at hl 2 rfl) ?_
        refine n_if_lt (tgt := 76) hx hb dX0_sentry_69 (by decide) (by omega) ?_
        refine lv_iload_n hx hb dX0_sentry_72 rfl (lv_at hl 5 rfl) ?_
        refine n_if_ne (tgt := 80) hx hb dX0_sentry_73 (by decide) (by omega) (fun c73 => ?_) (fun c73 => ?_)
        · refine lv_iload hx hb dX0_sentry_80 (lv_at hl 1 rfl) ?_
          refine hend _ _ _ _ _ hS dX0_sentry_82 ?_
          exact ⟨_, rfl, _, hG, hE1, ((rng_in hlo_x1 hhi_x1 (by omega)).trans ((rng_in hlo_x2 hhi_x2 (by omega)).trans (((if_neg (by omega)).trans ((if_neg (by omega)).trans (congrArg (oV (-1)) hp)))))).symm⟩
        refine lv_iload_n hx hb dX0_sentry_76 rfl (lv_at hl 2 rfl) ?_
        refine lv_goto (tgt := 82) hx hb dX0_sentry_77 (by decide) ?_
        refine hend _ _ _ _ _ hS dX0_sentry_82 ?_
        exact ⟨_, rfl, _, hG, hE1, ((rng_in hlo_x1 hhi_x1 (by omega)).trans ((rng_in hlo_x2 hhi_x2 (by omega)).trans (((if_neg (by omega)).trans ((if_pos c73).trans (congrArg (oI 0) hp)))))).symm⟩
      rcases op with _ | ⟨i, v⟩
      · have hl : lv_has ls 7 [(5, .int (nI b)), (4, .int (-1)), (3, .int (-2)), (0, .ref o), (1, .int (nI x1)), (2, .int (nI x2))] := hl
        refine lv_aload_n hx hb dX0_sentry_36 rfl (lv_at hl 3 rfl) ?_
        refine lv_iload hx hb dX0_sentry_37 (lv_at hl 0 rfl) ?_
        refine lv_iload_n hx hb dX0_sentry_39 rfl (lv_at hl 4 rfl) ?_
        refine c_VI hx hb hml hts hown hK hl.1 hS ⟨Nat.le_refl _, Nat.le_refl _⟩ (met_X0_worstBut l D dA hG (clS_E hC0 hS hOA hE1) hOA b x1 (by omega) (by omega)) (cw_X0_263 hts ⟨Nat.le_of_ble_eq_true rfl, Nat.le_of_ble_eq_true rfl⟩) (hG 0 _ rfl) rfl rfl rfl rfl (Nat.le_of_ble_eq_true rfl) dX0_sentry_40 (fun _ h => h) (fun r H1 locs hq hF hS => ?_)
        obtain ⟨V2, hG, hE2, hr2⟩ := hq
        generalize hHe2 : H1 = H at hG hS ⊢
        clear hHe2 hF
        subst hr2
        have hwg2 := wgF_le T f x1 b
        refine lv_istore (lv' := [(6, .int (nI (wgF T f x1 b))), (5, .int (nI b)), (4, .int (-1)), (3, .int (-2)), (0, .ref o), (1, .int (nI x1)), (2, .int (nI x2))]) hx hb dX0_sentry_43 hl (by decide) rfl (fun ls hl => ?_)
        refine lv_iload hx hb dX0_sentry_45 (lv_at hl 0 rfl) ?_
        refine lv_iload hx hb dX0_sentry_47 (lv_at hl 2 rfl) ?_
        refine lv_icmp_gt (tgt := 55) hx hb dX0_sentry_49 (by decide) (fun _ => ?_) (fun z => absurd (ng_gt (by decide) (by omega)) z)
        refine lv_iload hx hb dX0_sentry_55 (lv_at hl 1 rfl) ?_
        refine lv_istore_n (lv' := [(3, .int (nI b)), (6, .int (nI (wgF T f x1 b))), (5, .int (nI b)), (4, .int (-1)), (0, .ref o), (1, .int (nI x1)), (2, .int (nI x2))]) hx hb dX0_sentry_57 rfl hl (by decide) rfl (fun ls hl => ?_)
        refine lv_iload hx hb dX0_sentry_58 (lv_at hl 1 rfl) ?_
        refine lv_istore (lv' := [(4, .int (nI (wgF T f x1 b))), (3, .int (nI b)), (6, .int (nI (wgF T f x1 b))), (5, .int (nI b)), (0, .ref o), (1, .int (nI x1)), (2, .int (nI x2))]) hx hb dX0_sentry_60 hl (by decide) rfl (fun ls hl => ?_)
        refine lv_iinc (v := (nI (b + 1))) (lv' := [(5, .int (nI (b + 1))), (4, .int (nI (wgF T f x1 b))), (3, .int (nI b)), (6, .int (nI (wgF T f x1 b))), (0, .ref o), (1, .int (nI x1)), (2, .int (nI x2))]) hx hb dX0_sentry_62 hl (k := 3) rfl (nI_add _ _) (by decide) rfl (fun ls hl => ?_)
        refine lv_goto (tgt := 27) hx hb dX0_sentry_65 (by decide) ?_
        exact ih1 (b + 1) (some (b, wgF T f x1 b)) V2 _ _ _ (by omega) (by omega) (mxF_n hp) (Eqx.trans hE1 hE2) hG hS (lv_sub hl [0, 1, 2, 4, 5, 6] rfl)
      have hl : lv_has ls 7 [(5, .int (nI b)), (4, .int (nI v)), (3, .int (nI i)), (0, .ref o), (1, .int (nI x1)), (2, .int (nI x2))] := hl
      have hv9 : v ≤ 9 := (mxF_lt hp).2 ▸ wgF_le _ _ _ _
      have hi9 := (mxF_lt hp).1
      refine lv_aload_n hx hb dX0_sentry_36 rfl (lv_at hl 3 rfl) ?_
      refine lv_iload hx hb dX0_sentry_37 (lv_at hl 0 rfl) ?_
      refine lv_iload_n hx hb dX0_sentry_39 rfl (lv_at hl 4 rfl) ?_
      refine c_VI hx hb hml hts hown hK hl.1 hS ⟨Nat.le_refl _, Nat.le_refl _⟩ (met_X0_worstBut l D dA hG (clS_E hC0 hS hOA hE1) hOA b x1 (by omega) (by omega)) (cw_X0_263 hts ⟨Nat.le_of_ble_eq_true rfl, Nat.le_of_ble_eq_true rfl⟩) (hG 0 _ rfl) rfl rfl rfl rfl (Nat.le_of_ble_eq_true rfl) dX0_sentry_40 (fun _ h => h) (fun r H1 locs hq hF hS => ?_)
      obtain ⟨V3, hG, hE3, hr3⟩ := hq
      generalize hHe3 : H1 = H at hG hS ⊢
      clear hHe3 hF
      subst hr3
      have hwg3 := wgF_le T f x1 b
      refine lv_istore (lv' := [(6, .int (nI (wgF T f x1 b))), (5, .int (nI b)), (4, .int (nI v)), (3, .int (nI i)), (0, .ref o), (1, .int (nI x1)), (2, .int (nI x2))]) hx hb dX0_sentry_43 hl (by decide) rfl (fun ls hl => ?_)
      refine lv_iload hx hb dX0_sentry_45 (lv_at hl 0 rfl) ?_
      refine lv_iload hx hb dX0_sentry_47 (lv_at hl 2 rfl) ?_
      refine n_icmp_gt (tgt := 55) hx hb dX0_sentry_49 (by decide) (by omega) (by omega) (fun c49 => ?_) (fun c49 => ?_)
      · refine lv_iload hx hb dX0_sentry_55 (lv_at hl 1 rfl) ?_
        refine lv_istore_n (lv' := [(3, .int (nI b)), (6, .int (nI (wgF T f x1 b))), (5, .int (nI b)), (4, .int (nI v)), (0, .ref o), (1, .int (nI x1)), (2, .int (nI x2))]) hx hb dX0_sentry_57 rfl hl (by decide) rfl (fun ls hl => ?_)
        refine lv_iload hx hb dX0_sentry_58 (lv_at hl 1 rfl) ?_
        refine lv_istore (lv' := [(4, .int (nI (wgF T f x1 b))), (3, .int (nI b)), (6, .int (nI (wgF T f x1 b))), (5, .int (nI b)), (0, .ref o), (1, .int (nI x1)), (2, .int (nI x2))]) hx hb dX0_sentry_60 hl (by decide) rfl (fun ls hl => ?_)
        refine lv_iinc (v := (nI (b + 1))) (lv' := [(5, .int (nI (b + 1))), (4, .int (nI (wgF T f x1 b))), (3, .int (nI b)), (6, .int (nI (wgF T f x1 b))), (0, .ref o), (1, .int (nI x1)), (2, .int (nI x2))]) hx hb dX0_sentry_62 hl (k := 3) rfl (nI_add _ _) (by decide) rfl (fun ls hl => ?_)
        refine lv_goto (tgt := 27) hx hb dX0_sentry_65 (by decide) ?_
        exact ih1 (b + 1) (some (b, wgF T f x1 b)) V3 _ _ _ (by omega) (by omega) (mxF_t hp c49) (Eqx.trans hE1 hE3) hG hS (lv_sub hl [0, 1, 2, 4, 5, 6] rfl)
      refine lv_goto (tgt := 62) hx hb dX0_sentry_52 (by decide) ?_
      refine lv_iinc (v := (nI (b + 1))) (lv' := [(5, .int (nI (b + 1))), (6, .int (nI (wgF T f x1 b))), (4, .int (nI v)), (3, .int (nI i)), (0, .ref o), (1, .int (nI x1)), (2, .int (nI x2))]) hx hb dX0_sentry_62 hl (k := 1) rfl (nI_add _ _) (by decide) rfl (fun ls hl => ?_)
      refine lv_goto (tgt := 27) hx hb dX0_sentry_65 (by decide) ?_
      exact ih1 (b + 1) (some (i, v)) V3 _ _ _ (by omega) (by omega) (mxF_f hp (by omega)) (Eqx.trans hE1 hE3) hG hS (lv_sub hl [0, 2, 3, 4, 5, 6] rfl)
  exact loop1 ((xN T - 0) + 1) 0 none V _ _ _ (Nat.lt_succ_self _) (Nat.zero_le _) rfl Eqx.rf hG hS (lv_sub hl [0, 1, 2, 3, 4, 5] rfl)
set_option maxHeartbeats 4000000 in
theorem met_X0_worst (l : Launch) (D : va_G) (dA : Nat → ClassId) {o : Nat} {V : GI} {L : GL} {Rf : GR} {H0 : Heap} (hG : gP D dA o dS V L Rf H0) {O : Nat → Prop} {tx : Nat} {T : Txt} {f : Rw} (hC : clS D dA H0 O o V Rf tx T f) (hOA : ∀ z, O z → ¬ AS o z) (v1 v2 : Int32) : Ctr l D dA yX0_worst cX0_worst 7 (some .int) (mkRm 410 9700) [.ref o, .int v1, .int v2] H0 (AS o) (QI (fun r H1 => ∃ V1, gP D dA o dS V1 L Rf H1 ∧ Eqx PQw V V1 ∧ r = worstA T f v1 v2)) := by
  have hC0 := hC
  obtain ⟨hX, htx, hB, hrv, hsd1, hsd2⟩ := hC
  have hX0 := hX
  have hn9 := txA_n hX
  have hp2 := two9 hn9
  have hpp := Nat.two_pow_pos (xN T)
  obtain ⟨fsx, hatx⟩ := txA_at hX
  have hotx := txA_o hX
  refine ctr_I (by decide) (Nat.le_of_ble_eq_true rfl) ?_
  intro p e s m args below meth c ls QQ locs hx hb hml hown hts hK hend hS hl
  have hl : lv_has ls 7 [(0, .ref o), (1, .int v1), (2, .int v2)] := hl
  refine lv_iload_n hx hb dX0_worst_0 rfl (lv_at hl 1 rfl) ?_
  refine c_SI hx hb hml hts hown hK hl.1 hS ⟨Nat.le_refl _, Nat.le_refl _⟩ (met_X0_isPlan l D dA v1) (cw_X0_231 hts ⟨Nat.le_of_ble_eq_true rfl, Nat.le_of_ble_eq_true rfl⟩) rfl rfl (Nat.le_of_ble_eq_true rfl) dX0_worst_1 (fun _ h => h.elim) (fun r H1 locs hq hF hS => ?_)
  obtain ⟨rfl, rfl⟩ := hq
  rcases (inZ_cases v1 0 24 (by decide) (by decide)).symm with ⟨hz1, ho1⟩ | ⟨x1, hlo_x1, hhi_x1, rfl, hz1⟩
  · refine iv (y := nI 0) hz1 ?_
    refine n_if_eq (tgt := 16) hx hb dX0_worst_4 (by decide) (by decide) (fun _ => ?_) (fun z => absurd z (by decide))
    refine lv_iconst (v := (-1)) hx hb dX0_worst_16 (by decide) ?_
    refine hend _ _ _ _ _ hS dX0_worst_17 ?_
    exact ⟨_, rfl, _, hG, Eqx.rf, ((ho1.1 _ _)).symm⟩
  refine iv (y := nI 1) hz1 ?_
  have hl : lv_has ls 7 [(0, .ref o), (1, .int (nI x1)), (2, .int v2)] := hl
  refine n_if_eq (tgt := 16) hx hb dX0_worst_4 (by decide) (by decide) (fun z => absurd z (by decide)) (fun _ => ?_)
  refine lv_iload_n hx hb dX0_worst_7 rfl (lv_at hl 2 rfl) ?_
  refine lv_iconst (v := (nI 0)) hx hb dX0_worst_8 (by decide) ?_
  refine lv_iconst (v := (nI 1)) hx hb dX0_worst_9 (by decide) ?_
  refine c_SI hx hb hml hts hown hK hl.1 hS ⟨Nat.le_refl _, Nat.le_refl _⟩ (met_X0_isIn l D dA v2 (nI 0) (nI 1)) (cw_X0_146 hts ⟨Nat.le_of_ble_eq_true rfl, Nat.le_of_ble_eq_true rfl⟩) rfl rfl (Nat.le_of_ble_eq_true rfl) dX0_worst_10 (fun _ h => h.elim) (fun r H1 locs hq hF hS => ?_)
  obtain ⟨rfl, rfl⟩ := hq
  rcases (inZ_cases v2 0 1 (by decide) (by decide)).symm with ⟨hz10, ho10⟩ | ⟨x2, hlo_x2, hhi_x2, rfl, hz10⟩
  · refine iv (y := nI 0) hz10 ?_
    refine n_if_ne (tgt := 18) hx hb dX0_worst_13 (by decide) (by decide) (fun z => absurd z (by decide)) (fun _ => ?_)
    refine lv_iconst (v := (-1)) hx hb dX0_worst_16 (by decide) ?_
    refine hend _ _ _ _ _ hS dX0_worst_17 ?_
    exact ⟨_, rfl, _, hG, Eqx.rf, ((rng_in hlo_x1 hhi_x1 (by omega)).trans ((ho10.1 _ _))).symm⟩
  refine iv (y := nI 1) hz10 ?_
  have hl : lv_has ls 7 [(0, .ref o), (1, .int (nI x1)), (2, .int (nI x2))] := hl
  refine n_if_ne (tgt := 18) hx hb dX0_worst_13 (by decide) (by decide) (fun _ => ?_) (fun z => absurd z (by decide))
  refine lv_bipush (v := (-2)) hx hb dX0_worst_18 (by decide) ?_
  refine lv_istore_n (lv' := [(3, .int (-2)), (0, .ref o), (1, .int (nI x1)), (2, .int (nI x2))]) hx hb dX0_worst_20 rfl hl (by decide) rfl (fun ls hl => ?_)
  refine lv_ldc (v := (nI 1000000)) hx hb hown (hts _ q1283) dX0_worst_21 ?_
  refine lv_istore (lv' := [(4, .int (nI 1000000)), (3, .int (-2)), (0, .ref o), (1, .int (nI x1)), (2, .int (nI x2))]) hx hb dX0_worst_23 hl (by decide) rfl (fun ls hl => ?_)
  refine lv_iconst (v := (nI 0)) hx hb dX0_worst_25 (by decide) ?_
  refine lv_istore (lv' := [(5, .int (nI 0)), (4, .int (nI 1000000)), (3, .int (-2)), (0, .ref o), (1, .int (nI x1)), (2, .int (nI x2))]) hx hb dX0_worst_26 hl (by decide) rfl (fun ls hl => ?_)
  have loop1 : ∀ (fu1 : Nat) (b : Nat) (op : Option Nat) (V1 : GI) (H : Heap) (locs : List Loc) (ls : Array Slot), xN T - b < fu1 → (b ≤ xN T) → (wbF (leftG T f x1) (-1) b = op) → (Eqx PQw V V1) → gP D dA o dS V1 L Rf H → va_S (AS o) H0 H locs → lv_has ls 7 [(5, .int (nI b)), (4, .int (nI (oC 1000000 (leftG T f x1) op))), (3, .int (o1 (-2) op)), (0, .ref o), (1, .int (nI x1)), (2, .int (nI x2))] → W p l e (mkRm 410 9700) s m args below meth c H locs 0 0 QQ (F0 m 28 ls []) := by
    intro fu1
    induction fu1 with
    | zero => intro b op V1 H locs ls hfu; exact absurd hfu (Nat.not_lt_zero _)
    | succ fu1 ih1 =>
      intro b op V1 H locs ls hfu hbn hp hE1 hG hS hl
      have hng : b < xN T → ¬ nI b = (-1 : Int32) := fun h => ng_ne (by decide) (by omega)
      refine lv_iload hx hb dX0_worst_28 (lv_at hl 0 rfl) ?_
      refine lv_aload_n hx hb dX0_worst_30 rfl (lv_at hl 3 rfl) ?_
      refine c_VI hx hb hml hts hown hK hl.1 hS ⟨Nat.le_refl _, Nat.le_refl _⟩ (met_X0_beds l D dA hG (txA_S hX0 hS hOA) htx) (cw_X0_145 hts ⟨Nat.le_of_ble_eq_true rfl, Nat.le_of_ble_eq_true rfl⟩) (hG 0 _ rfl) rfl rfl rfl rfl (Nat.le_of_ble_eq_true rfl) dX0_worst_31 (fun _ h => h.elim) (fun r H1 locs hq hF hS => ?_)
      obtain ⟨rfl, rfl⟩ := hq
      refine n_icmp_ge (tgt := 82) hx hb dX0_worst_34 (by decide) (by omega) (by omega) (fun c34 => ?_) (fun c34 => ?_)
      · obtain rfl : b = xN T := by omega
        rcases op with _ | i
        · have hl : lv_has ls 7 [(5, .int (nI (xN T))), (4, .int (nI 1000000)), (3, .int (-2)), (0, .ref o), (1, .int (nI x1)), (2, .int (nI x2))] := hl
          refine lv_iload_n hx hb dX0_worst_82 rfl (lv_at hl 2 rfl) ?_
          refine lv_if_lt (tgt := 90) hx hb dX0_worst_83 (by decide) (fun _ => ?_) (fun z => absurd (by decide) z)
          refine lv_iload_n hx hb dX0_worst_90 rfl (lv_at hl 2 rfl) ?_
          refine lv_goto (tgt := 96) hx hb dX0_worst_91 (by decide) ?_
          refine hend _ _ _ _ _ hS dX0_worst_96 ?_
          exact ⟨_, rfl, _, hG, hE1, ((rng_in hlo_x1 hhi_x1 (by omega)).trans ((rng_in hlo_x2 hhi_x2 (by omega)).trans ((if_pos (by rcases Nat.eq_zero_or_pos (xN T) with h | h; exact h; obtain ⟨i, hi, _⟩ := wbF_some (g := leftG T f x1) h hn9; rw [hp] at hi; cases hi))))).symm⟩
        have hl : lv_has ls 7 [(5, .int (nI (xN T))), (4, .int (nI (leftG T f x1 i))), (3, .int (nI i)), (0, .ref o), (1, .int (nI x1)), (2, .int (nI x2))] := hl
        have hin := wbF_lt hp
        have hi9 : leftG T f x1 i ≤ 9 := bc9 _
        refine lv_iload_n hx hb dX0_worst_82 rfl (lv_at hl 2 rfl) ?_
        refine n_if_lt (tgt := 90) hx hb dX0_worst_83 (by decide) (by omega) ?_
        refine lv_iload_n hx hb dX0_worst_86 rfl (lv_at hl 5 rfl) ?_
        refine n_if_ne (tgt := 94) hx hb dX0_worst_87 (by decide) (by omega) (fun c87 => ?_) (fun c87 => ?_)
        · refine lv_iload hx hb dX0_worst_94 (lv_at hl 1 rfl) ?_
          refine hend _ _ _ _ _ hS dX0_worst_96 ?_
          exact ⟨_, rfl, _, hG, hE1, ((rng_in hlo_x1 hhi_x1 (by omega)).trans ((rng_in hlo_x2 hhi_x2 (by omega)).trans (((if_neg (by omega)).trans ((if_neg (by omega)).trans (by rw [hp])))))).symm⟩
        refine lv_iload_n hx hb dX0_worst_90 rfl (lv_at hl 2 rfl) ?_
        refine lv_goto (tgt := 96) hx hb dX0_worst_91 (by decide) ?_
        refine hend _ _ _ _ _ hS dX0_worst_96 ?_
        exact ⟨_, rfl, _, hG, hE1, ((rng_in hlo_x1 hhi_x1 (by omega)).trans ((rng_in hlo_x2 hhi_x2 (by omega)).trans (((if_neg (by omega)).trans ((if_pos c87).trans (congrArg (o1 (-1)) hp)))))).symm⟩
      replace hng := hng (by omega)
      rcases op with _ | i
      · have hl : lv_has ls 7 [(5, .int (nI b)), (4, .int (nI 1000000)), (3, .int (-2)), (0, .ref o), (1, .int (nI x1)), (2, .int (nI x2))] := hl
        refine lv_aload_n hx hb dX0_worst_37 rfl (lv_at hl 3 rfl) ?_
        refine lv_aload_n hx hb dX0_worst_38 rfl (lv_at hl 3 rfl) ?_
        refine g_get hx hb hts hown hK hG 0 rfl rfl ok_X0 7 (by decide) q529 rfl rfl dX0_worst_39 ?_
        refine g_get (v := .int (nI (rbF f (xN T)))) hx hb hts hown hK hG 15 rfl rfl ok_X5 4 (by decide) q442 rfl (congrArg Value.int ((hE1 15 4 rfl).trans hB.1.1)) dX0_worst_42 ?_
        refine lv_iconst (v := (nI 1)) hx hb dX0_worst_45 (by decide) ?_
        refine lv_iload hx hb dX0_worst_46 (lv_at hl 0 rfl) ?_
        refine n_ishl hx hb dX0_worst_48 (by omega) ?_
        refine n_ixor hx hb dX0_worst_49 ?_
        refine lv_iload_n hx hb dX0_worst_50 rfl (lv_at hl 4 rfl) ?_
        refine c_VI hx hb hml hts hown hK hl.1 hS ⟨Nat.le_refl _, Nat.le_refl _⟩ (met_X0_rowAfter l D dA hG (clS_E hC0 hS hOA hE1) hOA ((rbF f (xN T)) ^^^ (1 * 2 ^ b)) x1 (xr2 (rbF_lt _ _) (p2n (by omega))) (by omega)) (cw_X0_228 hts ⟨Nat.le_of_ble_eq_true rfl, Nat.le_of_ble_eq_true rfl⟩) (hG 0 _ rfl) rfl rfl rfl rfl (Nat.le_of_ble_eq_true rfl) dX0_worst_51 (fun _ h => h) (fun r H1 locs hq hF hS => ?_)
        obtain ⟨V2, hG, hE2, hr2⟩ := hq
        generalize hHe2 : H1 = H at hG hS ⊢
        clear hHe2 hF
        subst hr2
        have hra2 := raF_lt T f ((rbF f (xN T)) ^^^ (1 * 2 ^ b)) x1
        refine c_SI hx hb hml hts hown hK hl.1 hS ⟨Nat.le_refl _, Nat.le_refl _⟩ (met_J16_bitCount l D dA (Nat.lt_of_lt_of_le (raF_lt _ _ _ _) hp2)) (cw_X0_239 hts ⟨Nat.le_of_ble_eq_true rfl, Nat.le_of_ble_eq_true rfl⟩) rfl rfl (Nat.le_of_ble_eq_true rfl) dX0_worst_54 (fun _ h => h.elim) (fun r H1 locs hq hF hS => ?_)
        obtain ⟨rfl, rfl⟩ := hq
        have hbc3 := bc9 (raF T f ((rbF f (xN T)) ^^^ (1 * 2 ^ b)) x1)
        refine lv_istore (lv' := [(6, .int (nI (bc (raF T f ((rbF f (xN T)) ^^^ (1 * 2 ^ b)) x1)))), (5, .int (nI b)), (4, .int (nI 1000000)), (3, .int (-2)), (0, .ref o), (1, .int (nI x1)), (2, .int (nI x2))]) hx hb dX0_worst_57 hl (by decide) rfl (fun ls hl => ?_)
        refine lv_iload hx hb dX0_worst_59 (lv_at hl 0 rfl) ?_
        refine lv_iload hx hb dX0_worst_61 (lv_at hl 2 rfl) ?_
        refine n_icmp_lt (tgt := 69) hx hb dX0_worst_63 (by decide) (by omega) (by omega) (fun c63 => ?_) (fun c63 => ?_)
        · refine lv_iload hx hb dX0_worst_69 (lv_at hl 1 rfl) ?_
          refine lv_istore_n (lv' := [(3, .int (nI b)), (6, .int (nI (bc (raF T f ((rbF f (xN T)) ^^^ (1 * 2 ^ b)) x1)))), (5, .int (nI b)), (4, .int (nI 1000000)), (0, .ref o), (1, .int (nI x1)), (2, .int (nI x2))]) hx hb dX0_worst_71 rfl hl (by decide) rfl (fun ls hl => ?_)
          refine lv_iload hx hb dX0_worst_72 (lv_at hl 1 rfl) ?_
          refine lv_istore (lv' := [(4, .int (nI (bc (raF T f ((rbF f (xN T)) ^^^ (1 * 2 ^ b)) x1)))), (3, .int (nI b)), (6, .int (nI (bc (raF T f ((rbF f (xN T)) ^^^ (1 * 2 ^ b)) x1)))), (5, .int (nI b)), (0, .ref o), (1, .int (nI x1)), (2, .int (nI x2))]) hx hb dX0_worst_74 hl (by decide) rfl (fun ls hl => ?_)
          refine lv_iinc (v := (nI (b + 1))) (lv' := [(5, .int (nI (b + 1))), (4, .int (nI (bc (raF T f ((rbF f (xN T)) ^^^ (1 * 2 ^ b)) x1)))), (3, .int (nI b)), (6, .int (nI (bc (raF T f ((rbF f (xN T)) ^^^ (1 * 2 ^ b)) x1)))), (0, .ref o), (1, .int (nI x1)), (2, .int (nI x2))]) hx hb dX0_worst_76 hl (k := 3) rfl (nI_add _ _) (by decide) rfl (fun ls hl => ?_)
          refine lv_goto (tgt := 28) hx hb dX0_worst_79 (by decide) ?_
          exact ih1 (b + 1) (some b) V2 _ _ _ (by omega) (by omega) (wbF_n hng hp) (Eqx.trans hE1 (hE2.mono PT26_PQw)) hG hS (lv_sub hl [0, 1, 2, 4, 5, 6] rfl)
        exact absurd c63 (by omega)
      have hl : lv_has ls 7 [(5, .int (nI b)), (4, .int (nI (leftG T f x1 i))), (3, .int (nI i)), (0, .ref o), (1, .int (nI x1)), (2, .int (nI x2))] := hl
      have hin := wbF_lt hp
      have hi9 : leftG T f x1 i ≤ 9 := bc9 _
      refine lv_aload_n hx hb dX0_worst_37 rfl (lv_at hl 3 rfl) ?_
      refine lv_aload_n hx hb dX0_worst_38 rfl (lv_at hl 3 rfl) ?_
      refine g_get hx hb hts hown hK hG 0 rfl rfl ok_X0 7 (by decide) q529 rfl rfl dX0_worst_39 ?_
      refine g_get (v := .int (nI (rbF f (xN T)))) hx hb hts hown hK hG 15 rfl rfl ok_X5 4 (by decide) q442 rfl (congrArg Value.int ((hE1 15 4 rfl).trans hB.1.1)) dX0_worst_42 ?_
      refine lv_iconst (v := (nI 1)) hx hb dX0_worst_45 (by decide) ?_
      refine lv_iload hx hb dX0_worst_46 (lv_at hl 0 rfl) ?_
      refine n_ishl hx hb dX0_worst_48 (by omega) ?_
      refine n_ixor hx hb dX0_worst_49 ?_
      refine lv_iload_n hx hb dX0_worst_50 rfl (lv_at hl 4 rfl) ?_
      refine c_VI hx hb hml hts hown hK hl.1 hS ⟨Nat.le_refl _, Nat.le_refl _⟩ (met_X0_rowAfter l D dA hG (clS_E hC0 hS hOA hE1) hOA ((rbF f (xN T)) ^^^ (1 * 2 ^ b)) x1 (xr2 (rbF_lt _ _) (p2n (by omega))) (by omega)) (cw_X0_228 hts ⟨Nat.le_of_ble_eq_true rfl, Nat.le_of_ble_eq_true rfl⟩) (hG 0 _ rfl) rfl rfl rfl rfl (Nat.le_of_ble_eq_true rfl) dX0_worst_51 (fun _ h => h) (fun r H1 locs hq hF hS => ?_)
      obtain ⟨V4, hG, hE4, hr4⟩ := hq
      generalize hHe4 : H1 = H at hG hS ⊢
      clear hHe4 hF
      subst hr4
      have hra4 := raF_lt T f ((rbF f (xN T)) ^^^ (1 * 2 ^ b)) x1
      refine c_SI hx hb hml hts hown hK hl.1 hS ⟨Nat.le_refl _, Nat.le_refl _⟩ (met_J16_bitCount l D dA (Nat.lt_of_lt_of_le (raF_lt _ _ _ _) hp2)) (cw_X0_239 hts ⟨Nat.le_of_ble_eq_true rfl, Nat.le_of_ble_eq_true rfl⟩) rfl rfl (Nat.le_of_ble_eq_true rfl) dX0_worst_54 (fun _ h => h.elim) (fun r H1 locs hq hF hS => ?_)
      obtain ⟨rfl, rfl⟩ := hq
      have hbc5 := bc9 (raF T f ((rbF f (xN T)) ^^^ (1 * 2 ^ b)) x1)
      refine lv_istore (lv' := [(6, .int (nI (bc (raF T f ((rbF f (xN T)) ^^^ (1 * 2 ^ b)) x1)))), (5, .int (nI b)), (4, .int (nI (leftG T f x1 i))), (3, .int (nI i)), (0, .ref o), (1, .int (nI x1)), (2, .int (nI x2))]) hx hb dX0_worst_57 hl (by decide) rfl (fun ls hl => ?_)
      refine lv_iload hx hb dX0_worst_59 (lv_at hl 0 rfl) ?_
      refine lv_iload hx hb dX0_worst_61 (lv_at hl 2 rfl) ?_
      refine n_icmp_lt (tgt := 69) hx hb dX0_worst_63 (by decide) (by omega) (by omega) (fun c63 => ?_) (fun c63 => ?_)
      · refine lv_iload hx hb dX0_worst_69 (lv_at hl 1 rfl) ?_
        refine lv_istore_n (lv' := [(3, .int (nI b)), (6, .int (nI (bc (raF T f ((rbF f (xN T)) ^^^ (1 * 2 ^ b)) x1)))), (5, .int (nI b)), (4, .int (nI (leftG T f x1 i))), (0, .ref o), (1, .int (nI x1)), (2, .int (nI x2))]) hx hb dX0_worst_71 rfl hl (by decide) rfl (fun ls hl => ?_)
        refine lv_iload hx hb dX0_worst_72 (lv_at hl 1 rfl) ?_
        refine lv_istore (lv' := [(4, .int (nI (bc (raF T f ((rbF f (xN T)) ^^^ (1 * 2 ^ b)) x1)))), (3, .int (nI b)), (6, .int (nI (bc (raF T f ((rbF f (xN T)) ^^^ (1 * 2 ^ b)) x1)))), (5, .int (nI b)), (0, .ref o), (1, .int (nI x1)), (2, .int (nI x2))]) hx hb dX0_worst_74 hl (by decide) rfl (fun ls hl => ?_)
        refine lv_iinc (v := (nI (b + 1))) (lv' := [(5, .int (nI (b + 1))), (4, .int (nI (bc (raF T f ((rbF f (xN T)) ^^^ (1 * 2 ^ b)) x1)))), (3, .int (nI b)), (6, .int (nI (bc (raF T f ((rbF f (xN T)) ^^^ (1 * 2 ^ b)) x1)))), (0, .ref o), (1, .int (nI x1)), (2, .int (nI x2))]) hx hb dX0_worst_76 hl (k := 3) rfl (nI_add _ _) (by decide) rfl (fun ls hl => ?_)
        refine lv_goto (tgt := 28) hx hb dX0_worst_79 (by decide) ?_
        exact ih1 (b + 1) (some b) V4 _ _ _ (by omega) (by omega) (wbF_t hng hp c63) (Eqx.trans hE1 (hE4.mono PT26_PQw)) hG hS (lv_sub hl [0, 1, 2, 4, 5, 6] rfl)
      refine lv_goto (tgt := 76) hx hb dX0_worst_66 (by decide) ?_
      refine lv_iinc (v := (nI (b + 1))) (lv' := [(5, .int (nI (b + 1))), (6, .int (nI (bc (raF T f ((rbF f (xN T)) ^^^ (1 * 2 ^ b)) x1)))), (4, .int (nI (leftG T f x1 i))), (3, .int (nI i)), (0, .ref o), (1, .int (nI x1)), (2, .int (nI x2))]) hx hb dX0_worst_76 hl (k := 1) rfl (nI_add _ _) (by decide) rfl (fun ls hl => ?_)
      refine lv_goto (tgt := 28) hx hb dX0_worst_79 (by decide) ?_
      exact ih1 (b + 1) (some i) V4 _ _ _ (by omega) (by omega) (wbF_f hng hp (by show leftG T f x1 i ≤ leftG T f x1 b; exact (by omega : leftG T f x1 i ≤ bc (raF T f (rbF f (xN T) ^^^ 1 * 2 ^ b) x1)))) (Eqx.trans hE1 (hE4.mono PT26_PQw)) hG hS (lv_sub hl [0, 2, 3, 4, 5, 6] rfl)
  exact loop1 ((xN T - 0) + 1) 0 none V _ _ _ (Nat.lt_succ_self _) (Nat.zero_le _) rfl Eqx.rf hG hS (lv_sub hl [0, 1, 2, 3, 4, 5] rfl)
set_option maxHeartbeats 4000000 in
theorem met_X0_still (l : Launch) (D : va_G) (dA : Nat → ClassId) {o : Nat} {V : GI} {L : GL} {Rf : GR} {H0 : Heap} (hG : gP D dA o dS V L Rf H0) {O : Nat → Prop} {tx : Nat} {T : Txt} {f : Rw} (hC : clS D dA H0 O o V Rf tx T f) (hOA : ∀ z, O z → ¬ AS o z) (v1 : Int32) : Ctr l D dA yX0_still cX0_still 7 (some .int) (mkRm 410 9700) [.ref o, .int v1] H0 (AS o) (QI (fun r H1 => ∃ V1, gP D dA o dS V1 L Rf H1 ∧ Eqx PQw V V1 ∧ r = stillA T f v1)) := by
  have hC0 := hC
  obtain ⟨hX, htx, hB, hrv, hsd1, hsd2⟩ := hC
  have hX0 := hX
  have hn9 := txA_n hX
  have hp2 := two9 hn9
  have hpp := Nat.two_pow_pos (xN T)
  obtain ⟨fsx, hatx⟩ := txA_at hX
  have hotx := txA_o hX
  refine ctr_I (by decide) (Nat.le_of_ble_eq_true rfl) ?_
  intro p e s m args below meth c ls QQ locs hx hb hml hown hts hK hend hS hl
  have hl : lv_has ls 7 [(0, .ref o), (1, .int v1)] := hl
  refine lv_iload_n hx hb dX0_still_0 rfl (lv_at hl 1 rfl) ?_
  refine lv_iconst (v := (nI 0)) hx hb dX0_still_1 (by decide) ?_
  refine lv_iconst (v := (nI 1)) hx hb dX0_still_2 (by decide) ?_
  refine c_SI hx hb hml hts hown hK hl.1 hS ⟨Nat.le_refl _, Nat.le_refl _⟩ (met_X0_isIn l D dA v1 (nI 0) (nI 1)) (cw_X0_146 hts ⟨Nat.le_of_ble_eq_true rfl, Nat.le_of_ble_eq_true rfl⟩) rfl rfl (Nat.le_of_ble_eq_true rfl) dX0_still_3 (fun _ h => h.elim) (fun r H1 locs hq hF hS => ?_)
  obtain ⟨rfl, rfl⟩ := hq
  rcases (inZ_cases v1 0 1 (by decide) (by decide)).symm with ⟨hz3, ho3⟩ | ⟨x1, hlo_x1, hhi_x1, rfl, hz3⟩
  · refine iv (y := nI 0) hz3 ?_
    refine n_if_ne (tgt := 11) hx hb dX0_still_6 (by decide) (by decide) (fun z => absurd z (by decide)) (fun _ => ?_)
    refine lv_iconst (v := (-1)) hx hb dX0_still_9 (by decide) ?_
    refine hend _ _ _ _ _ hS dX0_still_10 ?_
    exact ⟨_, rfl, _, hG, Eqx.rf, ((ho3.1 _ _)).symm⟩
  refine iv (y := nI 1) hz3 ?_
  have hl : lv_has ls 7 [(0, .ref o), (1, .int (nI x1))] := hl
  refine n_if_ne (tgt := 11) hx hb dX0_still_6 (by decide) (by decide) (fun _ => ?_) (fun z => absurd z (by decide))
  refine lv_iconst (v := (nI 0)) hx hb dX0_still_11 (by decide) ?_
  refine lv_istore_n (lv' := [(2, .int (nI 0)), (0, .ref o), (1, .int (nI x1))]) hx hb dX0_still_12 rfl hl (by decide) rfl (fun ls hl => ?_)
  refine lv_bipush (v := (-2)) hx hb dX0_still_13 (by decide) ?_
  refine lv_istore_n (lv' := [(3, .int (-2)), (2, .int (nI 0)), (0, .ref o), (1, .int (nI x1))]) hx hb dX0_still_15 rfl hl (by decide) rfl (fun ls hl => ?_)
  refine lv_ldc (v := (nI 1000000)) hx hb hown (hts _ q1283) dX0_still_16 ?_
  refine lv_istore (lv' := [(4, .int (nI 1000000)), (3, .int (-2)), (2, .int (nI 0)), (0, .ref o), (1, .int (nI x1))]) hx hb dX0_still_18 hl (by decide) rfl (fun ls hl => ?_)
  refine lv_iconst (v := (nI 0)) hx hb dX0_still_20 (by decide) ?_
  refine lv_istore (lv' := [(5, .int (nI 0)), (4, .int (nI 1000000)), (3, .int (-2)), (2, .int (nI 0)), (0, .ref o), (1, .int (nI x1))]) hx hb dX0_still_21 hl (by decide) rfl (fun ls hl => ?_)
  have loop1 : ∀ (fu1 : Nat) (z : Nat) (u : Nat) (op : Option Nat) (V1 : GI) (H : Heap) (locs : List Loc) (ls : Array Slot), 2 ^ xN T - z < fu1 → (z ≤ 2 ^ xN T) → (cnF (stillP T f) z = u) → (mpF (stillP T f) (stillG T f) z = op) → (Eqx PQw V V1) → gP D dA o dS V1 L Rf H → va_S (AS o) H0 H locs → lv_has ls 7 [(5, .int (nI z)), (4, .int (nI (oC 1000000 (stillG T f) op))), (3, .int (o1 (-2) op)), (2, .int (nI u)), (0, .ref o), (1, .int (nI x1))] → W p l e (mkRm 410 9700) s m args below meth c H locs 0 0 QQ (F0 m 23 ls []) := by
    intro fu1
    induction fu1 with
    | zero => intro z u op V1 H locs ls hfu; exact absurd hfu (Nat.not_lt_zero _)
    | succ fu1 ih1 =>
      intro z u op V1 H locs ls hfu hzn hm hp hE1 hG hS hl
      have hml9 := cnF_le (stillP T f) z
      refine lv_iload hx hb dX0_still_23 (lv_at hl 0 rfl) ?_
      refine lv_aload_n hx hb dX0_still_25 rfl (lv_at hl 4 rfl) ?_
      refine c_VI hx hb hml hts hown hK hl.1 hS ⟨Nat.le_refl _, Nat.le_refl _⟩ (met_X0_rows l D dA hG (txA_S hX0 hS hOA) htx) (cw_X0_154 hts ⟨Nat.le_of_ble_eq_true rfl, Nat.le_of_ble_eq_true rfl⟩) (hG 0 _ rfl) rfl rfl rfl rfl (Nat.le_of_ble_eq_true rfl) dX0_still_26 (fun _ h => h.elim) (fun r H1 locs hq hF hS => ?_)
      obtain ⟨rfl, rfl⟩ := hq
      refine n_icmp_ge (tgt := 88) hx hb dX0_still_29 (by decide) (by omega) (by omega) (fun c29 => ?_) (fun c29 => ?_)
      · obtain rfl : z = 2 ^ xN T := by omega
        refine lv_iload_n hx hb dX0_still_88 rfl (lv_at hl 5 rfl) ?_
        refine n_if_ne (tgt := 96) hx hb dX0_still_89 (by decide) (by omega) (fun c89 => ?_) (fun c89 => ?_)
        · refine lv_iload_n hx hb dX0_still_96 rfl (lv_at hl 2 rfl) ?_
          refine hend _ _ _ _ _ hS dX0_still_97 ?_
          exact ⟨_, rfl, _, hG, hE1, ((rng_in hlo_x1 hhi_x1 (by omega)).trans (((if_neg (by omega)).trans (congrArg (o1 (-2)) hp)))).symm⟩
        refine lv_iload_n hx hb dX0_still_92 rfl (lv_at hl 3 rfl) ?_
        refine lv_goto (tgt := 97) hx hb dX0_still_93 (by decide) ?_
        refine hend _ _ _ _ _ hS dX0_still_97 ?_
        exact ⟨_, rfl, _, hG, hE1, ((rng_in hlo_x1 hhi_x1 (by omega)).trans (((if_pos c89).trans (congrArg nI hm)))).symm⟩
      rcases op with _ | i
      · have hl : lv_has ls 7 [(5, .int (nI z)), (4, .int (nI 1000000)), (3, .int (-2)), (2, .int (nI u)), (0, .ref o), (1, .int (nI x1))] := hl
        refine lv_aload_n hx hb dX0_still_32 rfl (lv_at hl 4 rfl) ?_
        refine lv_iload hx hb dX0_still_33 (lv_at hl 0 rfl) ?_
        refine lv_iconst (v := (nI 1)) hx hb dX0_still_35 (by decide) ?_
        refine c_VI hx hb hml hts hown hK hl.1 hS ⟨Nat.le_refl _, Nat.le_refl _⟩ (met_X0_rowAfter l D dA hG (clS_E hC0 hS hOA hE1) hOA z 1 (by omega) (by omega)) (cw_X0_228 hts ⟨Nat.le_of_ble_eq_true rfl, Nat.le_of_ble_eq_true rfl⟩) (hG 0 _ rfl) rfl rfl rfl rfl (Nat.le_of_ble_eq_true rfl) dX0_still_36 (fun _ h => h) (fun r H1 locs hq hF hS => ?_)
        obtain ⟨V2, hG, hE2, hr2⟩ := hq
        generalize hHe2 : H1 = H at hG hS ⊢
        clear hHe2 hF
        subst hr2
        have hra2 := raF_lt T f z 1
        refine lv_iload hx hb dX0_still_39 (lv_at hl 0 rfl) ?_
        refine n_icmp_eq (tgt := 47) hx hb dX0_still_41 (by decide) (by omega) (by omega) (fun c41 => ?_) (fun c41 => ?_)
        · refine lv_iload hx hb dX0_still_47 (lv_at hl 0 rfl) ?_
          refine lv_aload_n hx hb dX0_still_49 rfl (lv_at hl 4 rfl) ?_
          refine g_get hx hb hts hown hK hG 0 rfl rfl ok_X0 7 (by decide) q529 rfl rfl dX0_still_50 ?_
          refine g_get (v := .int (nI (rbF f (xN T)))) hx hb hts hown hK hG 15 rfl rfl ok_X5 4 (by decide) q442 rfl (congrArg Value.int (((hE2 15 4 rfl).trans (hE1 15 4 rfl)).trans hB.1.1)) dX0_still_53 ?_
          refine n_ixor hx hb dX0_still_56 ?_
          refine c_SI hx hb hml hts hown hK hl.1 hS ⟨Nat.le_refl _, Nat.le_refl _⟩ (met_J16_bitCount l D dA (Nat.lt_of_lt_of_le (xr2 (by omega) (rbF_lt _ _)) hp2)) (cw_X0_239 hts ⟨Nat.le_of_ble_eq_true rfl, Nat.le_of_ble_eq_true rfl⟩) rfl rfl (Nat.le_of_ble_eq_true rfl) dX0_still_57 (fun _ h => h.elim) (fun r H1 locs hq hF hS => ?_)
          obtain ⟨rfl, rfl⟩ := hq
          have hbc3 := bc9 (z ^^^ (rbF f (xN T)))
          refine lv_istore (lv' := [(6, .int (nI (bc (z ^^^ (rbF f (xN T)))))), (5, .int (nI z)), (4, .int (nI 1000000)), (3, .int (-2)), (2, .int (nI u)), (0, .ref o), (1, .int (nI x1))]) hx hb dX0_still_60 hl (by decide) rfl (fun ls hl => ?_)
          refine lv_iinc (v := (nI (u + 1))) (lv' := [(2, .int (nI (u + 1))), (6, .int (nI (bc (z ^^^ (rbF f (xN T)))))), (5, .int (nI z)), (4, .int (nI 1000000)), (3, .int (-2)), (0, .ref o), (1, .int (nI x1))]) hx hb dX0_still_62 hl (k := 4) rfl (nI_add _ _) (by decide) rfl (fun ls hl => ?_)
          refine lv_iload hx hb dX0_still_65 (lv_at hl 1 rfl) ?_
          refine lv_iload hx hb dX0_still_67 (lv_at hl 3 rfl) ?_
          refine n_icmp_lt (tgt := 75) hx hb dX0_still_69 (by decide) (by omega) (by omega) (fun c69 => ?_) (fun c69 => ?_)
          · refine lv_iload hx hb dX0_still_75 (lv_at hl 2 rfl) ?_
            refine lv_istore_n (lv' := [(3, .int (nI z)), (2, .int (nI (u + 1))), (6, .int (nI (bc (z ^^^ (rbF f (xN T)))))), (5, .int (nI z)), (4, .int (nI 1000000)), (0, .ref o), (1, .int (nI x1))]) hx hb dX0_still_77 rfl hl (by decide) rfl (fun ls hl => ?_)
            refine lv_iload hx hb dX0_still_78 (lv_at hl 2 rfl) ?_
            refine lv_istore (lv' := [(4, .int (nI (bc (z ^^^ (rbF f (xN T)))))), (3, .int (nI z)), (2, .int (nI (u + 1))), (6, .int (nI (bc (z ^^^ (rbF f (xN T)))))), (5, .int (nI z)), (0, .ref o), (1, .int (nI x1))]) hx hb dX0_still_80 hl (by decide) rfl (fun ls hl => ?_)
            refine lv_iinc (v := (nI (z + 1))) (lv' := [(5, .int (nI (z + 1))), (4, .int (nI (bc (z ^^^ (rbF f (xN T)))))), (3, .int (nI z)), (2, .int (nI (u + 1))), (6, .int (nI (bc (z ^^^ (rbF f (xN T)))))), (0, .ref o), (1, .int (nI x1))]) hx hb dX0_still_82 hl (k := 4) rfl (nI_add _ _) (by decide) rfl (fun ls hl => ?_)
            refine lv_goto (tgt := 23) hx hb dX0_still_85 (by decide) ?_
            exact ih1 (z + 1) (u + 1) (some z) V2 _ _ _ (by omega) (by omega) ((cnF_t (decide_eq_true c41)).trans (by omega)) (mpF_n (decide_eq_true c41) hp) (Eqx.trans hE1 (hE2.mono PT26_PQw)) hG hS (lv_sub hl [0, 1, 2, 3, 5, 6] rfl)
          exact absurd c69 (by omega)
        refine lv_goto (tgt := 82) hx hb dX0_still_44 (by decide) ?_
        refine lv_iinc (v := (nI (z + 1))) (lv' := [(5, .int (nI (z + 1))), (4, .int (nI 1000000)), (3, .int (-2)), (2, .int (nI u)), (0, .ref o), (1, .int (nI x1))]) hx hb dX0_still_82 hl (k := 0) rfl (nI_add _ _) (by decide) rfl (fun ls hl => ?_)
        refine lv_goto (tgt := 23) hx hb dX0_still_85 (by decide) ?_
        exact ih1 (z + 1) u none V2 _ _ _ (by omega) (by omega) ((cnF_f (fun z => c41 (of_decide_eq_true z))).trans hm) ((mpF_o (fun z => c41 (of_decide_eq_true z))).trans hp) (Eqx.trans hE1 (hE2.mono PT26_PQw)) hG hS (lv_sub hl [0, 1, 2, 3, 4, 5] rfl)
      have hl : lv_has ls 7 [(5, .int (nI z)), (4, .int (nI (stillG T f i))), (3, .int (nI i)), (2, .int (nI u)), (0, .ref o), (1, .int (nI x1))] := hl
      have hin := mpF_lt hp
      have hi9 : stillG T f i ≤ 9 := bc9 _
      refine lv_aload_n hx hb dX0_still_32 rfl (lv_at hl 4 rfl) ?_
      refine lv_iload hx hb dX0_still_33 (lv_at hl 0 rfl) ?_
      refine lv_iconst (v := (nI 1)) hx hb dX0_still_35 (by decide) ?_
      refine c_VI hx hb hml hts hown hK hl.1 hS ⟨Nat.le_refl _, Nat.le_refl _⟩ (met_X0_rowAfter l D dA hG (clS_E hC0 hS hOA hE1) hOA z 1 (by omega) (by omega)) (cw_X0_228 hts ⟨Nat.le_of_ble_eq_true rfl, Nat.le_of_ble_eq_true rfl⟩) (hG 0 _ rfl) rfl rfl rfl rfl (Nat.le_of_ble_eq_true rfl) dX0_still_36 (fun _ h => h) (fun r H1 locs hq hF hS => ?_)
      obtain ⟨V4, hG, hE4, hr4⟩ := hq
      generalize hHe4 : H1 = H at hG hS ⊢
      clear hHe4 hF
      subst hr4
      have hra4 := raF_lt T f z 1
      refine lv_iload hx hb dX0_still_39 (lv_at hl 0 rfl) ?_
      refine n_icmp_eq (tgt := 47) hx hb dX0_still_41 (by decide) (by omega) (by omega) (fun c41 => ?_) (fun c41 => ?_)
      · refine lv_iload hx hb dX0_still_47 (lv_at hl 0 rfl) ?_
        refine lv_aload_n hx hb dX0_still_49 rfl (lv_at hl 4 rfl) ?_
        refine g_get hx hb hts hown hK hG 0 rfl rfl ok_X0 7 (by decide) q529 rfl rfl dX0_still_50 ?_
        refine g_get (v := .int (nI (rbF f (xN T)))) hx hb hts hown hK hG 15 rfl rfl ok_X5 4 (by decide) q442 rfl (congrArg Value.int (((hE4 15 4 rfl).trans (hE1 15 4 rfl)).trans hB.1.1)) dX0_still_53 ?_
        refine n_ixor hx hb dX0_still_56 ?_
        refine c_SI hx hb hml hts hown hK hl.1 hS ⟨Nat.le_refl _, Nat.le_refl _⟩ (met_J16_bitCount l D dA (Nat.lt_of_lt_of_le (xr2 (by omega) (rbF_lt _ _)) hp2)) (cw_X0_239 hts ⟨Nat.le_of_ble_eq_true rfl, Nat.le_of_ble_eq_true rfl⟩) rfl rfl (Nat.le_of_ble_eq_true rfl) dX0_still_57 (fun _ h => h.elim) (fun r H1 locs hq hF hS => ?_)
        obtain ⟨rfl, rfl⟩ := hq
        have hbc5 := bc9 (z ^^^ (rbF f (xN T)))
        refine lv_istore (lv' := [(6, .int (nI (bc (z ^^^ (rbF f (xN T)))))), (5, .int (nI z)), (4, .int (nI (stillG T f i))), (3, .int (nI i)), (2, .int (nI u)), (0, .ref o), (1, .int (nI x1))]) hx hb dX0_still_60 hl (by decide) rfl (fun ls hl => ?_)
        refine lv_iinc (v := (nI (u + 1))) (lv' := [(2, .int (nI (u + 1))), (6, .int (nI (bc (z ^^^ (rbF f (xN T)))))), (5, .int (nI z)), (4, .int (nI (stillG T f i))), (3, .int (nI i)), (0, .ref o), (1, .int (nI x1))]) hx hb dX0_still_62 hl (k := 4) rfl (nI_add _ _) (by decide) rfl (fun ls hl => ?_)
        refine lv_iload hx hb dX0_still_65 (lv_at hl 1 rfl) ?_
        refine lv_iload hx hb dX0_still_67 (lv_at hl 3 rfl) ?_
        refine n_icmp_lt (tgt := 75) hx hb dX0_still_69 (by decide) (by omega) (by omega) (fun c69 => ?_) (fun c69 => ?_)
        · refine lv_iload hx hb dX0_still_75 (lv_at hl 2 rfl) ?_
          refine lv_istore_n (lv' := [(3, .int (nI z)), (2, .int (nI (u + 1))), (6, .int (nI (bc (z ^^^ (rbF f (xN T)))))), (5, .int (nI z)), (4, .int (nI (stillG T f i))), (0, .ref o), (1, .int (nI x1))]) hx hb dX0_still_77 rfl hl (by decide) rfl (fun ls hl => ?_)
          refine lv_iload hx hb dX0_still_78 (lv_at hl 2 rfl) ?_
          refine lv_istore (lv' := [(4, .int (nI (bc (z ^^^ (rbF f (xN T)))))), (3, .int (nI z)), (2, .int (nI (u + 1))), (6, .int (nI (bc (z ^^^ (rbF f (xN T)))))), (5, .int (nI z)), (0, .ref o), (1, .int (nI x1))]) hx hb dX0_still_80 hl (by decide) rfl (fun ls hl => ?_)
          refine lv_iinc (v := (nI (z + 1))) (lv' := [(5, .int (nI (z + 1))), (4, .int (nI (bc (z ^^^ (rbF f (xN T)))))), (3, .int (nI z)), (2, .int (nI (u + 1))), (6, .int (nI (bc (z ^^^ (rbF f (xN T)))))), (0, .ref o), (1, .int (nI x1))]) hx hb dX0_still_82 hl (k := 4) rfl (nI_add _ _) (by decide) rfl (fun ls hl => ?_)
          refine lv_goto (tgt := 23) hx hb dX0_still_85 (by decide) ?_
          exact ih1 (z + 1) (u + 1) (some z) V4 _ _ _ (by omega) (by omega) ((cnF_t (decide_eq_true c41)).trans (by omega)) (mpF_t (decide_eq_true c41) hp c69) (Eqx.trans hE1 (hE4.mono PT26_PQw)) hG hS (lv_sub hl [0, 1, 2, 3, 5, 6] rfl)
        refine lv_goto (tgt := 82) hx hb dX0_still_72 (by decide) ?_
        refine lv_iinc (v := (nI (z + 1))) (lv' := [(5, .int (nI (z + 1))), (2, .int (nI (u + 1))), (6, .int (nI (bc (z ^^^ (rbF f (xN T)))))), (4, .int (nI (stillG T f i))), (3, .int (nI i)), (0, .ref o), (1, .int (nI x1))]) hx hb dX0_still_82 hl (k := 2) rfl (nI_add _ _) (by decide) rfl (fun ls hl => ?_)
        refine lv_goto (tgt := 23) hx hb dX0_still_85 (by decide) ?_
        exact ih1 (z + 1) (u + 1) (some i) V4 _ _ _ (by omega) (by omega) ((cnF_t (decide_eq_true c41)).trans (by omega)) (mpF_f (decide_eq_true c41) hp (Nat.not_lt.mp (fun h => absurd h (Nat.not_lt.mpr c69)))) (Eqx.trans hE1 (hE4.mono PT26_PQw)) hG hS (lv_sub hl [0, 3, 4, 1, 5, 6] rfl)
      refine lv_goto (tgt := 82) hx hb dX0_still_44 (by decide) ?_
      refine lv_iinc (v := (nI (z + 1))) (lv' := [(5, .int (nI (z + 1))), (4, .int (nI (stillG T f i))), (3, .int (nI i)), (2, .int (nI u)), (0, .ref o), (1, .int (nI x1))]) hx hb dX0_still_82 hl (k := 0) rfl (nI_add _ _) (by decide) rfl (fun ls hl => ?_)
      refine lv_goto (tgt := 23) hx hb dX0_still_85 (by decide) ?_
      exact ih1 (z + 1) u (some i) V4 _ _ _ (by omega) (by omega) ((cnF_f (fun z => c41 (of_decide_eq_true z))).trans hm) ((mpF_o (fun z => c41 (of_decide_eq_true z))).trans hp) (Eqx.trans hE1 (hE4.mono PT26_PQw)) hG hS (lv_sub hl [0, 1, 2, 3, 4, 5] rfl)
  exact loop1 ((2 ^ xN T - 0) + 1) 0 0 none V _ _ _ (Nat.lt_succ_self _) (Nat.zero_le _) rfl rfl Eqx.rf hG hS (lv_sub hl [0, 1, 2, 3, 4, 5] rfl)
