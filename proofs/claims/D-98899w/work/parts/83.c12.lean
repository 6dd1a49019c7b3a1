def PSt (k _ : Nat) : Bool := k == 34 || k == 35 || k == 36
theorem PSt_PQw : ∀ k j, PQw k j = false → PSt k j = false := by intro k j h; simp only [PQw, PSt, Bool.or_eq_false_iff, Bool.and_eq_false_iff, beq_eq_false_iff_ne, ne_eq] at *; omega
/-- a barrack was asked -/
theorem spl_E {P : Nat → Nat → Bool} {V W : GI} {kb : Nat} (hE : Eqx PAs (vwI V kb) W) (hP : ∀ k j, P k j = false → ¬ (k = kb + 9 ∨ k = kb + 10)) : Eqx P V (spl V kb W) := by
  intro k j h
  have h2 := hP k j h
  unfold spl
  split
  · next hk =>
    have e := hE (k - kb) j (by simp only [PAs, Bool.or_eq_false_iff, beq_eq_false_iff_ne, ne_eq]; omega)
    rw [e]
    show V (kb + (k - kb)) j = V k j
    rw [Nat.add_sub_cancel' hk.1]
  · rfl
theorem PSc_h : ∀ k j, PSc k j = false → ¬ (k = 15 + 9 ∨ k = 15 + 10) := by intro k j h; simp only [PSc, Bool.or_eq_false_iff, beq_eq_false_iff_ne, ne_eq] at h; omega
theorem PSt_h : ∀ k j, PSt k j = false → ¬ (k = 26 + 9 ∨ k = 26 + 10) := by intro k j h; simp only [PSt, Bool.or_eq_false_iff, beq_eq_false_iff_ne, ne_eq] at h; omega
theorem csF_1 {G : Nat → Nat} {x b y : Nat} (hy : csF G x b = y) (h : x / 2 ^ b % 2 = 1) : csF G x (b + 1) = y + G b := by simp only [csF]; rw [hy, if_pos h]
theorem csF_0 {G : Nat → Nat} {x b y : Nat} (hy : csF G x b = y) (h : ¬ x / 2 ^ b % 2 = 1) : csF G x (b + 1) = y + 0 := by simp only [csF]; rw [hy, if_neg h]
def oC (d : Nat) (g : Nat → Nat) : Option Nat → Nat
  | none => d
  | some i => g i
theorem tt_k {hit : Nat → Bool} {c g : Nat → Nat} {s y F : Nat} (hc : ∀ k, c k < F) (hy : oC F c (chF hit c g s) = y) (h : ¬ c s < y) : oC F c (chF hit c g (s + 1)) = y := by
  cases hm : chF hit c g s with
  | none => rw [hm] at hy; have e : F = y := hy; have := hc s; omega
  | some b =>
    rw [hm] at hy
    have e : c b = y := hy
    by_cases hd : c b < c s ∨ (c s = c b ∧ g b ≤ g s)
    · rw [chF_s hm hd]; exact hy
    · by_cases hh : hit s = true
      · rw [chF_s1 hm hd hh]; show c s = y; omega
      · rw [chF_s0 hm hh]; exact hy
theorem tt_n {hit : Nat → Bool} {c g : Nat → Nat} {s y F : Nat} (hy : oC F c (chF hit c g s) = y) (h : ¬ hit s = true) : oC F c (chF hit c g (s + 1)) = y := by
  cases hm : chF hit c g s with
  | none => rw [hm] at hy; rw [chF_n0 hm h]; exact hy
  | some b => rw [hm] at hy; rw [chF_s0 hm h]; exact hy
theorem tt_h {hit : Nat → Bool} {c g : Nat → Nat} {s y F : Nat} (hy : oC F c (chF hit c g s) = y) (hl : c s < y) (h : hit s = true) : oC F c (chF hit c g (s + 1)) = c s := by
  cases hm : chF hit c g s with
  | none => rw [chF_n1 hm h]; rfl
  | some b =>
    rw [hm] at hy
    have e : c b = y := hy
    rw [chF_s1 hm (by omega) h]; rfl
theorem oC_F {c : Nat → Nat} {o : Option Nat} {y F : Nat} (hc : ∀ k, c k < F) (hy : oC F c o = y) : y ≤ F ∧ (y = F → o = none) ∧ (y < F → ∃ b, o = some b ∧ y = c b) := by
  cases o with
  | none => have e : F = y := hy; exact ⟨by omega, fun _ => rfl, fun h => by omega⟩
  | some b => have e : c b = y := hy; have := hc b; exact ⟨by omega, fun h => by omega, fun _ => ⟨b, rfl, e.symm⟩⟩
/-- who, turned now, is enough -/
def ofI (T : Txt) (f : Rw) (q : Nat) : Int32 := if allF T f q = true then nI (xN T) else o1 (-1) (oneF T f q)
theorem fd_lt {P : Nat → Bool} : ∀ {k i : Nat}, fdF P k = some i → i < k
  | k + 1, i, h => by
    cases hm : fdF P k with
    | some j => simp only [fdF, hm] at h; cases h; have := fd_lt hm; omega
    | none =>
      by_cases hp : P k = true
      · simp only [fdF, hm, if_pos hp] at h; cases h; omega
      · simp only [fdF, hm, if_neg hp] at h; cases h
theorem ofI_cases (T : Txt) (f : Rw) (q : Nat) : (ofI T f q = nI (xN T) ∧ ∀ w, snF T f w q = some (if w = 0 then nI q else -3)) ∨ (∃ b, b < xN T ∧ ofI T f q = nI b ∧ ∀ w, snF T f w q = some (if w = 0 then nI q else nI b)) ∨ (ofI T f q = -1 ∧ ∀ w, snF T f w q = none) := by
  unfold ofI snF
  by_cases h : allF T f q = true
  · rw [if_pos h]; exact Or.inl ⟨rfl, fun w => if_pos h⟩
  · rw [if_neg h]
    cases hm : oneF T f q with
    | none => exact Or.inr (Or.inr ⟨rfl, fun w => if_neg h⟩)
    | some b => exact Or.inr (Or.inl ⟨b, fd_lt hm, rfl, fun w => if_neg h⟩)
theorem fd_none {P : Nat → Bool} : ∀ {k : Nat}, fdF P k = none → cnF P k = 0
  | 0, _ => rfl
  | k + 1, h => by
    cases hm : fdF P k with
    | some i => simp only [fdF, hm] at h; cases h
    | none =>
      by_cases hp : P k = true
      · simp only [fdF, hm, if_pos hp] at h; cases h
      · rw [cnF_f hp]; exact fd_none hm
theorem fd_sm {P : Nat → Bool} : ∀ {k i : Nat}, fdF P k = some i → 0 < cnF P k
  | k + 1, i, h => by
    cases hm : fdF P k with
    | some j => have := fd_sm hm; simp only [cnF]; omega
    | none =>
      by_cases hp : P k = true
      · rw [cnF_t hp]; omega
      · simp only [fdF, hm, if_neg hp] at h; cases h
theorem fd_s {P : Nat → Bool} {k i : Nat} (h : fdF P k = some i) : fdF P (k + 1) = some i := by simp only [fdF, h]
theorem fd_n {P : Nat → Bool} {k : Nat} (h : ¬ P k = true) : fdF P (k + 1) = fdF P k := by
  cases hm : fdF P k with
  | some i => exact fd_s hm
  | none => exact fdF_k hm (by simpa using h)
theorem cw_X0_184 {R : Room} {s : State} {args : Array Value} (hts : ∀ w ∈ lw_all, w.before args s = true) {f w k j : Nat} (hR : f + 1 ≤ R.frames ∧ 8 + (3 + 11) + w ≤ R.locals) : CallW R s args RX0 RX5 184 yX5_costs cX5_costs 3 (some .int) (ws_ yX5_costs cX5_costs 3 (some .int)) (mkRmC f w k j) k j 2 := cwV 2 hts (lw_V q1174 q1175 q1176 q119 q1177) rfl rfl rfl (by decide +kernel) hR
set_option maxHeartbeats 4000000 in
theorem met_X0_costsOf (l : Launch) (D : va_G) (dA : Nat → ClassId) {o : Nat} {V : GI} {L : GL} {Rf : GR} {H0 : Heap} (hG : gP D dA o dS V L Rf H0) {O : Nat → Prop} {tx : Nat} {T : Txt} {f : Rw} (hC : clS D dA H0 O o V Rf tx T f) (hOA : ∀ z, O z → ¬ AS o z) (x : Nat) (hx2 : x < 2 ^ xN T) : Ctr l D dA yX0_costsOf cX0_costsOf 4 (some .int) (mkRm 404 9330) [.ref o, .int (nI x)] H0 (AS o) (QI (fun r H1 => ∃ V1, gP D dA o dS V1 L Rf H1 ∧ Eqx PSc V V1 ∧ r = nI (cstF T f x))) := by
  have hC0 := hC
  obtain ⟨hX, htx, hB, hrv, hsd1, hsd2⟩ := hC
  have hX0 := hX
  have hn9 := txA_n hX
  have hp2 := two9 hn9
  have hpp := Nat.two_pow_pos (xN T)
  obtain ⟨fsx, hatx⟩ := txA_at hX
  have hotx := txA_o hX
  refine ctr_I (by decide) (Nat.le_of_ble_eq_true rfl) ?_
  intro p e s m args below meth c ls QQ locs hx hb hml hown hts hK hend hS hl
  have hl : lv_has ls 4 [(0, .ref o), (1, .int (nI x))] := hl
  refine lv_iconst (v := (nI 0)) hx hb dX0_costsOf_0 (by decide) ?_
  refine lv_istore_n (lv' := [(2, .int (nI 0)), (0, .ref o), (1, .int (nI x))]) hx hb dX0_costsOf_1 rfl hl (by decide) rfl (fun ls hl => ?_)
  refine lv_iconst (v := (nI 0)) hx hb dX0_costsOf_2 (by decide) ?_
  refine lv_istore_n (lv' := [(3, .int (nI 0)), (2, .int (nI 0)), (0, .ref o), (1, .int (nI x))]) hx hb dX0_costsOf_3 rfl hl (by decide) rfl (fun ls hl => ?_)
  have loop1 : ∀ (fu1 : Nat) (b : Nat) (y : Nat) (V1 : GI) (H : Heap) (locs : List Loc) (ls : Array Slot), xN T - b < fu1 → (b ≤ xN T) → (csF (coN T f) x b = y) → (Eqx PSc V V1) → gP D dA o dS V1 L Rf H → va_S (AS o) H0 H locs → lv_has ls 4 [(3, .int (nI b)), (2, .int (nI y)), (0, .ref o), (1, .int (nI x))] → W p l e (mkRm 404 9330) s m args below meth c H locs 0 0 QQ (F0 m 4 ls []) := by
    intro fu1
    induction fu1 with
    | zero => intro b y V1 H locs ls hfu; exact absurd hfu (Nat.not_lt_zero _)
    | succ fu1 ih1 =>
      intro b y V1 H locs ls hfu hbn hy hE1 hG hS hl
      have hy9 := csF_le (x := x) (fun b => (cos_n T f b).2) b
      refine lv_iload_n hx hb dX0_costsOf_4 rfl (lv_at hl 0 rfl) ?_
      refine lv_aload_n hx hb dX0_costsOf_5 rfl (lv_at hl 2 rfl) ?_
      refine c_VI hx hb hml hts hown hK hl.1 hS ⟨Nat.le_refl _, Nat.le_refl _⟩ (met_X0_beds l D dA hG (txA_S hX0 hS hOA) htx) (cw_X0_145 hts ⟨Nat.le_of_ble_eq_true rfl, Nat.le_of_ble_eq_true rfl⟩) (hG 0 _ rfl) rfl rfl rfl rfl (Nat.le_of_ble_eq_true rfl) dX0_costsOf_6 (fun _ h => h.elim) (fun r H1 locs hq hF hS => ?_)
      obtain ⟨rfl, rfl⟩ := hq
      refine n_icmp_ge (tgt := 46) hx hb dX0_costsOf_9 (by decide) (by omega) (by omega) (fun c9 => ?_) (fun c9 => ?_)
      · obtain rfl : b = xN T := by omega
        refine lv_iload_n hx hb dX0_costsOf_46 rfl (lv_at hl 1 rfl) ?_
        refine hend _ _ _ _ _ hS dX0_costsOf_47 ?_
        exact ⟨_, rfl, _, hG, hE1, (by unfold cstF; rw [hy])⟩
      refine lv_iload_n hx hb dX0_costsOf_12 rfl (lv_at hl 1 rfl) ?_
      refine lv_iload_n hx hb dX0_costsOf_13 rfl (lv_at hl 3 rfl) ?_
      refine lv_iload_n hx hb dX0_costsOf_14 rfl (lv_at hl 0 rfl) ?_
      refine n_ishr hx hb dX0_costsOf_15 (by omega) (by omega) ?_
      refine lv_iconst (v := (nI 1)) hx hb dX0_costsOf_16 (by decide) ?_
      refine n_and1 hx hb dX0_costsOf_17 ?_
      refine lv_iconst (v := (nI 1)) hx hb dX0_costsOf_18 (by decide) ?_
      refine n_icmp_ne (tgt := 37) hx hb dX0_costsOf_19 (by decide) (by omega) (by omega) (fun c19 => ?_) (fun c19 => ?_)
      · refine lv_iconst (v := (nI 0)) hx hb dX0_costsOf_37 (by decide) ?_
        refine n_iadd hx hb dX0_costsOf_38 ?_
        refine lv_istore_n (lv' := [(2, .int (nI (y + 0))), (3, .int (nI b)), (0, .ref o), (1, .int (nI x))]) hx hb dX0_costsOf_39 rfl hl (by decide) rfl (fun ls hl => ?_)
        refine lv_iinc (v := (nI (b + 1))) (lv' := [(3, .int (nI (b + 1))), (2, .int (nI (y + 0))), (0, .ref o), (1, .int (nI x))]) hx hb dX0_costsOf_40 hl (k := 1) rfl (nI_add _ _) (by decide) rfl (fun ls hl => ?_)
        refine lv_goto (tgt := 4) hx hb dX0_costsOf_43 (by decide) ?_
        exact ih1 (b + 1) (y + 0) V1 _ _ _ (by omega) (by omega) (csF_0 hy c19) hE1 hG hS (lv_sub hl [0, 1, 2, 3] rfl)
      refine lv_aload_n hx hb dX0_costsOf_22 rfl (lv_at hl 2 rfl) ?_
      refine g_get hx hb hts hown hK hG 0 rfl rfl ok_X0 7 (by decide) q529 rfl rfl dX0_costsOf_23 ?_
      refine lv_aload_n hx hb dX0_costsOf_26 rfl (lv_at hl 2 rfl) ?_
      refine g_get (v := .ref tx) hx hb hts hown hK hG 0 rfl rfl ok_X0 3 (by decide) q525 rfl (congrArg va_rf htx) dX0_costsOf_27 ?_
      refine lv_iload_n hx hb dX0_costsOf_30 rfl (lv_at hl 0 rfl) ?_
      refine c_VI hx hb hml hts hown hK hl.1 hS ⟨Nat.le_refl _, Nat.le_refl _⟩ (met_X5_costs l D dA (gP_view hG isB15) (txA_S hX0 hS hOA) (fun z hz hb => hOA z hz (AB_AS isB15 z hb)) hsd1 ((bkS_to (fun k j hk => ((hE1.mono PSc_PQw) : Eqx PQw V _) _ j (PQw_bk k j hk)) hB)).1 hrv (by omega)) (cw_X0_184 hts ⟨Nat.le_of_ble_eq_true rfl, Nat.le_of_ble_eq_true rfl⟩) (hG 15 _ rfl) rfl rfl rfl rfl (Nat.le_of_ble_eq_true rfl) dX0_costsOf_31 (AB_AS isB15) (fun r H1 locs hq hF hS => ?_)
      obtain ⟨rfl, W2, hGv, hEv⟩ := hq
      obtain ⟨V2, hV2⟩ : ∃ X, X = spl V1 15 W2 := ⟨_, rfl⟩
      have hGn := gP_back hG isB15 hF (fun _ h => h) hGv
      rw [← hV2] at hGn
      replace hG := hGn
      have hE2 : Eqx PSc V1 V2 := by rw [hV2]; exact spl_E hEv PSc_h
      clear hGn hGv hEv hV2
      generalize hHe2 : H1 = H at hG hS ⊢
      clear hHe2 hF
      refine iv (y := nI (coN T (f) b)) (cos_n T (f) b).1 ?_
      have hle3 := (cos_n T (f) b).2
      refine lv_goto (tgt := 38) hx hb dX0_costsOf_34 (by decide) ?_
      refine n_iadd hx hb dX0_costsOf_38 ?_
      refine lv_istore_n (lv' := [(2, .int (nI (y + (coN T (f) b)))), (3, .int (nI b)), (0, .ref o), (1, .int (nI x))]) hx hb dX0_costsOf_39 rfl hl (by decide) rfl (fun ls hl => ?_)
      refine lv_iinc (v := (nI (b + 1))) (lv' := [(3, .int (nI (b + 1))), (2, .int (nI (y + (coN T (f) b)))), (0, .ref o), (1, .int (nI x))]) hx hb dX0_costsOf_40 hl (k := 1) rfl (nI_add _ _) (by decide) rfl (fun ls hl => ?_)
      refine lv_goto (tgt := 4) hx hb dX0_costsOf_43 (by decide) ?_
      exact ih1 (b + 1) (y + (coN T (f) b)) V2 _ _ _ (by omega) (by omega) (csF_1 hy c19) (Eqx.trans hE1 hE2) hG hS (lv_sub hl [0, 1, 2, 3] rfl)
  exact loop1 ((xN T - 0) + 1) 0 0 V _ _ _ (Nat.lt_succ_self _) (Nat.zero_le _) rfl Eqx.rf hG hS (lv_sub hl [0, 1, 2, 3] rfl)
theorem cw_X0_235 {R : Room} {s : State} {args : Array Value} (hts : ∀ w ∈ lw_all, w.before args s = true) {f w k j : Nat} (hR : f + 1 ≤ R.frames ∧ 8 + (4 + 11) + w ≤ R.locals) : CallW R s args RX0 RX0 235 yX0_costsOf cX0_costsOf 4 (some .int) (ws_ yX0_costsOf cX0_costsOf 4 (some .int)) (mkRmC f w k j) k j 1 := cwV 1 hts (lw_V q1284 q1286 qs39 q108 q1287) rfl rfl rfl (by decide +kernel) hR
theorem cw_X0_239 {R : Room} {s : State} {args : Array Value} (hts : ∀ w ∈ lw_all, w.before args s = true) {f w k j : Nat} (hR : f + 1 ≤ R.frames ∧ 8 + (1 + 11) + w ≤ R.locals) : CallB R s args RX0 239 yJ16_bitCount cJ16_bitCount 1 (some .int) (ws_ yJ16_bitCount cJ16_bitCount 1 (some .int)) (mkRmC f w k j) k j 1 ∧ (Cond.static yJ16_bitCount).before args s = true := va_cwS 1 hts (lw_S q1288 q1289 q145 q1290) rfl rfl rfl (by decide +kernel) hR
set_option maxHeartbeats 4000000 in
theorem met_X0_turned (l : Launch) (D : va_G) (dA : Nat → ClassId) {o : Nat} {V : GI} {L : GL} {Rf : GR} {H0 : Heap} (hG : gP D dA o dS V L Rf H0) {O : Nat → Prop} {tx : Nat} {T : Txt} {f : Rw} (hC : clS D dA H0 O o V Rf tx T f) (hOA : ∀ z, O z → ¬ AS o z) (v1 v2 : Int32) : Ctr l D dA yX0_turned cX0_turned 7 (some .int) (mkRm 410 9700) [.ref o, .int v1, .int v2] H0 (AS o) (QI (fun r H1 => ∃ V1, gP D dA o dS V1 L Rf H1 ∧ Eqx PQw V V1 ∧ r = turnedA T f v1 v2)) := by
  have hC0 := hC
  obtain ⟨hX, htx, hB, hrv, hsd1, hsd2⟩ := hC
  have hX0 := hX
  have hn9 := txA_n hX
  have hp2 := two9 hn9
  have hpp := Nat.two_pow_pos (xN T)
  obtain ⟨fsx, hatx⟩ := txA_at hX
  have hotx := txA_o hX
  refine ctr_I (by decide) (Nat.le_of_ble_eq_true rfl) ?_
  intro p e s m args below meth c ls QQ locs hx hb hml hown hts hK hend hS hl
  have hl : lv_has ls 7 [(0, .ref o), (1, .int v1), (2, .int v2)] := hl
  refine lv_iload_n hx hb dX0_turned_0 rfl (lv_at hl 1 rfl) ?_
  refine c_SI hx hb hml hts hown hK hl.1 hS ⟨Nat.le_refl _, Nat.le_refl _⟩ (met_X0_isPlan l D dA v1) (cw_X0_231 hts ⟨Nat.le_of_ble_eq_true rfl, Nat.le_of_ble_eq_true rfl⟩) rfl rfl (Nat.le_of_ble_eq_true rfl) dX0_turned_1 (fun _ h => h.elim) (fun r H1 locs hq hF hS => ?_)
  obtain ⟨rfl, rfl⟩ := hq
  rcases (inZ_cases v1 0 24 (by decide) (by decide)).symm with ⟨hz1, ho1⟩ | ⟨x1, hlo_x1, hhi_x1, rfl, hz1⟩
  · refine iv (y := nI 0) hz1 ?_
    refine n_if_eq (tgt := 16) hx hb dX0_turned_4 (by decide) (by decide) (fun _ => ?_) (fun z => absurd z (by decide))
    refine lv_iconst (v := (-1)) hx hb dX0_turned_16 (by decide) ?_
    refine hend _ _ _ _ _ hS dX0_turned_17 ?_
    exact ⟨_, rfl, _, hG, Eqx.rf, ((ho1.1 _ _)).symm⟩
  refine iv (y := nI 1) hz1 ?_
  have hl : lv_has ls 7 [(0, .ref o), (1, .int (nI x1)), (2, .int v2)] := hl
  refine n_if_eq (tgt := 16) hx hb dX0_turned_4 (by decide) (by decide) (fun z => absurd z (by decide)) (fun _ => ?_)
  refine lv_iload_n hx hb dX0_turned_7 rfl (lv_at hl 2 rfl) ?_
  refine lv_iconst (v := (nI 0)) hx hb dX0_turned_8 (by decide) ?_
  refine lv_iconst (v := (nI 1)) hx hb dX0_turned_9 (by decide) ?_
  refine c_SI hx hb hml hts hown hK hl.1 hS ⟨Nat.le_refl _, Nat.le_refl _⟩ (met_X0_isIn l D dA v2 (nI 0) (nI 1)) (cw_X0_146 hts ⟨Nat.le_of_ble_eq_true rfl, Nat.le_of_ble_eq_true rfl⟩) rfl rfl (Nat.le_of_ble_eq_true rfl) dX0_turned_10 (fun _ h => h.elim) (fun r H1 locs hq hF hS => ?_)
  obtain ⟨rfl, rfl⟩ := hq
  rcases (inZ_cases v2 0 1 (by decide) (by decide)).symm with ⟨hz10, ho10⟩ | ⟨x2, hlo_x2, hhi_x2, rfl, hz10⟩
  · refine iv (y := nI 0) hz10 ?_
    refine n_if_ne (tgt := 18) hx hb dX0_turned_13 (by decide) (by decide) (fun z => absurd z (by decide)) (fun _ => ?_)
    refine lv_iconst (v := (-1)) hx hb dX0_turned_16 (by decide) ?_
    refine hend _ _ _ _ _ hS dX0_turned_17 ?_
    exact ⟨_, rfl, _, hG, Eqx.rf, ((rng_in hlo_x1 hhi_x1 (by omega)).trans ((ho10.1 _ _))).symm⟩
  refine iv (y := nI 1) hz10 ?_
  have hl : lv_has ls 7 [(0, .ref o), (1, .int (nI x1)), (2, .int (nI x2))] := hl
  refine n_if_ne (tgt := 18) hx hb dX0_turned_13 (by decide) (by decide) (fun _ => ?_) (fun z => absurd z (by decide))
  refine lv_iconst (v := (-1)) hx hb dX0_turned_18 (by decide) ?_
  refine lv_istore_n (lv' := [(3, .int (-1)), (0, .ref o), (1, .int (nI x1)), (2, .int (nI x2))]) hx hb dX0_turned_19 rfl hl (by decide) rfl (fun ls hl => ?_)
  refine lv_ldc (v := (nI 1000000)) hx hb hown (hts _ q1283) dX0_turned_20 ?_
  refine lv_istore (lv' := [(4, .int (nI 1000000)), (3, .int (-1)), (0, .ref o), (1, .int (nI x1)), (2, .int (nI x2))]) hx hb dX0_turned_22 hl (by decide) rfl (fun ls hl => ?_)
  refine lv_iconst (v := (nI 0)) hx hb dX0_turned_24 (by decide) ?_
  refine lv_istore (lv' := [(5, .int (nI 0)), (4, .int (nI 1000000)), (3, .int (-1)), (0, .ref o), (1, .int (nI x1)), (2, .int (nI x2))]) hx hb dX0_turned_25 hl (by decide) rfl (fun ls hl => ?_)
  have loop1 : ∀ (fu1 : Nat) (z : Nat) (op : Option Nat) (V1 : GI) (H : Heap) (locs : List Loc) (ls : Array Slot), 2 ^ xN T - z < fu1 → (z ≤ 2 ^ xN T) → (chF (hitF T f (2 ^ xN T - 1) x1) (cstF T f) bc z = op) → (Eqx PQw V V1) → gP D dA o dS V1 L Rf H → va_S (AS o) H0 H locs → lv_has ls 7 [(5, .int (nI z)), (4, .int (nI (oC 1000000 (cstF T f) op))), (3, .int (o1 (-1) op)), (0, .ref o), (1, .int (nI x1)), (2, .int (nI x2))] → W p l e (mkRm 410 9700) s m args below meth c H locs 0 0 QQ (F0 m 27 ls []) := by
    intro fu1
    induction fu1 with
    | zero => intro z op V1 H locs ls hfu; exact absurd hfu (Nat.not_lt_zero _)
    | succ fu1 ih1 =>
      intro z op V1 H locs ls hfu hsn hp hE1 hG hS hl
      refine lv_iload hx hb dX0_turned_27 (lv_at hl 0 rfl) ?_
      refine lv_aload_n hx hb dX0_turned_29 rfl (lv_at hl 3 rfl) ?_
      refine c_VI hx hb hml hts hown hK hl.1 hS ⟨Nat.le_refl _, Nat.le_refl _⟩ (met_X0_rows l D dA hG (txA_S hX0 hS hOA) htx) (cw_X0_154 hts ⟨Nat.le_of_ble_eq_true rfl, Nat.le_of_ble_eq_true rfl⟩) (hG 0 _ rfl) rfl rfl rfl rfl (Nat.le_of_ble_eq_true rfl) dX0_turned_30 (fun _ h => h.elim) (fun r H1 locs hq hF hS => ?_)
      obtain ⟨rfl, rfl⟩ := hq
      refine n_icmp_ge (tgt := 110) hx hb dX0_turned_33 (by decide) (by omega) (by omega) (fun c33 => ?_) (fun c33 => ?_)
      · obtain rfl : z = 2 ^ xN T := by omega
        rcases op with _ | i
        · have hl : lv_has ls 7 [(5, .int (nI (2 ^ xN T))), (4, .int (nI 1000000)), (3, .int (-1)), (0, .ref o), (1, .int (nI x1)), (2, .int (nI x2))] := hl
          refine lv_iload_n hx hb dX0_turned_110 rfl (lv_at hl 2 rfl) ?_
          refine lv_if_ge (tgt := 119) hx hb dX0_turned_111 (by decide) (fun z => absurd z (by decide)) (fun _ => ?_)
          refine lv_bipush (v := (-2)) hx hb dX0_turned_114 (by decide) ?_
          refine lv_goto (tgt := 129) hx hb dX0_turned_116 (by decide) ?_
          refine hend _ _ _ _ _ hS dX0_turned_129 ?_
          exact ⟨_, rfl, _, hG, hE1, ((rng_in hlo_x1 hhi_x1 (by omega)).trans ((rng_in hlo_x2 hhi_x2 (by omega)).trans ((by have hpp : chpF T f (2 ^ xN T - 1) x1 = none := hp; simp only [hpp])))).symm⟩
        have hl : lv_has ls 7 [(5, .int (nI (2 ^ xN T))), (4, .int (nI (cstF T f i))), (3, .int (nI i)), (0, .ref o), (1, .int (nI x1)), (2, .int (nI x2))] := hl
        have hin := chF_lt hp
        have hci := cstF_le (t := T) (f := f) (x := i) hn9
        refine lv_iload_n hx hb dX0_turned_110 rfl (lv_at hl 2 rfl) ?_
        refine n_if_ge (tgt := 119) hx hb dX0_turned_111 (by decide) (by omega) ?_
        refine lv_iload_n hx hb dX0_turned_119 rfl (lv_at hl 5 rfl) ?_
        refine n_if_ne (tgt := 128) hx hb dX0_turned_120 (by decide) (by omega) (fun c120 => ?_) (fun c120 => ?_)
        · refine lv_iload_n hx hb dX0_turned_128 rfl (lv_at hl 2 rfl) ?_
          refine hend _ _ _ _ _ hS dX0_turned_129 ?_
          exact ⟨_, rfl, _, hG, hE1, ((rng_in hlo_x1 hhi_x1 (by omega)).trans ((rng_in hlo_x2 hhi_x2 (by omega)).trans ((by have hpp : chpF T f (2 ^ xN T - 1) x1 = some i := hp; simp only [hpp]; exact if_pos (by omega))))).symm⟩
        refine lv_iload hx hb dX0_turned_123 (lv_at hl 1 rfl) ?_
        refine lv_goto (tgt := 129) hx hb dX0_turned_125 (by decide) ?_
        refine hend _ _ _ _ _ hS dX0_turned_129 ?_
        exact ⟨_, rfl, _, hG, hE1, ((rng_in hlo_x1 hhi_x1 (by omega)).trans ((rng_in hlo_x2 hhi_x2 (by omega)).trans ((by have hpp : chpF T f (2 ^ xN T - 1) x1 = some i := hp; simp only [hpp]; exact if_neg (by omega))))).symm⟩
      rcases op with _ | i
      · have hl : lv_has ls 7 [(5, .int (nI z)), (4, .int (nI 1000000)), (3, .int (-1)), (0, .ref o), (1, .int (nI x1)), (2, .int (nI x2))] := hl
        refine lv_aload_n hx hb dX0_turned_36 rfl (lv_at hl 3 rfl) ?_
        refine lv_iload hx hb dX0_turned_37 (lv_at hl 0 rfl) ?_
        refine c_VI hx hb hml hts hown hK hl.1 hS ⟨Nat.le_refl _, Nat.le_refl _⟩ (met_X0_costsOf l D dA hG (clS_E hC0 hS hOA hE1) hOA z (by omega)) (cw_X0_235 hts ⟨Nat.le_of_ble_eq_true rfl, Nat.le_of_ble_eq_true rfl⟩) (hG 0 _ rfl) rfl rfl rfl rfl (Nat.le_of_ble_eq_true rfl) dX0_turned_39 (fun _ h => h) (fun r H1 locs hq hF hS => ?_)
        obtain ⟨V2, hG, hE2, hr2⟩ := hq
        generalize hHe2 : H1 = H at hG hS ⊢
        clear hHe2 hF
        subst hr2
        have hcs2 := cstF_le (t := T) (f := f) (x := z) hn9
        refine lv_istore (lv' := [(6, .int (nI (cstF T f z))), (5, .int (nI z)), (4, .int (nI 1000000)), (3, .int (-1)), (0, .ref o), (1, .int (nI x1)), (2, .int (nI x2))]) hx hb dX0_turned_42 hl (by decide) rfl (fun ls hl => ?_)
        refine lv_iload hx hb dX0_turned_44 (lv_at hl 0 rfl) ?_
        refine lv_iload hx hb dX0_turned_46 (lv_at hl 2 rfl) ?_
        refine n_icmp_gt (tgt := 104) hx hb dX0_turned_48 (by decide) (by omega) (by omega) (fun c48 => ?_) (fun c48 => ?_)
        · exact absurd c48 (by omega)
        refine lv_iload hx hb dX0_turned_51 (lv_at hl 0 rfl) ?_
        refine lv_iload hx hb dX0_turned_53 (lv_at hl 2 rfl) ?_
        refine n_icmp_ne (tgt := 70) hx hb dX0_turned_55 (by decide) (by omega) (by omega) (fun c55 => ?_) (fun c55 => ?_)
        · refine lv_aload_n hx hb dX0_turned_70 rfl (lv_at hl 4 rfl) ?_
          refine lv_aload_n hx hb dX0_turned_71 rfl (lv_at hl 4 rfl) ?_
          refine g_get hx hb hts hown hK hG 0 rfl rfl ok_X0 7 (by decide) q529 rfl rfl dX0_turned_72 ?_
          refine g_get (v := .int (nI (rbF f (xN T)))) hx hb hts hown hK hG 15 rfl rfl ok_X5 4 (by decide) q442 rfl (congrArg Value.int (((hE2 15 4 rfl).trans (hE1 15 4 rfl)).trans hB.1.1)) dX0_turned_75 ?_
          refine lv_iload hx hb dX0_turned_78 (lv_at hl 1 rfl) ?_
          refine n_ixor hx hb dX0_turned_80 ?_
          refine lv_iload_n hx hb dX0_turned_81 rfl (lv_at hl 5 rfl) ?_
          refine c_VI hx hb hml hts hown hK hl.1 hS ⟨Nat.le_refl _, Nat.le_refl _⟩ (met_X0_rowAfter l D dA hG (clS_E hC0 hS hOA (hE1.trans (hE2.mono PSc_PQw))) hOA ((rbF f (xN T)) ^^^ z) x1 (xr2 (rbF_lt _ _) (by omega)) (by omega)) (cw_X0_228 hts ⟨Nat.le_of_ble_eq_true rfl, Nat.le_of_ble_eq_true rfl⟩) (hG 0 _ rfl) rfl rfl rfl rfl (Nat.le_of_ble_eq_true rfl) dX0_turned_82 (fun _ h => h) (fun r H1 locs hq hF hS => ?_)
          obtain ⟨V3, hG, hE3, hr3⟩ := hq
          generalize hHe3 : H1 = H at hG hS ⊢
          clear hHe3 hF
          subst hr3
          have hra3 := raF_lt T f ((rbF f (xN T)) ^^^ z) x1
          refine lv_aload_n hx hb dX0_turned_85 rfl (lv_at hl 4 rfl) ?_
          refine c_VI hx hb hml hts hown hK hl.1 hS ⟨Nat.le_refl _, Nat.le_refl _⟩ (met_X0_rows l D dA hG (txA_S hX0 hS hOA) htx) (cw_X0_154 hts ⟨Nat.le_of_ble_eq_true rfl, Nat.le_of_ble_eq_true rfl⟩) (hG 0 _ rfl) rfl rfl rfl rfl (Nat.le_of_ble_eq_true rfl) dX0_turned_86 (fun _ h => h.elim) (fun r H1 locs hq hF hS => ?_)
          obtain ⟨rfl, rfl⟩ := hq
          refine lv_iconst (v := (nI 1)) hx hb dX0_turned_89 (by decide) ?_
          refine n_isub hx hb dX0_turned_90 (by omega) ?_
          refine n_icmp_eq (tgt := 97) hx hb dX0_turned_91 (by decide) (by omega) (by omega) (fun c91 => ?_) (fun c91 => ?_)
          · refine lv_iload hx hb dX0_turned_97 (lv_at hl 1 rfl) ?_
            refine lv_istore_n (lv' := [(3, .int (nI z)), (6, .int (nI (cstF T f z))), (5, .int (nI z)), (4, .int (nI 1000000)), (0, .ref o), (1, .int (nI x1)), (2, .int (nI x2))]) hx hb dX0_turned_99 rfl hl (by decide) rfl (fun ls hl => ?_)
            refine lv_iload hx hb dX0_turned_100 (lv_at hl 1 rfl) ?_
            refine lv_istore (lv' := [(4, .int (nI (cstF T f z))), (3, .int (nI z)), (6, .int (nI (cstF T f z))), (5, .int (nI z)), (0, .ref o), (1, .int (nI x1)), (2, .int (nI x2))]) hx hb dX0_turned_102 hl (by decide) rfl (fun ls hl => ?_)
            refine lv_iinc (v := (nI (z + 1))) (lv' := [(5, .int (nI (z + 1))), (4, .int (nI (cstF T f z))), (3, .int (nI z)), (6, .int (nI (cstF T f z))), (0, .ref o), (1, .int (nI x1)), (2, .int (nI x2))]) hx hb dX0_turned_104 hl (k := 3) rfl (nI_add _ _) (by decide) rfl (fun ls hl => ?_)
            refine lv_goto (tgt := 27) hx hb dX0_turned_107 (by decide) ?_
            exact ih1 (z + 1) (some z) V3 _ _ _ (by omega) (by omega) (chF_n1 hp (decide_eq_true c91)) (Eqx.trans (Eqx.trans hE1 (hE2.mono PSc_PQw)) (hE3.mono PT26_PQw)) hG hS (lv_sub hl [0, 1, 2, 4, 5, 6] rfl)
          refine lv_goto (tgt := 104) hx hb dX0_turned_94 (by decide) ?_
          refine lv_iinc (v := (nI (z + 1))) (lv' := [(5, .int (nI (z + 1))), (6, .int (nI (cstF T f z))), (4, .int (nI 1000000)), (3, .int (-1)), (0, .ref o), (1, .int (nI x1)), (2, .int (nI x2))]) hx hb dX0_turned_104 hl (k := 1) rfl (nI_add _ _) (by decide) rfl (fun ls hl => ?_)
          refine lv_goto (tgt := 27) hx hb dX0_turned_107 (by decide) ?_
          exact ih1 (z + 1) none V3 _ _ _ (by omega) (by omega) (chF_n0 hp (fun z => c91 (of_decide_eq_true z))) (Eqx.trans (Eqx.trans hE1 (hE2.mono PSc_PQw)) (hE3.mono PT26_PQw)) hG hS (lv_sub hl [0, 2, 3, 4, 5, 6] rfl)
        exact absurd c55 (by omega)
      have hl : lv_has ls 7 [(5, .int (nI z)), (4, .int (nI (cstF T f i))), (3, .int (nI i)), (0, .ref o), (1, .int (nI x1)), (2, .int (nI x2))] := hl
      have hin := chF_lt hp
      have hci := cstF_le (t := T) (f := f) (x := i) hn9
      refine lv_aload_n hx hb dX0_turned_36 rfl (lv_at hl 3 rfl) ?_
      refine lv_iload hx hb dX0_turned_37 (lv_at hl 0 rfl) ?_
      refine c_VI hx hb hml hts hown hK hl.1 hS ⟨Nat.le_refl _, Nat.le_refl _⟩ (met_X0_costsOf l D dA hG (clS_E hC0 hS hOA hE1) hOA z (by omega)) (cw_X0_235 hts ⟨Nat.le_of_ble_eq_true rfl, Nat.le_of_ble_eq_true rfl⟩) (hG 0 _ rfl) rfl rfl rfl rfl (Nat.le_of_ble_eq_true rfl) dX0_turned_39 (fun _ h => h) (fun r H1 locs hq hF hS => ?_)
      obtain ⟨V4, hG, hE4, hr4⟩ := hq
      generalize hHe4 : H1 = H at hG hS ⊢
      clear hHe4 hF
      subst hr4
      have hcs4 := cstF_le (t := T) (f := f) (x := z) hn9
      refine lv_istore (lv' := [(6, .int (nI (cstF T f z))), (5, .int (nI z)), (4, .int (nI (cstF T f i))), (3, .int (nI i)), (0, .ref o), (1, .int (nI x1)), (2, .int (nI x2))]) hx hb dX0_turned_42 hl (by decide) rfl (fun ls hl => ?_)
      refine lv_iload hx hb dX0_turned_44 (lv_at hl 0 rfl) ?_
      refine lv_iload hx hb dX0_turned_46 (lv_at hl 2 rfl) ?_
      refine n_icmp_gt (tgt := 104) hx hb dX0_turned_48 (by decide) (by omega) (by omega) (fun c48 => ?_) (fun c48 => ?_)
      · refine lv_iinc (v := (nI (z + 1))) (lv' := [(5, .int (nI (z + 1))), (6, .int (nI (cstF T f z))), (4, .int (nI (cstF T f i))), (3, .int (nI i)), (0, .ref o), (1, .int (nI x1)), (2, .int (nI x2))]) hx hb dX0_turned_104 hl (k := 1) rfl (nI_add _ _) (by decide) rfl (fun ls hl => ?_)
        refine lv_goto (tgt := 27) hx hb dX0_turned_107 (by decide) ?_
        exact ih1 (z + 1) (some i) V4 _ _ _ (by omega) (by omega) (chF_s hp (by omega)) (Eqx.trans hE1 (hE4.mono PSc_PQw)) hG hS (lv_sub hl [0, 2, 3, 4, 5, 6] rfl)
      refine lv_iload hx hb dX0_turned_51 (lv_at hl 0 rfl) ?_
      refine lv_iload hx hb dX0_turned_53 (lv_at hl 2 rfl) ?_
      refine n_icmp_ne (tgt := 70) hx hb dX0_turned_55 (by decide) (by omega) (by omega) (fun c55 => ?_) (fun c55 => ?_)
      · refine lv_aload_n hx hb dX0_turned_70 rfl (lv_at hl 4 rfl) ?_
        refine lv_aload_n hx hb dX0_turned_71 rfl (lv_at hl 4 rfl) ?_
        refine g_get hx hb hts hown hK hG 0 rfl rfl ok_X0 7 (by decide) q529 rfl rfl dX0_turned_72 ?_
        refine g_get (v := .int (nI (rbF f (xN T)))) hx hb hts hown hK hG 15 rfl rfl ok_X5 4 (by decide) q442 rfl (congrArg Value.int (((hE4 15 4 rfl).trans (hE1 15 4 rfl)).trans hB.1.1)) dX0_turned_75 ?_
        refine lv_iload hx hb dX0_turned_78 (lv_at hl 1 rfl) ?_
        refine n_ixor hx hb dX0_turned_80 ?_
        refine lv_iload_n hx hb dX0_turned_81 rfl (lv_at hl 5 rfl) ?_
        refine c_VI hx hb hml hts hown hK hl.1 hS ⟨Nat.le_refl _, Nat.le_refl _⟩ (met_X0_rowAfter l D dA hG (clS_E hC0 hS hOA (hE1.trans (hE4.mono PSc_PQw))) hOA ((rbF f (xN T)) ^^^ z) x1 (xr2 (rbF_lt _ _) (by omega)) (by omega)) (cw_X0_228 hts ⟨Nat.le_of_ble_eq_true rfl, Nat.le_of_ble_eq_true rfl⟩) (hG 0 _ rfl) rfl rfl rfl rfl (Nat.le_of_ble_eq_true rfl) dX0_turned_82 (fun _ h => h) (fun r H1 locs hq hF hS => ?_)
        obtain ⟨V5, hG, hE5, hr5⟩ := hq
        generalize hHe5 : H1 = H at hG hS ⊢
        clear hHe5 hF
        subst hr5
        have hra5 := raF_lt T f ((rbF f (xN T)) ^^^ z) x1
        refine lv_aload_n hx hb dX0_turned_85 rfl (lv_at hl 4 rfl) ?_
        refine c_VI hx hb hml hts hown hK hl.1 hS ⟨Nat.le_refl _, Nat.le_refl _⟩ (met_X0_rows l D dA hG (txA_S hX0 hS hOA) htx) (cw_X0_154 hts ⟨Nat.le_of_ble_eq_true rfl, Nat.le_of_ble_eq_true rfl⟩) (hG 0 _ rfl) rfl rfl rfl rfl (Nat.le_of_ble_eq_true rfl) dX0_turned_86 (fun _ h => h.elim) (fun r H1 locs hq hF hS => ?_)
        obtain ⟨rfl, rfl⟩ := hq
        refine lv_iconst (v := (nI 1)) hx hb dX0_turned_89 (by decide) ?_
        refine n_isub hx hb dX0_turned_90 (by omega) ?_
        refine n_icmp_eq (tgt := 97) hx hb dX0_turned_91 (by decide) (by omega) (by omega) (fun c91 => ?_) (fun c91 => ?_)
        · refine lv_iload hx hb dX0_turned_97 (lv_at hl 1 rfl) ?_
          refine lv_istore_n (lv' := [(3, .int (nI z)), (6, .int (nI (cstF T f z))), (5, .int (nI z)), (4, .int (nI (cstF T f i))), (0, .ref o), (1, .int (nI x1)), (2, .int (nI x2))]) hx hb dX0_turned_99 rfl hl (by decide) rfl (fun ls hl => ?_)
          refine lv_iload hx hb dX0_turned_100 (lv_at hl 1 rfl) ?_
          refine lv_istore (lv' := [(4, .int (nI (cstF T f z))), (3, .int (nI z)), (6, .int (nI (cstF T f z))), (5, .int (nI z)), (0, .ref o), (1, .int (nI x1)), (2, .int (nI x2))]) hx hb dX0_turned_102 hl (by decide) rfl (fun ls hl => ?_)
          refine lv_iinc (v := (nI (z + 1))) (lv' := [(5, .int (nI (z + 1))), (4, .int (nI (cstF T f z))), (3, .int (nI z)), (6, .int (nI (cstF T f z))), (0, .ref o), (1, .int (nI x1)), (2, .int (nI x2))]) hx hb dX0_turned_104 hl (k := 3) rfl (nI_add _ _) (by decide) rfl (fun ls hl => ?_)
          refine lv_goto (tgt := 27) hx hb dX0_turned_107 (by decide) ?_
          exact ih1 (z + 1) (some z) V5 _ _ _ (by omega) (by omega) (chF_s1 hp (by omega) (decide_eq_true c91)) (Eqx.trans (Eqx.trans hE1 (hE4.mono PSc_PQw)) (hE5.mono PT26_PQw)) hG hS (lv_sub hl [0, 1, 2, 4, 5, 6] rfl)
        refine lv_goto (tgt := 104) hx hb dX0_turned_94 (by decide) ?_
        refine lv_iinc (v := (nI (z + 1))) (lv' := [(5, .int (nI (z + 1))), (6, .int (nI (cstF T f z))), (4, .int (nI (cstF T f i))), (3, .int (nI i)), (0, .ref o), (1, .int (nI x1)), (2, .int (nI x2))]) hx hb dX0_turned_104 hl (k := 1) rfl (nI_add _ _) (by decide) rfl (fun ls hl => ?_)
        refine lv_goto (tgt := 27) hx hb dX0_turned_107 (by decide) ?_
        exact ih1 (z + 1) (some i) V5 _ _ _ (by omega) (by omega) (chF_s0 hp (fun z => c91 (of_decide_eq_true z))) (Eqx.trans (Eqx.trans hE1 (hE4.mono PSc_PQw)) (hE5.mono PT26_PQw)) hG hS (lv_sub hl [0, 2, 3, 4, 5, 6] rfl)
      refine lv_iload hx hb dX0_turned_58 (lv_at hl 1 rfl) ?_
      refine c_SI hx hb hml hts hown hK hl.1 hS ⟨Nat.le_refl _, Nat.le_refl _⟩ (met_J16_bitCount l D dA (Nat.lt_of_lt_of_le (by omega) hp2)) (cw_X0_239 hts ⟨Nat.le_of_ble_eq_true rfl, Nat.le_of_ble_eq_true rfl⟩) rfl rfl (Nat.le_of_ble_eq_true rfl) dX0_turned_60 (fun _ h => h.elim) (fun r H1 locs hq hF hS => ?_)
      obtain ⟨rfl, rfl⟩ := hq
      have hbc6 := bc9 z
      refine lv_iload_n hx hb dX0_turned_63 rfl (lv_at hl 3 rfl) ?_
      refine c_SI hx hb hml hts hown hK hl.1 hS ⟨Nat.le_refl _, Nat.le_refl _⟩ (met_J16_bitCount l D dA (Nat.lt_of_lt_of_le (by omega) hp2)) (cw_X0_239 hts ⟨Nat.le_of_ble_eq_true rfl, Nat.le_of_ble_eq_true rfl⟩) rfl rfl (Nat.le_of_ble_eq_true rfl) dX0_turned_64 (fun _ h => h.elim) (fun r H1 locs hq hF hS => ?_)
      obtain ⟨rfl, rfl⟩ := hq
      have hbc7 := bc9 i
      refine n_icmp_ge (tgt := 104) hx hb dX0_turned_67 (by decide) (by omega) (by omega) (fun c67 => ?_) (fun c67 => ?_)
      · refine lv_iinc (v := (nI (z + 1))) (lv' := [(5, .int (nI (z + 1))), (6, .int (nI (cstF T f z))), (4, .int (nI (cstF T f i))), (3, .int (nI i)), (0, .ref o), (1, .int (nI x1)), (2, .int (nI x2))]) hx hb dX0_turned_104 hl (k := 1) rfl (nI_add _ _) (by decide) rfl (fun ls hl => ?_)
        refine lv_goto (tgt := 27) hx hb dX0_turned_107 (by decide) ?_
        exact ih1 (z + 1) (some i) V4 _ _ _ (by omega) (by omega) (chF_s hp (by omega)) (Eqx.trans hE1 (hE4.mono PSc_PQw)) hG hS (lv_sub hl [0, 2, 3, 4, 5, 6] rfl)
      refine lv_aload_n hx hb dX0_turned_70 rfl (lv_at hl 4 rfl) ?_
      refine lv_aload_n hx hb dX0_turned_71 rfl (lv_at hl 4 rfl) ?_
      refine g_get hx hb hts hown hK hG 0 rfl rfl ok_X0 7 (by decide) q529 rfl rfl dX0_turned_72 ?_
      refine g_get (v := .int (nI (rbF f (xN T)))) hx hb hts hown hK hG 15 rfl rfl ok_X5 4 (by decide) q442 rfl (congrArg Value.int (((hE4 15 4 rfl).trans (hE1 15 4 rfl)).trans hB.1.1)) dX0_turned_75 ?_
      refine lv_iload hx hb dX0_turned_78 (lv_at hl 1 rfl) ?_
      refine n_ixor hx hb dX0_turned_80 ?_
      refine lv_iload_n hx hb dX0_turned_81 rfl (lv_at hl 5 rfl) ?_
      refine c_VI hx hb hml hts hown hK hl.1 hS ⟨Nat.le_refl _, Nat.le_refl _⟩ (met_X0_rowAfter l D dA hG (clS_E hC0 hS hOA (hE1.trans (hE4.mono PSc_PQw))) hOA ((rbF f (xN T)) ^^^ z) x1 (xr2 (rbF_lt _ _) (by omega)) (by omega)) (cw_X0_228 hts ⟨Nat.le_of_ble_eq_true rfl, Nat.le_of_ble_eq_true rfl⟩) (hG 0 _ rfl) rfl rfl rfl rfl (Nat.le_of_ble_eq_true rfl) dX0_turned_82 (fun _ h => h) (fun r H1 locs hq hF hS => ?_)
      obtain ⟨V8, hG, hE8, hr8⟩ := hq
      generalize hHe8 : H1 = H at hG hS ⊢
      clear hHe8 hF
      subst hr8
      have hra8 := raF_lt T f ((rbF f (xN T)) ^^^ z) x1
      refine lv_aload_n hx hb dX0_turned_85 rfl (lv_at hl 4 rfl) ?_
      refine c_VI hx hb hml hts hown hK hl.1 hS ⟨Nat.le_refl _, Nat.le_refl _⟩ (met_X0_rows l D dA hG (txA_S hX0 hS hOA) htx) (cw_X0_154 hts ⟨Nat.le_of_ble_eq_true rfl, Nat.le_of_ble_eq_true rfl⟩) (hG 0 _ rfl) rfl rfl rfl rfl (Nat.le_of_ble_eq_true rfl) dX0_turned_86 (fun _ h => h.elim) (fun r H1 locs hq hF hS => ?_)
      obtain ⟨rfl, rfl⟩ := hq
      refine lv_iconst (v := (nI 1)) hx hb dX0_turned_89 (by decide) ?_
      refine n_isub hx hb dX0_turned_90 (by omega) ?_
      refine n_icmp_eq (tgt := 97) hx hb dX0_turned_91 (by decide) (by omega) (by omega) (fun c91 => ?_) (fun c91 => ?_)
      · refine lv_iload hx hb dX0_turned_97 (lv_at hl 1 rfl) ?_
        refine lv_istore_n (lv' := [(3, .int (nI z)), (6, .int (nI (cstF T f z))), (5, .int (nI z)), (4, .int (nI (cstF T f i))), (0, .ref o), (1, .int (nI x1)), (2, .int (nI x2))]) hx hb dX0_turned_99 rfl hl (by decide) rfl (fun ls hl => ?_)
        refine lv_iload hx hb dX0_turned_100 (lv_at hl 1 rfl) ?_
        refine lv_istore (lv' := [(4, .int (nI (cstF T f z))), (3, .int (nI z)), (6, .int (nI (cstF T f z))), (5, .int (nI z)), (0, .ref o), (1, .int (nI x1)), (2, .int (nI x2))]) hx hb dX0_turned_102 hl (by decide) rfl (fun ls hl => ?_)
        refine lv_iinc (v := (nI (z + 1))) (lv' := [(5, .int (nI (z + 1))), (4, .int (nI (cstF T f z))), (3, .int (nI z)), (6, .int (nI (cstF T f z))), (0, .ref o), (1, .int (nI x1)), (2, .int (nI x2))]) hx hb dX0_turned_104 hl (k := 3) rfl (nI_add _ _) (by decide) rfl (fun ls hl => ?_)
        refine lv_goto (tgt := 27) hx hb dX0_turned_107 (by decide) ?_
        exact ih1 (z + 1) (some z) V8 _ _ _ (by omega) (by omega) (chF_s1 hp (by omega) (decide_eq_true c91)) (Eqx.trans (Eqx.trans hE1 (hE4.mono PSc_PQw)) (hE8.mono PT26_PQw)) hG hS (lv_sub hl [0, 1, 2, 4, 5, 6] rfl)
      refine lv_goto (tgt := 104) hx hb dX0_turned_94 (by decide) ?_
      refine lv_iinc (v := (nI (z + 1))) (lv' := [(5, .int (nI (z + 1))), (6, .int (nI (cstF T f z))), (4, .int (nI (cstF T f i))), (3, .int (nI i)), (0, .ref o), (1, .int (nI x1)), (2, .int (nI x2))]) hx hb dX0_turned_104 hl (k := 1) rfl (nI_add _ _) (by decide) rfl (fun ls hl => ?_)
      refine lv_goto (tgt := 27) hx hb dX0_turned_107 (by decide) ?_
      exact ih1 (z + 1) (some i) V8 _ _ _ (by omega) (by omega) (chF_s0 hp (fun z => c91 (of_decide_eq_true z))) (Eqx.trans (Eqx.trans hE1 (hE4.mono PSc_PQw)) (hE8.mono PT26_PQw)) hG hS (lv_sub hl [0, 2, 3, 4, 5, 6] rfl)
  exact loop1 ((2 ^ xN T - 0) + 1) 0 none V _ _ _ (Nat.lt_succ_self _) (Nat.zero_le _) rfl Eqx.rf hG hS (lv_sub hl [0, 1, 2, 3, 4, 5] rfl)
set_option maxHeartbeats 4000000 in
theorem met_X0_turnTo (l : Launch) (D : va_G) (dA : Nat → ClassId) {o : Nat} {V : GI} {L : GL} {Rf : GR} {H0 : Heap} (hG : gP D dA o dS V L Rf H0) {O : Nat → Prop} {tx : Nat} {T : Txt} {f : Rw} (hC : clS D dA H0 O o V Rf tx T f) (hOA : ∀ z, O z → ¬ AS o z) (v1 v2 : Int32) : Ctr l D dA yX0_turnTo cX0_turnTo 5 (some .int) (mkRm 410 9700) [.ref o, .int v1, .int v2] H0 (AS o) (QI (fun r H1 => ∃ V1, gP D dA o dS V1 L Rf H1 ∧ Eqx PQw V V1 ∧ r = turnToA T f v1 v2)) := by
  have hC0 := hC
  obtain ⟨hX, htx, hB, hrv, hsd1, hsd2⟩ := hC
  have hX0 := hX
  have hn9 := txA_n hX
  have hp2 := two9 hn9
  have hpp := Nat.two_pow_pos (xN T)
  obtain ⟨fsx, hatx⟩ := txA_at hX
  have hotx := txA_o hX
  refine ctr_I (by decide) (Nat.le_of_ble_eq_true rfl) ?_
  intro p e s m args below meth c ls QQ locs hx hb hml hown hts hK hend hS hl
  have hl : lv_has ls 5 [(0, .ref o), (1, .int v1), (2, .int v2)] := hl
  refine lv_aload_n hx hb dX0_turnTo_0 rfl (lv_at hl 0 rfl) ?_
  refine lv_iload_n hx hb dX0_turnTo_1 rfl (lv_at hl 1 rfl) ?_
  refine c_VI hx hb hml hts hown hK hl.1 hS ⟨Nat.le_refl _, Nat.le_refl _⟩ (met_X0_isRow l D dA hG (txA_S hX0 hS hOA) htx v1) (cw_X0_225 hts ⟨Nat.le_of_ble_eq_true rfl, Nat.le_of_ble_eq_true rfl⟩) (hG 0 _ rfl) rfl rfl rfl rfl (Nat.le_of_ble_eq_true rfl) dX0_turnTo_2 (fun _ h => h.elim) (fun r H1 locs hq hF hS => ?_)
  obtain ⟨rfl, rfl⟩ := hq
  rcases (rowN_cases hn9 v1).symm with ⟨hz2, ho2⟩ | ⟨x1, hlo_x1, hhi_x1, rfl, hz2⟩
  · refine iv (y := nI 0) hz2 ?_
    refine n_if_eq (tgt := 15) hx hb dX0_turnTo_5 (by decide) (by decide) (fun _ => ?_) (fun z => absurd z (by decide))
    refine lv_iconst (v := (-1)) hx hb dX0_turnTo_15 (by decide) ?_
    refine hend _ _ _ _ _ hS dX0_turnTo_16 ?_
    exact ⟨_, rfl, _, hG, Eqx.rf, ((ho2.1 _ _)).symm⟩
  refine iv (y := nI 1) hz2 ?_
  have hl : lv_has ls 5 [(0, .ref o), (1, .int (nI x1)), (2, .int v2)] := hl
  refine n_if_eq (tgt := 15) hx hb dX0_turnTo_5 (by decide) (by decide) (fun z => absurd z (by decide)) (fun _ => ?_)
  refine lv_iload_n hx hb dX0_turnTo_8 rfl (lv_at hl 2 rfl) ?_
  refine c_SI hx hb hml hts hown hK hl.1 hS ⟨Nat.le_refl _, Nat.le_refl _⟩ (met_X0_isPlan l D dA v2) (cw_X0_231 hts ⟨Nat.le_of_ble_eq_true rfl, Nat.le_of_ble_eq_true rfl⟩) rfl rfl (Nat.le_of_ble_eq_true rfl) dX0_turnTo_9 (fun _ h => h.elim) (fun r H1 locs hq hF hS => ?_)
  obtain ⟨rfl, rfl⟩ := hq
  rcases (inZ_cases v2 0 24 (by decide) (by decide)).symm with ⟨hz9, ho9⟩ | ⟨x2, hlo_x2, hhi_x2, rfl, hz9⟩
  · refine iv (y := nI 0) hz9 ?_
    refine n_if_ne (tgt := 17) hx hb dX0_turnTo_12 (by decide) (by decide) (fun z => absurd z (by decide)) (fun _ => ?_)
    refine lv_iconst (v := (-1)) hx hb dX0_turnTo_15 (by decide) ?_
    refine hend _ _ _ _ _ hS dX0_turnTo_16 ?_
    exact ⟨_, rfl, _, hG, Eqx.rf, ((rng_in hlo_x1 hhi_x1 (by omega)).trans ((ho9.1 _ _))).symm⟩
  refine iv (y := nI 1) hz9 ?_
  have hl : lv_has ls 5 [(0, .ref o), (1, .int (nI x1)), (2, .int (nI x2))] := hl
  refine n_if_ne (tgt := 17) hx hb dX0_turnTo_12 (by decide) (by decide) (fun _ => ?_) (fun z => absurd z (by decide))
  refine lv_ldc (v := (nI 1000000)) hx hb hown (hts _ q1283) dX0_turnTo_17 ?_
  refine lv_istore_n (lv' := [(3, .int (nI 1000000)), (0, .ref o), (1, .int (nI x1)), (2, .int (nI x2))]) hx hb dX0_turnTo_19 rfl hl (by decide) rfl (fun ls hl => ?_)
  refine lv_iconst (v := (nI 0)) hx hb dX0_turnTo_20 (by decide) ?_
  refine lv_istore (lv' := [(4, .int (nI 0)), (3, .int (nI 1000000)), (0, .ref o), (1, .int (nI x1)), (2, .int (nI x2))]) hx hb dX0_turnTo_21 hl (by decide) rfl (fun ls hl => ?_)
  have loop1 : ∀ (fu1 : Nat) (z : Nat) (y : Nat) (V1 : GI) (H : Heap) (locs : List Loc) (ls : Array Slot), 2 ^ xN T - z < fu1 → (z ≤ 2 ^ xN T) → (oC 1000000 (cstF T f) (chF (hitF T f x1 x2) (cstF T f) bc z) = y) → (Eqx PQw V V1) → gP D dA o dS V1 L Rf H → va_S (AS o) H0 H locs → lv_has ls 5 [(4, .int (nI z)), (3, .int (nI y)), (0, .ref o), (1, .int (nI x1)), (2, .int (nI x2))] → W p l e (mkRm 410 9700) s m args below meth c H locs 0 0 QQ (F0 m 23 ls []) := by
    intro fu1
    induction fu1 with
    | zero => intro z y V1 H locs ls hfu; exact absurd hfu (Nat.not_lt_zero _)
    | succ fu1 ih1 =>
      intro z y V1 H locs ls hfu hsn hy hE1 hG hS hl
      have hcF : ∀ k, cstF T f k < 1000000 := fun k => by have := cstF_le (t := T) (f := f) (x := k) hn9; omega
      have hyF := (oC_F hcF hy).1
      refine lv_iload hx hb dX0_turnTo_23 (lv_at hl 0 rfl) ?_
      refine lv_aload_n hx hb dX0_turnTo_25 rfl (lv_at hl 2 rfl) ?_
      refine c_VI hx hb hml hts hown hK hl.1 hS ⟨Nat.le_refl _, Nat.le_refl _⟩ (met_X0_rows l D dA hG (txA_S hX0 hS hOA) htx) (cw_X0_154 hts ⟨Nat.le_of_ble_eq_true rfl, Nat.le_of_ble_eq_true rfl⟩) (hG 0 _ rfl) rfl rfl rfl rfl (Nat.le_of_ble_eq_true rfl) dX0_turnTo_26 (fun _ h => h.elim) (fun r H1 locs hq hF hS => ?_)
      obtain ⟨rfl, rfl⟩ := hq
      refine n_icmp_ge (tgt := 74) hx hb dX0_turnTo_29 (by decide) (by omega) (by omega) (fun c29 => ?_) (fun c29 => ?_)
      · obtain rfl : z = 2 ^ xN T := by omega
        refine lv_iload_n hx hb dX0_turnTo_74 rfl (lv_at hl 1 rfl) ?_
        refine lv_ldc (v := (nI 1000000)) hx hb hown (hts _ q1283) dX0_turnTo_75 ?_
        refine n_icmp_ne (tgt := 85) hx hb dX0_turnTo_77 (by decide) (by omega) (by omega) (fun c77 => ?_) (fun c77 => ?_)
        · refine lv_iload_n hx hb dX0_turnTo_85 rfl (lv_at hl 1 rfl) ?_
          refine hend _ _ _ _ _ hS dX0_turnTo_86 ?_
          exact ⟨_, rfl, _, hG, hE1, ((rng_in hlo_x1 hhi_x1 (by omega)).trans ((rng_in hlo_x2 hhi_x2 (by omega)).trans ((by obtain ⟨i, hi, he⟩ := (oC_F hcF hy).2.2 (by have := (oC_F hcF hy).1; omega); have hpp : chpF T f x1 x2 = some i := hi; simp only [hpp]; rw [he])))).symm⟩
        refine lv_bipush (v := (-2)) hx hb dX0_turnTo_80 (by decide) ?_
        refine lv_goto (tgt := 86) hx hb dX0_turnTo_82 (by decide) ?_
        refine hend _ _ _ _ _ hS dX0_turnTo_86 ?_
        exact ⟨_, rfl, _, hG, hE1, ((rng_in hlo_x1 hhi_x1 (by omega)).trans ((rng_in hlo_x2 hhi_x2 (by omega)).trans ((by have hpp : chpF T f x1 x2 = none := (oC_F hcF hy).2.1 c77; simp only [hpp])))).symm⟩
      refine lv_aload_n hx hb dX0_turnTo_32 rfl (lv_at hl 2 rfl) ?_
      refine lv_iload hx hb dX0_turnTo_33 (lv_at hl 0 rfl) ?_
      refine c_VI hx hb hml hts hown hK hl.1 hS ⟨Nat.le_refl _, Nat.le_refl _⟩ (met_X0_costsOf l D dA hG (clS_E hC0 hS hOA hE1) hOA z (by omega)) (cw_X0_235 hts ⟨Nat.le_of_ble_eq_true rfl, Nat.le_of_ble_eq_true rfl⟩) (hG 0 _ rfl) rfl rfl rfl rfl (Nat.le_of_ble_eq_true rfl) dX0_turnTo_35 (fun _ h => h) (fun r H1 locs hq hF hS => ?_)
      obtain ⟨V2, hG, hE2, hr2⟩ := hq
      generalize hHe2 : H1 = H at hG hS ⊢
      clear hHe2 hF
      subst hr2
      have hcs2 := cstF_le (t := T) (f := f) (x := z) hn9
      refine lv_iload_n hx hb dX0_turnTo_38 rfl (lv_at hl 1 rfl) ?_
      refine n_icmp_ge (tgt := 68) hx hb dX0_turnTo_39 (by decide) (by omega) (by omega) (fun c39 => ?_) (fun c39 => ?_)
      · refine lv_iinc (v := (nI (z + 1))) (lv' := [(4, .int (nI (z + 1))), (3, .int (nI y)), (0, .ref o), (1, .int (nI x1)), (2, .int (nI x2))]) hx hb dX0_turnTo_68 hl (k := 0) rfl (nI_add _ _) (by decide) rfl (fun ls hl => ?_)
        refine lv_goto (tgt := 23) hx hb dX0_turnTo_71 (by decide) ?_
        exact ih1 (z + 1) y V2 _ _ _ (by omega) (by omega) (tt_k hcF hy (by omega)) (Eqx.trans hE1 (hE2.mono PSc_PQw)) hG hS (lv_sub hl [0, 1, 2, 3, 4] rfl)
      refine lv_aload_n hx hb dX0_turnTo_42 rfl (lv_at hl 2 rfl) ?_
      refine lv_aload_n hx hb dX0_turnTo_43 rfl (lv_at hl 2 rfl) ?_
      refine g_get hx hb hts hown hK hG 0 rfl rfl ok_X0 7 (by decide) q529 rfl rfl dX0_turnTo_44 ?_
      refine g_get (v := .int (nI (rbF f (xN T)))) hx hb hts hown hK hG 15 rfl rfl ok_X5 4 (by decide) q442 rfl (congrArg Value.int (((hE2 15 4 rfl).trans (hE1 15 4 rfl)).trans hB.1.1)) dX0_turnTo_47 ?_
      refine lv_iload hx hb dX0_turnTo_50 (lv_at hl 0 rfl) ?_
      refine n_ixor hx hb dX0_turnTo_52 ?_
      refine lv_iload_n hx hb dX0_turnTo_53 rfl (lv_at hl 4 rfl) ?_
      refine c_VI hx hb hml hts hown hK hl.1 hS ⟨Nat.le_refl _, Nat.le_refl _⟩ (met_X0_rowAfter l D dA hG (clS_E hC0 hS hOA (hE1.trans (hE2.mono PSc_PQw))) hOA ((rbF f (xN T)) ^^^ z) x2 (xr2 (rbF_lt _ _) (by omega)) (by omega)) (cw_X0_228 hts ⟨Nat.le_of_ble_eq_true rfl, Nat.le_of_ble_eq_true rfl⟩) (hG 0 _ rfl) rfl rfl rfl rfl (Nat.le_of_ble_eq_true rfl) dX0_turnTo_54 (fun _ h => h) (fun r H1 locs hq hF hS => ?_)
      obtain ⟨V3, hG, hE3, hr3⟩ := hq
      generalize hHe3 : H1 = H at hG hS ⊢
      clear hHe3 hF
      subst hr3
      have hra3 := raF_lt T f ((rbF f (xN T)) ^^^ z) x2
      refine lv_iload_n hx hb dX0_turnTo_57 rfl (lv_at hl 3 rfl) ?_
      refine n_icmp_ne (tgt := 68) hx hb dX0_turnTo_58 (by decide) (by omega) (by omega) (fun c58 => ?_) (fun c58 => ?_)
      · refine lv_iinc (v := (nI (z + 1))) (lv' := [(4, .int (nI (z + 1))), (3, .int (nI y)), (0, .ref o), (1, .int (nI x1)), (2, .int (nI x2))]) hx hb dX0_turnTo_68 hl (k := 0) rfl (nI_add _ _) (by decide) rfl (fun ls hl => ?_)
        refine lv_goto (tgt := 23) hx hb dX0_turnTo_71 (by decide) ?_
        exact ih1 (z + 1) y V3 _ _ _ (by omega) (by omega) (tt_n hy (fun z => c58 (of_decide_eq_true z))) (Eqx.trans (Eqx.trans hE1 (hE2.mono PSc_PQw)) (hE3.mono PT26_PQw)) hG hS (lv_sub hl [0, 1, 2, 3, 4] rfl)
      refine lv_aload_n hx hb dX0_turnTo_61 rfl (lv_at hl 2 rfl) ?_
      refine lv_iload hx hb dX0_turnTo_62 (lv_at hl 0 rfl) ?_
      refine c_VI hx hb hml hts hown hK hl.1 hS ⟨Nat.le_refl _, Nat.le_refl _⟩ (met_X0_costsOf l D dA hG (clS_E hC0 hS hOA ((hE1.trans (hE2.mono PSc_PQw)).trans (hE3.mono PT26_PQw))) hOA z (by omega)) (cw_X0_235 hts ⟨Nat.le_of_ble_eq_true rfl, Nat.le_of_ble_eq_true rfl⟩) (hG 0 _ rfl) rfl rfl rfl rfl (Nat.le_of_ble_eq_true rfl) dX0_turnTo_64 (fun _ h => h) (fun r H1 locs hq hF hS => ?_)
      obtain ⟨V4, hG, hE4, hr4⟩ := hq
      generalize hHe4 : H1 = H at hG hS ⊢
      clear hHe4 hF
      subst hr4
      have hcs4 := cstF_le (t := T) (f := f) (x := z) hn9
      refine lv_istore_n (lv' := [(3, .int (nI (cstF T f z))), (4, .int (nI z)), (0, .ref o), (1, .int (nI x1)), (2, .int (nI x2))]) hx hb dX0_turnTo_67 rfl hl (by decide) rfl (fun ls hl => ?_)
      refine lv_iinc (v := (nI (z + 1))) (lv' := [(4, .int (nI (z + 1))), (3, .int (nI (cstF T f z))), (0, .ref o), (1, .int (nI x1)), (2, .int (nI x2))]) hx hb dX0_turnTo_68 hl (k := 1) rfl (nI_add _ _) (by decide) rfl (fun ls hl => ?_)
      refine lv_goto (tgt := 23) hx hb dX0_turnTo_71 (by decide) ?_
      exact ih1 (z + 1) (cstF T f z) V4 _ _ _ (by omega) (by omega) (tt_h hy c39 (decide_eq_true c58)) (Eqx.trans (Eqx.trans (Eqx.trans hE1 (hE2.mono PSc_PQw)) (hE3.mono PT26_PQw)) (hE4.mono PSc_PQw)) hG hS (lv_sub hl [0, 1, 2, 3, 4] rfl)
  exact loop1 ((2 ^ xN T - 0) + 1) 0 1000000 V _ _ _ (Nat.lt_succ_self _) (Nat.zero_le _) rfl Eqx.rf hG hS (lv_sub hl [0, 1, 2, 3, 4] rfl)
set_option maxHeartbeats 4000000 in
theorem met_X0_oneFor (l : Launch) (D : va_G) (dA : Nat → ClassId) {o : Nat} {V : GI} {L : GL} {Rf : GR} {H0 : Heap} (hG : gP D dA o dS V L Rf H0) {O : Nat → Prop} {tx : Nat} {T : Txt} {f : Rw} (hC : clS D dA H0 O o V Rf tx T f) (hOA : ∀ z, O z → ¬ AS o z) (q : Nat) (hq9 : q < 1000) : Ctr l D dA yX0_oneFor cX0_oneFor 3 (some .int) (mkRm 410 9700) [.ref o, .int (nI q)] H0 (AS o) (QI (fun r H1 => ∃ V1, gP D dA o dS V1 L Rf H1 ∧ Eqx PQw V V1 ∧ r = ofI T f q)) := by
  have hC0 := hC
  obtain ⟨hX, htx, hB, hrv, hsd1, hsd2⟩ := hC
  have hX0 := hX
  have hn9 := txA_n hX
  have hp2 := two9 hn9
  have hpp := Nat.two_pow_pos (xN T)
  obtain ⟨fsx, hatx⟩ := txA_at hX
  have hotx := txA_o hX
  refine ctr_I (by decide) (Nat.le_of_ble_eq_true rfl) ?_
  intro p e s m args below meth c ls QQ locs hx hb hml hown hts hK hend hS hl
  have hl : lv_has ls 3 [(0, .ref o), (1, .int (nI q))] := hl
  refine lv_aload_n hx hb dX0_oneFor_0 rfl (lv_at hl 0 rfl) ?_
  refine lv_aload_n hx hb dX0_oneFor_1 rfl (lv_at hl 0 rfl) ?_
  refine g_get hx hb hts hown hK hG 0 rfl rfl ok_X0 7 (by decide) q529 rfl rfl dX0_oneFor_2 ?_
  refine g_get (v := .int (nI (rbF f (xN T)))) hx hb hts hown hK hG 15 rfl rfl ok_X5 4 (by decide) q442 rfl (congrArg Value.int hB.1.1) dX0_oneFor_5 ?_
  refine lv_iload_n hx hb dX0_oneFor_8 rfl (lv_at hl 1 rfl) ?_
  refine c_VI hx hb hml hts hown hK hl.1 hS ⟨Nat.le_refl _, Nat.le_refl _⟩ (met_X0_rowAfter l D dA hG (clS_E hC0 hS hOA Eqx.rf) hOA (rbF f (xN T)) q (rbF_lt _ _) (by omega)) (cw_X0_228 hts ⟨Nat.le_of_ble_eq_true rfl, Nat.le_of_ble_eq_true rfl⟩) (hG 0 _ rfl) rfl rfl rfl rfl (Nat.le_of_ble_eq_true rfl) dX0_oneFor_9 (fun _ h => h) (fun r H1 locs hq hF hS => ?_)
  obtain ⟨V1, hG, hE1, hr1⟩ := hq
  generalize hHe1 : H1 = H at hG hS ⊢
  clear hHe1 hF
  subst hr1
  have hra1 := raF_lt T f (rbF f (xN T)) q
  refine lv_aload_n hx hb dX0_oneFor_12 rfl (lv_at hl 0 rfl) ?_
  refine c_VI hx hb hml hts hown hK hl.1 hS ⟨Nat.le_refl _, Nat.le_refl _⟩ (met_X0_rows l D dA hG (txA_S hX0 hS hOA) htx) (cw_X0_154 hts ⟨Nat.le_of_ble_eq_true rfl, Nat.le_of_ble_eq_true rfl⟩) (hG 0 _ rfl) rfl rfl rfl rfl (Nat.le_of_ble_eq_true rfl) dX0_oneFor_13 (fun _ h => h.elim) (fun r H1 locs hq hF hS => ?_)
  obtain ⟨rfl, rfl⟩ := hq
  refine lv_iconst (v := (nI 1)) hx hb dX0_oneFor_16 (by decide) ?_
  refine n_isub hx hb dX0_oneFor_17 (by omega) ?_
  refine n_icmp_ne (tgt := 26) hx hb dX0_oneFor_18 (by decide) (by omega) (by omega) (fun c18 => ?_) (fun c18 => ?_)
  · refine lv_iconst (v := (nI 0)) hx hb dX0_oneFor_26 (by decide) ?_
    refine lv_istore_n (lv' := [(2, .int (nI 0)), (0, .ref o), (1, .int (nI q))]) hx hb dX0_oneFor_27 rfl hl (by decide) rfl (fun ls hl => ?_)
    have loop2 : ∀ (fu2 : Nat) (b : Nat) (V2 : GI) (H : Heap) (locs : List Loc) (ls : Array Slot), xN T - b < fu2 → (b ≤ xN T) → (fdF (fun b => decide (raF T f (rbF f (xN T) ^^^ 1 * 2 ^ b) q = 2 ^ xN T - 1)) b = none) → (Eqx PQw V1 V2) → gP D dA o dS V2 L Rf H → va_S (AS o) H0 H locs → lv_has ls 3 [(2, .int (nI b)), (0, .ref o), (1, .int (nI q))] → W p l e (mkRm 410 9700) s m args below meth c H locs 0 0 QQ (F0 m 28 ls []) := by
      intro fu2
      induction fu2 with
      | zero => intro b V2 H locs ls hfu; exact absurd hfu (Nat.not_lt_zero _)
      | succ fu2 ih2 =>
        intro b V2 H locs ls hfu hbn hf hE2 hG hS hl
        refine lv_iload_n hx hb dX0_oneFor_28 rfl (lv_at hl 0 rfl) ?_
        refine lv_aload_n hx hb dX0_oneFor_29 rfl (lv_at hl 1 rfl) ?_
        refine c_VI hx hb hml hts hown hK hl.1 hS ⟨Nat.le_refl _, Nat.le_refl _⟩ (met_X0_beds l D dA hG (txA_S hX0 hS hOA) htx) (cw_X0_145 hts ⟨Nat.le_of_ble_eq_true rfl, Nat.le_of_ble_eq_true rfl⟩) (hG 0 _ rfl) rfl rfl rfl rfl (Nat.le_of_ble_eq_true rfl) dX0_oneFor_30 (fun _ h => h.elim) (fun r H1 locs hq hF hS => ?_)
        obtain ⟨rfl, rfl⟩ := hq
        refine n_icmp_ge (tgt := 69) hx hb dX0_oneFor_33 (by decide) (by omega) (by omega) (fun c33 => ?_) (fun c33 => ?_)
        · obtain rfl : b = xN T := by omega
          refine lv_iconst (v := (-1)) hx hb dX0_oneFor_69 (by decide) ?_
          refine hend _ _ _ _ _ hS dX0_oneFor_70 ?_
          exact ⟨_, rfl, _, hG, ((hE1.mono PT26_PQw).trans hE2), (by unfold ofI allF oneF; rw [if_neg (by simp [c18])]; rw [show fdF (fun b => decide (raF T f (rbF f (xN T) ^^^ 1 * 2 ^ b) q = 2 ^ xN T - 1)) (xN T) = none from hf]; rfl)⟩
        refine lv_aload_n hx hb dX0_oneFor_36 rfl (lv_at hl 1 rfl) ?_
        refine lv_aload_n hx hb dX0_oneFor_37 rfl (lv_at hl 1 rfl) ?_
        refine g_get hx hb hts hown hK hG 0 rfl rfl ok_X0 7 (by decide) q529 rfl rfl dX0_oneFor_38 ?_
        refine g_get (v := .int (nI (rbF f (xN T)))) hx hb hts hown hK hG 15 rfl rfl ok_X5 4 (by decide) q442 rfl (congrArg Value.int (((hE2 15 4 rfl).trans (hE1 15 4 rfl)).trans hB.1.1)) dX0_oneFor_41 ?_
        refine lv_iconst (v := (nI 1)) hx hb dX0_oneFor_44 (by decide) ?_
        refine lv_iload_n hx hb dX0_oneFor_45 rfl (lv_at hl 0 rfl) ?_
        refine n_ishl hx hb dX0_oneFor_46 (by omega) ?_
        refine n_ixor hx hb dX0_oneFor_47 ?_
        refine lv_iload_n hx hb dX0_oneFor_48 rfl (lv_at hl 2 rfl) ?_
        refine c_VI hx hb hml hts hown hK hl.1 hS ⟨Nat.le_refl _, Nat.le_refl _⟩ (met_X0_rowAfter l D dA hG (clS_E hC0 hS hOA ((hE1.mono PT26_PQw).trans hE2)) hOA ((rbF f (xN T)) ^^^ (1 * 2 ^ b)) q (xr2 (rbF_lt _ _) (p2n (by omega))) (by omega)) (cw_X0_228 hts ⟨Nat.le_of_ble_eq_true rfl, Nat.le_of_ble_eq_true rfl⟩) (hG 0 _ rfl) rfl rfl rfl rfl (Nat.le_of_ble_eq_true rfl) dX0_oneFor_49 (fun _ h => h) (fun r H1 locs hq hF hS => ?_)
        obtain ⟨V3, hG, hE3, hr3⟩ := hq
        generalize hHe3 : H1 = H at hG hS ⊢
        clear hHe3 hF
        subst hr3
        have hra3 := raF_lt T f ((rbF f (xN T)) ^^^ (1 * 2 ^ b)) q
        refine lv_aload_n hx hb dX0_oneFor_52 rfl (lv_at hl 1 rfl) ?_
        refine c_VI hx hb hml hts hown hK hl.1 hS ⟨Nat.le_refl _, Nat.le_refl _⟩ (met_X0_rows l D dA hG (txA_S hX0 hS hOA) htx) (cw_X0_154 hts ⟨Nat.le_of_ble_eq_true rfl, Nat.le_of_ble_eq_true rfl⟩) (hG 0 _ rfl) rfl rfl rfl rfl (Nat.le_of_ble_eq_true rfl) dX0_oneFor_53 (fun _ h => h.elim) (fun r H1 locs hq hF hS => ?_)
        obtain ⟨rfl, rfl⟩ := hq
        refine lv_iconst (v := (nI 1)) hx hb dX0_oneFor_56 (by decide) ?_
        refine n_isub hx hb dX0_oneFor_57 (by omega) ?_
        refine n_icmp_ne (tgt := 63) hx hb dX0_oneFor_58 (by decide) (by omega) (by omega) (fun c58 => ?_) (fun c58 => ?_)
        · refine lv_iinc (v := (nI (b + 1))) (lv' := [(2, .int (nI (b + 1))), (0, .ref o), (1, .int (nI q))]) hx hb dX0_oneFor_63 hl (k := 0) rfl (nI_add _ _) (by decide) rfl (fun ls hl => ?_)
          refine lv_goto (tgt := 28) hx hb dX0_oneFor_66 (by decide) ?_
          exact ih2 (b + 1) V3 _ _ _ (by omega) (by omega) (fdF_k hf (decide_eq_false c58)) (Eqx.trans hE2 (hE3.mono PT26_PQw)) hG hS (lv_sub hl [0, 1, 2] rfl)
        refine lv_iload_n hx hb dX0_oneFor_61 rfl (lv_at hl 0 rfl) ?_
        refine hend _ _ _ _ _ hS dX0_oneFor_62 ?_
        exact ⟨_, rfl, _, hG, (((hE1.mono PT26_PQw).trans hE2).trans (hE3.mono PT26_PQw)), (by unfold ofI allF oneF; rw [if_neg (by simp [c18])]; rw [fdF_t (P := fun b => decide (raF T f (rbF f (xN T) ^^^ 1 * 2 ^ b) q = 2 ^ xN T - 1)) hf (decide_eq_true c58) _ (by omega)]; rfl)⟩
    exact loop2 ((xN T - 0) + 1) 0 V1 _ _ _ (Nat.lt_succ_self _) (Nat.zero_le _) rfl Eqx.rf hG hS (lv_sub hl [0, 1, 2] rfl)
  refine lv_aload_n hx hb dX0_oneFor_21 rfl (lv_at hl 0 rfl) ?_
  refine c_VI hx hb hml hts hown hK hl.1 hS ⟨Nat.le_refl _, Nat.le_refl _⟩ (met_X0_beds l D dA hG (txA_S hX0 hS hOA) htx) (cw_X0_145 hts ⟨Nat.le_of_ble_eq_true rfl, Nat.le_of_ble_eq_true rfl⟩) (hG 0 _ rfl) rfl rfl rfl rfl (Nat.le_of_ble_eq_true rfl) dX0_oneFor_22 (fun _ h => h.elim) (fun r H1 locs hq hF hS => ?_)
  obtain ⟨rfl, rfl⟩ := hq
  refine hend _ _ _ _ _ hS dX0_oneFor_25 ?_
  exact ⟨_, rfl, _, hG, (hE1.mono PT26_PQw), (by unfold ofI allF; rw [if_pos (decide_eq_true c18)])⟩
theorem cw_X0_244 {R : Room} {s : State} {args : Array Value} (hts : ∀ w ∈ lw_all, w.before args s = true) {f w k j : Nat} (hR : f + 1 ≤ R.frames ∧ 8 + (3 + 11) + w ≤ R.locals) : CallW R s args RX0 RX0 244 yX0_oneFor cX0_oneFor 3 (some .int) (ws_ yX0_oneFor cX0_oneFor 3 (some .int)) (mkRmC f w k j) k j 1 := cwV 1 hts (lw_V q1298 q1300 qs40 q108 q1301) rfl rfl rfl (by decide +kernel) hR
set_option maxHeartbeats 4000000 in
theorem met_X0_soonest (l : Launch) (D : va_G) (dA : Nat → ClassId) {o : Nat} {V : GI} {L : GL} {Rf : GR} {H0 : Heap} (hG : gP D dA o dS V L Rf H0) {O : Nat → Prop} {tx : Nat} {T : Txt} {f : Rw} (hC : clS D dA H0 O o V Rf tx T f) (hOA : ∀ z, O z → ¬ AS o z) (v1 : Int32) : Ctr l D dA yX0_soonest cX0_soonest 4 (some .int) (mkRm 411 9800) [.ref o, .int v1] H0 (AS o) (QI (fun r H1 => ∃ V1, gP D dA o dS V1 L Rf H1 ∧ Eqx PQw V V1 ∧ r = soonestA T f v1)) := by
  have hC0 := hC
  obtain ⟨hX, htx, hB, hrv, hsd1, hsd2⟩ := hC
  have hX0 := hX
  have hn9 := txA_n hX
  have hp2 := two9 hn9
  have hpp := Nat.two_pow_pos (xN T)
  obtain ⟨fsx, hatx⟩ := txA_at hX
  have hotx := txA_o hX
  refine ctr_I (by decide) (Nat.le_of_ble_eq_true rfl) ?_
  intro p e s m args below meth c ls QQ locs hx hb hml hown hts hK hend hS hl
  have hl : lv_has ls 4 [(0, .ref o), (1, .int v1)] := hl
  refine lv_iload_n hx hb dX0_soonest_0 rfl (lv_at hl 1 rfl) ?_
  refine lv_iconst (v := (nI 0)) hx hb dX0_soonest_1 (by decide) ?_
  refine lv_iconst (v := (nI 1)) hx hb dX0_soonest_2 (by decide) ?_
  refine c_SI hx hb hml hts hown hK hl.1 hS ⟨Nat.le_refl _, Nat.le_refl _⟩ (met_X0_isIn l D dA v1 (nI 0) (nI 1)) (cw_X0_146 hts ⟨Nat.le_of_ble_eq_true rfl, Nat.le_of_ble_eq_true rfl⟩) rfl rfl (Nat.le_of_ble_eq_true rfl) dX0_soonest_3 (fun _ h => h.elim) (fun r H1 locs hq hF hS => ?_)
  obtain ⟨rfl, rfl⟩ := hq
  rcases (inZ_cases v1 0 1 (by decide) (by decide)).symm with ⟨hz3, ho3⟩ | ⟨x1, hlo_x1, hhi_x1, rfl, hz3⟩
  · refine iv (y := nI 0) hz3 ?_
    refine n_if_ne (tgt := 11) hx hb dX0_soonest_6 (by decide) (by decide) (fun z => absurd z (by decide)) (fun _ => ?_)
    refine lv_iconst (v := (-1)) hx hb dX0_soonest_9 (by decide) ?_
    refine hend _ _ _ _ _ hS dX0_soonest_10 ?_
    exact ⟨_, rfl, _, hG, Eqx.rf, ((ho3.1 _ _)).symm⟩
  refine iv (y := nI 1) hz3 ?_
  have hl : lv_has ls 4 [(0, .ref o), (1, .int (nI x1))] := hl
  refine n_if_ne (tgt := 11) hx hb dX0_soonest_6 (by decide) (by decide) (fun _ => ?_) (fun z => absurd z (by decide))
  refine lv_iconst (v := (nI 0)) hx hb dX0_soonest_11 (by decide) ?_
  refine lv_istore_n (lv' := [(2, .int (nI 0)), (0, .ref o), (1, .int (nI x1))]) hx hb dX0_soonest_12 rfl hl (by decide) rfl (fun ls hl => ?_)
  have loop1 : ∀ (fu1 : Nat) (q : Nat) (k : Nat) (V1 : GI) (H : Heap) (locs : List Loc) (ls : Array Slot), k < fu1 → (q + k = 25) → (soF T f x1 k q = soF T f x1 25 0) → (Eqx PQw V V1) → gP D dA o dS V1 L Rf H → va_S (AS o) H0 H locs → lv_has ls 4 [(2, .int (nI q)), (0, .ref o), (1, .int (nI x1))] → W p l e (mkRm 411 9800) s m args below meth c H locs 0 0 QQ (F0 m 13 ls []) := by
    intro fu1
    induction fu1 with
    | zero => intro q k V1 H locs ls hfu; exact absurd hfu (Nat.not_lt_zero _)
    | succ fu1 ih1 =>
      intro q k V1 H locs ls hfu hqk hR hE1 hG hS hl
      refine lv_iload_n hx hb dX0_soonest_13 rfl (lv_at hl 0 rfl) ?_
      refine lv_bipush (v := (nI 24)) hx hb dX0_soonest_14 (by decide) ?_
      refine n_icmp_gt (tgt := 58) hx hb dX0_soonest_16 (by decide) (by omega) (by omega) (fun c16 => ?_) (fun c16 => ?_)
      · refine lv_bipush (v := (-2)) hx hb dX0_soonest_58 (by decide) ?_
        refine hend _ _ _ _ _ hS dX0_soonest_60 ?_
        exact ⟨_, rfl, _, hG, hE1, ((rng_in hlo_x1 hhi_x1 (by omega)).trans ((by obtain rfl : k = 0 := (by omega); exact hR.symm))).symm⟩
      obtain ⟨k, rfl⟩ : ∃ k1, k = k1 + 1 := ⟨k - 1, by omega⟩
      refine lv_aload_n hx hb dX0_soonest_19 rfl (lv_at hl 1 rfl) ?_
      refine lv_iload_n hx hb dX0_soonest_20 rfl (lv_at hl 0 rfl) ?_
      refine c_VI hx hb hml hts hown hK hl.1 hS ⟨Nat.le_refl _, Nat.le_refl _⟩ (met_X0_oneFor l D dA hG (clS_E hC0 hS hOA hE1) hOA q (by omega)) (cw_X0_244 hts ⟨Nat.le_of_ble_eq_true rfl, Nat.le_of_ble_eq_true rfl⟩) (hG 0 _ rfl) rfl rfl rfl rfl (Nat.le_of_ble_eq_true rfl) dX0_soonest_21 (fun _ h => h) (fun r H1 locs hq hF hS => ?_)
      obtain ⟨V2, hG, hE2, hr2⟩ := hq
      generalize hHe2 : H1 = H at hG hS ⊢
      clear hHe2 hF
      subst hr2
      rcases ofI_cases T f q with ⟨ho, hs⟩ | ⟨b, hb9, ho, hs⟩ | ⟨ho, hs⟩
      · refine iv (y := (nI (xN T))) ho ?_
        refine lv_istore_n (lv' := [(3, .int (nI (xN T))), (2, .int (nI q)), (0, .ref o), (1, .int (nI x1))]) hx hb dX0_soonest_24 rfl hl (by decide) rfl (fun ls hl => ?_)
        refine lv_iload_n hx hb dX0_soonest_25 rfl (lv_at hl 0 rfl) ?_
        refine n_if_lt (tgt := 52) hx hb dX0_soonest_26 (by decide) (by omega) ?_
        refine lv_iload_n hx hb dX0_soonest_29 rfl (lv_at hl 3 rfl) ?_
        refine n_if_ne (tgt := 37) hx hb dX0_soonest_30 (by decide) (by omega) (fun c30 => ?_) (fun c30 => ?_)
        · refine lv_iload_n hx hb dX0_soonest_37 rfl (lv_at hl 0 rfl) ?_
          refine lv_aload_n hx hb dX0_soonest_38 rfl (lv_at hl 2 rfl) ?_
          refine c_VI hx hb hml hts hown hK hl.1 hS ⟨Nat.le_refl _, Nat.le_refl _⟩ (met_X0_beds l D dA hG (txA_S hX0 hS hOA) htx) (cw_X0_145 hts ⟨Nat.le_of_ble_eq_true rfl, Nat.le_of_ble_eq_true rfl⟩) (hG 0 _ rfl) rfl rfl rfl rfl (Nat.le_of_ble_eq_true rfl) dX0_soonest_39 (fun _ h => h.elim) (fun r H1 locs hq hF hS => ?_)
          obtain ⟨rfl, rfl⟩ := hq
          refine n_icmp_ne (tgt := 50) hx hb dX0_soonest_42 (by decide) (by omega) (by omega) (fun c42 => ?_) (fun c42 => ?_)
          · exact absurd rfl c42
          refine lv_bipush (v := (-3)) hx hb dX0_soonest_45 (by decide) ?_
          refine lv_goto (tgt := 51) hx hb dX0_soonest_47 (by decide) ?_
          refine hend _ _ _ _ _ hS dX0_soonest_51 ?_
          exact ⟨_, rfl, _, hG, (hE1.trans hE2), ((rng_in hlo_x1 hhi_x1 (by omega)).trans ((hR.symm.trans ((soF_s (hs _)).trans (if_neg (by omega)))))).symm⟩
        refine lv_iload_n hx hb dX0_soonest_33 rfl (lv_at hl 1 rfl) ?_
        refine lv_goto (tgt := 51) hx hb dX0_soonest_34 (by decide) ?_
        refine hend _ _ _ _ _ hS dX0_soonest_51 ?_
        exact ⟨_, rfl, _, hG, (hE1.trans hE2), ((rng_in hlo_x1 hhi_x1 (by omega)).trans ((hR.symm.trans ((soF_s (hs _)).trans (if_pos c30))))).symm⟩
      · refine iv (y := (nI b)) ho ?_
        refine lv_istore_n (lv' := [(3, .int (nI b)), (2, .int (nI q)), (0, .ref o), (1, .int (nI x1))]) hx hb dX0_soonest_24 rfl hl (by decide) rfl (fun ls hl => ?_)
        refine lv_iload_n hx hb dX0_soonest_25 rfl (lv_at hl 0 rfl) ?_
        refine n_if_lt (tgt := 52) hx hb dX0_soonest_26 (by decide) (by omega) ?_
        refine lv_iload_n hx hb dX0_soonest_29 rfl (lv_at hl 3 rfl) ?_
        refine n_if_ne (tgt := 37) hx hb dX0_soonest_30 (by decide) (by omega) (fun c30 => ?_) (fun c30 => ?_)
        · refine lv_iload_n hx hb dX0_soonest_37 rfl (lv_at hl 0 rfl) ?_
          refine lv_aload_n hx hb dX0_soonest_38 rfl (lv_at hl 2 rfl) ?_
          refine c_VI hx hb hml hts hown hK hl.1 hS ⟨Nat.le_refl _, Nat.le_refl _⟩ (met_X0_beds l D dA hG (txA_S hX0 hS hOA) htx) (cw_X0_145 hts ⟨Nat.le_of_ble_eq_true rfl, Nat.le_of_ble_eq_true rfl⟩) (hG 0 _ rfl) rfl rfl rfl rfl (Nat.le_of_ble_eq_true rfl) dX0_soonest_39 (fun _ h => h.elim) (fun r H1 locs hq hF hS => ?_)
          obtain ⟨rfl, rfl⟩ := hq
          refine n_icmp_ne (tgt := 50) hx hb dX0_soonest_42 (by decide) (by omega) (by omega) (fun c42 => ?_) (fun c42 => ?_)
          · refine lv_iload_n hx hb dX0_soonest_50 rfl (lv_at hl 0 rfl) ?_
            refine hend _ _ _ _ _ hS dX0_soonest_51 ?_
            exact ⟨_, rfl, _, hG, (hE1.trans hE2), ((rng_in hlo_x1 hhi_x1 (by omega)).trans ((hR.symm.trans ((soF_s (hs _)).trans (if_neg (by omega)))))).symm⟩
          exact absurd c42 (by omega)
        refine lv_iload_n hx hb dX0_soonest_33 rfl (lv_at hl 1 rfl) ?_
        refine lv_goto (tgt := 51) hx hb dX0_soonest_34 (by decide) ?_
        refine hend _ _ _ _ _ hS dX0_soonest_51 ?_
        exact ⟨_, rfl, _, hG, (hE1.trans hE2), ((rng_in hlo_x1 hhi_x1 (by omega)).trans ((hR.symm.trans ((soF_s (hs _)).trans (if_pos c30))))).symm⟩
      refine iv (y := (-1)) ho ?_
      refine lv_istore_n (lv' := [(3, .int (-1)), (2, .int (nI q)), (0, .ref o), (1, .int (nI x1))]) hx hb dX0_soonest_24 rfl hl (by decide) rfl (fun ls hl => ?_)
      refine lv_iload_n hx hb dX0_soonest_25 rfl (lv_at hl 0 rfl) ?_
      refine lv_if_lt (tgt := 52) hx hb dX0_soonest_26 (by decide) (fun _ => ?_) (fun z => absurd (by decide) z)
      refine lv_iinc (v := (nI (q + 1))) (lv' := [(2, .int (nI (q + 1))), (3, .int (-1)), (0, .ref o), (1, .int (nI x1))]) hx hb dX0_soonest_52 hl (k := 1) rfl (nI_add _ _) (by decide) rfl (fun ls hl => ?_)
      refine lv_goto (tgt := 13) hx hb dX0_soonest_55 (by decide) ?_
      exact ih1 (q + 1) k V2 _ _ _ (by omega) (by omega) ((soF_n (hs _)).symm.trans hR) (Eqx.trans hE1 hE2) hG hS (lv_sub hl [0, 2, 3] rfl)
  exact loop1 (25 + 1) 0 25 V _ _ _ (Nat.lt_succ_self _) rfl rfl Eqx.rf hG hS (lv_sub hl [0, 1, 2] rfl)
set_option maxHeartbeats 4000000 in
theorem met_X0_leads (l : Launch) (D : va_G) (dA : Nat → ClassId) {o : Nat} {V : GI} {L : GL} {Rf : GR} {H0 : Heap} (hG : gP D dA o dS V L Rf H0) {O : Nat → Prop} {tx : Nat} {T : Txt} {f : Rw} (hC : clS D dA H0 O o V Rf tx T f) (hOA : ∀ z, O z → ¬ AS o z) (v1 v2 v3 : Int32) : Ctr l D dA yX0_leads cX0_leads 7 (some .int) (mkRm 410 9700) [.ref o, .int v1, .int v2, .int v3] H0 (AS o) (QI (fun r H1 => ∃ V1, gP D dA o dS V1 L Rf H1 ∧ Eqx PQw V V1 ∧ r = leadsA T f v1 v2 v3)) := by
  have hC0 := hC
  obtain ⟨hX, htx, hB, hrv, hsd1, hsd2⟩ := hC
  have hX0 := hX
  have hn9 := txA_n hX
  have hp2 := two9 hn9
  have hpp := Nat.two_pow_pos (xN T)
  obtain ⟨fsx, hatx⟩ := txA_at hX
  have hotx := txA_o hX
  refine ctr_I (by decide) (Nat.le_of_ble_eq_true rfl) ?_
  intro p e s m args below meth c ls QQ locs hx hb hml hown hts hK hend hS hl
  have hl : lv_has ls 7 [(0, .ref o), (1, .int v1), (2, .int v2), (3, .int v3)] := hl
  refine lv_aload_n hx hb dX0_leads_0 rfl (lv_at hl 0 rfl) ?_
  refine lv_iload_n hx hb dX0_leads_1 rfl (lv_at hl 1 rfl) ?_
  refine c_VI hx hb hml hts hown hK hl.1 hS ⟨Nat.le_refl _, Nat.le_refl _⟩ (met_X0_isRow l D dA hG (txA_S hX0 hS hOA) htx v1) (cw_X0_225 hts ⟨Nat.le_of_ble_eq_true rfl, Nat.le_of_ble_eq_true rfl⟩) (hG 0 _ rfl) rfl rfl rfl rfl (Nat.le_of_ble_eq_true rfl) dX0_leads_2 (fun _ h => h.elim) (fun r H1 locs hq hF hS => ?_)
  obtain ⟨rfl, rfl⟩ := hq
  rcases (rowN_cases hn9 v1).symm with ⟨hz2, ho2⟩ | ⟨x1, hlo_x1, hhi_x1, rfl, hz2⟩
  · refine iv (y := nI 0) hz2 ?_
    refine n_if_eq (tgt := 24) hx hb dX0_leads_5 (by decide) (by decide) (fun _ => ?_) (fun z => absurd z (by decide))
    refine lv_iconst (v := (-1)) hx hb dX0_leads_24 (by decide) ?_
    refine hend _ _ _ _ _ hS dX0_leads_25 ?_
    exact ⟨_, rfl, _, hG, Eqx.rf, ((ho2.1 _ _)).symm⟩
  refine iv (y := nI 1) hz2 ?_
  have hl : lv_has ls 7 [(0, .ref o), (1, .int (nI x1)), (2, .int v2), (3, .int v3)] := hl
  refine n_if_eq (tgt := 24) hx hb dX0_leads_5 (by decide) (by decide) (fun z => absurd z (by decide)) (fun _ => ?_)
  refine lv_iload_n hx hb dX0_leads_8 rfl (lv_at hl 2 rfl) ?_
  refine c_SI hx hb hml hts hown hK hl.1 hS ⟨Nat.le_refl _, Nat.le_refl _⟩ (met_X0_isPlan l D dA v2) (cw_X0_231 hts ⟨Nat.le_of_ble_eq_true rfl, Nat.le_of_ble_eq_true rfl⟩) rfl rfl (Nat.le_of_ble_eq_true rfl) dX0_leads_9 (fun _ h => h.elim) (fun r H1 locs hq hF hS => ?_)
  obtain ⟨rfl, rfl⟩ := hq
  rcases (inZ_cases v2 0 24 (by decide) (by decide)).symm with ⟨hz9, ho9⟩ | ⟨x2, hlo_x2, hhi_x2, rfl, hz9⟩
  · refine iv (y := nI 0) hz9 ?_
    refine n_if_eq (tgt := 24) hx hb dX0_leads_12 (by decide) (by decide) (fun _ => ?_) (fun z => absurd z (by decide))
    refine lv_iconst (v := (-1)) hx hb dX0_leads_24 (by decide) ?_
    refine hend _ _ _ _ _ hS dX0_leads_25 ?_
    exact ⟨_, rfl, _, hG, Eqx.rf, ((rng_in hlo_x1 hhi_x1 (by omega)).trans ((ho9.1 _ _))).symm⟩
  refine iv (y := nI 1) hz9 ?_
  have hl : lv_has ls 7 [(0, .ref o), (1, .int (nI x1)), (2, .int (nI x2)), (3, .int v3)] := hl
  refine n_if_eq (tgt := 24) hx hb dX0_leads_12 (by decide) (by decide) (fun z => absurd z (by decide)) (fun _ => ?_)
  refine lv_iload_n hx hb dX0_leads_15 rfl (lv_at hl 3 rfl) ?_
  refine lv_iconst (v := (nI 0)) hx hb dX0_leads_16 (by decide) ?_
  refine lv_iconst (v := (nI 1)) hx hb dX0_leads_17 (by decide) ?_
  refine c_SI hx hb hml hts hown hK hl.1 hS ⟨Nat.le_refl _, Nat.le_refl _⟩ (met_X0_isIn l D dA v3 (nI 0) (nI 1)) (cw_X0_146 hts ⟨Nat.le_of_ble_eq_true rfl, Nat.le_of_ble_eq_true rfl⟩) rfl rfl (Nat.le_of_ble_eq_true rfl) dX0_leads_18 (fun _ h => h.elim) (fun r H1 locs hq hF hS => ?_)
  obtain ⟨rfl, rfl⟩ := hq
  rcases (inZ_cases v3 0 1 (by decide) (by decide)).symm with ⟨hz18, ho18⟩ | ⟨x3, hlo_x3, hhi_x3, rfl, hz18⟩
  · refine iv (y := nI 0) hz18 ?_
    refine n_if_ne (tgt := 26) hx hb dX0_leads_21 (by decide) (by decide) (fun z => absurd z (by decide)) (fun _ => ?_)
    refine lv_iconst (v := (-1)) hx hb dX0_leads_24 (by decide) ?_
    refine hend _ _ _ _ _ hS dX0_leads_25 ?_
    exact ⟨_, rfl, _, hG, Eqx.rf, ((rng_in hlo_x1 hhi_x1 (by omega)).trans ((rng_in hlo_x2 hhi_x2 (by omega)).trans ((ho18.1 _ _)))).symm⟩
  refine iv (y := nI 1) hz18 ?_
  have hl : lv_has ls 7 [(0, .ref o), (1, .int (nI x1)), (2, .int (nI x2)), (3, .int (nI x3))] := hl
  refine n_if_ne (tgt := 26) hx hb dX0_leads_21 (by decide) (by decide) (fun _ => ?_) (fun z => absurd z (by decide))
  refine lv_iconst (v := (nI 0)) hx hb dX0_leads_26 (by decide) ?_
  refine lv_istore (lv' := [(4, .int (nI 0)), (0, .ref o), (1, .int (nI x1)), (2, .int (nI x2)), (3, .int (nI x3))]) hx hb dX0_leads_27 hl (by decide) rfl (fun ls hl => ?_)
  refine lv_bipush (v := (-2)) hx hb dX0_leads_29 (by decide) ?_
  refine lv_istore (lv' := [(5, .int (-2)), (4, .int (nI 0)), (0, .ref o), (1, .int (nI x1)), (2, .int (nI x2)), (3, .int (nI x3))]) hx hb dX0_leads_31 hl (by decide) rfl (fun ls hl => ?_)
  refine lv_iconst (v := (nI 0)) hx hb dX0_leads_33 (by decide) ?_
  refine lv_istore (lv' := [(6, .int (nI 0)), (5, .int (-2)), (4, .int (nI 0)), (0, .ref o), (1, .int (nI x1)), (2, .int (nI x2)), (3, .int (nI x3))]) hx hb dX0_leads_34 hl (by decide) rfl (fun ls hl => ?_)
  have loop1 : ∀ (fu1 : Nat) (z : Nat) (u : Nat) (op : Option Nat) (V1 : GI) (H : Heap) (locs : List Loc) (ls : Array Slot), 2 ^ xN T - z < fu1 → (z ≤ 2 ^ xN T) → (cnF (leadP T f x1 x2) z = u) → (fdF (leadP T f x1 x2) z = op) → (Eqx PQw V V1) → gP D dA o dS V1 L Rf H → va_S (AS o) H0 H locs → lv_has ls 7 [(6, .int (nI z)), (5, .int (o1 (-2) op)), (4, .int (nI u)), (0, .ref o), (1, .int (nI x1)), (2, .int (nI x2)), (3, .int (nI x3))] → W p l e (mkRm 410 9700) s m args below meth c H locs 0 0 QQ (F0 m 36 ls []) := by
    intro fu1
    induction fu1 with
    | zero => intro z u op V1 H locs ls hfu; exact absurd hfu (Nat.not_lt_zero _)
    | succ fu1 ih1 =>
      intro z u op V1 H locs ls hfu hsn hm ho hE1 hG hS hl
      have hml9 := cnF_le (leadP T f x1 x2) z
      refine lv_iload hx hb dX0_leads_36 (lv_at hl 0 rfl) ?_
      refine lv_aload_n hx hb dX0_leads_38 rfl (lv_at hl 3 rfl) ?_
      refine c_VI hx hb hml hts hown hK hl.1 hS ⟨Nat.le_refl _, Nat.le_refl _⟩ (met_X0_rows l D dA hG (txA_S hX0 hS hOA) htx) (cw_X0_154 hts ⟨Nat.le_of_ble_eq_true rfl, Nat.le_of_ble_eq_true rfl⟩) (hG 0 _ rfl) rfl rfl rfl rfl (Nat.le_of_ble_eq_true rfl) dX0_leads_39 (fun _ h => h.elim) (fun r H1 locs hq hF hS => ?_)
      obtain ⟨rfl, rfl⟩ := hq
      refine n_icmp_ge (tgt := 77) hx hb dX0_leads_42 (by decide) (by omega) (by omega) (fun c42 => ?_) (fun c42 => ?_)
      · obtain rfl : z = 2 ^ xN T := by omega
        refine lv_iload_n hx hb dX0_leads_77 rfl (lv_at hl 6 rfl) ?_
        refine n_if_ne (tgt := 86) hx hb dX0_leads_78 (by decide) (by omega) (fun c78 => ?_) (fun c78 => ?_)
        · refine lv_iload hx hb dX0_leads_86 (lv_at hl 1 rfl) ?_
          refine hend _ _ _ _ _ hS dX0_leads_88 ?_
          exact ⟨_, rfl, _, hG, hE1, ((rng_in hlo_x1 hhi_x1 (by omega)).trans ((rng_in hlo_x2 hhi_x2 (by omega)).trans ((rng_in hlo_x3 hhi_x3 (by omega)).trans (((if_neg (by omega)).trans (congrArg (o1 (-2)) ho)))))).symm⟩
        refine lv_iload hx hb dX0_leads_81 (lv_at hl 2 rfl) ?_
        refine lv_goto (tgt := 88) hx hb dX0_leads_83 (by decide) ?_
        refine hend _ _ _ _ _ hS dX0_leads_88 ?_
        exact ⟨_, rfl, _, hG, hE1, ((rng_in hlo_x1 hhi_x1 (by omega)).trans ((rng_in hlo_x2 hhi_x2 (by omega)).trans ((rng_in hlo_x3 hhi_x3 (by omega)).trans (((if_pos c78).trans (congrArg nI hm)))))).symm⟩
      refine lv_aload_n hx hb dX0_leads_45 rfl (lv_at hl 3 rfl) ?_
      refine lv_iload hx hb dX0_leads_46 (lv_at hl 0 rfl) ?_
      refine lv_iload_n hx hb dX0_leads_48 rfl (lv_at hl 5 rfl) ?_
      refine c_VI hx hb hml hts hown hK hl.1 hS ⟨Nat.le_refl _, Nat.le_refl _⟩ (met_X0_rowAfter l D dA hG (clS_E hC0 hS hOA hE1) hOA z x2 (by omega) (by omega)) (cw_X0_228 hts ⟨Nat.le_of_ble_eq_true rfl, Nat.le_of_ble_eq_true rfl⟩) (hG 0 _ rfl) rfl rfl rfl rfl (Nat.le_of_ble_eq_true rfl) dX0_leads_49 (fun _ h => h) (fun r H1 locs hq hF hS => ?_)
      obtain ⟨V2, hG, hE2, hr2⟩ := hq
      generalize hHe2 : H1 = H at hG hS ⊢
      clear hHe2 hF
      subst hr2
      have hra2 := raF_lt T f z x2
      refine lv_iload_n hx hb dX0_leads_52 rfl (lv_at hl 4 rfl) ?_
      refine n_icmp_eq (tgt := 59) hx hb dX0_leads_53 (by decide) (by omega) (by omega) (fun c53 => ?_) (fun c53 => ?_)
      · rcases op with _ | i
        · have hl : lv_has ls 7 [(6, .int (nI z)), (5, .int (-2)), (4, .int (nI u)), (0, .ref o), (1, .int (nI x1)), (2, .int (nI x2)), (3, .int (nI x3))] := hl
          have hm0 := (fd_none ho).symm.trans hm
          refine lv_iload hx hb dX0_leads_59 (lv_at hl 2 rfl) ?_
          refine n_if_ne (tgt := 68) hx hb dX0_leads_61 (by decide) (by omega) (fun c61 => ?_) (fun c61 => ?_)
          · exact absurd hm0 (by omega)
          refine lv_iload hx hb dX0_leads_64 (lv_at hl 0 rfl) ?_
          refine lv_istore (lv' := [(5, .int (nI z)), (6, .int (nI z)), (4, .int (nI u)), (0, .ref o), (1, .int (nI x1)), (2, .int (nI x2)), (3, .int (nI x3))]) hx hb dX0_leads_66 hl (by decide) rfl (fun ls hl => ?_)
          refine lv_iinc (v := (nI (u + 1))) (lv' := [(4, .int (nI (u + 1))), (5, .int (nI z)), (6, .int (nI z)), (0, .ref o), (1, .int (nI x1)), (2, .int (nI x2)), (3, .int (nI x3))]) hx hb dX0_leads_68 hl (k := 2) rfl (nI_add _ _) (by decide) rfl (fun ls hl => ?_)
          refine lv_iinc (v := (nI (z + 1))) (lv' := [(6, .int (nI (z + 1))), (4, .int (nI (u + 1))), (5, .int (nI z)), (0, .ref o), (1, .int (nI x1)), (2, .int (nI x2)), (3, .int (nI x3))]) hx hb dX0_leads_71 hl (k := 2) rfl (nI_add _ _) (by decide) rfl (fun ls hl => ?_)
          refine lv_goto (tgt := 36) hx hb dX0_leads_74 (by decide) ?_
          exact ih1 (z + 1) (u + 1) (some z) V2 _ _ _ (by omega) (by omega) ((cnF_t (decide_eq_true c53)).trans (by omega)) (fdF_t ho (decide_eq_true c53) _ (Nat.le_refl _)) (Eqx.trans hE1 (hE2.mono PT26_PQw)) hG hS (lv_sub hl [0, 2, 1, 3, 4, 5, 6] rfl)
        have hl : lv_has ls 7 [(6, .int (nI z)), (5, .int (nI i)), (4, .int (nI u)), (0, .ref o), (1, .int (nI x1)), (2, .int (nI x2)), (3, .int (nI x3))] := hl
        have hm0 := fd_sm ho
        rw [hm] at hm0
        refine lv_iload hx hb dX0_leads_59 (lv_at hl 2 rfl) ?_
        refine n_if_ne (tgt := 68) hx hb dX0_leads_61 (by decide) (by omega) (fun c61 => ?_) (fun c61 => ?_)
        · refine lv_iinc (v := (nI (u + 1))) (lv' := [(4, .int (nI (u + 1))), (6, .int (nI z)), (5, .int (nI i)), (0, .ref o), (1, .int (nI x1)), (2, .int (nI x2)), (3, .int (nI x3))]) hx hb dX0_leads_68 hl (k := 2) rfl (nI_add _ _) (by decide) rfl (fun ls hl => ?_)
          refine lv_iinc (v := (nI (z + 1))) (lv' := [(6, .int (nI (z + 1))), (4, .int (nI (u + 1))), (5, .int (nI i)), (0, .ref o), (1, .int (nI x1)), (2, .int (nI x2)), (3, .int (nI x3))]) hx hb dX0_leads_71 hl (k := 1) rfl (nI_add _ _) (by decide) rfl (fun ls hl => ?_)
          refine lv_goto (tgt := 36) hx hb dX0_leads_74 (by decide) ?_
          exact ih1 (z + 1) (u + 1) (some i) V2 _ _ _ (by omega) (by omega) ((cnF_t (decide_eq_true c53)).trans (by omega)) (fd_s ho) (Eqx.trans hE1 (hE2.mono PT26_PQw)) hG hS (lv_sub hl [0, 2, 1, 3, 4, 5, 6] rfl)
        exact absurd hm0 (by omega)
      refine lv_goto (tgt := 71) hx hb dX0_leads_56 (by decide) ?_
      refine lv_iinc (v := (nI (z + 1))) (lv' := [(6, .int (nI (z + 1))), (5, .int (o1 (-2) op)), (4, .int (nI u)), (0, .ref o), (1, .int (nI x1)), (2, .int (nI x2)), (3, .int (nI x3))]) hx hb dX0_leads_71 hl (k := 0) rfl (nI_add _ _) (by decide) rfl (fun ls hl => ?_)
      refine lv_goto (tgt := 36) hx hb dX0_leads_74 (by decide) ?_
      exact ih1 (z + 1) u op V2 _ _ _ (by omega) (by omega) ((cnF_f (fun z => c53 (of_decide_eq_true z))).trans hm) ((fd_n (fun z => c53 (of_decide_eq_true z))).trans ho) (Eqx.trans hE1 (hE2.mono PT26_PQw)) hG hS (lv_sub hl [0, 1, 2, 3, 4, 5, 6] rfl)
  exact loop1 ((2 ^ xN T - 0) + 1) 0 0 none V _ _ _ (Nat.lt_succ_self _) (Nat.zero_le _) rfl rfl Eqx.rf hG hS (lv_sub hl [0, 1, 2, 3, 4, 5, 6] rfl)
