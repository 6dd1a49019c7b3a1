def PTm (k j : Nat) : Bool := k == 5 || k == 6 || k == 7 || k == 8 || (k == 2 && j == 7)
/-- the byte at k, with its sign -/
def atS (tp : List Int32) (k : Nat) : Int32 := match tp[k]? with
  | some x => x
  | none => 0
def byT (tp : List Int32) : Prop := ∀ x, x ∈ tp → -128 ≤ x.toInt ∧ x.toInt < 128
theorem atS_in {tp : List Int32} {k : Nat} (h : k < tp.length) : atS tp k = tp[k] := by
  unfold atS
  rw [List.getElem?_eq_getElem h]
theorem tp_at {V : GI} {tp : List Int32} {k : Nat} (htp : tpP V tp) (h : k < tp.length) : V 4 k = atS tp k := by
  rw [atS_in h]
  exact htp.2.2 k _ (List.getElem?_eq_getElem h)
theorem atS_out {tp : List Int32} {k : Nat} (h : tp.length ≤ k) : atS tp k = 0 := by
  unfold atS
  rw [List.getElem?_eq_none h]
theorem at_ch {tp : List Int32} (hb : byT tp) (k : Nat) : (0 ≤ (atS tp k).toInt ∧ ((chT tp k : Nat) : Int) = (atS tp k).toInt ∧ chT tp k < 128) ∨ ((atS tp k).toInt < 0 ∧ 128 ≤ chT tp k) := by
  unfold atS chT
  cases h : tp[k]? with
  | none => exact Or.inl ⟨by decide, by decide, by decide⟩
  | some x =>
    have hx := hb x (List.mem_of_getElem? h)
    have e : x.toInt = x.toBitVec.toInt := rfl
    rw [BitVec.toInt_eq_toNat_cond] at e
    have hl := x.toBitVec.isLt
    show (0 ≤ x.toInt ∧ ((x.toBitVec.toNat % 256 : Nat) : Int) = x.toInt ∧ x.toBitVec.toNat % 256 < 128) ∨ (x.toInt < 0 ∧ 128 ≤ x.toBitVec.toNat % 256)
    split at e <;> omega
theorem at_lt {tp : List Int32} (hb : byT tp) {k lo : Nat} (hlo : lo < 128) : ¬ atS tp k < nI lo ↔ lo ≤ chT tp k ∧ chT tp k < 128 := by
  rw [Int32.lt_iff_toInt_lt, nI_toInt (by omega)]
  rcases at_ch hb k with h | h <;> omega
theorem at_gt {tp : List Int32} (hb : byT tp) {k hi : Nat} (hhi : hi < 128) (h0 : chT tp k < 128) : nI hi < atS tp k ↔ hi < chT tp k := by
  rw [Int32.lt_iff_toInt_lt, nI_toInt (by omega)]
  rcases at_ch hb k with h | h <;> omega
theorem at_1 {tp : List Int32} (hb : byT tp) {k lo hi : Nat} (hlo : lo < 128) (hhi : hi < 128) (h1 : ¬ atS tp k < nI lo) (h2 : ¬ nI hi < atS tp k) : (decide (lo ≤ chT tp k) && decide (chT tp k ≤ hi)) = true := by
  have g1 := (at_lt hb hlo).mp h1
  have g2 : ¬ hi < chT tp k := fun z => h2 ((at_gt hb hhi g1.2).mpr z)
  rw [decide_eq_true g1.1, decide_eq_true (by omega : chT tp k ≤ hi)]; rfl
theorem at_0 {tp : List Int32} (hb : byT tp) {k lo hi : Nat} (hlo : lo < 128) (hhi : hi < 128) (h : atS tp k < nI lo ∨ nI hi < atS tp k) : (decide (lo ≤ chT tp k) && decide (chT tp k ≤ hi)) = false := by
  by_cases h1 : atS tp k < nI lo
  · have g : ¬ (lo ≤ chT tp k ∧ chT tp k < 128) := fun z => ((at_lt hb hlo).mpr z) h1
    by_cases g1 : lo ≤ chT tp k
    · rw [decide_eq_true g1, decide_eq_false (by omega)]; rfl
    · rw [decide_eq_false g1]; rfl
  · have g1 := (at_lt hb hlo).mp h1
    have g2 := (at_gt hb hhi g1.2).mp (h.resolve_left h1)
    rw [decide_eq_false (by omega : ¬ chT tp k ≤ hi), Bool.and_false]
/-- the class's tokens: sort, from, to, what -/
def tcM (V : GI) (F : Nat → Nat × Nat × Nat × Nat) (m : Nat) : Prop := V 2 7 = nI m ∧ ∀ j, j < m → V 5 j = nI (F j).1 ∧ V 6 j = nI (F j).2.1 ∧ V 7 j = nI (F j).2.2.1 ∧ ((F j).1 = 2 ∨ (F j).1 = 3 → V 8 j = nI (F j).2.2.2)
theorem tcM_add {V V1 : GI} {F : Nat → Nat × Nat × Nat × Nat} {m s a b w : Nat} {y : Int32} (h : tcM V F m) (hF : F m = (s, a, b, w)) (hy : s = 2 ∨ s = 3 → y = nI w) (h7 : V1 2 7 = nI (m + 1)) (h1 : ∀ i, V1 5 i = up2 V 5 m (nI s) 5 i) (h2 : ∀ i, V1 6 i = up2 V 6 m (nI a) 6 i) (h3 : ∀ i, V1 7 i = up2 V 7 m (nI b) 7 i) (h4 : ∀ i, V1 8 i = up2 V 8 m y 8 i) : tcM V1 F (m + 1) := ⟨h7, fun j hj => by
  rw [h1, h2, h3, h4]
  by_cases e : j = m
  · subst e; rw [hF]; exact ⟨up2_s, up2_s, up2_s, fun z => up2_s.trans (hy z)⟩
  · rw [up2_n (fun z => e z.2), up2_n (fun z => e z.2), up2_n (fun z => e z.2), up2_n (fun z => e z.2)]
    exact h.2 j (by omega)⟩
theorem i2b_n : ∀ x : Fin 128, (nI x.val).toInt8.toInt32 = nI x.val := by decide +kernel
theorem i2s_n {x : Nat} (h : x < 2 ^ 15) : (nI x).toInt16.toInt32 = nI x := by
  apply Int32.toInt_inj.mp
  rw [Int16.toInt_toInt32, Int32.toInt_toInt16, nI_toInt (by omega)]
  rw [Int.bmod_eq_of_le (by omega) (by omega)]
set_option maxHeartbeats 4000000 in
theorem met_X2_at (l : Launch) (D : va_G) (dA : Nat → ClassId) {o : Nat} {V : GI} {L : GL} {Rf : GR} {H0 : Heap} (hG : gP D dA o dS V L Rf H0) {tp : List Int32} (htp : tpP V tp) (k : Nat) (hk9 : k < 4000) : Ctr l D dA yX2_at cX2_at 2 (some .int) (mkRm 0 0) [.ref (o + 2), .int (nI k)] H0 A0 (QI (fun r H1 => H0 = H1 ∧ r = atS tp k)) := by
  have ht2 := htp.1
  refine ctr_I (by decide) (Nat.le_of_ble_eq_true rfl) ?_
  intro p e s m args below meth c ls QQ locs hx hb hml hown hts hK hend hS hl
  have hl : lv_has ls 2 [(0, .ref (o + 2)), (1, .int (nI k))] := hl
  refine lv_iload_n hx hb dX2_at_0 rfl (lv_at hl 1 rfl) ?_
  refine lv_aload_n hx hb dX2_at_1 rfl (lv_at hl 0 rfl) ?_
  refine g_get (v := .int (nI tp.length)) hx hb hts hown hK hG 2 rfl rfl ok_X2 2 (by decide) q260 rfl (congrArg Value.int htp.2.1) dX2_at_2 ?_
  refine n_icmp_ge (tgt := 17) hx hb dX2_at_5 (by decide) (by omega) (by omega) (fun c5 => ?_) (fun c5 => ?_)
  · refine lv_iconst (v := (nI 0)) hx hb dX2_at_17 (by decide) ?_
    refine hend _ _ _ _ _ hS dX2_at_18 ?_
    exact ⟨_, rfl, rfl, (atS_out (by omega)).symm⟩
  refine lv_aload_n hx hb dX2_at_8 rfl (lv_at hl 0 rfl) ?_
  refine g_get hx hb hts hown hK hG 2 rfl rfl ok_X2 1 (by decide) q258 rfl rfl dX2_at_9 ?_
  refine lv_iload_n hx hb dX2_at_12 rfl (lv_at hl 1 rfl) ?_
  refine n_bald hx hb hK hG 4 rfl (by omega) (by decide) dX2_at_13 ?_
  refine lv_goto (tgt := 18) hx hb dX2_at_14 (by decide) ?_
  refine hend _ _ _ _ _ hS dX2_at_18 ?_
  exact ⟨_, rfl, rfl, tp_at htp (by omega)⟩
theorem cw_X2_80 {R : Room} {s : State} {args : Array Value} (hts : ∀ w ∈ lw_all, w.before args s = true) {f w k j : Nat} (hR : f + 1 ≤ R.frames ∧ 8 + (2 + 11) + w ≤ R.locals) : CallW R s args RX2 RX2 80 yX2_at cX2_at 2 (some .int) (ws_ yX2_at cX2_at 2 (some .int)) (mkRmC f w k j) k j 1 := cwV 1 hts (lw_V q630 q632 qs3 q113 q633) rfl rfl rfl (by decide +kernel) hR
set_option maxHeartbeats 4000000 in
theorem met_X2_isDigit (l : Launch) (D : va_G) (dA : Nat → ClassId) {o : Nat} {V : GI} {L : GL} {Rf : GR} {H0 : Heap} (hG : gP D dA o dS V L Rf H0) {tp : List Int32} (htp : tpP V tp) (hby : byT tp) (k : Nat) (hk9 : k < 4000) : Ctr l D dA yX2_isDigit cX2_isDigit 2 (some .boolean) (mkRm 1 23) [.ref (o + 2), .int (nI k)] H0 A0 (QI (fun r H1 => H0 = H1 ∧ r = nI (bN (isD (chT tp k))))) := by
  have ht2 := htp.1
  refine ctr_Z (by decide) (Nat.le_of_ble_eq_true rfl) ?_
  intro p e s m args below meth c ls QQ locs hx hb hml hown hts hK hend hS hl
  have hl : lv_has ls 2 [(0, .ref (o + 2)), (1, .int (nI k))] := hl
  refine lv_aload_n hx hb dX2_isDigit_0 rfl (lv_at hl 0 rfl) ?_
  refine lv_iload_n hx hb dX2_isDigit_1 rfl (lv_at hl 1 rfl) ?_
  refine c_VI hx hb hml hts hown hK hl.1 hS ⟨Nat.le_refl _, Nat.le_refl _⟩ (met_X2_at l D dA hG htp k (by omega)) (cw_X2_80 hts ⟨Nat.le_of_ble_eq_true rfl, Nat.le_of_ble_eq_true rfl⟩) (hG 2 _ rfl) rfl rfl rfl rfl (Nat.le_of_ble_eq_true rfl) dX2_isDigit_2 (fun _ h => h.elim) (fun r H1 locs hq hF hS => ?_)
  obtain ⟨rfl, rfl⟩ := hq
  refine lv_bipush (v := (nI 48)) hx hb dX2_isDigit_5 (by decide) ?_
  refine lv_icmp_lt (tgt := 24) hx hb dX2_isDigit_7 (by decide) (fun c7 => ?_) (fun c7 => ?_)
  · refine lv_iconst (v := (nI 0)) hx hb dX2_isDigit_24 (by decide) ?_
    refine hend _ _ _ _ _ hS dX2_isDigit_25 (by decide) ?_
    exact ⟨_, rfl, rfl, (congrArg nI (bN_f (show isD (chT tp k) = false from at_0 hby (by decide) (by decide) (by first | exact Or.inl c7 | exact Or.inr c17)))).symm⟩
  refine lv_aload_n hx hb dX2_isDigit_10 rfl (lv_at hl 0 rfl) ?_
  refine lv_iload_n hx hb dX2_isDigit_11 rfl (lv_at hl 1 rfl) ?_
  refine c_VI hx hb hml hts hown hK hl.1 hS ⟨Nat.le_refl _, Nat.le_refl _⟩ (met_X2_at l D dA hG htp k (by omega)) (cw_X2_80 hts ⟨Nat.le_of_ble_eq_true rfl, Nat.le_of_ble_eq_true rfl⟩) (hG 2 _ rfl) rfl rfl rfl rfl (Nat.le_of_ble_eq_true rfl) dX2_isDigit_12 (fun _ h => h.elim) (fun r H1 locs hq hF hS => ?_)
  obtain ⟨rfl, rfl⟩ := hq
  refine lv_bipush (v := (nI 57)) hx hb dX2_isDigit_15 (by decide) ?_
  refine lv_icmp_gt (tgt := 24) hx hb dX2_isDigit_17 (by decide) (fun c17 => ?_) (fun c17 => ?_)
  · refine lv_iconst (v := (nI 0)) hx hb dX2_isDigit_24 (by decide) ?_
    refine hend _ _ _ _ _ hS dX2_isDigit_25 (by decide) ?_
    exact ⟨_, rfl, rfl, (congrArg nI (bN_f (show isD (chT tp k) = false from at_0 hby (by decide) (by decide) (by first | exact Or.inl c7 | exact Or.inr c17)))).symm⟩
  refine lv_iconst (v := (nI 1)) hx hb dX2_isDigit_20 (by decide) ?_
  refine lv_goto (tgt := 25) hx hb dX2_isDigit_21 (by decide) ?_
  refine hend _ _ _ _ _ hS dX2_isDigit_25 (by decide) ?_
  exact ⟨_, rfl, rfl, (congrArg nI (bN_t (show isD (chT tp k) = true from at_1 hby (by decide) (by decide) (by first | exact c7 | exact Int32.not_lt.mpr c7) (by first | exact c17 | exact Int32.not_lt.mpr c17)))).symm⟩
set_option maxHeartbeats 4000000 in
theorem met_X2_isLetter (l : Launch) (D : va_G) (dA : Nat → ClassId) {o : Nat} {V : GI} {L : GL} {Rf : GR} {H0 : Heap} (hG : gP D dA o dS V L Rf H0) {tp : List Int32} (htp : tpP V tp) (hby : byT tp) (k : Nat) (hk9 : k < 4000) : Ctr l D dA yX2_isLetter cX2_isLetter 2 (some .boolean) (mkRm 1 23) [.ref (o + 2), .int (nI k)] H0 A0 (QI (fun r H1 => H0 = H1 ∧ r = nI (bN (isL (chT tp k))))) := by
  have ht2 := htp.1
  refine ctr_Z (by decide) (Nat.le_of_ble_eq_true rfl) ?_
  intro p e s m args below meth c ls QQ locs hx hb hml hown hts hK hend hS hl
  have hl : lv_has ls 2 [(0, .ref (o + 2)), (1, .int (nI k))] := hl
  refine lv_aload_n hx hb dX2_isLetter_0 rfl (lv_at hl 0 rfl) ?_
  refine lv_iload_n hx hb dX2_isLetter_1 rfl (lv_at hl 1 rfl) ?_
  refine c_VI hx hb hml hts hown hK hl.1 hS ⟨Nat.le_refl _, Nat.le_refl _⟩ (met_X2_at l D dA hG htp k (by omega)) (cw_X2_80 hts ⟨Nat.le_of_ble_eq_true rfl, Nat.le_of_ble_eq_true rfl⟩) (hG 2 _ rfl) rfl rfl rfl rfl (Nat.le_of_ble_eq_true rfl) dX2_isLetter_2 (fun _ h => h.elim) (fun r H1 locs hq hF hS => ?_)
  obtain ⟨rfl, rfl⟩ := hq
  refine lv_bipush (v := (nI 97)) hx hb dX2_isLetter_5 (by decide) ?_
  refine lv_icmp_lt (tgt := 24) hx hb dX2_isLetter_7 (by decide) (fun c7 => ?_) (fun c7 => ?_)
  · refine lv_iconst (v := (nI 0)) hx hb dX2_isLetter_24 (by decide) ?_
    refine hend _ _ _ _ _ hS dX2_isLetter_25 (by decide) ?_
    exact ⟨_, rfl, rfl, (congrArg nI (bN_f (show isL (chT tp k) = false from at_0 hby (by decide) (by decide) (by first | exact Or.inl c7 | exact Or.inr c17)))).symm⟩
  refine lv_aload_n hx hb dX2_isLetter_10 rfl (lv_at hl 0 rfl) ?_
  refine lv_iload_n hx hb dX2_isLetter_11 rfl (lv_at hl 1 rfl) ?_
  refine c_VI hx hb hml hts hown hK hl.1 hS ⟨Nat.le_refl _, Nat.le_refl _⟩ (met_X2_at l D dA hG htp k (by omega)) (cw_X2_80 hts ⟨Nat.le_of_ble_eq_true rfl, Nat.le_of_ble_eq_true rfl⟩) (hG 2 _ rfl) rfl rfl rfl rfl (Nat.le_of_ble_eq_true rfl) dX2_isLetter_12 (fun _ h => h.elim) (fun r H1 locs hq hF hS => ?_)
  obtain ⟨rfl, rfl⟩ := hq
  refine lv_bipush (v := (nI 122)) hx hb dX2_isLetter_15 (by decide) ?_
  refine lv_icmp_gt (tgt := 24) hx hb dX2_isLetter_17 (by decide) (fun c17 => ?_) (fun c17 => ?_)
  · refine lv_iconst (v := (nI 0)) hx hb dX2_isLetter_24 (by decide) ?_
    refine hend _ _ _ _ _ hS dX2_isLetter_25 (by decide) ?_
    exact ⟨_, rfl, rfl, (congrArg nI (bN_f (show isL (chT tp k) = false from at_0 hby (by decide) (by decide) (by first | exact Or.inl c7 | exact Or.inr c17)))).symm⟩
  refine lv_iconst (v := (nI 1)) hx hb dX2_isLetter_20 (by decide) ?_
  refine lv_goto (tgt := 25) hx hb dX2_isLetter_21 (by decide) ?_
  refine hend _ _ _ _ _ hS dX2_isLetter_25 (by decide) ?_
  exact ⟨_, rfl, rfl, (congrArg nI (bN_t (show isL (chT tp k) = true from at_1 hby (by decide) (by decide) (by first | exact c7 | exact Int32.not_lt.mpr c7) (by first | exact c17 | exact Int32.not_lt.mpr c17)))).symm⟩
set_option maxHeartbeats 4000000 in
theorem met_X2_add (l : Launch) (D : va_G) (dA : Nat → ClassId) {o : Nat} {V : GI} {L : GL} {Rf : GR} {H0 : Heap} (hG : gP D dA o dS V L Rf H0) {F : Nat → Nat × Nat × Nat × Nat} {m0 : Nat} (hm : tcM V F m0) (hm9 : m0 < 2001) (x a b yn : Nat) (y : Int32) (hx5 : x < 128) (ha5 : a < 2 ^ 15) (hb5 : b < 2 ^ 15) (hy5 : y.toInt16.toInt32 = y) (hF : F m0 = (x, a, b, yn)) (hyn : x = 2 ∨ x = 3 → y = nI yn) : Ctr l D dA yX2_add cX2_add 5 none (mkRm 0 0) [.ref (o + 2), .int (nI x), .int (nI a), .int (nI b), .int y] H0 (AS o) (QV (fun H1 => ∃ V1, gP D dA o dS V1 L Rf H1 ∧ Eqx PTm V V1 ∧ tcM V1 F (m0 + 1))) := by
  refine ctr_V (by decide) (Nat.le_of_ble_eq_true rfl) ?_
  intro p e s m args below meth c ls QQ locs hx hb hml hown hts hK hend hS hl
  have hl : lv_has ls 5 [(0, .ref (o + 2)), (1, .int (nI x)), (2, .int (nI a)), (3, .int (nI b)), (4, .int y)] := hl
  refine lv_aload_n hx hb dX2_add_0 rfl (lv_at hl 0 rfl) ?_
  refine g_get hx hb hts hown hK hG 2 rfl rfl ok_X2 3 (by decide) q262 rfl rfl dX2_add_1 ?_
  refine lv_aload_n hx hb dX2_add_4 rfl (lv_at hl 0 rfl) ?_
  refine g_get (v := .int (nI m0)) hx hb hts hown hK hG 2 rfl rfl ok_X2 7 (by decide) q269 rfl (congrArg Value.int hm.1) dX2_add_5 ?_
  refine lv_iload_n hx hb dX2_add_8 rfl (lv_at hl 1 rfl) ?_
  refine lv_i2b (v := (nI x).toInt8.toInt32) hx hb dX2_add_9 rfl ?_
  refine iv (y := (nI x)) (i2b_n ⟨x, hx5⟩) ?_
  refine n_bast (x2 := (nI x)) hx hb hK hG hS 5 (AS_in 5 (by decide)) rfl (by omega) (by decide) (i2b_n ⟨x, hx5⟩) dX2_add_10 (fun H locs hG hO hS => ?_)
  refine lv_aload_n hx hb dX2_add_11 rfl (lv_at hl 0 rfl) ?_
  refine g_get hx hb hts hown hK hG 2 rfl rfl ok_X2 4 (by decide) q264 rfl rfl dX2_add_12 ?_
  refine lv_aload_n hx hb dX2_add_15 rfl (lv_at hl 0 rfl) ?_
  refine g_get (v := .int (nI m0)) hx hb hts hown hK hG 2 rfl rfl ok_X2 7 (by decide) q269 rfl (congrArg Value.int hm.1) dX2_add_16 ?_
  refine lv_iload_n hx hb dX2_add_19 rfl (lv_at hl 2 rfl) ?_
  refine lv_i2s (v := (nI a).toInt16.toInt32) hx hb dX2_add_20 rfl ?_
  refine iv (y := (nI a)) (i2s_n ha5) ?_
  refine n_sast (x2 := (nI a)) hx hb hK hG hS 6 (AS_in 6 (by decide)) rfl (by omega) (by decide) (i2s_n ha5) dX2_add_21 (fun H locs hG hO hS => ?_)
  refine lv_aload_n hx hb dX2_add_22 rfl (lv_at hl 0 rfl) ?_
  refine g_get hx hb hts hown hK hG 2 rfl rfl ok_X2 5 (by decide) q266 rfl rfl dX2_add_23 ?_
  refine lv_aload_n hx hb dX2_add_26 rfl (lv_at hl 0 rfl) ?_
  refine g_get (v := .int (nI m0)) hx hb hts hown hK hG 2 rfl rfl ok_X2 7 (by decide) q269 rfl (congrArg Value.int hm.1) dX2_add_27 ?_
  refine lv_iload_n hx hb dX2_add_30 rfl (lv_at hl 3 rfl) ?_
  refine lv_i2s (v := (nI b).toInt16.toInt32) hx hb dX2_add_31 rfl ?_
  refine iv (y := (nI b)) (i2s_n hb5) ?_
  refine n_sast (x2 := (nI b)) hx hb hK hG hS 7 (AS_in 7 (by decide)) rfl (by omega) (by decide) (i2s_n hb5) dX2_add_32 (fun H locs hG hO hS => ?_)
  refine lv_aload_n hx hb dX2_add_33 rfl (lv_at hl 0 rfl) ?_
  refine g_get hx hb hts hown hK hG 2 rfl rfl ok_X2 6 (by decide) q267 rfl rfl dX2_add_34 ?_
  refine lv_aload_n hx hb dX2_add_37 rfl (lv_at hl 0 rfl) ?_
  refine g_get (v := .int (nI m0)) hx hb hts hown hK hG 2 rfl rfl ok_X2 7 (by decide) q269 rfl (congrArg Value.int hm.1) dX2_add_38 ?_
  refine lv_iload hx hb dX2_add_41 (lv_at hl 4 rfl) ?_
  refine lv_i2s (v := y.toInt16.toInt32) hx hb dX2_add_43 rfl ?_
  refine iv (y := y) hy5 ?_
  refine n_sast (x2 := y) hx hb hK hG hS 8 (AS_in 8 (by decide)) rfl (by omega) (by decide) hy5 dX2_add_44 (fun H locs hG hO hS => ?_)
  refine lv_aload_n hx hb dX2_add_45 rfl (lv_at hl 0 rfl) ?_
  refine lv_dup hx hb dX2_add_46 rfl ?_
  refine g_get (v := .int (nI m0)) hx hb hts hown hK hG 2 rfl rfl ok_X2 7 (by decide) q269 rfl (congrArg Value.int hm.1) dX2_add_47 ?_
  refine lv_iconst (v := (nI 1)) hx hb dX2_add_50 (by decide) ?_
  refine n_iadd hx hb dX2_add_51 ?_
  refine g_put hx hb hts hown hK hG hS 2 (AS_in 2 (by decide)) rfl rfl ok_X2 7 (by decide) q269 rfl rfl rfl rfl dX2_add_52 (fun H locs hG hO hS => ?_)
  refine hend _ _ _ _ hS dX2_add_55 ?_
  exact ⟨rfl, _, hG, (((((Eqx.rf.up rfl).up rfl).up rfl).up rfl).up rfl), tcM_add hm hF hyn rfl (fun _ => rfl) (fun _ => rfl) (fun _ => rfl) (fun _ => rfl)⟩
