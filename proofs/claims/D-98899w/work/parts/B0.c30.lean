set_option maxHeartbeats 4000000 in
theorem met_J8_coder (l : Launch) (D : va_G) (dA : Nat → ClassId) {H0 : Heap} {a va : Nat} {h1 h2 : Int32} {lt : List Nat} (hs : va_at D CL (a, .inr (18, [.ref va, .int (nI 0), .int h1, .int h2])) H0) (hv : va_at D CL (va, .inl (dA 1, lt.length, .inl (fun j => nI (lt.getD j 0)))) H0) (hll : lt.length < 1000) (hlx : ∀ x, x ∈ lt → x < 128) (hc : stH D H0 0 (.int (nI 1))) : Ctr l D dA yJ8_coder cJ8_coder 1 (some .byte) (mkRm 0 0) [.ref a] H0 A0 (QI (fun r H1 => H0 = H1 ∧ r = nI 0)) := by
  refine ctr_T (by decide) (Nat.le_of_ble_eq_true rfl) ?_
  intro p e s m args below meth c ls QQ locs hx hb hml hown hts hK hend hS hl
  have hl : lv_has ls 1 [(0, .ref a)] := hl
  refine x_gets (v := .int (nI 1)) hx hb hts hown hK 0 rfl hc q646 dJ8_coder_0 ?_
  refine n_if_eq (tgt := 13) hx hb dJ8_coder_3 (by decide) (by decide) (fun z => absurd z (by decide)) (fun _ => ?_)
  refine lv_aload_n hx hb dJ8_coder_6 rfl (lv_at hl 0 rfl) ?_
  refine x_get hx hb hts hown hK hs rfl ok_J8 1 (by decide) q993 rfl dJ8_coder_7 ?_
  refine lv_goto (tgt := 14) hx hb dJ8_coder_10 (by decide) ?_
  refine hend _ _ _ _ _ hS dJ8_coder_14 (rfl) ?_
  exact ⟨_, rfl, rfl, rfl⟩
set_option maxHeartbeats 4000000 in
theorem met_J8_isLatin1 (l : Launch) (D : va_G) (dA : Nat → ClassId) {H0 : Heap} {a va : Nat} {h1 h2 : Int32} {lt : List Nat} (hs : va_at D CL (a, .inr (18, [.ref va, .int (nI 0), .int h1, .int h2])) H0) (hv : va_at D CL (va, .inl (dA 1, lt.length, .inl (fun j => nI (lt.getD j 0)))) H0) (hll : lt.length < 1000) (hlx : ∀ x, x ∈ lt → x < 128) (hc : stH D H0 0 (.int (nI 1))) : Ctr l D dA yJ8_isLatin1 cJ8_isLatin1 1 (some .boolean) (mkRm 0 0) [.ref a] H0 A0 (QI (fun r H1 => H0 = H1 ∧ r = nI 1)) := by
  refine ctr_Z (by decide) (Nat.le_of_ble_eq_true rfl) ?_
  intro p e s m args below meth c ls QQ locs hx hb hml hown hts hK hend hS hl
  have hl : lv_has ls 1 [(0, .ref a)] := hl
  refine x_gets (v := .int (nI 1)) hx hb hts hown hK 0 rfl hc q646 dJ8_isLatin1_0 ?_
  refine n_if_eq (tgt := 17) hx hb dJ8_isLatin1_3 (by decide) (by decide) (fun z => absurd z (by decide)) (fun _ => ?_)
  refine lv_aload_n hx hb dJ8_isLatin1_6 rfl (lv_at hl 0 rfl) ?_
  refine x_get hx hb hts hown hK hs rfl ok_J8 1 (by decide) q993 rfl dJ8_isLatin1_7 ?_
  refine n_if_ne (tgt := 17) hx hb dJ8_isLatin1_10 (by decide) (by decide) (fun z => absurd z (by decide)) (fun _ => ?_)
  refine lv_iconst (v := (nI 1)) hx hb dJ8_isLatin1_13 (by decide) ?_
  refine lv_goto (tgt := 18) hx hb dJ8_isLatin1_14 (by decide) ?_
  refine hend _ _ _ _ _ hS dJ8_isLatin1_18 (rfl) ?_
  exact ⟨_, rfl, rfl, rfl⟩
theorem cw_J8_335 {R : Room} {s : State} {args : Array Value} (hts : ∀ w ∈ lw_all, w.before args s = true) {f w k j : Nat} (hR : f + 1 ≤ R.frames ∧ 8 + (1 + 11) + w ≤ R.locals) : CallW R s args RJ8 RJ8 335 yJ8_coder cJ8_coder 1 (some .byte) (ws_ yJ8_coder cJ8_coder 1 (some .byte)) (mkRmC f w k j) k j 0 := cwV 0 hts (lw_V q642 q643 q644 q130 q645) rfl rfl rfl (by decide +kernel) hR
set_option maxHeartbeats 4000000 in
theorem met_J8_length (l : Launch) (D : va_G) (dA : Nat → ClassId) {H0 : Heap} {a va : Nat} {h1 h2 : Int32} {lt : List Nat} (hs : va_at D CL (a, .inr (18, [.ref va, .int (nI 0), .int h1, .int h2])) H0) (hv : va_at D CL (va, .inl (dA 1, lt.length, .inl (fun j => nI (lt.getD j 0)))) H0) (hll : lt.length < 1000) (hlx : ∀ x, x ∈ lt → x < 128) (hc : stH D H0 0 (.int (nI 1))) : Ctr l D dA yJ8_length cJ8_length 1 (some .int) (mkRm 1 22) [.ref a] H0 A0 (QI (fun r H1 => H0 = H1 ∧ r = nI lt.length)) := by
  refine ctr_I (by decide) (Nat.le_of_ble_eq_true rfl) ?_
  intro p e s m args below meth c ls QQ locs hx hb hml hown hts hK hend hS hl
  have hl : lv_has ls 1 [(0, .ref a)] := hl
  refine lv_aload_n hx hb dJ8_length_0 rfl (lv_at hl 0 rfl) ?_
  refine x_get hx hb hts hown hK hs rfl ok_J8 0 (by decide) q992 rfl dJ8_length_1 ?_
  refine x_alen hx hb hK 1 hv rfl (v := nI lt.length) rfl dJ8_length_4 ?_
  refine lv_aload_n hx hb dJ8_length_5 rfl (lv_at hl 0 rfl) ?_
  refine c_VI hx hb hml hts hown hK hl.1 hS ⟨Nat.le_refl _, Nat.le_refl _⟩ (met_J8_coder l D dA hs hv hll hlx hc) (cw_J8_335 hts ⟨Nat.le_of_ble_eq_true rfl, Nat.le_of_ble_eq_true rfl⟩) hs rfl rfl rfl rfl (Nat.le_of_ble_eq_true rfl) dJ8_length_6 (fun _ h => h.elim) (fun r H1 locs hq hF hS => ?_)
  obtain ⟨rfl, rfl⟩ := hq
  refine lv_ishr hx hb dJ8_length_9 ?_
  refine iv (y := (nI lt.length)) ((nx_shr (by omega) (by decide)).trans (congrArg nI (Nat.div_one _))) ?_
  refine hend _ _ _ _ _ hS dJ8_length_10 ?_
  exact ⟨_, rfl, rfl, rfl⟩
set_option maxHeartbeats 4000000 in
theorem met_J7_checkIndexR (l : Launch) (D : va_G) (dA : Nat → ClassId) {H0 : Heap} {i n fa : Nat} (hi9 : i < n) (hn9 : n < 2 ^ 31) : Ctr l D dA yJ7_checkIndex cJ7_checkIndex 3 (some .int) (mkRm 0 0) [.int (nI i), .int (nI n), .ref fa] H0 A0 (QI (fun r H1 => H0 = H1 ∧ r = nI i)) := by
  refine ctr_I (by decide) (Nat.le_of_ble_eq_true rfl) ?_
  intro p e s m args below meth c ls QQ locs hx hb hml hown hts hK hend hS hl
  have hl : lv_has ls 3 [(0, .int (nI i)), (1, .int (nI n)), (2, .ref fa)] := hl
  refine lv_iload_n hx hb dJ7_checkIndex_0 rfl (lv_at hl 0 rfl) ?_
  refine n_if_lt (tgt := 9) hx hb dJ7_checkIndex_1 (by decide) (by omega) ?_
  refine lv_iload_n hx hb dJ7_checkIndex_4 rfl (lv_at hl 0 rfl) ?_
  refine lv_iload_n hx hb dJ7_checkIndex_5 rfl (lv_at hl 1 rfl) ?_
  refine n_icmp_lt (tgt := 16) hx hb dJ7_checkIndex_6 (by decide) (by omega) (by omega) (fun c6 => ?_) (fun c6 => ?_)
  · refine lv_iload_n hx hb dJ7_checkIndex_16 rfl (lv_at hl 0 rfl) ?_
    refine hend _ _ _ _ _ hS dJ7_checkIndex_17 ?_
    exact ⟨_, rfl, rfl, rfl⟩
  exact absurd hi9 (by omega)
theorem cw_J8_1059 {R : Room} {s : State} {args : Array Value} (hts : ∀ w ∈ lw_all, w.before args s = true) {f w k j : Nat} (hR : f + 1 ≤ R.frames ∧ 8 + (3 + 11) + w ≤ R.locals) : CallB R s args RJ8 1059 yJ7_checkIndex cJ7_checkIndex 3 (some .int) (ws_ yJ7_checkIndex cJ7_checkIndex 3 (some .int)) (mkRmC f w k j) k j 3 ∧ (Cond.static yJ7_checkIndex).before args s = true := va_cwS 3 hts (lw_S q664 q515 q128 q516) rfl rfl rfl (by decide +kernel) hR
set_option maxHeartbeats 4000000 in
theorem met_J8_checkIndex (l : Launch) (D : va_G) (dA : Nat → ClassId) {H0 : Heap} {i n : Nat} (hi9 : i < n) (hn9 : n < 2 ^ 31) (hf : ∃ r : Option Nat, stH D H0 4 (va_rf r)) : Ctr l D dA yJ8_checkIndex cJ8_checkIndex 2 none (mkRm 1 30) [.int (nI i), .int (nI n)] H0 A0 (QV (fun H1 => H0 = H1)) := by
  refine ctr_V (by decide) (Nat.le_of_ble_eq_true rfl) ?_
  intro p e s m args below meth c ls QQ locs hx hb hml hown hts hK hend hS hl
  have hl : lv_has ls 2 [(0, .int (nI i)), (1, .int (nI n))] := hl
  obtain ⟨r, hf⟩ := hf
  rcases r with _ | fa
  · refine lv_iload_n hx hb dJ8_checkIndex_0 rfl (lv_at hl 0 rfl) ?_
    refine lv_iload_n hx hb dJ8_checkIndex_1 rfl (lv_at hl 1 rfl) ?_
    refine x_gets (v := .null) hx hb hts hown hK 4 rfl hf q662 dJ8_checkIndex_2 ?_
    refine c_SI hx hb hml hts hown hK hl.1 hS ⟨Nat.le_refl _, Nat.le_refl _⟩ (met_J7_checkIndex l D dA (i := i) (n := n) hi9 hn9) (cw_J8_1059 hts ⟨Nat.le_of_ble_eq_true rfl, Nat.le_of_ble_eq_true rfl⟩) rfl rfl (Nat.le_of_ble_eq_true rfl) dJ8_checkIndex_5 (fun _ h => h.elim) (fun r H1 locs hq hF hS => ?_)
    obtain ⟨rfl, rfl⟩ := hq
    refine lv_pop hx hb dJ8_checkIndex_8 rfl ?_
    refine hend _ _ _ _ hS dJ8_checkIndex_9 ?_
    exact ⟨rfl, rfl⟩
  refine lv_iload_n hx hb dJ8_checkIndex_0 rfl (lv_at hl 0 rfl) ?_
  refine lv_iload_n hx hb dJ8_checkIndex_1 rfl (lv_at hl 1 rfl) ?_
  refine x_gets (v := .ref fa) hx hb hts hown hK 4 rfl hf q662 dJ8_checkIndex_2 ?_
  refine c_SI hx hb hml hts hown hK hl.1 hS ⟨Nat.le_refl _, Nat.le_refl _⟩ (met_J7_checkIndexR l D dA (i := i) (n := n) hi9 hn9) (cw_J8_1059 hts ⟨Nat.le_of_ble_eq_true rfl, Nat.le_of_ble_eq_true rfl⟩) rfl rfl (Nat.le_of_ble_eq_true rfl) dJ8_checkIndex_5 (fun _ h => h.elim) (fun r H1 locs hq hF hS => ?_)
  obtain ⟨rfl, rfl⟩ := hq
  refine lv_pop hx hb dJ8_checkIndex_8 rfl ?_
  refine hend _ _ _ _ hS dJ8_checkIndex_9 ?_
  exact ⟨rfl, rfl⟩
theorem cw_J9_9 {R : Room} {s : State} {args : Array Value} (hts : ∀ w ∈ lw_all, w.before args s = true) {f w k j : Nat} (hR : f + 1 ≤ R.frames ∧ 8 + (2 + 11) + w ≤ R.locals) : CallB R s args RJ9 9 yJ8_checkIndex cJ8_checkIndex 2 none (ws_ yJ8_checkIndex cJ8_checkIndex 2 none) (mkRmC f w k j) k j 2 ∧ (Cond.static yJ8_checkIndex).before args s = true := va_cwS 2 hts (lw_S q659 q660 q130 q661) rfl rfl rfl (by decide +kernel) hR
set_option maxHeartbeats 4000000 in
theorem met_J9_charAt (l : Launch) (D : va_G) (dA : Nat → ClassId) {H0 : Heap} {va i : Nat} {lt : List Nat} (hv : va_at D CL (va, .inl (dA 1, lt.length, .inl (fun j => nI (lt.getD j 0)))) H0) (hll : lt.length < 1000) (hlx : ∀ x, x ∈ lt → x < 128) (hi9 : i < lt.length) (hf : ∃ r : Option Nat, stH D H0 4 (va_rf r)) : Ctr l D dA yJ9_charAt cJ9_charAt 2 (some .char) (mkRm 2 60) [.ref va, .int (nI i)] H0 A0 (QI (fun r H1 => H0 = H1 ∧ r = nI (lt.getD i 0))) := by
  refine ctr_T (by decide) (Nat.le_of_ble_eq_true rfl) ?_
  intro p e s m args below meth c ls QQ locs hx hb hml hown hts hK hend hS hl
  have hl : lv_has ls 2 [(0, .ref va), (1, .int (nI i))] := hl
  have hci := getD_lt hlx i
  refine lv_iload_n hx hb dJ9_charAt_0 rfl (lv_at hl 1 rfl) ?_
  refine lv_aload_n hx hb dJ9_charAt_1 rfl (lv_at hl 0 rfl) ?_
  refine x_alen hx hb hK 1 hv rfl (v := nI lt.length) rfl dJ9_charAt_2 ?_
  refine c_SV hx hb hml hts hown hK hl.1 hS ⟨Nat.le_refl _, Nat.le_refl _⟩ (met_J8_checkIndex l D dA (i := i) (n := lt.length) (by omega) (by omega) hf) (cw_J9_9 hts ⟨Nat.le_of_ble_eq_true rfl, Nat.le_of_ble_eq_true rfl⟩) rfl rfl (Nat.le_of_ble_eq_true rfl) dJ9_charAt_3 (fun _ h => h.elim) (fun H1 locs hq hF hS => ?_)
  subst hq
  refine lv_aload_n hx hb dJ9_charAt_6 rfl (lv_at hl 0 rfl) ?_
  refine lv_iload_n hx hb dJ9_charAt_7 rfl (lv_at hl 1 rfl) ?_
  refine xn_bald hx hb hK hv (i := i) (by omega) (by omega) dJ9_charAt_8 ?_
  refine lv_sipush (v := (nI 255)) hx hb dJ9_charAt_9 (by decide) ?_
  refine lv_iand hx hb dJ9_charAt_12 ?_
  refine iv (y := (nI (lt.getD i 0))) ((nx_and _ _).trans (congrArg nI (and255 (by omega)))) ?_
  refine lv_i2c (v := nI (lt.getD i 0)) hx hb dJ9_charAt_13 (i2c_n ⟨lt.getD i 0, Nat.lt_of_lt_of_le (getD_lt hlx i) (by decide)⟩) ?_
  refine hend _ _ _ _ _ hS dJ9_charAt_14 (congrArg Value.int (i2c_n ⟨lt.getD i 0, by omega⟩)) ?_
  exact ⟨_, rfl, rfl, rfl⟩
theorem cw_J8_492 {R : Room} {s : State} {args : Array Value} (hts : ∀ w ∈ lw_all, w.before args s = true) {f w k j : Nat} (hR : f + 1 ≤ R.frames ∧ 8 + (1 + 11) + w ≤ R.locals) : CallW R s args RJ8 RJ8 492 yJ8_isLatin1 cJ8_isLatin1 1 (some .boolean) (ws_ yJ8_isLatin1 cJ8_isLatin1 1 (some .boolean)) (mkRmC f w k j) k j 0 := cwV 0 hts (lw_V q652 q653 q654 q130 q655) rfl rfl rfl (by decide +kernel) hR
theorem cw_J8_495 {R : Room} {s : State} {args : Array Value} (hts : ∀ w ∈ lw_all, w.before args s = true) {f w k j : Nat} (hR : f + 1 ≤ R.frames ∧ 8 + (2 + 11) + w ≤ R.locals) : CallB R s args RJ8 495 yJ9_charAt cJ9_charAt 2 (some .char) (ws_ yJ9_charAt cJ9_charAt 2 (some .char)) (mkRmC f w k j) k j 2 ∧ (Cond.static yJ9_charAt).before args s = true := va_cwS 2 hts (lw_S q656 q657 q131 q658) rfl rfl rfl (by decide +kernel) hR
set_option maxHeartbeats 4000000 in
theorem met_J8_charAt (l : Launch) (D : va_G) (dA : Nat → ClassId) {H0 : Heap} {a va : Nat} {h1 h2 : Int32} {lt : List Nat} (hs : va_at D CL (a, .inr (18, [.ref va, .int (nI 0), .int h1, .int h2])) H0) (hv : va_at D CL (va, .inl (dA 1, lt.length, .inl (fun j => nI (lt.getD j 0)))) H0) (hll : lt.length < 1000) (hlx : ∀ x, x ∈ lt → x < 128) (hc : stH D H0 0 (.int (nI 1))) {i : Nat} (hi9 : i < lt.length) (hf : ∃ r : Option Nat, stH D H0 4 (va_rf r)) : Ctr l D dA yJ8_charAt cJ8_charAt 2 (some .char) (mkRm 3 100) [.ref a, .int (nI i)] H0 A0 (QI (fun r H1 => H0 = H1 ∧ r = nI (lt.getD i 0))) := by
  have hci := getD_lt hlx i
  refine ctr_T (by decide) (Nat.le_of_ble_eq_true rfl) ?_
  intro p e s m args below meth c ls QQ locs hx hb hml hown hts hK hend hS hl
  have hl : lv_has ls 2 [(0, .ref a), (1, .int (nI i))] := hl
  refine lv_aload_n hx hb dJ8_charAt_0 rfl (lv_at hl 0 rfl) ?_
  refine c_VI hx hb hml hts hown hK hl.1 hS ⟨Nat.le_refl _, Nat.le_refl _⟩ (met_J8_isLatin1 l D dA hs hv hll hlx hc) (cw_J8_492 hts ⟨Nat.le_of_ble_eq_true rfl, Nat.le_of_ble_eq_true rfl⟩) hs rfl rfl rfl rfl (Nat.le_of_ble_eq_true rfl) dJ8_charAt_1 (fun _ h => h.elim) (fun r H1 locs hq hF hS => ?_)
  obtain ⟨rfl, rfl⟩ := hq
  refine n_if_eq (tgt := 16) hx hb dJ8_charAt_4 (by decide) (by decide) (fun z => absurd z (by decide)) (fun _ => ?_)
  refine lv_aload_n hx hb dJ8_charAt_7 rfl (lv_at hl 0 rfl) ?_
  refine x_get hx hb hts hown hK hs rfl ok_J8 0 (by decide) q992 rfl dJ8_charAt_8 ?_
  refine lv_iload_n hx hb dJ8_charAt_11 rfl (lv_at hl 1 rfl) ?_
  refine c_SI hx hb hml hts hown hK hl.1 hS ⟨Nat.le_refl _, Nat.le_refl _⟩ (met_J9_charAt l D dA hv hll hlx (i := i) (by omega) hf) (cw_J8_495 hts ⟨Nat.le_of_ble_eq_true rfl, Nat.le_of_ble_eq_true rfl⟩) rfl rfl (Nat.le_of_ble_eq_true rfl) dJ8_charAt_12 (fun _ h => h.elim) (fun r H1 locs hq hF hS => ?_)
  obtain ⟨rfl, rfl⟩ := hq
  refine hend _ _ _ _ _ hS dJ8_charAt_15 (congrArg Value.int (i2c_n ⟨lt.getD i 0, by omega⟩)) ?_
  exact ⟨_, rfl, rfl, rfl⟩
set_option maxHeartbeats 4000000 in
theorem met_J9_equals (l : Launch) (D : va_G) (dA : Nat → ClassId) {H0 : Heap} {va vb : Nat} {l1 l2 : List Nat} (hv : va_at D CL (va, .inl (dA 1, l1.length, .inl (fun j => nI (l1.getD j 0)))) H0) (hv2 : va_at D CL (vb, .inl (dA 1, l2.length, .inl (fun j => nI (l2.getD j 0)))) H0) (hll : l1.length < 1000) (hll2 : l2.length < 1000) (hlx : ∀ x, x ∈ l1 → x < 128) (hlx2 : ∀ x, x ∈ l2 → x < 128) : Ctr l D dA yJ9_equals cJ9_equals 3 (some .boolean) (mkRm 0 0) [.ref va, .ref vb] H0 A0 (QI (fun r H1 => H0 = H1 ∧ r = nI (bN (decide (l1 = l2))))) := by
  refine ctr_Z (by decide) (Nat.le_of_ble_eq_true rfl) ?_
  intro p e s m args below meth c ls QQ locs hx hb hml hown hts hK hend hS hl
  have hl : lv_has ls 3 [(0, .ref va), (1, .ref vb)] := hl
  refine lv_aload_n hx hb dJ9_equals_0 rfl (lv_at hl 0 rfl) ?_
  refine x_alen hx hb hK 1 hv rfl (v := nI l1.length) rfl dJ9_equals_1 ?_
  refine lv_aload_n hx hb dJ9_equals_2 rfl (lv_at hl 1 rfl) ?_
  refine x_alen hx hb hK 1 hv2 rfl (v := nI l2.length) rfl dJ9_equals_3 ?_
  refine n_icmp_ne (tgt := 34) hx hb dJ9_equals_4 (by decide) (by omega) (by omega) (fun c4 => ?_) (fun c4 => ?_)
  · refine lv_iconst (v := (nI 0)) hx hb dJ9_equals_34 (by decide) ?_
    refine hend _ _ _ _ _ hS dJ9_equals_35 (by decide) ?_
    exact ⟨_, rfl, rfl, (congrArg nI (bN_f (decide_eq_false (fun z => c4 (by rw [z]))))).symm⟩
  refine lv_iconst (v := (nI 0)) hx hb dJ9_equals_7 (by decide) ?_
  refine lv_istore_n (lv' := [(2, .int (nI 0)), (0, .ref va), (1, .ref vb)]) hx hb dJ9_equals_8 rfl hl (by decide) rfl (fun ls hl => ?_)
  have loop1 : ∀ (fu1 : Nat) (k : Nat) (locs : List Loc) (ls : Array Slot), l1.length - k < fu1 → (k ≤ l1.length) → (∀ j, j < k → l1.getD j 0 = l2.getD j 0) → va_S A0 H0 H0 locs → lv_has ls 3 [(2, .int (nI k)), (0, .ref va), (1, .ref vb)] → W p l e (mkRm 0 0) s m args below meth c H0 locs 0 0 QQ (F0 m 9 ls []) := by
    intro fu1
    induction fu1 with
    | zero => intro k locs ls hfu; exact absurd hfu (Nat.not_lt_zero _)
    | succ fu1 ih1 =>
      intro k locs ls hfu hk9 heq hS hl
      have hka := getD_lt hlx k
      have hkb := getD_lt hlx2 k
      refine lv_iload_n hx hb dJ9_equals_9 rfl (lv_at hl 0 rfl) ?_
      refine lv_aload_n hx hb dJ9_equals_10 rfl (lv_at hl 1 rfl) ?_
      refine x_alen hx hb hK 1 hv rfl (v := nI l1.length) rfl dJ9_equals_11 ?_
      refine n_icmp_ge (tgt := 32) hx hb dJ9_equals_12 (by decide) (by omega) (by omega) (fun c12 => ?_) (fun c12 => ?_)
      · refine lv_iconst (v := (nI 1)) hx hb dJ9_equals_32 (by decide) ?_
        refine hend _ _ _ _ _ hS dJ9_equals_33 (by decide) ?_
        exact ⟨_, rfl, rfl, (congrArg nI (bN_t (decide_eq_true (lt_ext (by omega) (fun j hj => heq j (by omega)))))).symm⟩
      refine lv_aload_n hx hb dJ9_equals_15 rfl (lv_at hl 1 rfl) ?_
      refine lv_iload_n hx hb dJ9_equals_16 rfl (lv_at hl 0 rfl) ?_
      refine xn_bald hx hb hK hv (i := k) (by omega) (by omega) dJ9_equals_17 ?_
      refine lv_aload_n hx hb dJ9_equals_18 rfl (lv_at hl 2 rfl) ?_
      refine lv_iload_n hx hb dJ9_equals_19 rfl (lv_at hl 0 rfl) ?_
      refine xn_bald hx hb hK hv2 (i := k) (by omega) (by omega) dJ9_equals_20 ?_
      refine n_icmp_eq (tgt := 26) hx hb dJ9_equals_21 (by decide) (by omega) (by omega) (fun c21 => ?_) (fun c21 => ?_)
      · refine lv_iinc (v := (nI (k + 1))) (lv' := [(2, .int (nI (k + 1))), (0, .ref va), (1, .ref vb)]) hx hb dJ9_equals_26 hl (k := 0) rfl (nI_add _ _) (by decide) rfl (fun ls hl => ?_)
        refine lv_goto (tgt := 9) hx hb dJ9_equals_29 (by decide) ?_
        exact ih1 (k + 1) _ _ (by omega) (by omega) (fun j hj => by rcases Nat.lt_succ_iff_lt_or_eq.mp hj with h | h; exact heq j h; rw [h]; exact c21) hS (lv_sub hl [0, 1, 2] rfl)
      refine lv_iconst (v := (nI 0)) hx hb dJ9_equals_24 (by decide) ?_
      refine hend _ _ _ _ _ hS dJ9_equals_25 (by decide) ?_
      exact ⟨_, rfl, rfl, (congrArg nI (bN_f (decide_eq_false (fun z => c21 (by rw [z]))))).symm⟩
  exact loop1 ((l1.length - 0) + 1) 0 _ _ (Nat.lt_succ_self _) (Nat.zero_le _) (fun j hj => absurd hj (Nat.not_lt_zero _)) hS (lv_sub hl [0, 1, 2] rfl)
theorem cw_J8_541 {R : Room} {s : State} {args : Array Value} (hts : ∀ w ∈ lw_all, w.before args s = true) {f w k j : Nat} (hR : f + 1 ≤ R.frames ∧ 8 + (3 + 11) + w ≤ R.locals) : CallB R s args RJ8 541 yJ9_equals cJ9_equals 3 (some .boolean) (ws_ yJ9_equals cJ9_equals 3 (some .boolean)) (mkRmC f w k j) k j 2 ∧ (Cond.static yJ9_equals).before args s = true := va_cwS 2 hts (lw_S q1014 q1015 q131 q1016) rfl rfl rfl (by decide +kernel) hR
set_option maxHeartbeats 4000000 in
theorem met_J8_equals (l : Launch) (D : va_G) (dA : Nat → ClassId) {H0 : Heap} {a va : Nat} {h1 h2 : Int32} {lt : List Nat} (hs : va_at D CL (a, .inr (18, [.ref va, .int (nI 0), .int h1, .int h2])) H0) (hv : va_at D CL (va, .inl (dA 1, lt.length, .inl (fun j => nI (lt.getD j 0)))) H0) (hll : lt.length < 1000) (hlx : ∀ x, x ∈ lt → x < 128) (hc : stH D H0 0 (.int (nI 1))) {b vb : Nat} {h3 h4 : Int32} {lu : List Nat} (hs2 : va_at D CL (b, .inr (18, [.ref vb, .int (nI 0), .int h3, .int h4])) H0) (hv2 : va_at D CL (vb, .inl (dA 1, lu.length, .inl (fun j => nI (lu.getD j 0)))) H0) (hll2 : lu.length < 1000) (hlx2 : ∀ x, x ∈ lu → x < 128) (hne : a ≠ b) : Ctr l D dA yJ8_equals cJ8_equals 3 (some .boolean) (mkRm 1 30) [.ref a, .ref b] H0 A0 (QI (fun r H1 => H0 = H1 ∧ r = nI (bN (decide (lt = lu))))) := by
  have hbq := bN_lt (decide (lt = lu))
  refine ctr_Z (by decide) (Nat.le_of_ble_eq_true rfl) ?_
  intro p e s m args below meth c ls QQ locs hx hb hml hown hts hK hend hS hl
  have hl : lv_has ls 3 [(0, .ref a), (1, .ref b)] := hl
  refine lv_aload_n hx hb dJ8_equals_0 rfl (lv_at hl 0 rfl) ?_
  refine lv_aload_n hx hb dJ8_equals_1 rfl (lv_at hl 1 rfl) ?_
  refine lv_acmp_ne (rx := some a) (ry := some b) (tgt := 7) hx hb dJ8_equals_2 (by decide) (fun _ => ?_) (fun z => absurd (Option.some.inj z) hne)
  refine lv_aload_n hx hb dJ8_equals_7 rfl (lv_at hl 1 rfl) ?_
  refine x_inst hx hb hts hown hK hs2 rfl q1013 dJ8_equals_8 ?_
  refine n_if_eq (tgt := 54) hx hb dJ8_equals_11 (by decide) (by decide) (fun z => absurd z (by decide)) (fun _ => ?_)
  refine lv_aload_n hx hb dJ8_equals_14 rfl (lv_at hl 1 rfl) ?_
  refine x_cast hx hb hts hown hK hs2 rfl q1013 dJ8_equals_15 ?_
  refine lv_astore_n (lv' := [(2, .ref b), (0, .ref a), (1, .ref b)]) hx hb dJ8_equals_18 rfl hl (by decide) rfl (fun ls hl => ?_)
  refine x_gets (v := .int (nI 1)) hx hb hts hown hK 0 rfl hc q646 dJ8_equals_19 ?_
  refine n_if_eq (tgt := 36) hx hb dJ8_equals_22 (by decide) (by decide) (fun z => absurd z (by decide)) (fun _ => ?_)
  refine lv_aload_n hx hb dJ8_equals_25 rfl (lv_at hl 1 rfl) ?_
  refine x_get hx hb hts hown hK hs rfl ok_J8 1 (by decide) q993 rfl dJ8_equals_26 ?_
  refine lv_aload_n hx hb dJ8_equals_29 rfl (lv_at hl 0 rfl) ?_
  refine x_get hx hb hts hown hK hs2 rfl ok_J8 1 (by decide) q993 rfl dJ8_equals_30 ?_
  refine n_icmp_ne (tgt := 54) hx hb dJ8_equals_33 (by decide) (by decide) (by decide) (fun z => absurd z (by decide)) (fun _ => ?_)
  refine lv_aload_n hx hb dJ8_equals_36 rfl (lv_at hl 1 rfl) ?_
  refine x_get hx hb hts hown hK hs rfl ok_J8 0 (by decide) q992 rfl dJ8_equals_37 ?_
  refine lv_aload_n hx hb dJ8_equals_40 rfl (lv_at hl 0 rfl) ?_
  refine x_get hx hb hts hown hK hs2 rfl ok_J8 0 (by decide) q992 rfl dJ8_equals_41 ?_
  refine c_SI hx hb hml hts hown hK hl.1 hS ⟨Nat.le_refl _, Nat.le_refl _⟩ (met_J9_equals l D dA hv hv2 hll hll2 hlx hlx2) (cw_J8_541 hts ⟨Nat.le_of_ble_eq_true rfl, Nat.le_of_ble_eq_true rfl⟩) rfl rfl (Nat.le_of_ble_eq_true rfl) dJ8_equals_44 (fun _ h => h.elim) (fun r H1 locs hq hF hS => ?_)
  obtain ⟨rfl, rfl⟩ := hq
  refine n_if_eq (tgt := 54) hx hb dJ8_equals_47 (by decide) (by omega) (fun c47 => ?_) (fun c47 => ?_)
  · refine lv_iconst (v := (nI 0)) hx hb dJ8_equals_54 (by decide) ?_
    refine hend _ _ _ _ _ hS dJ8_equals_55 (by decide) ?_
    exact ⟨_, rfl, rfl, (congrArg nI (bN_f (decide_eq_false (bN_z.mp (by omega))))).symm⟩
  refine lv_iconst (v := (nI 1)) hx hb dJ8_equals_50 (by decide) ?_
  refine lv_goto (tgt := 55) hx hb dJ8_equals_51 (by decide) ?_
  refine hend _ _ _ _ _ hS dJ8_equals_55 (by decide) ?_
  exact ⟨_, rfl, rfl, (congrArg nI (bN_t (decide_eq_true (bN_p.mp (by omega))))).symm⟩
