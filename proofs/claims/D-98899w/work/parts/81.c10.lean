abbrev PT26 : Nat → Nat → Bool := PBk 26
abbrev PT15 : Nat → Nat → Bool := PBk 15
def PQw (k j : Nat) : Bool := k == 23 || k == 24 || k == 25 || k == 26 || k == 27 || k == 28 || k == 29 || k == 30 || k == 31 || k == 32 || k == 33 || k == 34 || k == 35 || k == 36 || k == 75 || k == 78 || k == 80 || k == 81 || (k == 0 && (j == 16 || j == 17 || j == 18 || j == 19))
def PSc (k _ : Nat) : Bool := k == 23 || k == 24 || k == 25
theorem PT26_PQw : ∀ k j, PQw k j = false → PT26 k j = false := by intro k j h; simp only [PQw, PT26, PBk, Bool.or_eq_false_iff, Bool.and_eq_false_iff, beq_eq_false_iff_ne, ne_eq, decide_eq_false_iff_not] at *; omega
theorem PSc_PQw : ∀ k j, PQw k j = false → PSc k j = false := by intro k j h; simp only [PQw, PSc, Bool.or_eq_false_iff, Bool.and_eq_false_iff, beq_eq_false_iff_ne, ne_eq] at *; omega
theorem PQw_bk : ∀ k j, k ≤ 4 → PQw (15 + k) j = false := by intro k j h; simp only [PQw, Bool.or_eq_false_iff, Bool.and_eq_false_iff, beq_eq_false_iff_ne, ne_eq]; omega
theorem view_at {D : va_G} {dA : Nat → ClassId} {o kb : Nat} {V W : GI} {L : GL} {Rf : GR} {H1 : Heap} (hB : isB kb) (hw : gP D dA (o + kb) dB W (vwL L kb) (vwR Rf kb) H1) : ∀ i, i < 11 → ∀ d, dS[kb + i]? = some d → va_at D CL (o + (kb + i), gE dA o (spl V kb W) L Rf (kb + i) d) H1 := by
  intro i hi d hd
  have key : ∀ d', (dB)[i]? = some d' → gE dA (o + kb) W (vwL L kb) (vwR Rf kb) i d' = gE dA o (spl V kb W) L Rf (kb + i) d → va_at D CL (o + (kb + i), gE dA o (spl V kb W) L Rf (kb + i) d) H1 := fun d' h1 h2 => by
    rw [← h2, ← Nat.add_assoc]
    exact hw _ _ h1
  have hd2 : ∀ d', (bkD kb)[i]? = some d' → d = d' := fun d' h1 => Option.some.inj (hd.symm.trans (hB.2.2 i d' h1))
  have hs : ∀ j, spl V kb W (kb + i) j = W i j := fun j => spl_in hi
  have hf : spl V kb W (kb + i) = W i := funext hs
  have hz : spl V kb W kb = W 0 := funext (fun j => spl_in (V := V) (kb := kb) (W := W) (i := 0) (j := j) (by decide))
  obtain rfl | rfl | rfl | rfl | rfl | rfl | rfl | rfl | rfl | rfl | rfl : i = 0 ∨ i = 1 ∨ i = 2 ∨ i = 3 ∨ i = 4 ∨ i = 5 ∨ i = 6 ∨ i = 7 ∨ i = 8 ∨ i = 9 ∨ i = 10 := by omega
  all_goals (obtain rfl := hd2 _ rfl; refine key _ rfl ?_; first | (simp only [gE, gF, gV, gA, vwR, Nat.add_assoc, Nat.add_zero, hf, hz]; done) | (simp only [gE, gF, gV, gA, vwR, Nat.add_assoc, Nat.add_zero, hf, hz]; rfl))
/-- two barracks were at work, the one was but read -/
theorem gP_back2 {D : va_G} {dA : Nat → ClassId} {o kb kc : Nat} {V W : GI} {L : GL} {Rf : GR} {H H1 : Heap} (h : gP D dA o dS V L Rf H) (hB : isB kb) (hC : isB kc) (hF : Fr (fun z => AB (o + kb) z ∨ AB (o + kc) z) H H1) (hw : gP D dA (o + kb) dB W (vwL L kb) (vwR Rf kb) H1) (hc : gP D dA (o + kc) dB (vwI V kc) (vwL L kc) (vwR Rf kc) H1) : gP D dA o dS (spl V kb W) L Rf H1 := by
  intro k d hd
  by_cases hk : kb ≤ k ∧ k < kb + 11
  · obtain ⟨i, rfl⟩ : ∃ i, k = kb + i := ⟨k - kb, by omega⟩
    exact view_at hB hw i (by omega) d hd
  · by_cases hk2 : kc ≤ k ∧ k < kc + 11
    · obtain ⟨i, rfl⟩ : ∃ i, k = kc + i := ⟨k - kc, by omega⟩
      have hi : i < 11 := by omega
      refine gE_congr (V := spl V kc (vwI V kc)) (L := L) (Rf := Rf) (fun j _ => ?_) (fun _ _ => rfl) (fun _ _ => rfl) (view_at (V := V) hC hc i hi d hd)
      rw [spl_in hi, spl_out hk]
    · refine gE_congr (V := V) (L := L) (Rf := Rf) (fun j _ => (spl_out hk).symm) (fun _ _ => rfl) (fun _ _ => rfl) ((h k d hd).kept (hF.2 _ (h k d hd).lt (fun z => ?_)))
      rcases z with z | z
      · apply hk
        have h1 : o + kb ≤ o + k := z.1
        have h2 : o + k < o + kb + 11 := z.2
        omega
      · apply hk2
        have h1 : o + kc ≤ o + k := z.1
        have h2 : o + k < o + kc + 11 := z.2
        omega
theorem bkM_cp {V W : GI} {n : Nat} {f : Rw} {sd : Int32} (hn : n ≤ 9) (hb : bkM V n f sd) (hc : ∀ j, j < 9 → W 1 j = V 1 j ∧ W 2 j = V 2 j ∧ W 3 j = V 3 j ∧ W 4 j = V 4 j) (h4 : W 0 4 = V 0 4) (h5 : W 0 5 = V 0 5) (h6 : W 0 6 = V 0 6) (h7 : W 0 7 = V 0 7) : bkM W n f sd := by
  obtain ⟨⟨a4, a5, a1, a2⟩, a6, a7, a3, a36⟩ := hb
  exact ⟨⟨h4.trans a4, h5.trans a5, fun j hj => (hc j hj).1.trans (a1 j hj), fun j hj => (hc j hj).2.1.trans (a2 j hj)⟩, h6.trans a6, h7.trans a7, fun j hj => (hc j (by omega)).2.2.1.trans (a3 j hj), fun j hj => (hc j hj).2.2.2.trans (a36 j hj)⟩
theorem rb_lay {n x : Nat} {f : Rw} (hx : x < 2 ^ n) : rbF (layF n x f) n = x := by
  apply Nat.eq_of_testBit_eq
  intro j
  rw [rb_tb]
  by_cases hj : j < n
  · rw [decide_eq_true hj, Bool.true_and]
    have e : layF n x f j = nI (x / 2 ^ j % 2) := if_pos hj
    rw [e, b01_of (Nat.mod_lt _ (by decide)), Nat.testBit_eq_decide_div_mod_eq]
  · rw [decide_eq_false hj, Bool.false_and]
    exact (Nat.testBit_lt_two_pow (Nat.lt_of_lt_of_le hx (Nat.pow_le_pow_right (by decide) (by omega)))).symm
/-- the trial's row is laid anew -/
theorem bkS_row {V V1 : GI} {kb n x : Nat} {f : Rw} {sd : Int32} (hn : n ≤ 9) (hx : x < 2 ^ n) (hb : bkS V kb n f sd) (h4 : V1 kb 4 = nI x) (ho : ∀ k j, k ≤ 4 → ¬ (k = 0 ∧ j = 4) → V1 (kb + k) j = V (kb + k) j) : bkS V1 kb n (layF n x f) sd := by
  obtain ⟨⟨a4, a5, a1, a2⟩, a6, a7, a3, a36⟩ := hb
  have e : ∀ j, n ≤ j → layF n x f j = f j := fun j hj => if_neg (by omega)
  exact ⟨⟨h4.trans (congrArg nI (rb_lay hx).symm), (ho 0 5 (by decide) (by decide)).trans (a5.trans (e 45 (by omega)).symm), fun j hj => (ho 1 j (by decide) (by omega)).trans ((a1 j hj).trans (e _ (by omega)).symm), fun j hj => (ho 2 j (by decide) (by omega)).trans ((a2 j hj).trans (e _ (by omega)).symm)⟩, (ho 0 6 (by decide) (by decide)).trans (a6.trans (e 46 (by omega)).symm), (ho 0 7 (by decide) (by decide)).trans a7, fun j hj => (ho 3 j (by decide) (by omega)).trans ((a3 j hj).trans (e _ (by omega)).symm), fun j hj => (ho 4 j (by decide) (by omega)).trans ((a36 j hj).trans (e _ (by omega)).symm)⟩
/-- what stands in the class's cells -/
def clS (D : va_G) (dA : Nat → ClassId) (H : Heap) (O : Nat → Prop) (o : Nat) (V : GI) (Rf : GR) (tx : Nat) (T : Txt) (f : Rw) : Prop := txA D dA H O tx T ∧ Rf 0 3 = some tx ∧ bkS V 15 (xN T) f (xS T) ∧ RV (xN T) f ∧ sdS Rf o 15 ∧ sdS Rf o 26
theorem clS_E {D : va_G} {dA : Nat → ClassId} {A O : Nat → Prop} {H0 H : Heap} {locs : List Loc} {o tx : Nat} {V V1 : GI} {Rf : GR} {T : Txt} {f : Rw} (h : clS D dA H0 O o V Rf tx T f) (hS : va_S A H0 H locs) (hO : ∀ q, O q → ¬ A q) (hE : Eqx PQw V V1) : clS D dA H O o V1 Rf tx T f :=
  ⟨txA_S h.1 hS hO, h.2.1, bkS_to (fun k j hk => hE _ j (PQw_bk k j hk)) h.2.2.1, h.2.2.2⟩
theorem ni72 {D : va_G} {dA : Nat → ClassId} {o : Nat} {V : GI} {L : GL} {Rf : GR} {H : Heap} (h : gP D dA o dS V L Rf H) : niA D H (o + 72) (nI 0) := Or.inl ⟨rfl, h 72 _ rfl⟩
theorem ni73 {D : va_G} {dA : Nat → ClassId} {o : Nat} {V : GI} {L : GL} {Rf : GR} {H : Heap} (h : gP D dA o dS V L Rf H) : niA D H (o + 73) (nI 1) := Or.inr ⟨rfl, h 73 _ rfl⟩
theorem txA_at {D : va_G} {dA : Nat → ClassId} {H : Heap} {O : Nat → Prop} {tx : Nat} {T : Txt} (h : txA D dA H O tx T) : ∃ fs, va_at D CL (tx, .inr (4, fs)) H := by
  obtain ⟨al, ls, cd, cb, g, lw, mc, ea, nc, o1, o2, o3, o4, h1, _⟩ := h
  exact ⟨_, h1⟩
theorem txA_o {D : va_G} {dA : Nat → ClassId} {H : Heap} {O : Nat → Prop} {tx : Nat} {T : Txt} (h : txA D dA H O tx T) : O tx := by
  obtain ⟨al, ls, cd, cb, g, lw, mc, ea, nc, o1, _⟩ := h
  exact o1
set_option maxHeartbeats 4000000 in
theorem met_X0_isIn (l : Launch) (D : va_G) (dA : Nat → ClassId) {H0 : Heap} (v lo hi : Int32) : Ctr l D dA yX0_isIn cX0_isIn 3 (some .boolean) (mkRm 0 0) [.int v, .int lo, .int hi] H0 A0 (QI (fun r H1 => H0 = H1 ∧ r = inZ v lo hi)) := by
  refine ctr_Z (by decide) (Nat.le_of_ble_eq_true rfl) ?_
  intro p e s m args below meth c ls QQ locs hx hb hml hown hts hK hend hS hl
  have hl : lv_has ls 3 [(0, .int v), (1, .int lo), (2, .int hi)] := hl
  refine lv_iload_n hx hb dX0_isIn_0 rfl (lv_at hl 0 rfl) ?_
  refine lv_iload_n hx hb dX0_isIn_1 rfl (lv_at hl 1 rfl) ?_
  refine lv_icmp_lt (tgt := 14) hx hb dX0_isIn_2 (by decide) (fun c2 => ?_) (fun c2 => ?_)
  · refine lv_iconst (v := (nI 0)) hx hb dX0_isIn_14 (by decide) ?_
    refine hend _ _ _ _ _ hS dX0_isIn_15 (by decide) ?_
    exact ⟨_, rfl, rfl, by unfold inZ; first | (rw [if_neg (Int32.not_le.mpr c2)]; rfl) | (rw [if_pos (Int32.not_lt.mp c2), if_neg (Int32.not_le.mpr c7)]; rfl)⟩
  refine lv_iload_n hx hb dX0_isIn_5 rfl (lv_at hl 0 rfl) ?_
  refine lv_iload_n hx hb dX0_isIn_6 rfl (lv_at hl 2 rfl) ?_
  refine lv_icmp_gt (tgt := 14) hx hb dX0_isIn_7 (by decide) (fun c7 => ?_) (fun c7 => ?_)
  · refine lv_iconst (v := (nI 0)) hx hb dX0_isIn_14 (by decide) ?_
    refine hend _ _ _ _ _ hS dX0_isIn_15 (by decide) ?_
    exact ⟨_, rfl, rfl, by unfold inZ; first | (rw [if_neg (Int32.not_le.mpr c2)]; rfl) | (rw [if_pos (Int32.not_lt.mp c2), if_neg (Int32.not_le.mpr c7)]; rfl)⟩
  refine lv_iconst (v := (nI 1)) hx hb dX0_isIn_10 (by decide) ?_
  refine lv_goto (tgt := 15) hx hb dX0_isIn_11 (by decide) ?_
  refine hend _ _ _ _ _ hS dX0_isIn_15 (by decide) ?_
  exact ⟨_, rfl, rfl, by unfold inZ; rw [if_pos (Int32.not_lt.mp c2), if_pos (Int32.not_lt.mp c7)]; rfl⟩
theorem cw_X0_146 {R : Room} {s : State} {args : Array Value} (hts : ∀ w ∈ lw_all, w.before args s = true) {f w k j : Nat} (hR : f + 1 ≤ R.frames ∧ 8 + (3 + 11) + w ≤ R.locals) : CallB R s args RX0 146 yX0_isIn cX0_isIn 3 (some .boolean) (ws_ yX0_isIn cX0_isIn 3 (some .boolean)) (mkRmC f w k j) k j 3 ∧ (Cond.static yX0_isIn).before args s = true := va_cwS 3 hts (lw_S q1115 q1116 q108 q1117) rfl rfl rfl (by decide +kernel) hR
set_option maxHeartbeats 4000000 in
theorem met_X0_isAhead (l : Launch) (D : va_G) (dA : Nat → ClassId) {H0 : Heap} (v : Int32) : Ctr l D dA yX0_isAhead cX0_isAhead 1 (some .boolean) (mkRm 1 22) [.int v] H0 A0 (QI (fun r H1 => H0 = H1 ∧ r = inZ v (nI 0) (nI 48))) := by
  refine ctr_Z (by decide) (Nat.le_of_ble_eq_true rfl) ?_
  intro p e s m args below meth c ls QQ locs hx hb hml hown hts hK hend hS hl
  have hl : lv_has ls 1 [(0, .int v)] := hl
  refine lv_iload_n hx hb dX0_isAhead_0 rfl (lv_at hl 0 rfl) ?_
  refine lv_iconst (v := (nI 0)) hx hb dX0_isAhead_1 (by decide) ?_
  refine lv_bipush (v := (nI 48)) hx hb dX0_isAhead_2 (by decide) ?_
  refine c_SI hx hb hml hts hown hK hl.1 hS ⟨Nat.le_refl _, Nat.le_refl _⟩ (met_X0_isIn l D dA v (nI 0) (nI 48)) (cw_X0_146 hts ⟨Nat.le_of_ble_eq_true rfl, Nat.le_of_ble_eq_true rfl⟩) rfl rfl (Nat.le_of_ble_eq_true rfl) dX0_isAhead_4 (fun _ h => h.elim) (fun r H1 locs hq hF hS => ?_)
  obtain ⟨rfl, rfl⟩ := hq
  refine hend _ _ _ _ _ hS dX0_isAhead_7 (by unfold inZ; (repeat' split) <;> decide) ?_
  exact ⟨_, rfl, rfl, rfl⟩
set_option maxHeartbeats 4000000 in
theorem met_X0_isPlan (l : Launch) (D : va_G) (dA : Nat → ClassId) {H0 : Heap} (v : Int32) : Ctr l D dA yX0_isPlan cX0_isPlan 1 (some .boolean) (mkRm 1 22) [.int v] H0 A0 (QI (fun r H1 => H0 = H1 ∧ r = inZ v (nI 0) (nI 24))) := by
  refine ctr_Z (by decide) (Nat.le_of_ble_eq_true rfl) ?_
  intro p e s m args below meth c ls QQ locs hx hb hml hown hts hK hend hS hl
  have hl : lv_has ls 1 [(0, .int v)] := hl
  refine lv_iload_n hx hb dX0_isPlan_0 rfl (lv_at hl 0 rfl) ?_
  refine lv_iconst (v := (nI 0)) hx hb dX0_isPlan_1 (by decide) ?_
  refine lv_bipush (v := (nI 24)) hx hb dX0_isPlan_2 (by decide) ?_
  refine c_SI hx hb hml hts hown hK hl.1 hS ⟨Nat.le_refl _, Nat.le_refl _⟩ (met_X0_isIn l D dA v (nI 0) (nI 24)) (cw_X0_146 hts ⟨Nat.le_of_ble_eq_true rfl, Nat.le_of_ble_eq_true rfl⟩) rfl rfl (Nat.le_of_ble_eq_true rfl) dX0_isPlan_4 (fun _ h => h.elim) (fun r H1 locs hq hF hS => ?_)
  obtain ⟨rfl, rfl⟩ := hq
  refine hend _ _ _ _ _ hS dX0_isPlan_7 (by unfold inZ; (repeat' split) <;> decide) ?_
  exact ⟨_, rfl, rfl, rfl⟩
theorem cw_X0_141 {R : Room} {s : State} {args : Array Value} (hts : ∀ w ∈ lw_all, w.before args s = true) {f w k j : Nat} (hR : f + 1 ≤ R.frames ∧ 8 + (1 + 11) + w ≤ R.locals) : CallW R s args RX0 RX4 141 yX4_beds cX4_beds 1 (some .int) (ws_ yX4_beds cX4_beds 1 (some .int)) (mkRmC f w k j) k j 0 := cwV 0 hts (lw_V q1114 q500 q501 q115 q502) rfl rfl rfl (by decide +kernel) hR
set_option maxHeartbeats 4000000 in
theorem met_X0_beds (l : Launch) (D : va_G) (dA : Nat → ClassId) {o : Nat} {V : GI} {L : GL} {Rf : GR} {H0 : Heap} (hG : gP D dA o dS V L Rf H0) {O : Nat → Prop} {tx : Nat} {T : Txt} (hX : txA D dA H0 O tx T) (htx : Rf 0 3 = some tx) : Ctr l D dA yX0_beds cX0_beds 1 (some .int) (mkRm 2 42) [.ref o] H0 A0 (QI (fun r H1 => H0 = H1 ∧ r = nI (xN T))) := by
  have hOA : ∀ z, O z → ¬ A0 z := fun _ _ h => h
  have hX0 := hX
  obtain ⟨fsx, hatx⟩ := txA_at hX
  have hotx := txA_o hX
  have hn9 := txA_n hX
  refine ctr_I (by decide) (Nat.le_of_ble_eq_true rfl) ?_
  intro p e s m args below meth c ls QQ locs hx hb hml hown hts hK hend hS hl
  have hl : lv_has ls 1 [(0, .ref o)] := hl
  refine lv_aload_n hx hb dX0_beds_0 rfl (lv_at hl 0 rfl) ?_
  refine g_get (v := .ref tx) hx hb hts hown hK hG 0 rfl rfl ok_X0 3 (by decide) q525 rfl (congrArg va_rf htx) dX0_beds_1 ?_
  refine c_VI hx hb hml hts hown hK hl.1 hS ⟨Nat.le_refl _, Nat.le_refl _⟩ (met_X4_beds l D dA (txA_S hX0 hS hOA)) (cw_X0_141 hts ⟨Nat.le_of_ble_eq_true rfl, Nat.le_of_ble_eq_true rfl⟩) (va_at_S hatx hS (hOA _ hotx)) rfl rfl rfl rfl (Nat.le_of_ble_eq_true rfl) dX0_beds_4 (fun _ h => h.elim) (fun r H1 locs hq hF hS => ?_)
  obtain ⟨rfl, rfl⟩ := hq
  refine hend _ _ _ _ _ hS dX0_beds_7 ?_
  exact ⟨_, rfl, rfl, rfl⟩
theorem cw_X0_145 {R : Room} {s : State} {args : Array Value} (hts : ∀ w ∈ lw_all, w.before args s = true) {f w k j : Nat} (hR : f + 1 ≤ R.frames ∧ 8 + (1 + 11) + w ≤ R.locals) : CallW R s args RX0 RX0 145 yX0_beds cX0_beds 1 (some .int) (ws_ yX0_beds cX0_beds 1 (some .int)) (mkRmC f w k j) k j 0 := cwV 0 hts (lw_V q1110 q1112 qs30 q108 q1113) rfl rfl rfl (by decide +kernel) hR
set_option maxHeartbeats 4000000 in
theorem met_X0_rows (l : Launch) (D : va_G) (dA : Nat → ClassId) {o : Nat} {V : GI} {L : GL} {Rf : GR} {H0 : Heap} (hG : gP D dA o dS V L Rf H0) {O : Nat → Prop} {tx : Nat} {T : Txt} (hX : txA D dA H0 O tx T) (htx : Rf 0 3 = some tx) : Ctr l D dA yX0_rows cX0_rows 1 (some .int) (mkRm 3 65) [.ref o] H0 A0 (QI (fun r H1 => H0 = H1 ∧ r = nI (2 ^ xN T))) := by
  have hOA : ∀ z, O z → ¬ A0 z := fun _ _ h => h
  have hX0 := hX
  obtain ⟨fsx, hatx⟩ := txA_at hX
  have hotx := txA_o hX
  have hn9 := txA_n hX
  refine ctr_I (by decide) (Nat.le_of_ble_eq_true rfl) ?_
  intro p e s m args below meth c ls QQ locs hx hb hml hown hts hK hend hS hl
  have hl : lv_has ls 1 [(0, .ref o)] := hl
  refine lv_iconst (v := (nI 1)) hx hb dX0_rows_0 (by decide) ?_
  refine lv_aload_n hx hb dX0_rows_1 rfl (lv_at hl 0 rfl) ?_
  refine c_VI hx hb hml hts hown hK hl.1 hS ⟨Nat.le_refl _, Nat.le_refl _⟩ (met_X0_beds l D dA hG (txA_S hX0 hS hOA) htx) (cw_X0_145 hts ⟨Nat.le_of_ble_eq_true rfl, Nat.le_of_ble_eq_true rfl⟩) (hG 0 _ rfl) rfl rfl rfl rfl (Nat.le_of_ble_eq_true rfl) dX0_rows_2 (fun _ h => h.elim) (fun r H1 locs hq hF hS => ?_)
  obtain ⟨rfl, rfl⟩ := hq
  refine n_ishl hx hb dX0_rows_5 (by omega) ?_
  refine hend _ _ _ _ _ hS dX0_rows_6 ?_
  exact ⟨_, rfl, rfl, congrArg nI (Nat.one_mul _)⟩
set_option maxHeartbeats 4000000 in
theorem met_X0_isBed (l : Launch) (D : va_G) (dA : Nat → ClassId) {o : Nat} {V : GI} {L : GL} {Rf : GR} {H0 : Heap} (hG : gP D dA o dS V L Rf H0) {O : Nat → Prop} {tx : Nat} {T : Txt} (hX : txA D dA H0 O tx T) (htx : Rf 0 3 = some tx) (v : Int32) : Ctr l D dA yX0_isBed cX0_isBed 2 (some .boolean) (mkRm 3 65) [.ref o, .int v] H0 A0 (QI (fun r H1 => H0 = H1 ∧ r = bedZ (xN T) v)) := by
  have hOA : ∀ z, O z → ¬ A0 z := fun _ _ h => h
  have hX0 := hX
  obtain ⟨fsx, hatx⟩ := txA_at hX
  have hotx := txA_o hX
  have hn9 := txA_n hX
  refine ctr_Z (by decide) (Nat.le_of_ble_eq_true rfl) ?_
  intro p e s m args below meth c ls QQ locs hx hb hml hown hts hK hend hS hl
  have hl : lv_has ls 2 [(0, .ref o), (1, .int v)] := hl
  refine lv_iload_n hx hb dX0_isBed_0 rfl (lv_at hl 1 rfl) ?_
  refine lv_iconst (v := (nI 0)) hx hb dX0_isBed_1 (by decide) ?_
  refine lv_aload_n hx hb dX0_isBed_2 rfl (lv_at hl 0 rfl) ?_
  refine c_VI hx hb hml hts hown hK hl.1 hS ⟨Nat.le_refl _, Nat.le_refl _⟩ (met_X0_beds l D dA hG (txA_S hX0 hS hOA) htx) (cw_X0_145 hts ⟨Nat.le_of_ble_eq_true rfl, Nat.le_of_ble_eq_true rfl⟩) (hG 0 _ rfl) rfl rfl rfl rfl (Nat.le_of_ble_eq_true rfl) dX0_isBed_3 (fun _ h => h.elim) (fun r H1 locs hq hF hS => ?_)
  obtain ⟨rfl, rfl⟩ := hq
  refine lv_iconst (v := (nI 1)) hx hb dX0_isBed_6 (by decide) ?_
  refine lv_isub hx hb dX0_isBed_7 ?_
  refine c_SI hx hb hml hts hown hK hl.1 hS ⟨Nat.le_refl _, Nat.le_refl _⟩ (met_X0_isIn l D dA v (nI 0) ((nI (xN T)) - (nI 1))) (cw_X0_146 hts ⟨Nat.le_of_ble_eq_true rfl, Nat.le_of_ble_eq_true rfl⟩) rfl rfl (Nat.le_of_ble_eq_true rfl) dX0_isBed_8 (fun _ h => h.elim) (fun r H1 locs hq hF hS => ?_)
  obtain ⟨rfl, rfl⟩ := hq
  refine hend _ _ _ _ _ hS dX0_isBed_11 (by unfold inZ; (repeat' split) <;> decide) ?_
  exact ⟨_, rfl, rfl, bedZ_in hn9 v⟩
theorem cw_X0_154 {R : Room} {s : State} {args : Array Value} (hts : ∀ w ∈ lw_all, w.before args s = true) {f w k j : Nat} (hR : f + 1 ≤ R.frames ∧ 8 + (1 + 11) + w ≤ R.locals) : CallW R s args RX0 RX0 154 yX0_rows cX0_rows 1 (some .int) (ws_ yX0_rows cX0_rows 1 (some .int)) (mkRmC f w k j) k j 0 := cwV 0 hts (lw_V q1199 q1201 qs34 q108 q1202) rfl rfl rfl (by decide +kernel) hR
set_option maxHeartbeats 4000000 in
theorem met_X0_isRow (l : Launch) (D : va_G) (dA : Nat → ClassId) {o : Nat} {V : GI} {L : GL} {Rf : GR} {H0 : Heap} (hG : gP D dA o dS V L Rf H0) {O : Nat → Prop} {tx : Nat} {T : Txt} (hX : txA D dA H0 O tx T) (htx : Rf 0 3 = some tx) (v : Int32) : Ctr l D dA yX0_isRow cX0_isRow 2 (some .boolean) (mkRm 4 90) [.ref o, .int v] H0 A0 (QI (fun r H1 => H0 = H1 ∧ r = rowZ (xN T) v)) := by
  have hOA : ∀ z, O z → ¬ A0 z := fun _ _ h => h
  have hX0 := hX
  obtain ⟨fsx, hatx⟩ := txA_at hX
  have hotx := txA_o hX
  have hn9 := txA_n hX
  have hpp := Nat.two_pow_pos (xN T)
  refine ctr_Z (by decide) (Nat.le_of_ble_eq_true rfl) ?_
  intro p e s m args below meth c ls QQ locs hx hb hml hown hts hK hend hS hl
  have hl : lv_has ls 2 [(0, .ref o), (1, .int v)] := hl
  refine lv_iload_n hx hb dX0_isRow_0 rfl (lv_at hl 1 rfl) ?_
  refine lv_iconst (v := (nI 0)) hx hb dX0_isRow_1 (by decide) ?_
  refine lv_aload_n hx hb dX0_isRow_2 rfl (lv_at hl 0 rfl) ?_
  refine c_VI hx hb hml hts hown hK hl.1 hS ⟨Nat.le_refl _, Nat.le_refl _⟩ (met_X0_rows l D dA hG (txA_S hX0 hS hOA) htx) (cw_X0_154 hts ⟨Nat.le_of_ble_eq_true rfl, Nat.le_of_ble_eq_true rfl⟩) (hG 0 _ rfl) rfl rfl rfl rfl (Nat.le_of_ble_eq_true rfl) dX0_isRow_3 (fun _ h => h.elim) (fun r H1 locs hq hF hS => ?_)
  obtain ⟨rfl, rfl⟩ := hq
  refine lv_iconst (v := (nI 1)) hx hb dX0_isRow_6 (by decide) ?_
  refine n_isub hx hb dX0_isRow_7 (by omega) ?_
  refine c_SI hx hb hml hts hown hK hl.1 hS ⟨Nat.le_refl _, Nat.le_refl _⟩ (met_X0_isIn l D dA v (nI 0) (nI ((2 ^ xN T) - 1))) (cw_X0_146 hts ⟨Nat.le_of_ble_eq_true rfl, Nat.le_of_ble_eq_true rfl⟩) rfl rfl (Nat.le_of_ble_eq_true rfl) dX0_isRow_8 (fun _ h => h.elim) (fun r H1 locs hq hF hS => ?_)
  obtain ⟨rfl, rfl⟩ := hq
  refine hend _ _ _ _ _ hS dX0_isRow_11 (by unfold inZ; (repeat' split) <;> decide) ?_
  exact ⟨_, rfl, rfl, rfl⟩
theorem cw_X0_211 {R : Room} {s : State} {args : Array Value} (hts : ∀ w ∈ lw_all, w.before args s = true) {f w k j : Nat} (hR : f + 1 ≤ R.frames ∧ 8 + (5 + 11) + w ≤ R.locals) : CallW R s args RX0 RX5 211 yX5_goesBy cX5_goesBy 5 none (ws_ yX5_goesBy cX5_goesBy 5 none) (mkRmC f w k j) k j 2 := cwV 2 hts (lw_V q1229 q1230 q1231 q119 q1232) rfl rfl rfl (by decide +kernel) hR
set_option maxHeartbeats 4000000 in
theorem met_X0_runs (l : Launch) (D : va_G) (dA : Nat → ClassId) {o : Nat} {V : GI} {L : GL} {Rf : GR} {H0 : Heap} (hG : gP D dA o dS V L Rf H0) {O : Nat → Prop} {tx : Nat} {T : Txt} (hX : txA D dA H0 O tx T) (htx : Rf 0 3 = some tx) {kb : Nat} (hkb : isB kb) (hOAb : ∀ z, O z → ¬ AB (o + kb) z) (hsd : sdS Rf o kb) {g : Rw} {lots : Int32} (hb0 : bkS V kb (xN T) g lots) (hrv : RV (xN T) g) {nd : Nat} {stl : Int32} (hN : niA D H0 nd stl) (hnd : ¬ AB (o + kb) nd) (n : Nat) (hn1 : n < 1000) : Ctr l D dA yX0_runs cX0_runs 5 none (mkRm 407 9450) [.ref o, .ref (o + kb), .int (nI n), .ref nd] H0 (AB (o + kb)) (QV (fun H1 => ∃ V1, gP D dA o dS V1 L Rf H1 ∧ Eqx (PBk kb) V V1 ∧ bkS V1 kb (xN T) (goF T stl lots n g) lots)) := by
  have hX0 := hX
  have hn9 := txA_n hX
  have hOA := hOAb
  refine ctr_V (by decide) (Nat.le_of_ble_eq_true rfl) ?_
  intro p e s m args below meth c ls QQ locs hx hb hml hown hts hK hend hS hl
  have hl : lv_has ls 5 [(0, .ref o), (1, .ref (o + kb)), (2, .int (nI n)), (3, .ref nd)] := hl
  refine lv_iconst (v := (nI 0)) hx hb dX0_runs_0 (by decide) ?_
  refine lv_istore (lv' := [(4, .int (nI 0)), (0, .ref o), (1, .ref (o + kb)), (2, .int (nI n)), (3, .ref nd)]) hx hb dX0_runs_1 hl (by decide) rfl (fun ls hl => ?_)
  have loop1 : ∀ (fu1 : Nat) (k : Nat) (V1 : GI) (H : Heap) (locs : List Loc) (ls : Array Slot), n - k < fu1 → (k ≤ n) → (Eqx (PBk kb) V V1) → (bkS V1 kb (xN T) (goF T stl lots k g) lots) → gP D dA o dS V1 L Rf H → va_S (AB (o + kb)) H0 H locs → lv_has ls 5 [(4, .int (nI k)), (0, .ref o), (1, .ref (o + kb)), (2, .int (nI n)), (3, .ref nd)] → W p l e (mkRm 407 9450) s m args below meth c H locs 0 0 QQ (F0 m 3 ls []) := by
    intro fu1
    induction fu1 with
    | zero => intro k V1 H locs ls hfu; exact absurd hfu (Nat.not_lt_zero _)
    | succ fu1 ih1 =>
      intro k V1 H locs ls hfu hkn hE1 hbk hG hS hl
      refine lv_iload hx hb dX0_runs_3 (lv_at hl 0 rfl) ?_
      refine lv_iload_n hx hb dX0_runs_5 rfl (lv_at hl 3 rfl) ?_
      refine n_icmp_ge (tgt := 24) hx hb dX0_runs_6 (by decide) (by omega) (by omega) (fun c6 => ?_) (fun c6 => ?_)
      · refine hend _ _ _ _ hS dX0_runs_24 ?_
        obtain rfl : k = n := by omega
        exact ⟨rfl, _, hG, hE1, hbk⟩
      refine lv_aload_n hx hb dX0_runs_9 rfl (lv_at hl 2 rfl) ?_
      refine lv_aload_n hx hb dX0_runs_10 rfl (lv_at hl 1 rfl) ?_
      refine g_get (v := .ref tx) hx hb hts hown hK hG 0 rfl rfl ok_X0 3 (by decide) q525 rfl (congrArg va_rf htx) dX0_runs_11 ?_
      refine lv_aload_n hx hb dX0_runs_14 rfl (lv_at hl 4 rfl) ?_
      refine c_VV hx hb hml hts hown hK hl.1 hS ⟨Nat.le_refl _, Nat.le_refl _⟩ (met_X5_goesBy l D dA (gP_view hG hkb) (txA_S hX0 hS hOA) hOAb hsd hbk (go_RV hrv k) (niA_S hN hS hnd) hnd) (cw_X0_211 hts ⟨Nat.le_of_ble_eq_true rfl, Nat.le_of_ble_eq_true rfl⟩) ((gP_view hG hkb) 0 _ rfl) rfl rfl rfl rfl (Nat.le_of_ble_eq_true rfl) dX0_runs_15 (fun _ h => h) (fun H1 locs hq hF hS => ?_)
      obtain ⟨W2, hGv, hEv, hbn2⟩ := hq
      obtain ⟨V2, hV2⟩ : ∃ X, X = spl V1 kb W2 := ⟨_, rfl⟩
      have hGn := gP_back hG hkb hF (fun _ h => h) hGv
      rw [← hV2] at hGn
      replace hG := hGn
      have hE2 : Eqx (PBk kb) V1 V2 := by rw [hV2]; exact spl_eqx
      have hb2 : bkS V2 kb (xN T) (hourF T stl lots (goF T stl lots k g)) lots := by rw [hV2]; exact bkS_spl hbn2
      clear hGn hGv hEv hbn2 hV2
      generalize hHe2 : H1 = H at hG hS ⊢
      clear hHe2 hF
      refine lv_iinc (v := (nI (k + 1))) (lv' := [(4, .int (nI (k + 1))), (0, .ref o), (1, .ref (o + kb)), (2, .int (nI n)), (3, .ref nd)]) hx hb dX0_runs_18 hl (k := 0) rfl (nI_add _ _) (by decide) rfl (fun ls hl => ?_)
      refine lv_goto (tgt := 3) hx hb dX0_runs_21 (by decide) ?_
      exact ih1 (k + 1) V2 _ _ _ (by omega) (by omega) (Eqx.trans hE1 hE2) hb2 hG hS (lv_sub hl [0, 1, 2, 3, 4] rfl)
  exact loop1 ((n - 0) + 1) 0 V _ _ _ (Nat.lt_succ_self _) (Nat.zero_le _) Eqx.rf hb0 hG hS (lv_sub hl [0, 1, 2, 3, 4] rfl)
theorem cw_X0_193 {R : Room} {s : State} {args : Array Value} (hts : ∀ w ∈ lw_all, w.before args s = true) {f w k j : Nat} (hR : f + 1 ≤ R.frames ∧ 8 + (2 + 11) + w ≤ R.locals) : CallW R s args RX0 RX5 193 yX5_takes cX5_takes 2 none (ws_ yX5_takes cX5_takes 2 none) (mkRmC f w k j) k j 1 := cwV 1 hts (lw_V q1186 q1187 q1188 q119 q1189) rfl rfl rfl (by decide +kernel) hR
theorem cw_X0_218 {R : Room} {s : State} {args : Array Value} (hts : ∀ w ∈ lw_all, w.before args s = true) {f w k j : Nat} (hR : f + 1 ≤ R.frames ∧ 8 + (5 + 11) + w ≤ R.locals) : CallW R s args RX0 RX0 218 yX0_runs cX0_runs 5 none (ws_ yX0_runs cX0_runs 5 none) (mkRmC f w k j) k j 3 := cwV 3 hts (lw_V q1225 q1227 qs36 q108 q1228) rfl rfl rfl (by decide +kernel) hR
set_option maxHeartbeats 4000000 in
theorem met_X0_rowAfter (l : Launch) (D : va_G) (dA : Nat → ClassId) {o : Nat} {V : GI} {L : GL} {Rf : GR} {H0 : Heap} (hG : gP D dA o dS V L Rf H0) {O : Nat → Prop} {tx : Nat} {T : Txt} {f : Rw} (hC : clS D dA H0 O o V Rf tx T f) (hOA : ∀ z, O z → ¬ AS o z) (x q : Nat) (hx2 : x < 2 ^ xN T) (hq9 : q < 1000) : Ctr l D dA yX0_rowAfter cX0_rowAfter 3 (some .int) (mkRm 408 9500) [.ref o, .int (nI x), .int (nI q)] H0 (AS o) (QI (fun r H1 => ∃ V1, gP D dA o dS V1 L Rf H1 ∧ Eqx PT26 V V1 ∧ r = nI (raF T f x q))) := by
  have hC0 := hC
  obtain ⟨hX, htx, hB, hrv, hsd1, hsd2⟩ := hC
  have hX0 := hX
  have hn9 := txA_n hX
  have hp2 := two9 hn9
  have hpp := Nat.two_pow_pos (xN T)
  refine ctr_I (by decide) (Nat.le_of_ble_eq_true rfl) ?_
  intro p e s m args below meth c ls QQ locs hx hb hml hown hts hK hend hS hl
  have hl : lv_has ls 3 [(0, .ref o), (1, .int (nI x)), (2, .int (nI q))] := hl
  refine lv_aload_n hx hb dX0_rowAfter_0 rfl (lv_at hl 0 rfl) ?_
  refine g_get hx hb hts hown hK hG 0 rfl rfl ok_X0 8 (by decide) q530 rfl rfl dX0_rowAfter_1 ?_
  refine lv_aload_n hx hb dX0_rowAfter_4 rfl (lv_at hl 0 rfl) ?_
  refine g_get hx hb hts hown hK hG 0 rfl rfl ok_X0 7 (by decide) q529 rfl rfl dX0_rowAfter_5 ?_
  refine c_VV hx hb hml hts hown hK hl.1 hS ⟨Nat.le_refl _, Nat.le_refl _⟩ (met_X5_takes l D dA (gP_view hG isB26) (gP_view hG isB15) (by omega)) (cw_X0_193 hts ⟨Nat.le_of_ble_eq_true rfl, Nat.le_of_ble_eq_true rfl⟩) (hG 26 _ rfl) rfl rfl rfl rfl (Nat.le_of_ble_eq_true rfl) dX0_rowAfter_8 (fun z hz => hz.elim (AB_AS isB26 z) (AB_AS isB15 z)) (fun H1 locs hq hF hS => ?_)
  obtain ⟨W1, hGv, hGc, hEv, hc9, hc4, hc5, hc6, hc7⟩ := hq
  obtain ⟨V1, hV1⟩ : ∃ X, X = spl V 26 W1 := ⟨_, rfl⟩
  have hGn := gP_back2 hG isB26 isB15 hF hGv hGc
  rw [← hV1] at hGn
  replace hG := hGn
  have hE1 : Eqx PT26 V V1 := by rw [hV1]; exact spl_eqx
  have hb1 : bkS V1 26 (xN T) (f) (xS T) := by rw [hV1]; exact bkS_spl (bkM_cp hn9 hB hc9 hc4 hc5 hc6 hc7)
  clear hGn hGv hGc hEv hc9 hc4 hc5 hc6 hc7 hV1
  generalize hHe1 : H1 = H at hG hS ⊢
  clear hHe1 hF
  refine lv_aload_n hx hb dX0_rowAfter_11 rfl (lv_at hl 0 rfl) ?_
  refine g_get hx hb hts hown hK hG 0 rfl rfl ok_X0 8 (by decide) q530 rfl rfl dX0_rowAfter_12 ?_
  refine lv_iload_n hx hb dX0_rowAfter_15 rfl (lv_at hl 1 rfl) ?_
  refine g_put hx hb hts hown hK hG hS 26 (AS_in 26 (by decide)) rfl rfl ok_X5 4 (by decide) q442 rfl rfl rfl rfl dX0_rowAfter_16 (fun H locs hG hO hS => ?_)
  have hb2 : bkS (up2 V1 26 4 (nI x)) 26 (xN T) (layF (xN T) x (f)) (xS T) := bkS_row hn9 hx2 hb1 up2_s (fun k j hk hz => up2_n (fun z => hz ⟨by omega, z.2⟩))
  refine lv_aload_n hx hb dX0_rowAfter_19 rfl (lv_at hl 0 rfl) ?_
  refine lv_aload_n hx hb dX0_rowAfter_20 rfl (lv_at hl 0 rfl) ?_
  refine g_get hx hb hts hown hK hG 0 rfl rfl ok_X0 8 (by decide) q530 rfl rfl dX0_rowAfter_21 ?_
  refine lv_iload_n hx hb dX0_rowAfter_24 rfl (lv_at hl 2 rfl) ?_
  refine lv_aload_n hx hb dX0_rowAfter_25 rfl (lv_at hl 0 rfl) ?_
  refine g_get hx hb hts hown hK hG 0 rfl rfl ok_X0 12 (by decide) q534 rfl rfl dX0_rowAfter_26 ?_
  refine c_VV hx hb hml hts hown hK hl.1 hS ⟨Nat.le_refl _, Nat.le_refl _⟩ (met_X0_runs l D dA hG (txA_S hX0 hS hOA) htx isB26 (fun z hz hb => hOA z hz (AB_AS isB26 z hb)) hsd2 hb2 lay_RV (ni73 hG) (fun z => by have h1 := z.1; have h2 := z.2; omega) q (by omega)) (cw_X0_218 hts ⟨Nat.le_of_ble_eq_true rfl, Nat.le_of_ble_eq_true rfl⟩) (hG 0 _ rfl) rfl rfl rfl rfl (Nat.le_of_ble_eq_true rfl) dX0_rowAfter_29 (AB_AS isB26) (fun H1 locs hq hF hS => ?_)
  obtain ⟨V3, hG, hE3, hb3⟩ := hq
  generalize hHe3 : H1 = H at hG hS ⊢
  clear hHe3
  refine lv_aload_n hx hb dX0_rowAfter_32 rfl (lv_at hl 0 rfl) ?_
  refine g_get hx hb hts hown hK hG 0 rfl rfl ok_X0 8 (by decide) q530 rfl rfl dX0_rowAfter_33 ?_
  refine g_get (v := .int (nI (rbF (goF T (nI 1) (xS T) q (layF (xN T) x (f))) (xN T)))) hx hb hts hown hK hG 26 rfl rfl ok_X5 4 (by decide) q442 rfl (congrArg Value.int hb3.1.1) dX0_rowAfter_36 ?_
  refine hend _ _ _ _ _ hS dX0_rowAfter_39 ?_
  exact ⟨_, rfl, _, hG, ((hE1.up rfl).trans hE3), rfl⟩
