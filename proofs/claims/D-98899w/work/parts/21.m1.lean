set_option maxHeartbeats 4000000 in
theorem met_X13_in (l : Launch) (D : va_G) (dA : Nat → ClassId) {H0 : Heap} (v lo hi : Int32) : Ctr l D dA yX13_in cX13_in 3 (some .boolean) (mkRm 0 0) [.int v, .int lo, .int hi] H0 A0 (QI (fun r H1 => H0 = H1 ∧ r = inZ v lo hi)) := by
  refine ctr_Z (by decide) (Nat.le_of_ble_eq_true rfl) ?_
  intro p e s m args below meth c ls QQ locs hx hb hml hown hts hK hend hS hl
  have hl : lv_has ls 3 [(0, .int v), (1, .int lo), (2, .int hi)] := hl
  refine lv_iload_n hx hb dX13_in_0 rfl (lv_at hl 0 rfl) ?_
  refine lv_iload_n hx hb dX13_in_1 rfl (lv_at hl 1 rfl) ?_
  refine lv_icmp_lt (tgt := 14) hx hb dX13_in_2 (by decide) (fun c2 => ?_) (fun c2 => ?_)
  · refine lv_iconst (v := (nI 0)) hx hb dX13_in_14 (by decide) ?_
    refine hend _ _ _ _ _ hS dX13_in_15 (by first | decide | (split <;> decide)) ?_
    exact ⟨_, rfl, rfl, by unfold inZ; (repeat' split) <;> first | rfl | (exfalso; simp only [Int32.le_iff_toInt_le, Int32.lt_iff_toInt_lt] at *; omega)⟩
  refine lv_iload_n hx hb dX13_in_5 rfl (lv_at hl 0 rfl) ?_
  refine lv_iload_n hx hb dX13_in_6 rfl (lv_at hl 2 rfl) ?_
  refine lv_icmp_gt (tgt := 14) hx hb dX13_in_7 (by decide) (fun c7 => ?_) (fun c7 => ?_)
  · refine lv_iconst (v := (nI 0)) hx hb dX13_in_14 (by decide) ?_
    refine hend _ _ _ _ _ hS dX13_in_15 (by first | decide | (split <;> decide)) ?_
    exact ⟨_, rfl, rfl, by unfold inZ; (repeat' split) <;> first | rfl | (exfalso; simp only [Int32.le_iff_toInt_le, Int32.lt_iff_toInt_lt] at *; omega)⟩
  refine lv_iconst (v := (nI 1)) hx hb dX13_in_10 (by decide) ?_
  refine lv_goto (tgt := 15) hx hb dX13_in_11 (by decide) ?_
  refine hend _ _ _ _ _ hS dX13_in_15 (by first | decide | (split <;> decide)) ?_
  exact ⟨_, rfl, rfl, by unfold inZ; (repeat' split) <;> first | rfl | (exfalso; simp only [Int32.le_iff_toInt_le, Int32.lt_iff_toInt_lt] at *; omega)⟩
set_option maxHeartbeats 4000000 in
theorem met_X13_within (l : Launch) (D : va_G) (dA : Nat → ClassId) {H0 : Heap} (v lo hi : Int32) : Ctr l D dA yX13_within cX13_within 3 (some .int) (mkRm 0 0) [.int v, .int lo, .int hi] H0 A0 (QI (fun r H1 => H0 = H1 ∧ r = wthn v lo hi)) := by
  refine ctr_I (by decide) (Nat.le_of_ble_eq_true rfl) ?_
  intro p e s m args below meth c ls QQ locs hx hb hml hown hts hK hend hS hl
  have hl : lv_has ls 3 [(0, .int v), (1, .int lo), (2, .int hi)] := hl
  refine lv_iload_n hx hb dX13_within_0 rfl (lv_at hl 0 rfl) ?_
  refine lv_iload_n hx hb dX13_within_1 rfl (lv_at hl 1 rfl) ?_
  refine lv_icmp_ge (tgt := 9) hx hb dX13_within_2 (by decide) (fun c2 => ?_) (fun c2 => ?_)
  · refine lv_iload_n hx hb dX13_within_9 rfl (lv_at hl 0 rfl) ?_
    refine lv_iload_n hx hb dX13_within_10 rfl (lv_at hl 2 rfl) ?_
    refine lv_icmp_le (tgt := 18) hx hb dX13_within_11 (by decide) (fun c11 => ?_) (fun c11 => ?_)
    · refine lv_iload_n hx hb dX13_within_18 rfl (lv_at hl 0 rfl) ?_
      refine hend _ _ _ _ _ hS dX13_within_19 ?_
      exact ⟨_, rfl, rfl, by unfold wthn; (repeat' split) <;> first | rfl | (exfalso; simp only [Int32.le_iff_toInt_le, Int32.lt_iff_toInt_lt] at *; omega)⟩
    refine lv_iload_n hx hb dX13_within_14 rfl (lv_at hl 2 rfl) ?_
    refine lv_goto (tgt := 19) hx hb dX13_within_15 (by decide) ?_
    refine hend _ _ _ _ _ hS dX13_within_19 ?_
    exact ⟨_, rfl, rfl, by unfold wthn; (repeat' split) <;> first | rfl | (exfalso; simp only [Int32.le_iff_toInt_le, Int32.lt_iff_toInt_lt] at *; omega)⟩
  refine lv_iload_n hx hb dX13_within_5 rfl (lv_at hl 1 rfl) ?_
  refine lv_goto (tgt := 19) hx hb dX13_within_6 (by decide) ?_
  refine hend _ _ _ _ _ hS dX13_within_19 ?_
  exact ⟨_, rfl, rfl, by unfold wthn; (repeat' split) <;> first | rfl | (exfalso; simp only [Int32.le_iff_toInt_le, Int32.lt_iff_toInt_lt] at *; omega)⟩
set_option maxHeartbeats 4000000 in
theorem met_X13_isDigit (l : Launch) (D : va_G) (dA : Nat → ClassId) {H0 : Heap} (v : Int32) : Ctr l D dA yX13_isDigit cX13_isDigit 1 (some .boolean) (mkRm 0 0) [.int v] H0 A0 (QI (fun r H1 => H0 = H1 ∧ r = inZ v (nI 48) (nI 57))) := by
  refine ctr_Z (by decide) (Nat.le_of_ble_eq_true rfl) ?_
  intro p e s m args below meth c ls QQ locs hx hb hml hown hts hK hend hS hl
  have hl : lv_has ls 1 [(0, .int v)] := hl
  refine lv_iload_n hx hb dX13_isDigit_0 rfl (lv_at hl 0 rfl) ?_
  refine lv_bipush (v := (nI 48)) hx hb dX13_isDigit_1 (by decide) ?_
  refine lv_icmp_lt (tgt := 16) hx hb dX13_isDigit_3 (by decide) (fun c3 => ?_) (fun c3 => ?_)
  · refine lv_iconst (v := (nI 0)) hx hb dX13_isDigit_16 (by decide) ?_
    refine hend _ _ _ _ _ hS dX13_isDigit_17 (by first | decide | (split <;> decide)) ?_
    exact ⟨_, rfl, rfl, by unfold inZ; (repeat' split) <;> first | rfl | (exfalso; simp only [Int32.le_iff_toInt_le, Int32.lt_iff_toInt_lt] at *; omega)⟩
  refine lv_iload_n hx hb dX13_isDigit_6 rfl (lv_at hl 0 rfl) ?_
  refine lv_bipush (v := (nI 57)) hx hb dX13_isDigit_7 (by decide) ?_
  refine lv_icmp_gt (tgt := 16) hx hb dX13_isDigit_9 (by decide) (fun c9 => ?_) (fun c9 => ?_)
  · refine lv_iconst (v := (nI 0)) hx hb dX13_isDigit_16 (by decide) ?_
    refine hend _ _ _ _ _ hS dX13_isDigit_17 (by first | decide | (split <;> decide)) ?_
    exact ⟨_, rfl, rfl, by unfold inZ; (repeat' split) <;> first | rfl | (exfalso; simp only [Int32.le_iff_toInt_le, Int32.lt_iff_toInt_lt] at *; omega)⟩
  refine lv_iconst (v := (nI 1)) hx hb dX13_isDigit_12 (by decide) ?_
  refine lv_goto (tgt := 17) hx hb dX13_isDigit_13 (by decide) ?_
  refine hend _ _ _ _ _ hS dX13_isDigit_17 (by first | decide | (split <;> decide)) ?_
  exact ⟨_, rfl, rfl, by unfold inZ; (repeat' split) <;> first | rfl | (exfalso; simp only [Int32.le_iff_toInt_le, Int32.lt_iff_toInt_lt] at *; omega)⟩
set_option maxHeartbeats 4000000 in
theorem met_X13_isLetter (l : Launch) (D : va_G) (dA : Nat → ClassId) {H0 : Heap} (v : Int32) : Ctr l D dA yX13_isLetter cX13_isLetter 1 (some .boolean) (mkRm 0 0) [.int v] H0 A0 (QI (fun r H1 => H0 = H1 ∧ r = inZ v (nI 97) (nI 122))) := by
  refine ctr_Z (by decide) (Nat.le_of_ble_eq_true rfl) ?_
  intro p e s m args below meth c ls QQ locs hx hb hml hown hts hK hend hS hl
  have hl : lv_has ls 1 [(0, .int v)] := hl
  refine lv_iload_n hx hb dX13_isLetter_0 rfl (lv_at hl 0 rfl) ?_
  refine lv_bipush (v := (nI 97)) hx hb dX13_isLetter_1 (by decide) ?_
  refine lv_icmp_lt (tgt := 16) hx hb dX13_isLetter_3 (by decide) (fun c3 => ?_) (fun c3 => ?_)
  · refine lv_iconst (v := (nI 0)) hx hb dX13_isLetter_16 (by decide) ?_
    refine hend _ _ _ _ _ hS dX13_isLetter_17 (by first | decide | (split <;> decide)) ?_
    exact ⟨_, rfl, rfl, by unfold inZ; (repeat' split) <;> first | rfl | (exfalso; simp only [Int32.le_iff_toInt_le, Int32.lt_iff_toInt_lt] at *; omega)⟩
  refine lv_iload_n hx hb dX13_isLetter_6 rfl (lv_at hl 0 rfl) ?_
  refine lv_bipush (v := (nI 122)) hx hb dX13_isLetter_7 (by decide) ?_
  refine lv_icmp_gt (tgt := 16) hx hb dX13_isLetter_9 (by decide) (fun c9 => ?_) (fun c9 => ?_)
  · refine lv_iconst (v := (nI 0)) hx hb dX13_isLetter_16 (by decide) ?_
    refine hend _ _ _ _ _ hS dX13_isLetter_17 (by first | decide | (split <;> decide)) ?_
    exact ⟨_, rfl, rfl, by unfold inZ; (repeat' split) <;> first | rfl | (exfalso; simp only [Int32.le_iff_toInt_le, Int32.lt_iff_toInt_lt] at *; omega)⟩
  refine lv_iconst (v := (nI 1)) hx hb dX13_isLetter_12 (by decide) ?_
  refine lv_goto (tgt := 17) hx hb dX13_isLetter_13 (by decide) ?_
  refine hend _ _ _ _ _ hS dX13_isLetter_17 (by first | decide | (split <;> decide)) ?_
  exact ⟨_, rfl, rfl, by unfold inZ; (repeat' split) <;> first | rfl | (exfalso; simp only [Int32.le_iff_toInt_le, Int32.lt_iff_toInt_lt] at *; omega)⟩
theorem cw_X13_308 {R : Room} {s : State} {args : Array Value} (hts : ∀ w ∈ lw_all, w.before args s = true) {f w k j : Nat} (hR : f + 1 ≤ R.frames ∧ 8 + (3 + 11) + w ≤ R.locals) : CallB R s args RX13 308 yX13_in cX13_in 3 (some .boolean) (ws_ yX13_in cX13_in 3 (some .boolean)) (mkRmC f w k j) k j 3 ∧ (Cond.static yX13_in).before args s = true := va_cwS 3 hts (lw_S q1786 q1787 q129 q1788) rfl rfl rfl (by decide +kernel) hR
set_option maxHeartbeats 4000000 in
theorem met_X13_isLong (l : Launch) (D : va_G) (dA : Nat → ClassId) {H0 : Heap} (v : Int32) : Ctr l D dA yX13_isLong cX13_isLong 1 (some .boolean) (mkRm 1 22) [.int v] H0 A0 (QI (fun r H1 => H0 = H1 ∧ r = inZ v 0 48)) := by
  refine ctr_Z (by decide) (Nat.le_of_ble_eq_true rfl) ?_
  intro p e s m args below meth c ls QQ locs hx hb hml hown hts hK hend hS hl
  have hl : lv_has ls 1 [(0, .int v)] := hl
  refine lv_iload_n hx hb dX13_isLong_0 rfl (lv_at hl 0 rfl) ?_
  refine lv_iconst (v := (nI 0)) hx hb dX13_isLong_1 (by decide) ?_
  refine lv_bipush (v := (nI 48)) hx hb dX13_isLong_2 (by decide) ?_
  refine c_SI hx hb hml hts hown hK hl.1 hS ⟨Nat.le_refl _, Nat.le_refl _⟩ (met_X13_in l D dA v (nI 0) (nI 48)) (cw_X13_308 hts ⟨by decide, by decide⟩) rfl rfl (Nat.le_of_ble_eq_true rfl) dX13_isLong_4 (fun _ h => h.elim) (fun r H1 locs hq hF hS => ?_)
  obtain ⟨rfl, rfl⟩ := hq
  refine hend _ _ _ _ _ hS dX13_isLong_7 (by unfold inZ; (repeat' split) <;> decide) ?_
  exact ⟨_, rfl, rfl, rfl⟩
set_option maxHeartbeats 4000000 in
theorem met_X13_isShort (l : Launch) (D : va_G) (dA : Nat → ClassId) {H0 : Heap} (v : Int32) : Ctr l D dA yX13_isShort cX13_isShort 1 (some .boolean) (mkRm 1 22) [.int v] H0 A0 (QI (fun r H1 => H0 = H1 ∧ r = inZ v 0 24)) := by
  refine ctr_Z (by decide) (Nat.le_of_ble_eq_true rfl) ?_
  intro p e s m args below meth c ls QQ locs hx hb hml hown hts hK hend hS hl
  have hl : lv_has ls 1 [(0, .int v)] := hl
  refine lv_iload_n hx hb dX13_isShort_0 rfl (lv_at hl 0 rfl) ?_
  refine lv_iconst (v := (nI 0)) hx hb dX13_isShort_1 (by decide) ?_
  refine lv_bipush (v := (nI 24)) hx hb dX13_isShort_2 (by decide) ?_
  refine c_SI hx hb hml hts hown hK hl.1 hS ⟨Nat.le_refl _, Nat.le_refl _⟩ (met_X13_in l D dA v (nI 0) (nI 24)) (cw_X13_308 hts ⟨by decide, by decide⟩) rfl rfl (Nat.le_of_ble_eq_true rfl) dX13_isShort_4 (fun _ h => h.elim) (fun r H1 locs hq hF hS => ?_)
  obtain ⟨rfl, rfl⟩ := hq
  refine hend _ _ _ _ _ hS dX13_isShort_7 (by unfold inZ; (repeat' split) <;> decide) ?_
  exact ⟨_, rfl, rfl, rfl⟩
set_option maxHeartbeats 4000000 in
theorem met_X13_mixed (l : Launch) (D : va_G) (dA : Nat → ClassId) {H0 : Heap} (h v : Int32) : Ctr l D dA yX13_mixed cX13_mixed 3 (some .int) (mkRm 0 0) [.int h, .int v] H0 A0 (QI (fun r H1 => H0 = H1 ∧ r = mixI h v)) := by
  refine ctr_I (by decide) (Nat.le_of_ble_eq_true rfl) ?_
  intro p e s m args below meth c ls QQ locs hx hb hml hown hts hK hend hS hl
  have hl : lv_has ls 3 [(0, .int h), (1, .int v)] := hl
  refine lv_iload_n hx hb dX13_mixed_0 rfl (lv_at hl 0 rfl) ?_
  refine lv_iload_n hx hb dX13_mixed_1 rfl (lv_at hl 1 rfl) ?_
  refine lv_ixor hx hb dX13_mixed_2 ?_
  refine lv_ldcw (v := (nI 1103515245)) hx hb hown (hts _ q1871) dX13_mixed_3 ?_
  refine lv_imul hx hb dX13_mixed_6 ?_
  refine lv_sipush (v := (nI 12345)) hx hb dX13_mixed_7 (by decide) ?_
  refine lv_iadd hx hb dX13_mixed_10 ?_
  refine lv_istore_n (lv' := [(2, .int (((h ^^^ v) * (nI 1103515245)) + (nI 12345))), (0, .int h), (1, .int v)]) hx hb dX13_mixed_11 rfl hl (by decide) rfl (fun ls hl => ?_)
  refine lv_iload_n hx hb dX13_mixed_12 rfl (lv_at hl 0 rfl) ?_
  refine lv_iload_n hx hb dX13_mixed_13 rfl (lv_at hl 0 rfl) ?_
  refine lv_bipush (v := (nI 15)) hx hb dX13_mixed_14 (by decide) ?_
  refine lv_iushr (v := ((((h ^^^ v) * (nI 1103515245)) + (nI 12345)).toUInt32 >>> ((nI 15).toUInt32 &&& Int32.toUInt32 31)).toInt32) hx hb dX13_mixed_16 rfl ?_
  refine lv_ixor hx hb dX13_mixed_17 ?_
  refine hend _ _ _ _ _ hS dX13_mixed_18 ?_
  exact ⟨_, rfl, rfl, rfl⟩
set_option maxHeartbeats 4000000 in
theorem met_X13_many (l : Launch) (D : va_G) (dA : Nat → ClassId) {o : Nat} {V : GI} {L : GL} {Rf : GR} {H0 : Heap} (hG : gP D dA o dM V L Rf H0) {lv n : Nat} (hT : tM V lv n) : Ctr l D dA yX13_many cX13_many 1 (some .int) (mkRm 0 0) [.ref o] H0 A0 (QI (fun r H1 => H0 = H1 ∧ r = nI n)) := by
  have hT1 := hT.1
  have hT2 := hT.2.1
  refine ctr_I (by decide) (Nat.le_of_ble_eq_true rfl) ?_
  intro p e s m args below meth c ls QQ locs hx hb hml hown hts hK hend hS hl
  have hl : lv_has ls 1 [(0, .ref o)] := hl
  refine lv_aload_n hx hb dX13_many_0 rfl (lv_at hl 0 rfl) ?_
  refine g_get hx hb hts hown hK hG 0 rfl rfl ok_X13 22 (by decide) q1493 rfl rfl dX13_many_1 ?_
  refine lv_aload_n hx hb dX13_many_4 rfl (lv_at hl 0 rfl) ?_
  refine g_get (v := .int (nI lv)) hx hb hts hown hK hG 0 rfl rfl ok_X13 18 (by decide) q1489 rfl (congrArg Value.int hT.2.2.1) dX13_many_5 ?_
  refine n_iald hx hb hK hG 9 rfl (by omega) (by decide) dX13_many_8 ?_
  refine iv (y := (nI n)) hT.2.2.2 ?_
  refine hend _ _ _ _ _ hS dX13_many_9 ?_
  exact ⟨_, rfl, rfl, rfl⟩
theorem cw_X13_304 {R : Room} {s : State} {args : Array Value} (hts : ∀ w ∈ lw_all, w.before args s = true) {f w k j : Nat} (hR : f + 1 ≤ R.frames ∧ 8 + (1 + 11) + w ≤ R.locals) : CallW R s args RX13 RX13 304 yX13_many cX13_many 1 (some .int) (ws_ yX13_many cX13_many 1 (some .int)) (mkRmC f w k j) k j 0 := cwV 0 hts (lw_V q1464 q1466 qs49 q129 q1467) rfl rfl rfl (by decide +kernel) hR
set_option maxHeartbeats 4000000 in
theorem met_X13_isBed (l : Launch) (D : va_G) (dA : Nat → ClassId) {o : Nat} {V : GI} {L : GL} {Rf : GR} {H0 : Heap} (hG : gP D dA o dM V L Rf H0) {lv n : Nat} (hT : tM V lv n) (b : Int32) : Ctr l D dA yX13_isBed cX13_isBed 2 (some .boolean) (mkRm 1 22) [.ref o, .int b] H0 A0 (QI (fun r H1 => H0 = H1 ∧ r = bedZ n b)) := by
  have hT1 := hT.1
  have hT2 := hT.2.1
  refine ctr_Z (by decide) (Nat.le_of_ble_eq_true rfl) ?_
  intro p e s m args below meth c ls QQ locs hx hb hml hown hts hK hend hS hl
  have hl : lv_has ls 2 [(0, .ref o), (1, .int b)] := hl
  refine lv_iload_n hx hb dX13_isBed_0 rfl (lv_at hl 1 rfl) ?_
  refine lv_iconst (v := (nI 0)) hx hb dX13_isBed_1 (by decide) ?_
  refine lv_aload_n hx hb dX13_isBed_2 rfl (lv_at hl 0 rfl) ?_
  refine c_VI hx hb hml hts hown hK hl.1 hS ⟨Nat.le_refl _, Nat.le_refl _⟩ (met_X13_many l D dA hG hT) (cw_X13_304 hts ⟨by decide, by decide⟩) (hG 0 _ rfl) rfl rfl rfl rfl (Nat.le_of_ble_eq_true rfl) dX13_isBed_3 (fun _ h => h.elim) (fun r H1 locs hq hF hS => ?_)
  obtain ⟨rfl, rfl⟩ := hq
  refine lv_iconst (v := (nI 1)) hx hb dX13_isBed_6 (by decide) ?_
  refine lv_isub hx hb dX13_isBed_7 ?_
  refine c_SI hx hb hml hts hown hK hl.1 hS ⟨Nat.le_refl _, Nat.le_refl _⟩ (met_X13_in l D dA b (nI 0) ((nI n) - (nI 1))) (cw_X13_308 hts ⟨by decide, by decide⟩) rfl rfl (Nat.le_of_ble_eq_true rfl) dX13_isBed_8 (fun _ h => h.elim) (fun r H1 locs hq hF hS => ?_)
  obtain ⟨rfl, rfl⟩ := hq
  refine hend _ _ _ _ _ hS dX13_isBed_11 (by rw [bedZ_in hT2]; unfold bedZ; split <;> decide) ?_
  exact ⟨_, rfl, rfl, bedZ_in hT2 b⟩
set_option maxHeartbeats 4000000 in
theorem met_X13_allBits (l : Launch) (D : va_G) (dA : Nat → ClassId) {o : Nat} {V : GI} {L : GL} {Rf : GR} {H0 : Heap} (hG : gP D dA o dM V L Rf H0) {lv n : Nat} (hT : tM V lv n) : Ctr l D dA yX13_allBits cX13_allBits 1 (some .int) (mkRm 1 20) [.ref o] H0 A0 (QI (fun r H1 => H0 = H1 ∧ r = nI (2 ^ n - 1))) := by
  have hT1 := hT.1
  have hT2 := hT.2.1
  have hp := Nat.two_pow_pos n
  refine ctr_I (by decide) (Nat.le_of_ble_eq_true rfl) ?_
  intro p e s m args below meth c ls QQ locs hx hb hml hown hts hK hend hS hl
  have hl : lv_has ls 1 [(0, .ref o)] := hl
  refine lv_iconst (v := (nI 1)) hx hb dX13_allBits_0 (by decide) ?_
  refine lv_aload_n hx hb dX13_allBits_1 rfl (lv_at hl 0 rfl) ?_
  refine c_VI hx hb hml hts hown hK hl.1 hS ⟨Nat.le_refl _, Nat.le_refl _⟩ (met_X13_many l D dA hG hT) (cw_X13_304 hts ⟨by decide, by decide⟩) (hG 0 _ rfl) rfl rfl rfl rfl (Nat.le_of_ble_eq_true rfl) dX13_allBits_2 (fun _ h => h.elim) (fun r H1 locs hq hF hS => ?_)
  obtain ⟨rfl, rfl⟩ := hq
  refine n_ishl hx hb dX13_allBits_5 (by omega) ?_
  refine lv_iconst (v := (nI 1)) hx hb dX13_allBits_6 (by decide) ?_
  refine n_isub hx hb dX13_allBits_7 (by omega) ?_
  refine hend _ _ _ _ _ hS dX13_allBits_8 ?_
  exact ⟨_, rfl, rfl, by rw [Nat.one_mul]⟩
theorem cw_X13_312 {R : Room} {s : State} {args : Array Value} (hts : ∀ w ∈ lw_all, w.before args s = true) {f w k j : Nat} (hR : f + 1 ≤ R.frames ∧ 8 + (1 + 11) + w ≤ R.locals) : CallW R s args RX13 RX13 312 yX13_allBits cX13_allBits 1 (some .int) (ws_ yX13_allBits cX13_allBits 1 (some .int)) (mkRmC f w k j) k j 0 := cwV 0 hts (lw_V q1884 q1886 qs89 q129 q1887) rfl rfl rfl (by decide +kernel) hR
set_option maxHeartbeats 4000000 in
theorem met_X13_isRow (l : Launch) (D : va_G) (dA : Nat → ClassId) {o : Nat} {V : GI} {L : GL} {Rf : GR} {H0 : Heap} (hG : gP D dA o dM V L Rf H0) {lv n : Nat} (hT : tM V lv n) (x : Int32) : Ctr l D dA yX13_isRow cX13_isRow 2 (some .boolean) (mkRm 2 40) [.ref o, .int x] H0 A0 (QI (fun r H1 => H0 = H1 ∧ r = rowZ n x)) := by
  have hT1 := hT.1
  have hT2 := hT.2.1
  refine ctr_Z (by decide) (Nat.le_of_ble_eq_true rfl) ?_
  intro p e s m args below meth c ls QQ locs hx hb hml hown hts hK hend hS hl
  have hl : lv_has ls 2 [(0, .ref o), (1, .int x)] := hl
  refine lv_iload_n hx hb dX13_isRow_0 rfl (lv_at hl 1 rfl) ?_
  refine lv_iconst (v := (nI 0)) hx hb dX13_isRow_1 (by decide) ?_
  refine lv_aload_n hx hb dX13_isRow_2 rfl (lv_at hl 0 rfl) ?_
  refine c_VI hx hb hml hts hown hK hl.1 hS ⟨Nat.le_refl _, Nat.le_refl _⟩ (met_X13_allBits l D dA hG hT) (cw_X13_312 hts ⟨by decide, by decide⟩) (hG 0 _ rfl) rfl rfl rfl rfl (Nat.le_of_ble_eq_true rfl) dX13_isRow_3 (fun _ h => h.elim) (fun r H1 locs hq hF hS => ?_)
  obtain ⟨rfl, rfl⟩ := hq
  refine c_SI hx hb hml hts hown hK hl.1 hS ⟨Nat.le_refl _, Nat.le_refl _⟩ (met_X13_in l D dA x (nI 0) (nI (2 ^ n - 1))) (cw_X13_308 hts ⟨by decide, by decide⟩) rfl rfl (Nat.le_of_ble_eq_true rfl) dX13_isRow_6 (fun _ h => h.elim) (fun r H1 locs hq hF hS => ?_)
  obtain ⟨rfl, rfl⟩ := hq
  refine hend _ _ _ _ _ hS dX13_isRow_9 (by unfold inZ; (repeat' split) <;> decide) ?_
  exact ⟨_, rfl, rfl, rfl⟩
set_option maxHeartbeats 4000000 in
theorem met_X13_bits (l : Launch) (D : va_G) (dA : Nat → ClassId) {H0 : Heap} (x : Nat) (hx9 : x < 512) : Ctr l D dA yX13_bits cX13_bits 3 (some .int) (mkRm 0 0) [.int (nI x)] H0 A0 (QI (fun r H1 => H0 = H1 ∧ r = nI (bc x))) := by
  refine ctr_I (by decide) (Nat.le_of_ble_eq_true rfl) ?_
  intro p e s m args below meth c ls QQ locs hx hb hml hown hts hK hend hS hl
  have hl : lv_has ls 3 [(0, .int (nI x))] := hl
  refine lv_iconst (v := (nI 0)) hx hb dX13_bits_0 (by decide) ?_
  refine lv_istore_n (lv' := [(1, .int (nI 0)), (0, .int (nI x))]) hx hb dX13_bits_1 rfl hl (by decide) rfl (fun ls hl => ?_)
  refine lv_iconst (v := (nI 0)) hx hb dX13_bits_2 (by decide) ?_
  refine lv_istore_n (lv' := [(2, .int (nI 0)), (1, .int (nI 0)), (0, .int (nI x))]) hx hb dX13_bits_3 rfl hl (by decide) rfl (fun ls hl => ?_)
  have loop1 : ∀ (fu1 : Nat) (k : Nat) (locs : List Loc) (ls : Array Slot), 9 - k < fu1 → (k ≤ 9) → va_S A0 H0 H0 locs → lv_has ls 3 [(2, .int (nI k)), (1, .int (nI (bcN x k))), (0, .int (nI x))] → W p l e (mkRm 0 0) s m args below meth c H0 locs 0 0 QQ (F0 m 4 ls []) := by
    intro fu1
    induction fu1 with
    | zero => intro k locs ls hfu; exact absurd hfu (Nat.not_lt_zero _)
    | succ fu1 ih1 =>
      intro k locs ls hfu hk hS hl
      refine lv_iload_n hx hb dX13_bits_4 rfl (lv_at hl 0 rfl) ?_
      refine lv_bipush (v := (nI 9)) hx hb dX13_bits_5 (by decide) ?_
      refine n_icmp_ge (tgt := 24) hx hb dX13_bits_7 (by decide) (by omega) (by omega) (fun c7 => ?_) (fun c7 => ?_)
      · refine lv_iload_n hx hb dX13_bits_24 rfl (lv_at hl 1 rfl) ?_
        refine hend _ _ _ _ _ hS dX13_bits_25 ?_
        exact ⟨_, rfl, rfl, by rw [show k = 9 by omega]; rfl⟩
      refine lv_iload_n hx hb dX13_bits_10 rfl (lv_at hl 1 rfl) ?_
      refine lv_iload_n hx hb dX13_bits_11 rfl (lv_at hl 2 rfl) ?_
      refine lv_iload_n hx hb dX13_bits_12 rfl (lv_at hl 0 rfl) ?_
      refine n_ishr hx hb dX13_bits_13 (by omega) (by omega) ?_
      refine lv_iconst (v := (nI 1)) hx hb dX13_bits_14 (by decide) ?_
      refine n_and1 hx hb dX13_bits_15 ?_
      refine n_iadd hx hb dX13_bits_16 ?_
      refine lv_istore_n (lv' := [(1, .int (nI ((bcN x k) + ((x / 2 ^ k) % 2)))), (2, .int (nI k)), (0, .int (nI x))]) hx hb dX13_bits_17 rfl hl (by decide) rfl (fun ls hl => ?_)
      refine lv_iinc (v := (nI (k + 1))) (lv' := [(2, .int (nI (k + 1))), (1, .int (nI ((bcN x k) + ((x / 2 ^ k) % 2)))), (0, .int (nI x))]) hx hb dX13_bits_18 hl (k := 1) rfl (nI_add _ _) (by decide) rfl (fun ls hl => ?_)
      refine lv_goto (tgt := 4) hx hb dX13_bits_21 (by decide) ?_
      exact ih1 (k + 1) _ _ (by omega) (by omega) hS (lv_sub hl [0, 1, 2] rfl)
  exact loop1 ((9 - 0) + 1) 0 _ _ (Nat.lt_succ_self _) (by omega) hS (lv_sub hl [0, 1, 2] rfl)
theorem cw_X13_328 {R : Room} {s : State} {args : Array Value} (hts : ∀ w ∈ lw_all, w.before args s = true) {f w k j : Nat} (hR : f + 1 ≤ R.frames ∧ 8 + (2 + 11) + w ≤ R.locals) : CallW R s args RX13 RX13 328 yX13_isBed cX13_isBed 2 (some .boolean) (ws_ yX13_isBed cX13_isBed 2 (some .boolean)) (mkRmC f w k j) k j 1 := cwV 1 hts (lw_V q1782 q1784 qs73 q129 q1785) rfl rfl rfl (by decide +kernel) hR
set_option maxHeartbeats 4000000 in
theorem met_X13_leftAt (l : Launch) (D : va_G) (dA : Nat → ClassId) {o : Nat} {V : GI} {L : GL} {Rf : GR} {H0 : Heap} (hG : gP D dA o dM V L Rf H0) {lv n : Nat} (hT : tM V lv n) (b : Int32) : Ctr l D dA yX13_leftAt cX13_leftAt 2 (some .int) (mkRm 2 43) [.ref o, .int b] H0 A0 (QI (fun r H1 => H0 = H1 ∧ r = lAt (V 31) (V 15 lv) n b)) := by
  have hT1 := hT.1
  have hT2 := hT.2.1
  refine ctr_I (by decide) (Nat.le_of_ble_eq_true rfl) ?_
  intro p e s m args below meth c ls QQ locs hx hb hml hown hts hK hend hS hl
  have hl : lv_has ls 2 [(0, .ref o), (1, .int b)] := hl
  refine lv_aload_n hx hb dX13_leftAt_0 rfl (lv_at hl 0 rfl) ?_
  refine lv_iload_n hx hb dX13_leftAt_1 rfl (lv_at hl 1 rfl) ?_
  refine c_VI hx hb hml hts hown hK hl.1 hS ⟨Nat.le_refl _, Nat.le_refl _⟩ (met_X13_isBed l D dA hG hT b) (cw_X13_328 hts ⟨by decide, by decide⟩) (hG 0 _ rfl) rfl rfl rfl rfl (Nat.le_of_ble_eq_true rfl) dX13_leftAt_2 (fun _ h => h.elim) (fun r H1 locs hq hF hS => ?_)
  obtain ⟨rfl, rfl⟩ := hq
  refine lv_if_eq (tgt := 15) hx hb dX13_leftAt_5 (by decide) (fun c5 => ?_) (fun c5 => ?_)
  · refine lv_aload_n hx hb dX13_leftAt_15 rfl (lv_at hl 0 rfl) ?_
    refine g_get hx hb hts hown hK hG 0 rfl rfl ok_X13 28 (by decide) q1499 rfl rfl dX13_leftAt_16 ?_
    refine lv_aload_n hx hb dX13_leftAt_19 rfl (lv_at hl 0 rfl) ?_
    refine g_get (v := .int (nI lv)) hx hb hts hown hK hG 0 rfl rfl ok_X13 18 (by decide) q1489 rfl (congrArg Value.int hT.2.2.1) dX13_leftAt_20 ?_
    refine n_iald hx hb hK hG 15 rfl (by omega) (by decide) dX13_leftAt_23 ?_
    refine lv_iconst (v := (nI 1)) hx hb dX13_leftAt_24 (by decide) ?_
    refine lv_icmp_ne (tgt := 57) hx hb dX13_leftAt_25 (by decide) (fun c25 => ?_) (fun c25 => ?_)
    · refine lv_iconst (v := (nI 0)) hx hb dX13_leftAt_57 (by decide) ?_
      refine hend _ _ _ _ _ hS dX13_leftAt_58 ?_
      exact ⟨_, rfl, rfl, by unfold lAt; first | exact (if_pos (bed_vp c5)).symm | (rw [if_neg (bed_nvp c5)]; first | exact (if_neg (fun z => c25 z.1)).symm | exact (if_neg (fun z => by omega)).symm | (rw [if_pos ⟨c25, c32⟩]; first | rw [if_neg (nlt_le c40)] | rw [if_pos (lt_nle c40)]))⟩
    refine lv_aload_n hx hb dX13_leftAt_28 rfl (lv_at hl 0 rfl) ?_
    refine c_VI hx hb hml hts hown hK hl.1 hS ⟨Nat.le_refl _, Nat.le_refl _⟩ (met_X13_many l D dA hG hT) (cw_X13_304 hts ⟨by decide, by decide⟩) (hG 0 _ rfl) rfl rfl rfl rfl (Nat.le_of_ble_eq_true rfl) dX13_leftAt_29 (fun _ h => h.elim) (fun r H1 locs hq hF hS => ?_)
    obtain ⟨rfl, rfl⟩ := hq
    refine n_if_le (tgt := 57) hx hb dX13_leftAt_32 (by decide) (by omega) (fun c32 => ?_) (fun c32 => ?_)
    · refine lv_iconst (v := (nI 0)) hx hb dX13_leftAt_57 (by decide) ?_
      refine hend _ _ _ _ _ hS dX13_leftAt_58 ?_
      exact ⟨_, rfl, rfl, by unfold lAt; first | exact (if_pos (bed_vp c5)).symm | (rw [if_neg (bed_nvp c5)]; first | exact (if_neg (fun z => c25 z.1)).symm | exact (if_neg (fun z => by omega)).symm | (rw [if_pos ⟨c25, c32⟩]; first | rw [if_neg (nlt_le c40)] | rw [if_pos (lt_nle c40)]))⟩
    refine lv_aload_n hx hb dX13_leftAt_35 rfl (lv_at hl 0 rfl) ?_
    refine g_get hx hb hts hown hK hG 0 rfl rfl ok_X13 48 (by decide) q1519 rfl rfl dX13_leftAt_36 ?_
    refine lv_iload_n hx hb dX13_leftAt_39 rfl (lv_at hl 1 rfl) ?_
    refine lv_if_ge (tgt := 52) hx hb dX13_leftAt_40 (by decide) (fun c40 => ?_) (fun c40 => ?_)
    · refine lv_iconst (v := (nI 0)) hx hb dX13_leftAt_52 (by decide) ?_
      refine n_iald hx hb hK hG 31 rfl (by omega) (by decide) dX13_leftAt_53 ?_
      refine lv_goto (tgt := 58) hx hb dX13_leftAt_54 (by decide) ?_
      refine hend _ _ _ _ _ hS dX13_leftAt_58 ?_
      exact ⟨_, rfl, rfl, by unfold lAt; first | exact (if_pos (bed_vp c5)).symm | (rw [if_neg (bed_nvp c5)]; first | exact (if_neg (fun z => c25 z.1)).symm | exact (if_neg (fun z => by omega)).symm | (rw [if_pos ⟨c25, c32⟩]; first | rw [if_neg (nlt_le c40)] | rw [if_pos (lt_nle c40)]))⟩
    refine lv_aload_n hx hb dX13_leftAt_43 rfl (lv_at hl 0 rfl) ?_
    refine c_VI hx hb hml hts hown hK hl.1 hS ⟨Nat.le_refl _, Nat.le_refl _⟩ (met_X13_many l D dA hG hT) (cw_X13_304 hts ⟨by decide, by decide⟩) (hG 0 _ rfl) rfl rfl rfl rfl (Nat.le_of_ble_eq_true rfl) dX13_leftAt_44 (fun _ h => h.elim) (fun r H1 locs hq hF hS => ?_)
    obtain ⟨rfl, rfl⟩ := hq
    refine lv_iconst (v := (nI 1)) hx hb dX13_leftAt_47 (by decide) ?_
    refine n_isub hx hb dX13_leftAt_48 (by omega) ?_
    refine lv_goto (tgt := 53) hx hb dX13_leftAt_49 (by decide) ?_
    refine n_iald hx hb hK hG 31 rfl (by omega) (by decide) dX13_leftAt_53 ?_
    refine lv_goto (tgt := 58) hx hb dX13_leftAt_54 (by decide) ?_
    refine hend _ _ _ _ _ hS dX13_leftAt_58 ?_
    exact ⟨_, rfl, rfl, by unfold lAt; first | exact (if_pos (bed_vp c5)).symm | (rw [if_neg (bed_nvp c5)]; first | exact (if_neg (fun z => c25 z.1)).symm | exact (if_neg (fun z => by omega)).symm | (rw [if_pos ⟨c25, c32⟩]; first | rw [if_neg (nlt_le c40)] | rw [if_pos (lt_nle c40)]))⟩
  refine lv_aload_n hx hb dX13_leftAt_8 rfl (lv_at hl 0 rfl) ?_
  refine g_get hx hb hts hown hK hG 0 rfl rfl ok_X13 48 (by decide) q1519 rfl rfl dX13_leftAt_9 ?_
  refine lv_iload_n hx hb dX13_leftAt_12 rfl (lv_at hl 1 rfl) ?_
  refine g_iald hx hb hK hG 31 rfl (bed_in c5 (by omega)) dX13_leftAt_13 ?_
  refine hend _ _ _ _ _ hS dX13_leftAt_14 ?_
  exact ⟨_, rfl, rfl, by unfold lAt; first | exact (if_pos (bed_vp c5)).symm | (rw [if_neg (bed_nvp c5)]; first | exact (if_neg (fun z => c25 z.1)).symm | exact (if_neg (fun z => by omega)).symm | (rw [if_pos ⟨c25, c32⟩]; first | rw [if_neg (nlt_le c40)] | rw [if_pos (lt_nle c40)]))⟩
