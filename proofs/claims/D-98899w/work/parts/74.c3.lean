set_option maxHeartbeats 4000000 in
theorem met_J5_size (l : Launch) (D : va_G) (dA : Nat → ClassId) {H0 : Heap} {a : Nat} {x1 : Int32} {x2 : Value} {n : Nat} (hat : va_at D CL (a, .inr (17, [.int x1, x2, .int (nI n)])) H0) : Ctr l D dA yJ5_size cJ5_size 1 (some .int) (mkRm 0 0) [.ref a] H0 A0 (QI (fun r H1 => H0 = H1 ∧ r = nI n)) := by
  refine ctr_I (by decide) (Nat.le_of_ble_eq_true rfl) ?_
  intro p e s m args below meth c ls QQ locs hx hb hml hown hts hK hend hS hl
  have hl : lv_has ls 1 [(0, .ref a)] := hl
  refine lv_aload_n hx hb dJ5_size_0 rfl (lv_at hl 0 rfl) ?_
  refine x_get hx hb hts hown hK hat rfl ok_J5 2 (by decide) q337 rfl dJ5_size_1 ?_
  refine hend _ _ _ _ _ hS dJ5_size_4 ?_
  exact ⟨_, rfl, rfl, rfl⟩
theorem cw_X4_31 {R : Room} {s : State} {args : Array Value} (hts : ∀ w ∈ lw_all, w.before args s = true) {f w k j : Nat} (hR : f + 1 ≤ R.frames ∧ 8 + (1 + 11) + w ≤ R.locals) : CallW R s args RX4 RJ5 31 yJ5_size cJ5_size 1 (some .int) (ws_ yJ5_size cJ5_size 1 (some .int)) (mkRmC f w k j) k j 0 := cwV 0 hts (lw_V q503 q504 q505 q118 q506) rfl rfl rfl (by decide +kernel) hR
set_option maxHeartbeats 4000000 in
theorem met_X4_beds (l : Launch) (D : va_G) (dA : Nat → ClassId) {H0 : Heap} {O : Nat → Prop} {tx : Nat} {T : Txt} (hX : txA D dA H0 O tx T) : Ctr l D dA yX4_beds cX4_beds 1 (some .int) (mkRm 1 20) [.ref tx] H0 A0 (QI (fun r H1 => H0 = H1 ∧ r = nI (xN T))) := by
  have hOA : ∀ z, O z → ¬ A0 z := fun _ _ h => h
  obtain ⟨al, ls, cd, cb, gc, lw, mc, ea, nc, xo1, xo2, xo3, xo4, xh1, xh2, xh3, xh4, xh5, xh6, hn9⟩ := hX
  refine ctr_I (by decide) (Nat.le_of_ble_eq_true rfl) ?_
  intro p e s m args below meth c ls QQ locs hx hb hml hown hts hK hend hS hl
  have hl : lv_has ls 1 [(0, .ref tx)] := hl
  refine lv_aload_n hx hb dX4_beds_0 rfl (lv_at hl 0 rfl) ?_
  refine x_get hx hb hts hown hK (va_at_S xh1 hS (hOA _ xo1)) rfl ok_X4 0 (by decide) q350 rfl dX4_beds_1 ?_
  refine c_VI hx hb hml hts hown hK hl.1 hS ⟨Nat.le_refl _, Nat.le_refl _⟩ (met_J5_size l D dA (va_at_S xh2 hS (hOA _ xo2))) (cw_X4_31 hts ⟨Nat.le_of_ble_eq_true rfl, Nat.le_of_ble_eq_true rfl⟩) (va_at_S xh2 hS (hOA _ xo2)) rfl rfl rfl rfl (Nat.le_of_ble_eq_true rfl) dX4_beds_4 (fun _ h => h.elim) (fun r H1 locs hq hF hS => ?_)
  obtain ⟨rfl, rfl⟩ := hq
  refine hend _ _ _ _ _ hS dX4_beds_7 ?_
  exact ⟨_, rfl, rfl, rfl⟩
theorem cw_X7_15 {R : Room} {s : State} {args : Array Value} (hts : ∀ w ∈ lw_all, w.before args s = true) {f w k j : Nat} (hR : f + 1 ≤ R.frames ∧ 8 + (1 + 11) + w ≤ R.locals) : CallW R s args RX7 RX4 15 yX4_beds cX4_beds 1 (some .int) (ws_ yX4_beds cX4_beds 1 (some .int)) (mkRmC f w k j) k j 0 := cwV 0 hts (lw_V q1138 q500 q501 q115 q502) rfl rfl rfl (by decide +kernel) hR
set_option maxHeartbeats 4000000 in
theorem met_X7_of (l : Launch) (D : va_G) (dA : Nat → ClassId) {H0 : Heap} {O : Nat → Prop} {tx : Nat} {T : Txt} (hX : txA D dA H0 O tx T) {bb k : Nat} (hk : k < xN T) : Ctr l D dA yX7_of cX7_of 3 (some .int) (mkRm 2 42) [.ref bb, .ref tx, .int (nI k)] H0 A0 (QI (fun r H1 => H0 = H1 ∧ r = bfI (xN T) (xR T) k)) := by
  have hOA : ∀ z, O z → ¬ A0 z := fun _ _ h => h
  have hX0 := hX
  obtain ⟨al, ls, cd, cb, gc, lw, mc, ea, nc, xo1, xo2, xo3, xo4, xh1, xh2, xh3, xh4, xh5, xh6, hn9⟩ := hX
  refine ctr_I (by decide) (Nat.le_of_ble_eq_true rfl) ?_
  intro p e s m args below meth c ls QQ locs hx hb hml hown hts hK hend hS hl
  have hl : lv_has ls 3 [(0, .ref bb), (1, .ref tx), (2, .int (nI k))] := hl
  refine lv_iload_n hx hb dX7_of_0 rfl (lv_at hl 2 rfl) ?_
  refine n_if_le (tgt := 10) hx hb dX7_of_1 (by decide) (by omega) (fun c1 => ?_) (fun c1 => ?_)
  · refine lv_aload_n hx hb dX7_of_10 rfl (lv_at hl 1 rfl) ?_
    refine x_get hx hb hts hown hK (va_at_S xh1 hS (hOA _ xo1)) rfl ok_X4 5 (by decide) q364 rfl dX7_of_11 ?_
    refine lv_iconst (v := (nI 1)) hx hb dX7_of_14 (by decide) ?_
    refine lv_icmp_ne (tgt := 27) hx hb dX7_of_15 (by decide) (fun c15 => ?_) (fun c15 => ?_)
    · refine lv_iconst (v := (-1)) hx hb dX7_of_27 (by decide) ?_
      refine hend _ _ _ _ _ hS dX7_of_28 ?_
      exact ⟨_, rfl, rfl, by unfold bfI; rw [if_neg (by omega)]; exact (if_neg (fun z => by first | exact c15 z | exact absurd z c15)).symm⟩
    refine lv_aload_n hx hb dX7_of_18 rfl (lv_at hl 1 rfl) ?_
    refine c_VI hx hb hml hts hown hK hl.1 hS ⟨Nat.le_refl _, Nat.le_refl _⟩ (met_X4_beds l D dA (txA_S hX0 hS hOA)) (cw_X7_15 hts ⟨Nat.le_of_ble_eq_true rfl, Nat.le_of_ble_eq_true rfl⟩) (va_at_S xh1 hS (hOA _ xo1)) rfl rfl rfl rfl (Nat.le_of_ble_eq_true rfl) dX7_of_19 (fun _ h => h.elim) (fun r H1 locs hq hF hS => ?_)
    obtain ⟨rfl, rfl⟩ := hq
    refine lv_iconst (v := (nI 1)) hx hb dX7_of_22 (by decide) ?_
    refine n_isub hx hb dX7_of_23 (by omega) ?_
    refine lv_goto (tgt := 28) hx hb dX7_of_24 (by decide) ?_
    refine hend _ _ _ _ _ hS dX7_of_28 ?_
    exact ⟨_, rfl, rfl, by unfold bfI; rw [if_neg (by omega)]; exact (if_pos (by first | exact c15 | exact Classical.byContradiction c15)).symm⟩
  refine lv_iload_n hx hb dX7_of_4 rfl (lv_at hl 2 rfl) ?_
  refine lv_iconst (v := (nI 1)) hx hb dX7_of_5 (by decide) ?_
  refine n_isub hx hb dX7_of_6 (by omega) ?_
  refine lv_goto (tgt := 28) hx hb dX7_of_7 (by decide) ?_
  refine hend _ _ _ _ _ hS dX7_of_28 ?_
  exact ⟨_, rfl, rfl, by unfold bfI; exact (if_pos (by omega)).symm⟩
theorem cw_X8_9 {R : Room} {s : State} {args : Array Value} (hts : ∀ w ∈ lw_all, w.before args s = true) {f w k j : Nat} (hR : f + 1 ≤ R.frames ∧ 8 + (1 + 11) + w ≤ R.locals) : CallW R s args RX8 RX4 9 yX4_beds cX4_beds 1 (some .int) (ws_ yX4_beds cX4_beds 1 (some .int)) (mkRmC f w k j) k j 0 := cwV 0 hts (lw_V q1142 q500 q501 q115 q502) rfl rfl rfl (by decide +kernel) hR
set_option maxHeartbeats 4000000 in
theorem met_X8_of (l : Launch) (D : va_G) (dA : Nat → ClassId) {H0 : Heap} {O : Nat → Prop} {tx : Nat} {T : Txt} (hX : txA D dA H0 O tx T) {bb k : Nat} (hk : k < xN T) : Ctr l D dA yX8_of cX8_of 3 (some .int) (mkRm 2 42) [.ref bb, .ref tx, .int (nI k)] H0 A0 (QI (fun r H1 => H0 = H1 ∧ r = bhI (xN T) (xR T) k)) := by
  have hOA : ∀ z, O z → ¬ A0 z := fun _ _ h => h
  have hX0 := hX
  obtain ⟨al, ls, cd, cb, gc, lw, mc, ea, nc, xo1, xo2, xo3, xo4, xh1, xh2, xh3, xh4, xh5, xh6, hn9⟩ := hX
  refine ctr_I (by decide) (Nat.le_of_ble_eq_true rfl) ?_
  intro p e s m args below meth c ls QQ locs hx hb hml hown hts hK hend hS hl
  have hl : lv_has ls 3 [(0, .ref bb), (1, .ref tx), (2, .int (nI k))] := hl
  refine lv_iload_n hx hb dX8_of_0 rfl (lv_at hl 2 rfl) ?_
  refine lv_iconst (v := (nI 1)) hx hb dX8_of_1 (by decide) ?_
  refine n_iadd hx hb dX8_of_2 ?_
  refine lv_aload_n hx hb dX8_of_3 rfl (lv_at hl 1 rfl) ?_
  refine c_VI hx hb hml hts hown hK hl.1 hS ⟨Nat.le_refl _, Nat.le_refl _⟩ (met_X4_beds l D dA (txA_S hX0 hS hOA)) (cw_X8_9 hts ⟨Nat.le_of_ble_eq_true rfl, Nat.le_of_ble_eq_true rfl⟩) (va_at_S xh1 hS (hOA _ xo1)) rfl rfl rfl rfl (Nat.le_of_ble_eq_true rfl) dX8_of_4 (fun _ h => h.elim) (fun r H1 locs hq hF hS => ?_)
  obtain ⟨rfl, rfl⟩ := hq
  refine n_icmp_ge (tgt := 16) hx hb dX8_of_7 (by decide) (by omega) (by omega) (fun c7 => ?_) (fun c7 => ?_)
  · refine lv_aload_n hx hb dX8_of_16 rfl (lv_at hl 1 rfl) ?_
    refine x_get hx hb hts hown hK (va_at_S xh1 hS (hOA _ xo1)) rfl ok_X4 5 (by decide) q365 rfl dX8_of_17 ?_
    refine lv_iconst (v := (nI 1)) hx hb dX8_of_20 (by decide) ?_
    refine lv_icmp_ne (tgt := 28) hx hb dX8_of_21 (by decide) (fun c21 => ?_) (fun c21 => ?_)
    · refine lv_iconst (v := (-1)) hx hb dX8_of_28 (by decide) ?_
      refine hend _ _ _ _ _ hS dX8_of_29 ?_
      exact ⟨_, rfl, rfl, by unfold bhI; rw [if_neg (by omega)]; exact (if_neg (fun z => by first | exact c21 z | exact absurd z c21)).symm⟩
    refine lv_iconst (v := (nI 0)) hx hb dX8_of_24 (by decide) ?_
    refine lv_goto (tgt := 29) hx hb dX8_of_25 (by decide) ?_
    refine hend _ _ _ _ _ hS dX8_of_29 ?_
    exact ⟨_, rfl, rfl, by unfold bhI; rw [if_neg (by omega)]; exact (if_pos (by first | exact c21 | exact Classical.byContradiction c21)).symm⟩
  refine lv_iload_n hx hb dX8_of_10 rfl (lv_at hl 2 rfl) ?_
  refine lv_iconst (v := (nI 1)) hx hb dX8_of_11 (by decide) ?_
  refine n_iadd hx hb dX8_of_12 ?_
  refine lv_goto (tgt := 29) hx hb dX8_of_13 (by decide) ?_
  refine hend _ _ _ _ _ hS dX8_of_29 ?_
  exact ⟨_, rfl, rfl, by unfold bhI; exact (if_pos (by omega)).symm⟩
set_option maxHeartbeats 4000000 in
theorem met_X5_isLeft (l : Launch) (D : va_G) (dA : Nat → ClassId) {b : Nat} {V : GI} {L : GL} {Rf : GR} {H0 : Heap} (hG : gP D dA b dB V L Rf H0) {n : Nat} {f : Rw} (h4 : V 0 4 = nI (rbF f n)) (hn9 : n ≤ 9) {k : Nat} (hk : k < n) : Ctr l D dA yX5_isLeft cX5_isLeft 2 (some .boolean) (mkRm 0 0) [.ref b, .int (nI k)] H0 A0 (QI (fun r H1 => H0 = H1 ∧ r = nI (b01 (f k)))) := by
  refine ctr_Z (by decide) (Nat.le_of_ble_eq_true rfl) ?_
  intro p e s m args below meth c ls QQ locs hx hb hml hown hts hK hend hS hl
  have hl : lv_has ls 2 [(0, .ref b), (1, .int (nI k))] := hl
  have hrb9 := rb9 (f := f) hn9
  refine lv_aload_n hx hb dX5_isLeft_0 rfl (lv_at hl 0 rfl) ?_
  refine g_get (v := .int (nI (rbF f n))) hx hb hts hown hK hG 0 rfl rfl ok_X5 4 (by decide) q441 rfl (congrArg Value.int h4) dX5_isLeft_1 ?_
  refine lv_iload_n hx hb dX5_isLeft_4 rfl (lv_at hl 1 rfl) ?_
  refine n_ishr hx hb dX5_isLeft_5 (by omega) (by omega) ?_
  refine lv_iconst (v := (nI 1)) hx hb dX5_isLeft_6 (by decide) ?_
  refine n_and1 hx hb dX5_isLeft_7 ?_
  refine iv (y := nI (b01 (f k))) (congrArg nI (rb_bit (by omega))) ?_
  have hb01_8 := b01_le (f k)
  refine lv_iconst (v := (nI 1)) hx hb dX5_isLeft_8 (by decide) ?_
  refine n_icmp_ne (tgt := 16) hx hb dX5_isLeft_9 (by decide) (by omega) (by omega) (fun c9 => ?_) (fun c9 => ?_)
  · refine lv_iconst (v := (nI 0)) hx hb dX5_isLeft_16 (by decide) ?_
    refine hend _ _ _ _ _ hS dX5_isLeft_17 (by decide) ?_
    exact ⟨_, rfl, rfl, congrArg nI (by omega)⟩
  refine lv_iconst (v := (nI 1)) hx hb dX5_isLeft_12 (by decide) ?_
  refine lv_goto (tgt := 17) hx hb dX5_isLeft_13 (by decide) ?_
  refine hend _ _ _ _ _ hS dX5_isLeft_17 (by decide) ?_
  exact ⟨_, rfl, rfl, congrArg nI (by omega)⟩
set_option maxHeartbeats 4000000 in
theorem met_X5_leftOf (l : Launch) (D : va_G) (dA : Nat → ClassId) {b : Nat} {V : GI} {L : GL} {Rf : GR} {H0 : Heap} (hG : gP D dA b dB V L Rf H0) {n : Nat} {f : Rw} (h4 : V 0 4 = nI (rbF f n)) (hn9 : n ≤ 9) (hrv : RV n f) {x : Int32} (hk : sdK n x) : Ctr l D dA yX5_leftOf cX5_leftOf 2 (some .int) (mkRm 0 0) [.ref b, .int x] H0 A0 (QI (fun r H1 => H0 = H1 ∧ r = lfI f x)) := by
  refine ctr_I (by decide) (Nat.le_of_ble_eq_true rfl) ?_
  intro p e s m args below meth c ls QQ locs hx hb hml hown hts hK hend hS hl
  have hl : lv_has ls 2 [(0, .ref b), (1, .int x)] := hl
  have hrb9 := rb9 (f := f) hn9
  rcases hk with rfl | ⟨k, hk, rfl⟩
  · have hl : lv_has ls 2 [(0, .ref b), (1, .int (-1))] := hl
    refine lv_iload_n hx hb dX5_leftOf_0 rfl (lv_at hl 1 rfl) ?_
    refine lv_iconst (v := (-1)) hx hb dX5_leftOf_1 (by decide) ?_
    refine lv_icmp_ne (tgt := 9) hx hb dX5_leftOf_2 (by decide) (fun z => absurd z (by decide)) (fun _ => ?_)
    refine lv_iconst (v := (nI 0)) hx hb dX5_leftOf_5 (by decide) ?_
    refine lv_goto (tgt := 17) hx hb dX5_leftOf_6 (by decide) ?_
    refine hend _ _ _ _ _ hS dX5_leftOf_17 ?_
    exact ⟨_, rfl, rfl, (if_pos rfl).symm⟩
  have hl : lv_has ls 2 [(0, .ref b), (1, .int (nI k))] := hl
  refine lv_iload_n hx hb dX5_leftOf_0 rfl (lv_at hl 1 rfl) ?_
  refine lv_iconst (v := (-1)) hx hb dX5_leftOf_1 (by decide) ?_
  refine lv_icmp_ne (tgt := 9) hx hb dX5_leftOf_2 (by decide) (fun _ => ?_) (fun z => absurd z (ng_ne (by decide) (by omega)))
  refine lv_aload_n hx hb dX5_leftOf_9 rfl (lv_at hl 0 rfl) ?_
  refine g_get (v := .int (nI (rbF f n))) hx hb hts hown hK hG 0 rfl rfl ok_X5 4 (by decide) q441 rfl (congrArg Value.int h4) dX5_leftOf_10 ?_
  refine lv_iload_n hx hb dX5_leftOf_13 rfl (lv_at hl 1 rfl) ?_
  refine n_ishr hx hb dX5_leftOf_14 (by omega) (by omega) ?_
  refine lv_iconst (v := (nI 1)) hx hb dX5_leftOf_15 (by decide) ?_
  refine n_and1 hx hb dX5_leftOf_16 ?_
  refine iv (y := nI (b01 (f k))) (congrArg nI (rb_bit (by omega))) ?_
  have hb01_17 := b01_le (f k)
  refine hend _ _ _ _ _ hS dX5_leftOf_17 ?_
  exact ⟨_, rfl, rfl, ((lfI_n (by omega)).trans (hrv k hk)).symm⟩
