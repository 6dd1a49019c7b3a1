def PAk (k _ : Nat) : Bool := k == 10
def PAs (k _ : Nat) : Bool := k == 9 || k == 10
theorem PAk_PAs : ∀ k j, PAs k j = false → PAk k j = false := by intro k j h; simp only [PAk, PAs, Bool.or_eq_false_iff, Bool.and_eq_false_iff, beq_eq_false_iff_ne, ne_eq] at *; omega
theorem lwA_at {D : va_G} {dA : Nat → ClassId} {H : Heap} {O : Nat → Prop} {a : Nat} {w : Lw} (h : lwA D dA H O a w) : O a ∧ ∃ fs, va_at D CL (a, .inr (8, fs)) H := by
  obtain ⟨l1, l2, l3, f1, f2, f3, o0, o1, o2, o3, h0, _⟩ := h
  exact ⟨o0, _, h0⟩
theorem lie_none {T : Txt} {f : Rw} {b : Nat} (h : xL T 0 = none) (hb : f b = nI (b01 (f b))) : lieF T f b = nI (b01 (f b)) := by
  unfold lieF
  rw [h]
  show (if 0 < f b then 1 else 0) = nI (b01 (f b))
  have h2 := b01_lt (f b)
  rcases (show b01 (f b) = 0 ∨ b01 (f b) = 1 by omega) with e | e
  · rw [hb, e]; rfl
  · rw [hb, e]; rfl
theorem cw_X5_103 {R : Room} {s : State} {args : Array Value} (hts : ∀ w ∈ lw_all, w.before args s = true) {f w k j : Nat} (hR : f + 1 ≤ R.frames ∧ 8 + (2 + 11) + w ≤ R.locals) : CallW R s args RX5 RX5 103 yX5_leftOf cX5_leftOf 2 (some .int) (ws_ yX5_leftOf cX5_leftOf 2 (some .int)) (mkRmC f w k j) k j 1 := cwV 1 hts (lw_V q1143 q1145 qs32 q119 q1146) rfl rfl rfl (by decide +kernel) hR
theorem cw_X5_50 {R : Room} {s : State} {args : Array Value} (hts : ∀ w ∈ lw_all, w.before args s = true) {f w k j : Nat} (hR : f + 1 ≤ R.frames ∧ 8 + (1 + 11) + w ≤ R.locals) : CallW R s args RX5 RX4 50 yX4_beds cX4_beds 1 (some .int) (ws_ yX4_beds cX4_beds 1 (some .int)) (mkRmC f w k j) k j 0 := cwV 0 hts (lw_V q499 q500 q501 q115 q502) rfl rfl rfl (by decide +kernel) hR
set_option maxHeartbeats 4000000 in
theorem met_X5_asks (l : Launch) (D : va_G) (dA : Nat → ClassId) {b : Nat} {V : GI} {L : GL} {Rf : GR} {H0 : Heap} (hG : gP D dA b dB V L Rf H0) {O : Nat → Prop} {tx : Nat} {T : Txt} (hX : txA D dA H0 O tx T) (hOA : ∀ z, O z → ¬ AB b z) (hsd : sdB Rf b) {f : Rw} (hbk : bkA V (xN T) f) (hrv : RV (xN T) f) {k : Nat} (hk : k < xN T) : Ctr l D dA yX5_asks cX5_asks 3 (some (.object "PartedSide$Asked")) (mkRm 3 66) [.ref b, .ref tx, .int (nI k)] H0 (AB b) (QR (fun r H1 => r = some (b + 9) ∧ ∃ V1, gP D dA b dB V1 L Rf H1 ∧ Eqx PAk V V1 ∧ ∀ j, j < 9 → V1 10 j = vrF T f k j)) := by
  have hX0 := hX
  obtain ⟨al, ls, cd, cb, gc, lw, mc, ea, nc, xo1, xo2, xo3, xo4, xh1, xh2, xh3, xh4, xh5, xh6, hn9⟩ := hX
  refine ctr_R (by decide) (Nat.le_of_ble_eq_true rfl) (Or.inl ⟨_, rfl⟩) ?_
  intro p e s m args below meth c ls QQ locs hx hb hml hown hts hK hend hS hl
  have hl : lv_has ls 3 [(0, .ref b), (1, .ref tx), (2, .int (nI k))] := hl
  have hrb9 := rb9 (f := f) hn9
  refine lv_aload_n hx hb dX5_asks_0 rfl (lv_at hl 0 rfl) ?_
  refine g_get hx hb hts hown hK hG 0 rfl rfl ok_X5 10 (by decide) q453 rfl rfl dX5_asks_1 ?_
  refine g_get hx hb hts hown hK hG 9 rfl rfl ok_X9 0 (by decide) q425 rfl rfl dX5_asks_4 ?_
  refine lv_iconst (v := (nI 0)) hx hb dX5_asks_7 (by decide) ?_
  refine lv_aload_n hx hb dX5_asks_8 rfl (lv_at hl 0 rfl) ?_
  refine g_get (v := .int (nI (rbF f (xN T)))) hx hb hts hown hK hG 0 rfl rfl ok_X5 4 (by decide) q441 rfl (congrArg Value.int hbk.1) dX5_asks_9 ?_
  refine lv_iload_n hx hb dX5_asks_12 rfl (lv_at hl 2 rfl) ?_
  refine n_ishr hx hb dX5_asks_13 (by omega) (by omega) ?_
  refine lv_iconst (v := (nI 1)) hx hb dX5_asks_14 (by decide) ?_
  refine n_and1 hx hb dX5_asks_15 ?_
  refine iv (y := nI (b01 (f k))) (congrArg nI (rb_bit (by omega))) ?_
  have hb01_16 := b01_le (f k)
  refine n_iast hx hb hK hG hS 10 (AB_in 10 (by decide)) rfl (by omega) (by decide) dX5_asks_16 (fun H locs hG hO hS => ?_)
  refine lv_aload_n hx hb dX5_asks_17 rfl (lv_at hl 0 rfl) ?_
  refine g_get hx hb hts hown hK hG 0 rfl rfl ok_X5 10 (by decide) q453 rfl rfl dX5_asks_18 ?_
  refine g_get hx hb hts hown hK hG 9 rfl rfl ok_X9 0 (by decide) q425 rfl rfl dX5_asks_21 ?_
  refine lv_iconst (v := (nI 1)) hx hb dX5_asks_24 (by decide) ?_
  refine lv_aload_n hx hb dX5_asks_25 rfl (lv_at hl 0 rfl) ?_
  refine lv_aload_n hx hb dX5_asks_26 rfl (lv_at hl 0 rfl) ?_
  refine g_get hx hb hts hown hK hG 0 rfl rfl ok_X5 8 (by decide) q451 rfl rfl dX5_asks_27 ?_
  refine lv_iconst (v := (nI 0)) hx hb dX5_asks_30 (by decide) ?_
  refine xn_aald hx hb hK 7 (hG 5 _ rfl) rfl (by decide) (by decide) hsd.1 dX5_asks_31 ?_
  refine lv_aload_n hx hb dX5_asks_32 rfl (lv_at hl 1 rfl) ?_
  refine lv_iload_n hx hb dX5_asks_33 rfl (lv_at hl 2 rfl) ?_
  refine c_UI hx hb hml hts hown hK hl.1 hS ⟨Nat.le_refl _, Nat.le_refl _⟩ (met_X7_of l D dA (txA_S hX0 hS hOA) (bb := b + 6) hk) (va_cwA 2 hts (lw_U q1132 q1134 q1135 q1136 q121 q1137) rfl rfl rfl (hK.2.1 _ q1133 rfl) (by decide +kernel) ⟨Nat.le_of_ble_eq_true rfl, Nat.le_of_ble_eq_true rfl⟩) (hG 6 _ rfl) rfl rfl rfl rfl (Nat.le_of_ble_eq_true rfl) dX5_asks_34 (fun _ h => h.elim) (fun r H1 locs hq hF hS => ?_)
  obtain ⟨rfl, rfl⟩ := hq
  refine c_VI hx hb hml hts hown hK hl.1 hS ⟨Nat.le_refl _, Nat.le_refl _⟩ (met_X5_leftOf l D dA hG hbk.1 hn9 hrv (bf_sd hk)) (cw_X5_103 hts ⟨Nat.le_of_ble_eq_true rfl, Nat.le_of_ble_eq_true rfl⟩) (hG 0 _ rfl) rfl rfl rfl rfl (Nat.le_of_ble_eq_true rfl) dX5_asks_37 (fun _ h => h.elim) (fun r H1 locs hq hF hS => ?_)
  obtain ⟨rfl, rfl⟩ := hq
  refine n_iast hx hb hK hG hS 10 (AB_in 10 (by decide)) rfl (by omega) (by decide) dX5_asks_40 (fun H locs hG hO hS => ?_)
  refine lv_aload_n hx hb dX5_asks_41 rfl (lv_at hl 0 rfl) ?_
  refine g_get hx hb hts hown hK hG 0 rfl rfl ok_X5 10 (by decide) q453 rfl rfl dX5_asks_42 ?_
  refine g_get hx hb hts hown hK hG 9 rfl rfl ok_X9 0 (by decide) q425 rfl rfl dX5_asks_45 ?_
  refine lv_iconst (v := (nI 2)) hx hb dX5_asks_48 (by decide) ?_
  refine lv_aload_n hx hb dX5_asks_49 rfl (lv_at hl 0 rfl) ?_
  refine lv_aload_n hx hb dX5_asks_50 rfl (lv_at hl 0 rfl) ?_
  refine g_get hx hb hts hown hK hG 0 rfl rfl ok_X5 8 (by decide) q451 rfl rfl dX5_asks_51 ?_
  refine lv_iconst (v := (nI 1)) hx hb dX5_asks_54 (by decide) ?_
  refine xn_aald hx hb hK 7 (hG 5 _ rfl) rfl (by decide) (by decide) hsd.2 dX5_asks_55 ?_
  refine lv_aload_n hx hb dX5_asks_56 rfl (lv_at hl 1 rfl) ?_
  refine lv_iload_n hx hb dX5_asks_57 rfl (lv_at hl 2 rfl) ?_
  refine c_UI hx hb hml hts hown hK hl.1 hS ⟨Nat.le_refl _, Nat.le_refl _⟩ (met_X8_of l D dA (txA_S hX0 hS hOA) (bb := b + 7) hk) (va_cwA 2 hts (lw_U q1132 q1134 q1139 q1140 q122 q1141) rfl rfl rfl (hK.2.1 _ q1133 rfl) (by decide +kernel) ⟨Nat.le_of_ble_eq_true rfl, Nat.le_of_ble_eq_true rfl⟩) (hG 7 _ rfl) rfl rfl rfl rfl (Nat.le_of_ble_eq_true rfl) dX5_asks_58 (fun _ h => h.elim) (fun r H1 locs hq hF hS => ?_)
  obtain ⟨rfl, rfl⟩ := hq
  refine c_VI hx hb hml hts hown hK hl.1 hS ⟨Nat.le_refl _, Nat.le_refl _⟩ (met_X5_leftOf l D dA hG hbk.1 hn9 hrv (bh_sd hk)) (cw_X5_103 hts ⟨Nat.le_of_ble_eq_true rfl, Nat.le_of_ble_eq_true rfl⟩) (hG 0 _ rfl) rfl rfl rfl rfl (Nat.le_of_ble_eq_true rfl) dX5_asks_61 (fun _ h => h.elim) (fun r H1 locs hq hF hS => ?_)
  obtain ⟨rfl, rfl⟩ := hq
  refine n_iast hx hb hK hG hS 10 (AB_in 10 (by decide)) rfl (by omega) (by decide) dX5_asks_64 (fun H locs hG hO hS => ?_)
  refine lv_aload_n hx hb dX5_asks_65 rfl (lv_at hl 0 rfl) ?_
  refine g_get hx hb hts hown hK hG 0 rfl rfl ok_X5 10 (by decide) q453 rfl rfl dX5_asks_66 ?_
  refine g_get hx hb hts hown hK hG 9 rfl rfl ok_X9 0 (by decide) q425 rfl rfl dX5_asks_69 ?_
  refine lv_iconst (v := (nI 3)) hx hb dX5_asks_72 (by decide) ?_
  refine lv_aload_n hx hb dX5_asks_73 rfl (lv_at hl 0 rfl) ?_
  refine g_get hx hb hts hown hK hG 0 rfl rfl ok_X5 0 (by decide) q433 rfl rfl dX5_asks_74 ?_
  refine lv_iload_n hx hb dX5_asks_77 rfl (lv_at hl 2 rfl) ?_
  refine n_iald hx hb hK hG 1 rfl (by omega) (by decide) dX5_asks_78 ?_
  refine iv (y := (V 1 k)) rfl ?_
  refine n_iast hx hb hK hG hS 10 (AB_in 10 (by decide)) rfl (by omega) (by decide) dX5_asks_79 (fun H locs hG hO hS => ?_)
  refine lv_aload_n hx hb dX5_asks_80 rfl (lv_at hl 0 rfl) ?_
  refine g_get hx hb hts hown hK hG 0 rfl rfl ok_X5 10 (by decide) q453 rfl rfl dX5_asks_81 ?_
  refine g_get hx hb hts hown hK hG 9 rfl rfl ok_X9 0 (by decide) q425 rfl rfl dX5_asks_84 ?_
  refine lv_iconst (v := (nI 4)) hx hb dX5_asks_87 (by decide) ?_
  refine lv_aload_n hx hb dX5_asks_88 rfl (lv_at hl 1 rfl) ?_
  refine x_get hx hb hts hown hK (va_at_S xh1 hS (hOA _ xo1)) rfl ok_X4 2 (by decide) q357 rfl dX5_asks_89 ?_
  refine lv_iload_n hx hb dX5_asks_92 rfl (lv_at hl 2 rfl) ?_
  refine xn_iald hx hb hK (va_at_S xh5 hS (hOA _ xo4)) (by omega) (by decide) dX5_asks_93 ?_
  refine n_iast hx hb hK hG hS 10 (AB_in 10 (by decide)) rfl (by omega) (by decide) dX5_asks_94 (fun H locs hG hO hS => ?_)
  refine lv_aload_n hx hb dX5_asks_95 rfl (lv_at hl 0 rfl) ?_
  refine g_get hx hb hts hown hK hG 0 rfl rfl ok_X5 10 (by decide) q453 rfl rfl dX5_asks_96 ?_
  refine g_get hx hb hts hown hK hG 9 rfl rfl ok_X9 0 (by decide) q425 rfl rfl dX5_asks_99 ?_
  refine lv_iconst (v := (nI 5)) hx hb dX5_asks_102 (by decide) ?_
  refine lv_aload_n hx hb dX5_asks_103 rfl (lv_at hl 0 rfl) ?_
  refine g_get (v := .int (V 0 5)) hx hb hts hown hK hG 0 rfl rfl ok_X5 5 (by decide) q444 rfl rfl dX5_asks_104 ?_
  refine lv_bipush (v := (nI 24)) hx hb dX5_asks_107 (by decide) ?_
  refine lv_irem hx hb dX5_asks_109 (by decide) ?_
  refine n_iast hx hb hK hG hS 10 (AB_in 10 (by decide)) rfl (by omega) (by decide) dX5_asks_110 (fun H locs hG hO hS => ?_)
  refine lv_aload_n hx hb dX5_asks_111 rfl (lv_at hl 0 rfl) ?_
  refine g_get hx hb hts hown hK hG 0 rfl rfl ok_X5 10 (by decide) q453 rfl rfl dX5_asks_112 ?_
  refine g_get hx hb hts hown hK hG 9 rfl rfl ok_X9 0 (by decide) q425 rfl rfl dX5_asks_115 ?_
  refine lv_bipush (v := (nI 6)) hx hb dX5_asks_118 (by decide) ?_
  refine lv_iload_n hx hb dX5_asks_120 rfl (lv_at hl 2 rfl) ?_
  refine n_iast hx hb hK hG hS 10 (AB_in 10 (by decide)) rfl (by omega) (by decide) dX5_asks_121 (fun H locs hG hO hS => ?_)
  refine lv_aload_n hx hb dX5_asks_122 rfl (lv_at hl 0 rfl) ?_
  refine g_get hx hb hts hown hK hG 0 rfl rfl ok_X5 10 (by decide) q453 rfl rfl dX5_asks_123 ?_
  refine g_get hx hb hts hown hK hG 9 rfl rfl ok_X9 0 (by decide) q425 rfl rfl dX5_asks_126 ?_
  refine lv_bipush (v := (nI 7)) hx hb dX5_asks_129 (by decide) ?_
  refine lv_aload_n hx hb dX5_asks_131 rfl (lv_at hl 1 rfl) ?_
  refine c_VI hx hb hml hts hown hK hl.1 hS ⟨Nat.le_refl _, Nat.le_refl _⟩ (met_X4_beds l D dA (txA_S hX0 hS hOA)) (cw_X5_50 hts ⟨Nat.le_of_ble_eq_true rfl, Nat.le_of_ble_eq_true rfl⟩) (va_at_S xh1 hS (hOA _ xo1)) rfl rfl rfl rfl (Nat.le_of_ble_eq_true rfl) dX5_asks_132 (fun _ h => h.elim) (fun r H1 locs hq hF hS => ?_)
  obtain ⟨rfl, rfl⟩ := hq
  refine n_iast hx hb hK hG hS 10 (AB_in 10 (by decide)) rfl (by omega) (by decide) dX5_asks_135 (fun H locs hG hO hS => ?_)
  refine lv_aload_n hx hb dX5_asks_136 rfl (lv_at hl 0 rfl) ?_
  refine g_get hx hb hts hown hK hG 0 rfl rfl ok_X5 10 (by decide) q453 rfl rfl dX5_asks_137 ?_
  refine g_get hx hb hts hown hK hG 9 rfl rfl ok_X9 0 (by decide) q425 rfl rfl dX5_asks_140 ?_
  refine lv_bipush (v := (nI 8)) hx hb dX5_asks_143 (by decide) ?_
  refine lv_aload_n hx hb dX5_asks_145 rfl (lv_at hl 0 rfl) ?_
  refine g_get hx hb hts hown hK hG 0 rfl rfl ok_X5 1 (by decide) q435 rfl rfl dX5_asks_146 ?_
  refine lv_iload_n hx hb dX5_asks_149 rfl (lv_at hl 2 rfl) ?_
  refine n_iald hx hb hK hG 2 rfl (by omega) (by decide) dX5_asks_150 ?_
  refine iv (y := (V 2 k)) rfl ?_
  refine n_iast hx hb hK hG hS 10 (AB_in 10 (by decide)) rfl (by omega) (by decide) dX5_asks_151 (fun H locs hG hO hS => ?_)
  refine lv_aload_n hx hb dX5_asks_152 rfl (lv_at hl 0 rfl) ?_
  refine g_get hx hb hts hown hK hG 0 rfl rfl ok_X5 10 (by decide) q453 rfl rfl dX5_asks_153 ?_
  refine hend _ _ _ _ _ hS dX5_asks_156 (Or.inr ⟨_, rfl⟩) ?_
  refine ⟨some (b + 9), rfl, rfl, _, hG, (((((((((Eqx.rf.up rfl).up rfl).up rfl).up rfl).up rfl).up rfl).up rfl).up rfl).up rfl), fun j hj => ?_⟩
  obtain rfl | rfl | rfl | rfl | rfl | rfl | rfl | rfl | rfl : j = 0 ∨ j = 1 ∨ j = 2 ∨ j = 3 ∨ j = 4 ∨ j = 5 ∨ j = 6 ∨ j = 7 ∨ j = 8 := by omega
  · exact (show _ = _ from rfl).trans ((hrv k hk).symm)
  · exact (show _ = _ from rfl).trans (lf_bf hk hn9)
  · exact (show _ = _ from rfl).trans (lf_bh hk hn9)
  · exact (show _ = _ from rfl).trans (hbk.2.2.1 k (by omega))
  · exact (show _ = _ from rfl).trans (xh6 k (by omega))
  · exact (show _ = _ from rfl).trans ((by rw [hbk.2.1]; rfl))
  · exact (show _ = _ from rfl).trans (rfl)
  · exact (show _ = _ from rfl).trans (rfl)
  · exact (show _ = _ from rfl).trans (hbk.2.2.2 k (by omega))
theorem cw_X5_114 {R : Room} {s : State} {args : Array Value} (hts : ∀ w ∈ lw_all, w.before args s = true) {f w k j : Nat} (hR : f + 1 ≤ R.frames ∧ 8 + (3 + 11) + w ≤ R.locals) : CallW R s args RX5 RX5 114 yX5_asks cX5_asks 3 (some (.object "PartedSide$Asked")) (ws_ yX5_asks cX5_asks 3 (some (.object "PartedSide$Asked"))) (mkRmC f w k j) k j 2 := cwV 2 hts (lw_V q1128 q1130 qs31 q119 q1131) rfl rfl rfl (by decide +kernel) hR
theorem cw_X5_118 {R : Room} {s : State} {args : Array Value} (hts : ∀ w ∈ lw_all, w.before args s = true) {f w k j : Nat} (hR : f + 1 ≤ R.frames ∧ 8 + (4 + 11) + w ≤ R.locals) : CallW R s args RX5 RX14 118 yX14_of cX14_of 4 (some .int) (ws_ yX14_of cX14_of 4 (some .int)) (mkRmC f w k j) k j 1 := cwV 1 hts (lw_V q1147 q1148 q1149 q133 q1150) rfl rfl rfl (by decide +kernel) hR
set_option maxHeartbeats 4000000 in
theorem met_X5_parts (l : Launch) (D : va_G) (dA : Nat → ClassId) {b : Nat} {V : GI} {L : GL} {Rf : GR} {H0 : Heap} (hG : gP D dA b dB V L Rf H0) {O : Nat → Prop} {tx : Nat} {T : Txt} (hX : txA D dA H0 O tx T) (hOA : ∀ z, O z → ¬ AB b z) (hsd : sdB Rf b) {f : Rw} (hbk : bkA V (xN T) f) (hrv : RV (xN T) f) {k : Nat} (hk : k < xN T) : Ctr l D dA yX5_parts cX5_parts 3 (some .int) (mkRm 403 9300) [.ref b, .ref tx, .int (nI k)] H0 (AB b) (QI (fun r H1 => r = parF T f k ∧ ∃ V1, gP D dA b dB V1 L Rf H1 ∧ Eqx PAs V V1)) := by
  have hX0 := hX
  obtain ⟨al, ls, cd, cb, gc, lw, mc, ea, nc, xo1, xo2, xo3, xo4, xh1, xh2, xh3, xh4, xh5, xh6, hn9⟩ := hX
  refine ctr_I (by decide) (Nat.le_of_ble_eq_true rfl) ?_
  intro p e s m args below meth c ls QQ locs hx hb hml hown hts hK hend hS hl
  have hl : lv_has ls 3 [(0, .ref b), (1, .ref tx), (2, .int (nI k))] := hl
  rcases lwB_c (xh4 1 (by decide)) with ⟨hl0, hw0⟩ | ⟨a0, w0, hl0, hw0, hLw⟩
  · refine lv_aload_n hx hb dX5_parts_0 rfl (lv_at hl 1 rfl) ?_
    refine x_get hx hb hts hown hK (va_at_S xh1 hS (hOA _ xo1)) rfl ok_X4 1 (by decide) q354 rfl dX5_parts_1 ?_
    refine lv_iconst (v := (nI 1)) hx hb dX5_parts_4 (by decide) ?_
    refine xn_aald hx hb hK 8 (va_at_S xh3 hS (hOA _ xo3)) rfl (by decide) (by decide) hl0 dX5_parts_5 ?_
    refine lv_ifnonnullN hx hb dX5_parts_6 ?_
    refine lv_iconst (v := (nI 1)) hx hb dX5_parts_9 (by decide) ?_
    refine lv_goto (tgt := 33) hx hb dX5_parts_10 (by decide) ?_
    refine hend _ _ _ _ _ hS dX5_parts_33 ?_
    exact ⟨_, rfl, by unfold parF; rw [hw0]; show nI 1 = wthn 1 0 99; decide, _, hG, Eqx.rf⟩
  obtain ⟨hOa0, fsL, hLat⟩ := lwA_at hLw
  refine lv_aload_n hx hb dX5_parts_0 rfl (lv_at hl 1 rfl) ?_
  refine x_get hx hb hts hown hK (va_at_S xh1 hS (hOA _ xo1)) rfl ok_X4 1 (by decide) q354 rfl dX5_parts_1 ?_
  refine lv_iconst (v := (nI 1)) hx hb dX5_parts_4 (by decide) ?_
  refine xn_aald hx hb hK 8 (va_at_S xh3 hS (hOA _ xo3)) rfl (by decide) (by decide) hl0 dX5_parts_5 ?_
  refine lv_ifnonnull (tgt := 13) hx hb dX5_parts_6 (by decide) ?_
  refine lv_bipush (v := (nI 99)) hx hb dX5_parts_13 (by decide) ?_
  refine lv_aload_n hx hb dX5_parts_15 rfl (lv_at hl 1 rfl) ?_
  refine x_get hx hb hts hown hK (va_at_S xh1 hS (hOA _ xo1)) rfl ok_X4 1 (by decide) q354 rfl dX5_parts_16 ?_
  refine lv_iconst (v := (nI 1)) hx hb dX5_parts_19 (by decide) ?_
  refine xn_aald hx hb hK 8 (va_at_S xh3 hS (hOA _ xo3)) rfl (by decide) (by decide) hl0 dX5_parts_20 ?_
  refine lv_aload_n hx hb dX5_parts_21 rfl (lv_at hl 0 rfl) ?_
  refine lv_aload_n hx hb dX5_parts_22 rfl (lv_at hl 1 rfl) ?_
  refine lv_iload_n hx hb dX5_parts_23 rfl (lv_at hl 2 rfl) ?_
  refine c_VR hx hb hml hts hown hK hl.1 hS ⟨Nat.le_refl _, Nat.le_refl _⟩ (met_X5_asks l D dA hG (txA_S hX0 hS hOA) hOA hsd hbk hrv hk) (cw_X5_114 hts ⟨Nat.le_of_ble_eq_true rfl, Nat.le_of_ble_eq_true rfl⟩) (hG 0 _ rfl) rfl rfl rfl rfl (Nat.le_of_ble_eq_true rfl) dX5_parts_24 (fun _ h => h) (fun r H1 locs hq hF hS => ?_)
  obtain ⟨rfl, V1, hG, hE1, hv1⟩ := hq
  generalize hHe1 : H1 = H at hG hS ⊢
  clear hHe1
  refine c_VI hx hb hml hts hown hK hl.1 hS ⟨Nat.le_refl _, Nat.le_refl _⟩ (met_X14_of l D dA (lwA_S hLw hS hOA) (fun z => hOA _ z (AB_in 9 (by decide))) (asA_of (vars := vrF T f k) hG hv1)) (cw_X5_118 hts ⟨Nat.le_of_ble_eq_true rfl, Nat.le_of_ble_eq_true rfl⟩) (va_at_S hLat hS (hOA _ hOa0)) rfl rfl rfl rfl (Nat.le_of_ble_eq_true rfl) dX5_parts_27 (fun _ h => h ▸ AB_in 9 (by decide)) (fun r H1 locs hq hF hS => ?_)
  obtain ⟨rfl, nt2, has2⟩ := hq
  have hG := gP_asked hG hF has2
  generalize hHe2 : H1 = H at hG hS ⊢
  clear hHe2
  refine va_mmin hx hb (hml.trans hl.1.symm) hown (hts _ q1169) (hts _ q908) (hts _ q142) (hts _ q909) (by decide) (Nat.le_of_ble_eq_true rfl) (Nat.le_refl _) (Nat.le_refl _) dX5_parts_30 ?_
  refine hend _ _ _ _ _ hS dX5_parts_33 ?_
  exact ⟨_, rfl, by unfold parF; rw [hw0]; exact wthn_c (N := 99) (by decide), _, hG, ((hE1.mono PAk_PAs).up rfl)⟩
set_option maxHeartbeats 4000000 in
theorem met_X5_chills (l : Launch) (D : va_G) (dA : Nat → ClassId) {b : Nat} {V : GI} {L : GL} {Rf : GR} {H0 : Heap} (hG : gP D dA b dB V L Rf H0) {O : Nat → Prop} {tx : Nat} {T : Txt} (hX : txA D dA H0 O tx T) (hOA : ∀ z, O z → ¬ AB b z) (hsd : sdB Rf b) {f : Rw} (hbk : bkA V (xN T) f) (hrv : RV (xN T) f) {k : Nat} (hk : k < xN T) : Ctr l D dA yX5_chills cX5_chills 3 (some .int) (mkRm 403 9300) [.ref b, .ref tx, .int (nI k)] H0 (AB b) (QI (fun r H1 => r = chiF T f k ∧ ∃ V1, gP D dA b dB V1 L Rf H1 ∧ Eqx PAs V V1)) := by
  have hX0 := hX
  obtain ⟨al, ls, cd, cb, gc, lw, mc, ea, nc, xo1, xo2, xo3, xo4, xh1, xh2, xh3, xh4, xh5, xh6, hn9⟩ := hX
  refine ctr_I (by decide) (Nat.le_of_ble_eq_true rfl) ?_
  intro p e s m args below meth c ls QQ locs hx hb hml hown hts hK hend hS hl
  have hl : lv_has ls 3 [(0, .ref b), (1, .ref tx), (2, .int (nI k))] := hl
  rcases lwB_c (xh4 2 (by decide)) with ⟨hl0, hw0⟩ | ⟨a0, w0, hl0, hw0, hLw⟩
  · refine lv_aload_n hx hb dX5_chills_0 rfl (lv_at hl 1 rfl) ?_
    refine x_get hx hb hts hown hK (va_at_S xh1 hS (hOA _ xo1)) rfl ok_X4 1 (by decide) q354 rfl dX5_chills_1 ?_
    refine lv_iconst (v := (nI 2)) hx hb dX5_chills_4 (by decide) ?_
    refine xn_aald hx hb hK 8 (va_at_S xh3 hS (hOA _ xo3)) rfl (by decide) (by decide) hl0 dX5_chills_5 ?_
    refine lv_ifnonnullN hx hb dX5_chills_6 ?_
    refine lv_iconst (v := (nI 0)) hx hb dX5_chills_9 (by decide) ?_
    refine lv_goto (tgt := 33) hx hb dX5_chills_10 (by decide) ?_
    refine hend _ _ _ _ _ hS dX5_chills_33 ?_
    exact ⟨_, rfl, by unfold chiF; rw [hw0]; show nI 0 = wthn 0 0 100; decide, _, hG, Eqx.rf⟩
  obtain ⟨hOa0, fsL, hLat⟩ := lwA_at hLw
  refine lv_aload_n hx hb dX5_chills_0 rfl (lv_at hl 1 rfl) ?_
  refine x_get hx hb hts hown hK (va_at_S xh1 hS (hOA _ xo1)) rfl ok_X4 1 (by decide) q354 rfl dX5_chills_1 ?_
  refine lv_iconst (v := (nI 2)) hx hb dX5_chills_4 (by decide) ?_
  refine xn_aald hx hb hK 8 (va_at_S xh3 hS (hOA _ xo3)) rfl (by decide) (by decide) hl0 dX5_chills_5 ?_
  refine lv_ifnonnull (tgt := 13) hx hb dX5_chills_6 (by decide) ?_
  refine lv_bipush (v := (nI 100)) hx hb dX5_chills_13 (by decide) ?_
  refine lv_aload_n hx hb dX5_chills_15 rfl (lv_at hl 1 rfl) ?_
  refine x_get hx hb hts hown hK (va_at_S xh1 hS (hOA _ xo1)) rfl ok_X4 1 (by decide) q354 rfl dX5_chills_16 ?_
  refine lv_iconst (v := (nI 2)) hx hb dX5_chills_19 (by decide) ?_
  refine xn_aald hx hb hK 8 (va_at_S xh3 hS (hOA _ xo3)) rfl (by decide) (by decide) hl0 dX5_chills_20 ?_
  refine lv_aload_n hx hb dX5_chills_21 rfl (lv_at hl 0 rfl) ?_
  refine lv_aload_n hx hb dX5_chills_22 rfl (lv_at hl 1 rfl) ?_
  refine lv_iload_n hx hb dX5_chills_23 rfl (lv_at hl 2 rfl) ?_
  refine c_VR hx hb hml hts hown hK hl.1 hS ⟨Nat.le_refl _, Nat.le_refl _⟩ (met_X5_asks l D dA hG (txA_S hX0 hS hOA) hOA hsd hbk hrv hk) (cw_X5_114 hts ⟨Nat.le_of_ble_eq_true rfl, Nat.le_of_ble_eq_true rfl⟩) (hG 0 _ rfl) rfl rfl rfl rfl (Nat.le_of_ble_eq_true rfl) dX5_chills_24 (fun _ h => h) (fun r H1 locs hq hF hS => ?_)
  obtain ⟨rfl, V1, hG, hE1, hv1⟩ := hq
  generalize hHe1 : H1 = H at hG hS ⊢
  clear hHe1
  refine c_VI hx hb hml hts hown hK hl.1 hS ⟨Nat.le_refl _, Nat.le_refl _⟩ (met_X14_of l D dA (lwA_S hLw hS hOA) (fun z => hOA _ z (AB_in 9 (by decide))) (asA_of (vars := vrF T f k) hG hv1)) (cw_X5_118 hts ⟨Nat.le_of_ble_eq_true rfl, Nat.le_of_ble_eq_true rfl⟩) (va_at_S hLat hS (hOA _ hOa0)) rfl rfl rfl rfl (Nat.le_of_ble_eq_true rfl) dX5_chills_27 (fun _ h => h ▸ AB_in 9 (by decide)) (fun r H1 locs hq hF hS => ?_)
  obtain ⟨rfl, nt2, has2⟩ := hq
  have hG := gP_asked hG hF has2
  generalize hHe2 : H1 = H at hG hS ⊢
  clear hHe2
  refine va_mmin hx hb (hml.trans hl.1.symm) hown (hts _ q1169) (hts _ q908) (hts _ q142) (hts _ q909) (by decide) (Nat.le_of_ble_eq_true rfl) (Nat.le_refl _) (Nat.le_refl _) dX5_chills_30 ?_
  refine hend _ _ _ _ _ hS dX5_chills_33 ?_
  exact ⟨_, rfl, by unfold chiF; rw [hw0]; exact wthn_c (N := 100) (by decide), _, hG, ((hE1.mono PAk_PAs).up rfl)⟩
set_option maxHeartbeats 4000000 in
theorem met_X5_costs (l : Launch) (D : va_G) (dA : Nat → ClassId) {b : Nat} {V : GI} {L : GL} {Rf : GR} {H0 : Heap} (hG : gP D dA b dB V L Rf H0) {O : Nat → Prop} {tx : Nat} {T : Txt} (hX : txA D dA H0 O tx T) (hOA : ∀ z, O z → ¬ AB b z) (hsd : sdB Rf b) {f : Rw} (hbk : bkA V (xN T) f) (hrv : RV (xN T) f) {k : Nat} (hk : k < xN T) : Ctr l D dA yX5_costs cX5_costs 3 (some .int) (mkRm 403 9300) [.ref b, .ref tx, .int (nI k)] H0 (AB b) (QI (fun r H1 => r = cosF T f k ∧ ∃ V1, gP D dA b dB V1 L Rf H1 ∧ Eqx PAs V V1)) := by
  have hX0 := hX
  obtain ⟨al, ls, cd, cb, gc, lw, mc, ea, nc, xo1, xo2, xo3, xo4, xh1, xh2, xh3, xh4, xh5, xh6, hn9⟩ := hX
  refine ctr_I (by decide) (Nat.le_of_ble_eq_true rfl) ?_
  intro p e s m args below meth c ls QQ locs hx hb hml hown hts hK hend hS hl
  have hl : lv_has ls 3 [(0, .ref b), (1, .ref tx), (2, .int (nI k))] := hl
  rcases lwB_c (xh4 3 (by decide)) with ⟨hl0, hw0⟩ | ⟨a0, w0, hl0, hw0, hLw⟩
  · refine lv_aload_n hx hb dX5_costs_0 rfl (lv_at hl 1 rfl) ?_
    refine x_get hx hb hts hown hK (va_at_S xh1 hS (hOA _ xo1)) rfl ok_X4 1 (by decide) q354 rfl dX5_costs_1 ?_
    refine lv_iconst (v := (nI 3)) hx hb dX5_costs_4 (by decide) ?_
    refine xn_aald hx hb hK 8 (va_at_S xh3 hS (hOA _ xo3)) rfl (by decide) (by decide) hl0 dX5_costs_5 ?_
    refine lv_ifnonnullN hx hb dX5_costs_6 ?_
    refine lv_iconst (v := (nI 1)) hx hb dX5_costs_9 (by decide) ?_
    refine lv_goto (tgt := 33) hx hb dX5_costs_10 (by decide) ?_
    refine hend _ _ _ _ _ hS dX5_costs_33 ?_
    exact ⟨_, rfl, by unfold cosF; rw [hw0]; show nI 1 = wthn 1 0 99; decide, _, hG, Eqx.rf⟩
  obtain ⟨hOa0, fsL, hLat⟩ := lwA_at hLw
  refine lv_aload_n hx hb dX5_costs_0 rfl (lv_at hl 1 rfl) ?_
  refine x_get hx hb hts hown hK (va_at_S xh1 hS (hOA _ xo1)) rfl ok_X4 1 (by decide) q354 rfl dX5_costs_1 ?_
  refine lv_iconst (v := (nI 3)) hx hb dX5_costs_4 (by decide) ?_
  refine xn_aald hx hb hK 8 (va_at_S xh3 hS (hOA _ xo3)) rfl (by decide) (by decide) hl0 dX5_costs_5 ?_
  refine lv_ifnonnull (tgt := 13) hx hb dX5_costs_6 (by decide) ?_
  refine lv_bipush (v := (nI 99)) hx hb dX5_costs_13 (by decide) ?_
  refine lv_aload_n hx hb dX5_costs_15 rfl (lv_at hl 1 rfl) ?_
  refine x_get hx hb hts hown hK (va_at_S xh1 hS (hOA _ xo1)) rfl ok_X4 1 (by decide) q354 rfl dX5_costs_16 ?_
  refine lv_iconst (v := (nI 3)) hx hb dX5_costs_19 (by decide) ?_
  refine xn_aald hx hb hK 8 (va_at_S xh3 hS (hOA _ xo3)) rfl (by decide) (by decide) hl0 dX5_costs_20 ?_
  refine lv_aload_n hx hb dX5_costs_21 rfl (lv_at hl 0 rfl) ?_
  refine lv_aload_n hx hb dX5_costs_22 rfl (lv_at hl 1 rfl) ?_
  refine lv_iload_n hx hb dX5_costs_23 rfl (lv_at hl 2 rfl) ?_
  refine c_VR hx hb hml hts hown hK hl.1 hS ⟨Nat.le_refl _, Nat.le_refl _⟩ (met_X5_asks l D dA hG (txA_S hX0 hS hOA) hOA hsd hbk hrv hk) (cw_X5_114 hts ⟨Nat.le_of_ble_eq_true rfl, Nat.le_of_ble_eq_true rfl⟩) (hG 0 _ rfl) rfl rfl rfl rfl (Nat.le_of_ble_eq_true rfl) dX5_costs_24 (fun _ h => h) (fun r H1 locs hq hF hS => ?_)
  obtain ⟨rfl, V1, hG, hE1, hv1⟩ := hq
  generalize hHe1 : H1 = H at hG hS ⊢
  clear hHe1
  refine c_VI hx hb hml hts hown hK hl.1 hS ⟨Nat.le_refl _, Nat.le_refl _⟩ (met_X14_of l D dA (lwA_S hLw hS hOA) (fun z => hOA _ z (AB_in 9 (by decide))) (asA_of (vars := vrF T f k) hG hv1)) (cw_X5_118 hts ⟨Nat.le_of_ble_eq_true rfl, Nat.le_of_ble_eq_true rfl⟩) (va_at_S hLat hS (hOA _ hOa0)) rfl rfl rfl rfl (Nat.le_of_ble_eq_true rfl) dX5_costs_27 (fun _ h => h ▸ AB_in 9 (by decide)) (fun r H1 locs hq hF hS => ?_)
  obtain ⟨rfl, nt2, has2⟩ := hq
  have hG := gP_asked hG hF has2
  generalize hHe2 : H1 = H at hG hS ⊢
  clear hHe2
  refine va_mmin hx hb (hml.trans hl.1.symm) hown (hts _ q1169) (hts _ q908) (hts _ q142) (hts _ q909) (by decide) (Nat.le_of_ble_eq_true rfl) (Nat.le_refl _) (Nat.le_refl _) dX5_costs_30 ?_
  refine hend _ _ _ _ _ hS dX5_costs_33 ?_
  exact ⟨_, rfl, by unfold cosF; rw [hw0]; exact wthn_c (N := 99) (by decide), _, hG, ((hE1.mono PAk_PAs).up rfl)⟩
theorem cw_X5_123 {R : Room} {s : State} {args : Array Value} (hts : ∀ w ∈ lw_all, w.before args s = true) {f w k j : Nat} (hR : f + 1 ≤ R.frames ∧ 8 + (2 + 11) + w ≤ R.locals) : CallW R s args RX5 RX5 123 yX5_isLeft cX5_isLeft 2 (some .boolean) (ws_ yX5_isLeft cX5_isLeft 2 (some .boolean)) (mkRmC f w k j) k j 1 := cwV 1 hts (lw_V q1127 q1120 q1121 q119 q1122) rfl rfl rfl (by decide +kernel) hR
set_option maxHeartbeats 4000000 in
theorem met_X5_liesLeft (l : Launch) (D : va_G) (dA : Nat → ClassId) {b : Nat} {V : GI} {L : GL} {Rf : GR} {H0 : Heap} (hG : gP D dA b dB V L Rf H0) {O : Nat → Prop} {tx : Nat} {T : Txt} (hX : txA D dA H0 O tx T) (hOA : ∀ z, O z → ¬ AB b z) (hsd : sdB Rf b) {f : Rw} (hbk : bkA V (xN T) f) (hrv : RV (xN T) f) {k : Nat} (hk : k < xN T) : Ctr l D dA yX5_liesLeft cX5_liesLeft 3 (some .boolean) (mkRm 403 9300) [.ref b, .ref tx, .int (nI k)] H0 (AB b) (QI (fun r H1 => r = lieF T f k ∧ ∃ V1, gP D dA b dB V1 L Rf H1 ∧ Eqx PAs V V1)) := by
  have hX0 := hX
  obtain ⟨al, ls, cd, cb, gc, lw, mc, ea, nc, xo1, xo2, xo3, xo4, xh1, xh2, xh3, xh4, xh5, xh6, hn9⟩ := hX
  refine ctr_Z (by decide) (Nat.le_of_ble_eq_true rfl) ?_
  intro p e s m args below meth c ls QQ locs hx hb hml hown hts hK hend hS hl
  have hl : lv_has ls 3 [(0, .ref b), (1, .ref tx), (2, .int (nI k))] := hl
  rcases lwB_c (xh4 0 (by decide)) with ⟨hl0, hw0⟩ | ⟨a0, w0, hl0, hw0, hLw⟩
  · refine lv_aload_n hx hb dX5_liesLeft_0 rfl (lv_at hl 1 rfl) ?_
    refine x_get hx hb hts hown hK (va_at_S xh1 hS (hOA _ xo1)) rfl ok_X4 1 (by decide) q354 rfl dX5_liesLeft_1 ?_
    refine lv_iconst (v := (nI 0)) hx hb dX5_liesLeft_4 (by decide) ?_
    refine xn_aald hx hb hK 8 (va_at_S xh3 hS (hOA _ xo3)) rfl (by decide) (by decide) hl0 dX5_liesLeft_5 ?_
    refine lv_ifnonnullN hx hb dX5_liesLeft_6 ?_
    refine lv_aload_n hx hb dX5_liesLeft_9 rfl (lv_at hl 0 rfl) ?_
    refine lv_iload_n hx hb dX5_liesLeft_10 rfl (lv_at hl 2 rfl) ?_
    refine c_VI hx hb hml hts hown hK hl.1 hS ⟨Nat.le_refl _, Nat.le_refl _⟩ (met_X5_isLeft l D dA hG hbk.1 hn9 (by omega)) (cw_X5_123 hts ⟨Nat.le_of_ble_eq_true rfl, Nat.le_of_ble_eq_true rfl⟩) (hG 0 _ rfl) rfl rfl rfl rfl (Nat.le_of_ble_eq_true rfl) dX5_liesLeft_11 (fun _ h => h.elim) (fun r H1 locs hq hF hS => ?_)
    obtain ⟨rfl, rfl⟩ := hq
    refine lv_goto (tgt := 40) hx hb dX5_liesLeft_14 (by decide) ?_
    refine hend _ _ _ _ _ hS dX5_liesLeft_40 (by rcases (show b01 (f k) = 0 ∨ b01 (f k) = 1 by have := b01_lt (f k); omega) with e | e <;> (rw [e]; decide)) ?_
    exact ⟨_, rfl, (lie_none hw0 (hrv k hk)).symm, _, hG, Eqx.rf⟩
  obtain ⟨hOa0, fsL, hLat⟩ := lwA_at hLw
  refine lv_aload_n hx hb dX5_liesLeft_0 rfl (lv_at hl 1 rfl) ?_
  refine x_get hx hb hts hown hK (va_at_S xh1 hS (hOA _ xo1)) rfl ok_X4 1 (by decide) q354 rfl dX5_liesLeft_1 ?_
  refine lv_iconst (v := (nI 0)) hx hb dX5_liesLeft_4 (by decide) ?_
  refine xn_aald hx hb hK 8 (va_at_S xh3 hS (hOA _ xo3)) rfl (by decide) (by decide) hl0 dX5_liesLeft_5 ?_
  refine lv_ifnonnull (tgt := 17) hx hb dX5_liesLeft_6 (by decide) ?_
  refine lv_aload_n hx hb dX5_liesLeft_17 rfl (lv_at hl 1 rfl) ?_
  refine x_get hx hb hts hown hK (va_at_S xh1 hS (hOA _ xo1)) rfl ok_X4 1 (by decide) q354 rfl dX5_liesLeft_18 ?_
  refine lv_iconst (v := (nI 0)) hx hb dX5_liesLeft_21 (by decide) ?_
  refine xn_aald hx hb hK 8 (va_at_S xh3 hS (hOA _ xo3)) rfl (by decide) (by decide) hl0 dX5_liesLeft_22 ?_
  refine lv_aload_n hx hb dX5_liesLeft_23 rfl (lv_at hl 0 rfl) ?_
  refine lv_aload_n hx hb dX5_liesLeft_24 rfl (lv_at hl 1 rfl) ?_
  refine lv_iload_n hx hb dX5_liesLeft_25 rfl (lv_at hl 2 rfl) ?_
  refine c_VR hx hb hml hts hown hK hl.1 hS ⟨Nat.le_refl _, Nat.le_refl _⟩ (met_X5_asks l D dA hG (txA_S hX0 hS hOA) hOA hsd hbk hrv hk) (cw_X5_114 hts ⟨Nat.le_of_ble_eq_true rfl, Nat.le_of_ble_eq_true rfl⟩) (hG 0 _ rfl) rfl rfl rfl rfl (Nat.le_of_ble_eq_true rfl) dX5_liesLeft_26 (fun _ h => h) (fun r H1 locs hq hF hS => ?_)
  obtain ⟨rfl, V1, hG, hE1, hv1⟩ := hq
  generalize hHe1 : H1 = H at hG hS ⊢
  clear hHe1
  refine c_VI hx hb hml hts hown hK hl.1 hS ⟨Nat.le_refl _, Nat.le_refl _⟩ (met_X14_of l D dA (lwA_S hLw hS hOA) (fun z => hOA _ z (AB_in 9 (by decide))) (asA_of (vars := vrF T f k) hG hv1)) (cw_X5_118 hts ⟨Nat.le_of_ble_eq_true rfl, Nat.le_of_ble_eq_true rfl⟩) (va_at_S hLat hS (hOA _ hOa0)) rfl rfl rfl rfl (Nat.le_of_ble_eq_true rfl) dX5_liesLeft_29 (fun _ h => h ▸ AB_in 9 (by decide)) (fun r H1 locs hq hF hS => ?_)
  obtain ⟨rfl, nt2, has2⟩ := hq
  have hG := gP_asked hG hF has2
  generalize hHe2 : H1 = H at hG hS ⊢
  clear hHe2
  refine lv_if_le (tgt := 39) hx hb dX5_liesLeft_32 (by decide) (fun c32 => ?_) (fun c32 => ?_)
  · refine lv_iconst (v := (nI 0)) hx hb dX5_liesLeft_39 (by decide) ?_
    refine hend _ _ _ _ _ hS dX5_liesLeft_40 (by decide) ?_
    exact ⟨_, rfl, by unfold lieF; rw [hw0]; exact (if_neg (fun z => Int32.not_le.mpr (mx0_pos.mpr z) c32)).symm, _, hG, ((hE1.mono PAk_PAs).up rfl)⟩
  refine lv_iconst (v := (nI 1)) hx hb dX5_liesLeft_35 (by decide) ?_
  refine lv_goto (tgt := 40) hx hb dX5_liesLeft_36 (by decide) ?_
  refine hend _ _ _ _ _ hS dX5_liesLeft_40 (by decide) ?_
  exact ⟨_, rfl, by unfold lieF; rw [hw0]; exact (if_pos (mx0_pos.mp (Int32.not_le.mp c32))).symm, _, hG, ((hE1.mono PAk_PAs).up rfl)⟩
