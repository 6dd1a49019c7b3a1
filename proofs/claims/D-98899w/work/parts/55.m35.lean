/-- the row as an hour begins: b beds filled -/
def bgZ (V : GI) (lv b k j : Nat) : Int32 := if k = 31 ∧ j < b then V 10 (9 * lv + j) else if k = 31 ∧ 9 ≤ j ∧ j < 9 + b then V 11 (9 * lv + (j - 9)) else if k = 31 ∧ 18 ≤ j ∧ j < 18 + b then nI (j - 18) else if k = 31 ∧ j < 48 then nI 0 else V k j
def bg0 (V : GI) (i k j : Nat) : Int32 := if k = 31 ∧ j < i then nI 0 else V k j
theorem bg_i {V W : GI} {i : Nat} (h : ∀ k j, W k j = bg0 V i k j) : ∀ k j, up2 W 31 i (nI 0) k j = bg0 V (i + 1) k j := by
  intro k j
  unfold up2
  rw [h k j]
  unfold bg0
  (repeat' split) <;> first | rfl | (exfalso; omega)
theorem bg_0 {V W : GI} {lv : Nat} (h : ∀ k j, W k j = bg0 V 48 k j) : ∀ k j, W k j = bgZ V lv 0 k j := by
  intro k j
  rw [h k j]
  unfold bg0 bgZ
  (repeat' split) <;> first | rfl | (exfalso; omega)
theorem bg_b {V W : GI} {lv b : Nat} (hb : b < 9) (h : ∀ k j, W k j = bgZ V lv b k j) : ∀ k j, up2 (up2 (up2 W 31 b (V 10 (9 * lv + b))) 31 (9 + b) (V 11 (9 * lv + b))) 31 (18 + b) (nI b) k j = bgZ V lv (b + 1) k j := by
  intro k j
  unfold up2
  rw [h k j]
  unfold bgZ
  by_cases h1 : j = b
  · subst h1; (repeat' split) <;> first | rfl | (exfalso; omega)
  · by_cases h2 : j = 9 + b
    · subst h2
      rw [show 9 + b - 9 = b by omega]
      (repeat' split) <;> first | rfl | (exfalso; omega)
    · by_cases h3 : j = 18 + b
      · subst h3
        rw [show 18 + b - 18 = b by omega]
        (repeat' split) <;> first | rfl | (exfalso; omega)
      · (repeat' split) <;> first | rfl | (exfalso; omega)
set_option maxHeartbeats 4000000 in
theorem met_X13_begins (l : Launch) (D : va_G) (dA : Nat → ClassId) {o : Nat} {V : GI} {L : GL} {Rf : GR} {H0 : Heap} (hG : gP D dA o dM V L Rf H0) {lv n : Nat} (hT : tM V lv n) : Ctr l D dA yX13_begins cX13_begins 2 none (mkRm 1 20) [.ref o] H0 (AM o) (QV (fun H1 => ∃ V1, gP D dA o dM V1 L Rf H1 ∧ Eqx PC V V1 ∧ (∀ j, j ≠ 45 → V1 31 j = bgZ V lv n 31 j) ∧ V1 31 45 = V 16 lv ∧ V1 0 49 = V 17 lv ∧ V1 0 50 = nI 0)) := by
  have hT1 := hT.1
  have hT2 := hT.2.1
  refine ctr_V (by decide) (Nat.le_of_ble_eq_true rfl) ?_
  intro p e s m args below meth c ls QQ locs hx hb hml hown hts hK hend hS hl
  have hl : lv_has ls 2 [(0, .ref o)] := hl
  refine lv_iconst (v := (nI 0)) hx hb dX13_begins_0 (by decide) ?_
  refine lv_istore_n (lv' := [(1, .int (nI 0)), (0, .ref o)]) hx hb dX13_begins_1 rfl hl (by decide) rfl (fun ls hl => ?_)
  have loop1 : ∀ (fu1 : Nat) (i : Nat) (V1 : GI) (H : Heap) (locs : List Loc) (ls : Array Slot), 48 - i < fu1 → (i ≤ 48) → (Eqx PR V V1) → (∀ k j, V1 k j = bg0 V i k j) → gP D dA o dM V1 L Rf H → va_S (AM o) H0 H locs → lv_has ls 2 [(1, .int (nI i)), (0, .ref o)] → W p l e (mkRm 1 20) s m args below meth c H locs 0 0 QQ (F0 m 2 ls []) := by
    intro fu1
    induction fu1 with
    | zero => intro i V1 H locs ls hfu; exact absurd hfu (Nat.not_lt_zero _)
    | succ fu1 ih1 =>
      intro i V1 H locs ls hfu hin hE1 hbz hG hS hl
      refine lv_iload_n hx hb dX13_begins_2 rfl (lv_at hl 0 rfl) ?_
      refine lv_bipush (v := (nI 48)) hx hb dX13_begins_3 (by decide) ?_
      refine n_icmp_ge (tgt := 21) hx hb dX13_begins_5 (by decide) (by omega) (by omega) (fun c5 => ?_) (fun c5 => ?_)
      · obtain rfl : i = 48 := by omega
        refine lv_iconst (v := (nI 0)) hx hb dX13_begins_21 (by decide) ?_
        refine lv_istore_n (lv' := [(1, .int (nI 0)), (0, .ref o)]) hx hb dX13_begins_22 rfl hl (by decide) rfl (fun ls hl => ?_)
        have loop2 : ∀ (fu2 : Nat) (b : Nat) (V2 : GI) (H : Heap) (locs : List Loc) (ls : Array Slot), n - b < fu2 → (b ≤ n) → (Eqx PR V1 V2) → (∀ k j, V2 k j = bgZ V lv b k j) → gP D dA o dM V2 L Rf H → va_S (AM o) H0 H locs → lv_has ls 2 [(1, .int (nI b)), (0, .ref o)] → W p l e (mkRm 1 20) s m args below meth c H locs 0 0 QQ (F0 m 23 ls []) := by
          intro fu2
          induction fu2 with
          | zero => intro b V2 H locs ls hfu; exact absurd hfu (Nat.not_lt_zero _)
          | succ fu2 ih2 =>
            intro b V2 H locs ls hfu hbn hE2 hbz hG hS hl
            refine lv_iload_n hx hb dX13_begins_23 rfl (lv_at hl 0 rfl) ?_
            refine lv_aload_n hx hb dX13_begins_24 rfl (lv_at hl 1 rfl) ?_
            refine c_VI hx hb hml hts hown hK hl.1 hS ⟨Nat.le_refl _, Nat.le_refl _⟩ (met_X13_many l D dA hG (tM_to hT ((hE2 0 18 rfl).trans (hE1 0 18 rfl)) ((hE2 9 lv rfl).trans (hE1 9 lv rfl)))) (cw_X13_304 hts ⟨by decide, by decide⟩) (hG 0 _ rfl) rfl rfl rfl rfl (Nat.le_of_ble_eq_true rfl) dX13_begins_25 (fun _ h => h.elim) (fun r H1 locs hq hF hS => ?_)
            obtain ⟨rfl, rfl⟩ := hq
            refine n_icmp_ge (tgt := 90) hx hb dX13_begins_28 (by decide) (by omega) (by omega) (fun c28 => ?_) (fun c28 => ?_)
            · obtain rfl : b = n := by omega
              refine lv_aload_n hx hb dX13_begins_90 rfl (lv_at hl 1 rfl) ?_
              refine g_get hx hb hts hown hK hG 0 rfl rfl ok_X13 48 (by decide) q1519 rfl rfl dX13_begins_91 ?_
              refine lv_bipush (v := (nI 45)) hx hb dX13_begins_94 (by decide) ?_
              refine lv_aload_n hx hb dX13_begins_96 rfl (lv_at hl 1 rfl) ?_
              refine g_get hx hb hts hown hK hG 0 rfl rfl ok_X13 29 (by decide) q1500 rfl rfl dX13_begins_97 ?_
              refine lv_aload_n hx hb dX13_begins_100 rfl (lv_at hl 1 rfl) ?_
              refine g_get (v := .int (nI lv)) hx hb hts hown hK hG 0 rfl rfl ok_X13 18 (by decide) q1489 rfl (congrArg Value.int (((hE2 0 18 rfl).trans (hE1 0 18 rfl)).trans hT.2.2.1)) dX13_begins_101 ?_
              refine n_iald hx hb hK hG 16 rfl (by omega) (by decide) dX13_begins_104 ?_
              refine iv (y := (V 16 lv)) ((hE2 16 lv rfl).trans (hE1 16 lv rfl)) ?_
              refine n_iast hx hb hK hG hS 31 (AM_in 31 (by decide)) rfl (by omega) (by decide) dX13_begins_105 (fun H locs hG hO hS => ?_)
              refine lv_aload_n hx hb dX13_begins_106 rfl (lv_at hl 1 rfl) ?_
              refine lv_aload_n hx hb dX13_begins_107 rfl (lv_at hl 1 rfl) ?_
              refine g_get hx hb hts hown hK hG 0 rfl rfl ok_X13 30 (by decide) q1501 rfl rfl dX13_begins_108 ?_
              refine lv_aload_n hx hb dX13_begins_111 rfl (lv_at hl 1 rfl) ?_
              refine g_get (v := .int (nI lv)) hx hb hts hown hK hG 0 rfl rfl ok_X13 18 (by decide) q1489 rfl (congrArg Value.int (((hE2 0 18 rfl).trans (hE1 0 18 rfl)).trans hT.2.2.1)) dX13_begins_112 ?_
              refine n_iald hx hb hK hG 17 rfl (by omega) (by decide) dX13_begins_115 ?_
              refine iv (y := (V 17 lv)) ((hE2 17 lv rfl).trans (hE1 17 lv rfl)) ?_
              refine g_put hx hb hts hown hK hG hS 0 (AM_in 0 (by decide)) rfl rfl ok_X13 49 (by decide) q1520 rfl rfl rfl rfl dX13_begins_116 (fun H locs hG hO hS => ?_)
              refine lv_aload_n hx hb dX13_begins_119 rfl (lv_at hl 1 rfl) ?_
              refine lv_iconst (v := (nI 0)) hx hb dX13_begins_120 (by decide) ?_
              refine g_put hx hb hts hown hK hG hS 0 (AM_in 0 (by decide)) rfl rfl ok_X13 50 (by decide) q1521 rfl rfl (by decide) (by decide) dX13_begins_121 (fun H locs hG hO hS => ?_)
              refine hend _ _ _ _ hS dX13_begins_124 ?_
              exact ⟨rfl, _, hG, (((((hE1.mono PR_PC).trans (hE2.mono PR_PC)).up rfl).up rfl).up rfl), fun j hj => (show up2 V2 31 45 (V 16 lv) 31 j = _ from up2_n (fun z => hj z.2)).trans (hbz 31 j), (show up2 V2 31 45 (V 16 lv) 31 45 = _ from up2_s), rfl, rfl⟩
            refine lv_aload_n hx hb dX13_begins_31 rfl (lv_at hl 1 rfl) ?_
            refine g_get hx hb hts hown hK hG 0 rfl rfl ok_X13 48 (by decide) q1519 rfl rfl dX13_begins_32 ?_
            refine lv_iload_n hx hb dX13_begins_35 rfl (lv_at hl 0 rfl) ?_
            refine lv_aload_n hx hb dX13_begins_36 rfl (lv_at hl 1 rfl) ?_
            refine g_get hx hb hts hown hK hG 0 rfl rfl ok_X13 23 (by decide) q1494 rfl rfl dX13_begins_37 ?_
            refine lv_bipush (v := (nI 9)) hx hb dX13_begins_40 (by decide) ?_
            refine lv_aload_n hx hb dX13_begins_42 rfl (lv_at hl 1 rfl) ?_
            refine g_get (v := .int (nI lv)) hx hb hts hown hK hG 0 rfl rfl ok_X13 18 (by decide) q1489 rfl (congrArg Value.int (((hE2 0 18 rfl).trans (hE1 0 18 rfl)).trans hT.2.2.1)) dX13_begins_43 ?_
            refine n_imul hx hb dX13_begins_46 ?_
            refine lv_iload_n hx hb dX13_begins_47 rfl (lv_at hl 0 rfl) ?_
            refine n_iadd hx hb dX13_begins_48 ?_
            refine n_iald hx hb hK hG 10 rfl (by omega) (by decide) dX13_begins_49 ?_
            refine iv (y := (V 10 ((9 * lv) + b))) ((hE2 10 ((9 * lv) + b) rfl).trans (hE1 10 ((9 * lv) + b) rfl)) ?_
            refine n_iast hx hb hK hG hS 31 (AM_in 31 (by decide)) rfl (by omega) (by decide) dX13_begins_50 (fun H locs hG hO hS => ?_)
            refine lv_aload_n hx hb dX13_begins_51 rfl (lv_at hl 1 rfl) ?_
            refine g_get hx hb hts hown hK hG 0 rfl rfl ok_X13 48 (by decide) q1519 rfl rfl dX13_begins_52 ?_
            refine lv_bipush (v := (nI 9)) hx hb dX13_begins_55 (by decide) ?_
            refine lv_iload_n hx hb dX13_begins_57 rfl (lv_at hl 0 rfl) ?_
            refine n_iadd hx hb dX13_begins_58 ?_
            refine lv_aload_n hx hb dX13_begins_59 rfl (lv_at hl 1 rfl) ?_
            refine g_get hx hb hts hown hK hG 0 rfl rfl ok_X13 24 (by decide) q1495 rfl rfl dX13_begins_60 ?_
            refine lv_bipush (v := (nI 9)) hx hb dX13_begins_63 (by decide) ?_
            refine lv_aload_n hx hb dX13_begins_65 rfl (lv_at hl 1 rfl) ?_
            refine g_get (v := .int (nI lv)) hx hb hts hown hK hG 0 rfl rfl ok_X13 18 (by decide) q1489 rfl (congrArg Value.int (((hE2 0 18 rfl).trans (hE1 0 18 rfl)).trans hT.2.2.1)) dX13_begins_66 ?_
            refine n_imul hx hb dX13_begins_69 ?_
            refine lv_iload_n hx hb dX13_begins_70 rfl (lv_at hl 0 rfl) ?_
            refine n_iadd hx hb dX13_begins_71 ?_
            refine n_iald hx hb hK hG 11 rfl (by omega) (by decide) dX13_begins_72 ?_
            refine iv (y := (V 11 ((9 * lv) + b))) ((hE2 11 ((9 * lv) + b) rfl).trans (hE1 11 ((9 * lv) + b) rfl)) ?_
            refine n_iast hx hb hK hG hS 31 (AM_in 31 (by decide)) rfl (by omega) (by decide) dX13_begins_73 (fun H locs hG hO hS => ?_)
            refine lv_aload_n hx hb dX13_begins_74 rfl (lv_at hl 1 rfl) ?_
            refine g_get hx hb hts hown hK hG 0 rfl rfl ok_X13 48 (by decide) q1519 rfl rfl dX13_begins_75 ?_
            refine lv_bipush (v := (nI 18)) hx hb dX13_begins_78 (by decide) ?_
            refine lv_iload_n hx hb dX13_begins_80 rfl (lv_at hl 0 rfl) ?_
            refine n_iadd hx hb dX13_begins_81 ?_
            refine lv_iload_n hx hb dX13_begins_82 rfl (lv_at hl 0 rfl) ?_
            refine n_iast hx hb hK hG hS 31 (AM_in 31 (by decide)) rfl (by omega) (by decide) dX13_begins_83 (fun H locs hG hO hS => ?_)
            refine lv_iinc (v := (nI (b + 1))) (lv' := [(1, .int (nI (b + 1))), (0, .ref o)]) hx hb dX13_begins_84 hl (k := 0) rfl (nI_add _ _) (by decide) rfl (fun ls hl => ?_)
            refine lv_goto (tgt := 23) hx hb dX13_begins_87 (by decide) ?_
            exact ih2 (b + 1) (up2 (up2 (up2 V2 31 b (V 10 ((9 * lv) + b))) 31 (9 + b) (V 11 ((9 * lv) + b))) 31 (18 + b) (nI b)) _ _ _ (by omega) (by omega) (Eqx.up (Eqx.up (Eqx.up hE2 rfl) rfl) rfl) (bg_b (by omega) hbz) hG hS (lv_sub hl [0, 1] rfl)
        exact loop2 ((n - 0) + 1) 0 V1 _ _ _ (Nat.lt_succ_self _) (by omega) Eqx.rf (bg_0 hbz) hG hS (lv_sub hl [0, 1] rfl)
      refine lv_aload_n hx hb dX13_begins_8 rfl (lv_at hl 1 rfl) ?_
      refine g_get hx hb hts hown hK hG 0 rfl rfl ok_X13 48 (by decide) q1519 rfl rfl dX13_begins_9 ?_
      refine lv_iload_n hx hb dX13_begins_12 rfl (lv_at hl 0 rfl) ?_
      refine lv_iconst (v := (nI 0)) hx hb dX13_begins_13 (by decide) ?_
      refine n_iast hx hb hK hG hS 31 (AM_in 31 (by decide)) rfl (by omega) (by decide) dX13_begins_14 (fun H locs hG hO hS => ?_)
      refine lv_iinc (v := (nI (i + 1))) (lv' := [(1, .int (nI (i + 1))), (0, .ref o)]) hx hb dX13_begins_15 hl (k := 0) rfl (nI_add _ _) (by decide) rfl (fun ls hl => ?_)
      refine lv_goto (tgt := 2) hx hb dX13_begins_18 (by decide) ?_
      exact ih1 (i + 1) (up2 V1 31 i (nI 0)) _ _ _ (by omega) (by omega) (Eqx.up hE1 rfl) (bg_i hbz) hG hS (lv_sub hl [0, 1] rfl)
  exact loop1 ((48 - 0) + 1) 0 V _ _ _ (Nat.lt_succ_self _) (by omega) Eqx.rf (fun k j => (if_neg (fun z => absurd z.2 (Nat.not_lt_zero _))).symm) hG hS (lv_sub hl [0, 1] rfl)
