def PPl (k _ : Nat) : Bool := k == 9 || k == 12 || k == 13 || k == 14 || k == 15 || k == 16 || k == 17 || k == 18 || k == 19
/-- side s laid bare: single rows, b beds, d laws -/
def plZ (V : GI) (s b d k j : Nat) : Int32 := if (k = 9 ∨ k = 13 ∨ k = 15 ∨ k = 16 ∨ k = 17) ∧ j = s then nI 0 else if (k = 12 ∨ k = 14) ∧ 9 * s ≤ j ∧ j < 9 * s + b then nI 0 else if (k = 18 ∨ k = 19) ∧ 4 * s ≤ j ∧ j < 4 * s + d then nI 0 else V k j
theorem pl_0 (V : GI) (s : Nat) : ∀ k j, up2 (up2 (up2 (up2 (up2 V 9 s (nI 0)) 13 s (nI 0)) 15 s (nI 0)) 16 s (nI 0)) 17 s (nI 0) k j = plZ V s 0 0 k j := by
  intro k j
  unfold plZ up2
  (repeat' split) <;> first | rfl | (exfalso; omega)
theorem pl_b {V W : GI} {s b d : Nat} (h : ∀ k j, W k j = plZ V s b d k j) : ∀ k j, up2 (up2 W 12 (9 * s + b) (nI 0)) 14 (9 * s + b) (nI 0) k j = plZ V s (b + 1) d k j := by
  intro k j
  unfold up2
  rw [h k j]
  unfold plZ
  (repeat' split) <;> first | rfl | (exfalso; omega)
theorem pl_d {V W : GI} {s b d : Nat} (h : ∀ k j, W k j = plZ V s b d k j) : ∀ k j, up2 (up2 W 18 (4 * s + d) (nI 0)) 19 (4 * s + d) (nI 0) k j = plZ V s b (d + 1) k j := by
  intro k j
  unfold up2
  rw [h k j]
  unfold plZ
  (repeat' split) <;> first | rfl | (exfalso; omega)
set_option maxHeartbeats 4000000 in
theorem met_X13_plain (l : Launch) (D : va_G) (dA : Nat → ClassId) {o : Nat} {V : GI} {L : GL} {Rf : GR} {H0 : Heap} (hG : gP D dA o dM V L Rf H0) (sd : Nat) (hsd9 : sd < 2) : Ctr l D dA yX13_plain cX13_plain 3 none (mkRm 0 0) [.ref o, .int (nI sd)] H0 (AM o) (QV (fun H1 => ∃ V1, gP D dA o dM V1 L Rf H1 ∧ Eqx PPl V V1 ∧ ∀ k j, V1 k j = plZ V sd 9 4 k j)) := by
  refine ctr_V (by decide) (Nat.le_of_ble_eq_true rfl) ?_
  intro p e s m args below meth c ls QQ locs hx hb hml hown hts hK hend hS hl
  have hl : lv_has ls 3 [(0, .ref o), (1, .int (nI sd))] := hl
  refine lv_aload_n hx hb dX13_plain_0 rfl (lv_at hl 0 rfl) ?_
  refine g_get hx hb hts hown hK hG 0 rfl rfl ok_X13 22 (by decide) q1493 rfl rfl dX13_plain_1 ?_
  refine lv_iload_n hx hb dX13_plain_4 rfl (lv_at hl 1 rfl) ?_
  refine lv_iconst (v := (nI 0)) hx hb dX13_plain_5 (by decide) ?_
  refine n_iast hx hb hK hG hS 9 (AM_in 9 (by decide)) rfl (by omega) (by decide) dX13_plain_6 (fun H locs hG hO hS => ?_)
  refine lv_aload_n hx hb dX13_plain_7 rfl (lv_at hl 0 rfl) ?_
  refine g_get hx hb hts hown hK hG 0 rfl rfl ok_X13 26 (by decide) q1497 rfl rfl dX13_plain_8 ?_
  refine lv_iload_n hx hb dX13_plain_11 rfl (lv_at hl 1 rfl) ?_
  refine lv_iconst (v := (nI 0)) hx hb dX13_plain_12 (by decide) ?_
  refine n_iast hx hb hK hG hS 13 (AM_in 13 (by decide)) rfl (by omega) (by decide) dX13_plain_13 (fun H locs hG hO hS => ?_)
  refine lv_aload_n hx hb dX13_plain_14 rfl (lv_at hl 0 rfl) ?_
  refine g_get hx hb hts hown hK hG 0 rfl rfl ok_X13 28 (by decide) q1499 rfl rfl dX13_plain_15 ?_
  refine lv_iload_n hx hb dX13_plain_18 rfl (lv_at hl 1 rfl) ?_
  refine lv_iconst (v := (nI 0)) hx hb dX13_plain_19 (by decide) ?_
  refine n_iast hx hb hK hG hS 15 (AM_in 15 (by decide)) rfl (by omega) (by decide) dX13_plain_20 (fun H locs hG hO hS => ?_)
  refine lv_aload_n hx hb dX13_plain_21 rfl (lv_at hl 0 rfl) ?_
  refine g_get hx hb hts hown hK hG 0 rfl rfl ok_X13 29 (by decide) q1500 rfl rfl dX13_plain_22 ?_
  refine lv_iload_n hx hb dX13_plain_25 rfl (lv_at hl 1 rfl) ?_
  refine lv_iconst (v := (nI 0)) hx hb dX13_plain_26 (by decide) ?_
  refine n_iast hx hb hK hG hS 16 (AM_in 16 (by decide)) rfl (by omega) (by decide) dX13_plain_27 (fun H locs hG hO hS => ?_)
  refine lv_aload_n hx hb dX13_plain_28 rfl (lv_at hl 0 rfl) ?_
  refine g_get hx hb hts hown hK hG 0 rfl rfl ok_X13 30 (by decide) q1501 rfl rfl dX13_plain_29 ?_
  refine lv_iload_n hx hb dX13_plain_32 rfl (lv_at hl 1 rfl) ?_
  refine lv_iconst (v := (nI 0)) hx hb dX13_plain_33 (by decide) ?_
  refine n_iast hx hb hK hG hS 17 (AM_in 17 (by decide)) rfl (by omega) (by decide) dX13_plain_34 (fun H locs hG hO hS => ?_)
  refine lv_iconst (v := (nI 0)) hx hb dX13_plain_35 (by decide) ?_
  refine lv_istore_n (lv' := [(2, .int (nI 0)), (0, .ref o), (1, .int (nI sd))]) hx hb dX13_plain_36 rfl hl (by decide) rfl (fun ls hl => ?_)
  have loop1 : ∀ (fu1 : Nat) (b : Nat) (V1 : GI) (H : Heap) (locs : List Loc) (ls : Array Slot), 9 - b < fu1 → (b ≤ 9) → (Eqx PPl (up2 (up2 (up2 (up2 (up2 V 9 sd (nI 0)) 13 sd (nI 0)) 15 sd (nI 0)) 16 sd (nI 0)) 17 sd (nI 0)) V1) → (∀ k j, V1 k j = plZ V sd b 0 k j) → gP D dA o dM V1 L Rf H → va_S (AM o) H0 H locs → lv_has ls 3 [(2, .int (nI b)), (0, .ref o), (1, .int (nI sd))] → W p l e (mkRm 0 0) s m args below meth c H locs 0 0 QQ (F0 m 37 ls []) := by
    intro fu1
    induction fu1 with
    | zero => intro b V1 H locs ls hfu; exact absurd hfu (Nat.not_lt_zero _)
    | succ fu1 ih1 =>
      intro b V1 H locs ls hfu hbn hE1 hpl hG hS hl
      refine lv_iload_n hx hb dX13_plain_37 rfl (lv_at hl 0 rfl) ?_
      refine lv_bipush (v := (nI 9)) hx hb dX13_plain_38 (by decide) ?_
      refine n_icmp_ge (tgt := 73) hx hb dX13_plain_40 (by decide) (by omega) (by omega) (fun c40 => ?_) (fun c40 => ?_)
      · obtain rfl : b = 9 := by omega
        refine lv_iconst (v := (nI 0)) hx hb dX13_plain_73 (by decide) ?_
        refine lv_istore_n (lv' := [(2, .int (nI 0)), (0, .ref o), (1, .int (nI sd))]) hx hb dX13_plain_74 rfl hl (by decide) rfl (fun ls hl => ?_)
        have loop2 : ∀ (fu2 : Nat) (d : Nat) (V2 : GI) (H : Heap) (locs : List Loc) (ls : Array Slot), 4 - d < fu2 → (d ≤ 4) → (Eqx PPl V1 V2) → (∀ k j, V2 k j = plZ V sd 9 d k j) → gP D dA o dM V2 L Rf H → va_S (AM o) H0 H locs → lv_has ls 3 [(2, .int (nI d)), (0, .ref o), (1, .int (nI sd))] → W p l e (mkRm 0 0) s m args below meth c H locs 0 0 QQ (F0 m 75 ls []) := by
          intro fu2
          induction fu2 with
          | zero => intro d V2 H locs ls hfu; exact absurd hfu (Nat.not_lt_zero _)
          | succ fu2 ih2 =>
            intro d V2 H locs ls hfu hdn hE2 hpl hG hS hl
            refine lv_iload_n hx hb dX13_plain_75 rfl (lv_at hl 0 rfl) ?_
            refine lv_iconst (v := (nI 4)) hx hb dX13_plain_76 (by decide) ?_
            refine n_icmp_ge (tgt := 108) hx hb dX13_plain_77 (by decide) (by omega) (by omega) (fun c77 => ?_) (fun c77 => ?_)
            · obtain rfl : d = 4 := by omega
              refine hend _ _ _ _ hS dX13_plain_108 ?_
              exact ⟨rfl, _, hG, (((((((Eqx.rf.up rfl).up rfl).up rfl).up rfl).up rfl).trans hE1).trans hE2), hpl⟩
            refine lv_aload_n hx hb dX13_plain_80 rfl (lv_at hl 1 rfl) ?_
            refine g_get hx hb hts hown hK hG 0 rfl rfl ok_X13 31 (by decide) q1502 rfl rfl dX13_plain_81 ?_
            refine lv_iconst (v := (nI 4)) hx hb dX13_plain_84 (by decide) ?_
            refine lv_iload_n hx hb dX13_plain_85 rfl (lv_at hl 2 rfl) ?_
            refine n_imul hx hb dX13_plain_86 ?_
            refine lv_iload_n hx hb dX13_plain_87 rfl (lv_at hl 0 rfl) ?_
            refine n_iadd hx hb dX13_plain_88 ?_
            refine lv_iconst (v := (nI 0)) hx hb dX13_plain_89 (by decide) ?_
            refine n_iast hx hb hK hG hS 18 (AM_in 18 (by decide)) rfl (by omega) (by decide) dX13_plain_90 (fun H locs hG hO hS => ?_)
            refine lv_aload_n hx hb dX13_plain_91 rfl (lv_at hl 1 rfl) ?_
            refine g_get hx hb hts hown hK hG 0 rfl rfl ok_X13 32 (by decide) q1503 rfl rfl dX13_plain_92 ?_
            refine lv_iconst (v := (nI 4)) hx hb dX13_plain_95 (by decide) ?_
            refine lv_iload_n hx hb dX13_plain_96 rfl (lv_at hl 2 rfl) ?_
            refine n_imul hx hb dX13_plain_97 ?_
            refine lv_iload_n hx hb dX13_plain_98 rfl (lv_at hl 0 rfl) ?_
            refine n_iadd hx hb dX13_plain_99 ?_
            refine lv_iconst (v := (nI 0)) hx hb dX13_plain_100 (by decide) ?_
            refine n_iast hx hb hK hG hS 19 (AM_in 19 (by decide)) rfl (by omega) (by decide) dX13_plain_101 (fun H locs hG hO hS => ?_)
            refine lv_iinc (v := (nI (d + 1))) (lv' := [(2, .int (nI (d + 1))), (0, .ref o), (1, .int (nI sd))]) hx hb dX13_plain_102 hl (k := 0) rfl (nI_add _ _) (by decide) rfl (fun ls hl => ?_)
            refine lv_goto (tgt := 75) hx hb dX13_plain_105 (by decide) ?_
            exact ih2 (d + 1) (up2 (up2 V2 18 ((4 * sd) + d) (nI 0)) 19 ((4 * sd) + d) (nI 0)) _ _ _ (by omega) (by omega) (Eqx.up (Eqx.up hE2 rfl) rfl) (pl_d hpl) hG hS (lv_sub hl [0, 1, 2] rfl)
        exact loop2 ((4 - 0) + 1) 0 V1 _ _ _ (Nat.lt_succ_self _) (by omega) Eqx.rf hpl hG hS (lv_sub hl [0, 1, 2] rfl)
      refine lv_aload_n hx hb dX13_plain_43 rfl (lv_at hl 1 rfl) ?_
      refine g_get hx hb hts hown hK hG 0 rfl rfl ok_X13 25 (by decide) q1496 rfl rfl dX13_plain_44 ?_
      refine lv_bipush (v := (nI 9)) hx hb dX13_plain_47 (by decide) ?_
      refine lv_iload_n hx hb dX13_plain_49 rfl (lv_at hl 2 rfl) ?_
      refine n_imul hx hb dX13_plain_50 ?_
      refine lv_iload_n hx hb dX13_plain_51 rfl (lv_at hl 0 rfl) ?_
      refine n_iadd hx hb dX13_plain_52 ?_
      refine lv_iconst (v := (nI 0)) hx hb dX13_plain_53 (by decide) ?_
      refine n_iast hx hb hK hG hS 12 (AM_in 12 (by decide)) rfl (by omega) (by decide) dX13_plain_54 (fun H locs hG hO hS => ?_)
      refine lv_aload_n hx hb dX13_plain_55 rfl (lv_at hl 1 rfl) ?_
      refine g_get hx hb hts hown hK hG 0 rfl rfl ok_X13 27 (by decide) q1498 rfl rfl dX13_plain_56 ?_
      refine lv_bipush (v := (nI 9)) hx hb dX13_plain_59 (by decide) ?_
      refine lv_iload_n hx hb dX13_plain_61 rfl (lv_at hl 2 rfl) ?_
      refine n_imul hx hb dX13_plain_62 ?_
      refine lv_iload_n hx hb dX13_plain_63 rfl (lv_at hl 0 rfl) ?_
      refine n_iadd hx hb dX13_plain_64 ?_
      refine lv_iconst (v := (nI 0)) hx hb dX13_plain_65 (by decide) ?_
      refine n_zast (x2 := (nI 0)) hx hb hK hG hS 14 (AM_in 14 (by decide)) rfl (by omega) (by decide) (by decide) dX13_plain_66 (fun H locs hG hO hS => ?_)
      refine lv_iinc (v := (nI (b + 1))) (lv' := [(2, .int (nI (b + 1))), (0, .ref o), (1, .int (nI sd))]) hx hb dX13_plain_67 hl (k := 0) rfl (nI_add _ _) (by decide) rfl (fun ls hl => ?_)
      refine lv_goto (tgt := 37) hx hb dX13_plain_70 (by decide) ?_
      exact ih1 (b + 1) (up2 (up2 V1 12 ((9 * sd) + b) (nI 0)) 14 ((9 * sd) + b) (nI 0)) _ _ _ (by omega) (by omega) (Eqx.up (Eqx.up hE1 rfl) rfl) (pl_b hpl) hG hS (lv_sub hl [0, 1, 2] rfl)
  exact loop1 ((9 - 0) + 1) 0 (up2 (up2 (up2 (up2 (up2 V 9 sd (nI 0)) 13 sd (nI 0)) 15 sd (nI 0)) 16 sd (nI 0)) 17 sd (nI 0)) _ _ _ (Nat.lt_succ_self _) (by omega) Eqx.rf (pl_0 V sd) hG hS (lv_sub hl [0, 1, 2] rfl)
