theorem tpP_E {V V1 : GI} {tp : List Int32} (h : tpP V tp) (hE : Eqx PTm V V1) : tpP V1 tp := ⟨h.1, (hE 2 2 rfl).trans h.2.1, fun i x hx => (hE 4 i rfl).trans (h.2.2 i x hx)⟩
theorem w_of {tp : List Int32} (hb : byT tp) {k x : Nat} (h : atS tp k = nI x) (hx : x = 32 ∨ x = 9 ∨ x = 10 ∨ x = 13) : isW (chT tp k) = true := by
  have e := (at_eq hb (by omega)).mp h
  unfold isW
  rw [e]
  rcases hx with rfl | rfl | rfl | rfl <;> decide
theorem nw_of {tp : List Int32} (hb : byT tp) {k : Nat} (h1 : ¬ atS tp k = nI 32) (h2 : ¬ atS tp k = nI 9) (h3 : ¬ atS tp k = nI 10) (h4 : ¬ atS tp k = nI 13) : ¬ isW (chT tp k) = true := fun z => by
  unfold isW at z
  simp only [Bool.or_eq_true, decide_eq_true_eq] at z
  rcases z with ((z | z) | z) | z
  · exact h2 ((at_eq hb (by decide)).mpr z)
  · exact h3 ((at_eq hb (by decide)).mpr z)
  · exact h4 ((at_eq hb (by decide)).mpr z)
  · exact h1 ((at_eq hb (by decide)).mpr z)
theorem ps_next {tp : List Int32} {m : Nat} (h : plT tp m < tp.length) : psF (chT tp) tp.length (m + 1) = plT tp m + lnT tp m := by
  have e : tkF (chT tp) tp.length m = lxF (chT tp) tp.length (plT tp m) := if_neg (show ¬ tp.length ≤ plF (chT tp) tp.length m from Nat.not_le.mpr h)
  show plF (chT tp) tp.length m + (lxF (chT tp) tp.length (plF (chT tp) tp.length m)).2.2.2 = _
  rw [← e]
theorem pl_next {tp : List Int32} {m x : Nat} (h : plT tp m < tp.length) (hx : plT tp m + lnT tp m = x) : skp (chT tp) tp.length x = plT tp (m + 1) := by
  show _ = skp (chT tp) tp.length (psF (chT tp) tp.length (m + 1))
  rw [ps_next h, hx]
theorem isLD {x : Nat} (h : isL x = true) : ¬ isD x = true := fun z => by
  unfold isL at h
  rw [Bool.and_eq_true] at h
  have h1 := of_decide_eq_true h.1
  have h2 := isD_r z
  omega
theorem tk_L {tp : List Int32} {m k j : Nat} (hp : plT tp m = k) (hk : k < tp.length) (hL : isL (chT tp k) = true) (hr : rnN isL (chT tp) (tp.length - k) k = j) : lnT tp m = j ∧ nmT tp m = nmN (chT tp) k j ∧ ((8 < j ∧ kdT tp m = 3) ∨ (j ≤ 8 ∧ kdT tp m = kwF (nmN (chT tp) k j) 21)) := by
  subst hp
  rcases tk_c tp m with h | h | h | h
  · omega
  · obtain ⟨h1, h2, h3, h4, h5⟩ := h
    rw [hr] at h3
    rw [h3] at h4 h5
    rw [h4] at h5
    exact ⟨h3, h4, h5⟩
  · exact absurd h.2.1 (isLD hL)
  · exact absurd hL h.2.1
theorem tk_D {tp : List Int32} {m k j : Nat} (hp : plT tp m = k) (hk : k < tp.length) (hD : isD (chT tp k) = true) (hr : rnN isD (chT tp) (tp.length - k) k = j) : lnT tp m = j ∧ ((4 < j ∧ kdT tp m = 3) ∨ (j ≤ 4 ∧ kdT tp m = 2)) := by
  subst hp
  rcases tk_c tp m with h | h | h | h
  · omega
  · exact absurd hD (isLD h.2.1)
  · obtain ⟨h1, h2, h3, h4, h5⟩ := h
    rw [hr] at h3
    rw [h3] at h5
    exact ⟨h3, h5⟩
  · exact absurd hD h.2.2.1
theorem tk_S {tp : List Int32} {m k : Nat} (hp : plT tp m = k) (hk : k < tp.length) (hL : ¬ isL (chT tp k) = true) (hD : ¬ isD (chT tp k) = true) : lnT tp m = 1 ∧ kdT tp m = sgK (chT tp k) := by
  subst hp
  rcases tk_c tp m with h | h | h | h
  · omega
  · exact absurd h.2.1 hL
  · exact absurd h.2.1 hD
  · exact ⟨h.2.2.2.1, h.2.2.2.2⟩
theorem FT_eq {tp : List Int32} {m x a b y : Nat} (h1 : srK (kdT tp m) = x) (h2 : plT tp m = a) (h3 : plT tp m + lnT tp m = b) (h4 : (if 20 ≤ kdT tp m then kdT tp m - 20 else chT tp (plT tp m)) = y) : FT tp m = (x, a, b, y) := by
  unfold FT
  rw [h1, h2] at *
  rw [h3, h4]
theorem sg_0 {tp : List Int32} {k : Nat} : sgI tp k = 0 ↔ sgK (chT tp k) = 3 := by
  unfold sgI
  by_cases h : sgK (chT tp k) = 3
  · rw [if_pos h]; exact ⟨fun _ => h, fun _ => rfl⟩
  · rw [if_neg h]
    have := sgK_b h
    exact ⟨fun z => by omega, fun z => absurd z h⟩
theorem sg_n {tp : List Int32} {k : Nat} (h : sgK (chT tp k) ≠ 3) : sgI tp k = chT tp k := if_neg h
theorem i2s_1 : (-1 : Int32).toInt16.toInt32 = -1 := by decide
theorem cw_X2_108 {R : Room} {s : State} {args : Array Value} (hts : ∀ w ∈ lw_all, w.before args s = true) {f w k j : Nat} (hR : f + 1 ≤ R.frames ∧ 8 + (5 + 11) + w ≤ R.locals) : CallW R s args RX2 RX2 108 yX2_add cX2_add 5 none (ws_ yX2_add cX2_add 5 none) (mkRmC f w k j) k j 4 := cwV 4 hts (lw_V q692 q694 qs7 q113 q695) rfl rfl rfl (by decide +kernel) hR
theorem cw_X2_94 {R : Room} {s : State} {args : Array Value} (hts : ∀ w ∈ lw_all, w.before args s = true) {f w k j : Nat} (hR : f + 1 ≤ R.frames ∧ 8 + (2 + 11) + w ≤ R.locals) : CallW R s args RX2 RX2 94 yX2_isLetter cX2_isLetter 2 (some .boolean) (ws_ yX2_isLetter cX2_isLetter 2 (some .boolean)) (mkRmC f w k j) k j 1 := cwV 1 hts (lw_V q626 q628 qs2 q113 q629) rfl rfl rfl (by decide +kernel) hR
theorem cw_X2_102 {R : Room} {s : State} {args : Array Value} (hts : ∀ w ∈ lw_all, w.before args s = true) {f w k j : Nat} (hR : f + 1 ≤ R.frames ∧ 8 + (2 + 11) + w ≤ R.locals) : CallW R s args RX2 RX2 102 yX2_isDigit cX2_isDigit 2 (some .boolean) (ws_ yX2_isDigit cX2_isDigit 2 (some .boolean)) (mkRmC f w k j) k j 1 := cwV 1 hts (lw_V q684 q686 qs5 q113 q687) rfl rfl rfl (by decide +kernel) hR
theorem cw_X2_105 {R : Room} {s : State} {args : Array Value} (hts : ∀ w ∈ lw_all, w.before args s = true) {f w k j : Nat} (hR : f + 1 ≤ R.frames ∧ 8 + (3 + 11) + w ≤ R.locals) : CallW R s args RX2 RX2 105 yX2_sign cX2_sign 3 (some .int) (ws_ yX2_sign cX2_sign 3 (some .int)) (mkRmC f w k j) k j 1 := cwV 1 hts (lw_V q688 q690 qs6 q113 q691) rfl rfl rfl (by decide +kernel) hR
theorem cw_X2_98 {R : Room} {s : State} {args : Array Value} (hts : ∀ w ∈ lw_all, w.before args s = true) {f w k j : Nat} (hR : f + 1 ≤ R.frames ∧ 8 + (6 + 11) + w ≤ R.locals) : CallW R s args RX2 RX2 98 yX2_word cX2_word 6 (some .int) (ws_ yX2_word cX2_word 6 (some .int)) (mkRmC f w k j) k j 2 := cwV 2 hts (lw_V q634 q636 qs4 q113 q637) rfl rfl rfl (by decide +kernel) hR
set_option maxHeartbeats 4000000 in
theorem met_X2_read (l : Launch) (D : va_G) (dA : Nat → ClassId) {o : Nat} {V : GI} {L : GL} {Rf : GR} {H0 : Heap} (hG : gP D dA o dS V L Rf H0) {tp : List Int32} (htp : tpP V tp) (hby : byT tp) {ed : Nat} (hbs : bsA D dA H0 o Rf ed) : Ctr l D dA yX2_read cX2_read 7 none (mkRm 5 200) [.ref (o + 2)] H0 (AS o) (QV (fun H1 => ∃ V1 m, gP D dA o dS V1 L Rf H1 ∧ Eqx PTm V V1 ∧ psC V1 tp m)) := by
  have ht2 := htp.1
  refine ctr_V (by decide) (Nat.le_of_ble_eq_true rfl) ?_
  intro p e s m args below meth c ls QQ locs hx hb hml hown hts hK hend hS hl
  have hl : lv_has ls 7 [(0, .ref (o + 2))] := hl
  refine lv_aload_n hx hb dX2_read_0 rfl (lv_at hl 0 rfl) ?_
  refine lv_iconst (v := (nI 0)) hx hb dX2_read_1 (by decide) ?_
  refine g_put hx hb hts hown hK hG hS 2 (AS_in 2 (by decide)) rfl rfl ok_X2 7 (by decide) q269 rfl rfl rfl rfl dX2_read_2 (fun H locs hG hO hS => ?_)
  refine lv_iconst (v := (nI 0)) hx hb dX2_read_5 (by decide) ?_
  refine lv_istore_n (lv' := [(1, .int (nI 0)), (0, .ref (o + 2))]) hx hb dX2_read_6 rfl hl (by decide) rfl (fun ls hl => ?_)
  refine lv_iconst (v := (nI 1)) hx hb dX2_read_7 (by decide) ?_
  refine lv_istore_n (lv' := [(2, .int (nI 1)), (1, .int (nI 0)), (0, .ref (o + 2))]) hx hb dX2_read_8 rfl hl (by decide) rfl (fun ls hl => ?_)
  have loop1 : ∀ (fu1 : Nat) (k : Nat) (gd : Nat) (mk : Nat) (V1 : GI) (H : Heap) (locs : List Loc) (ls : Array Slot), tp.length + 1 - k < fu1 → (k ≤ tp.length) → (gd < 2) → (mk ≤ k) → (∀ x, x < mk → kdT tp x ≠ 0) → (gd = 1 → (skp (chT tp) tp.length k = plT tp mk ∧ ∀ x, x < mk → kdT tp x ≠ 3)) → (gd = 0 → (0 < mk ∧ kdT tp (mk - 1) = 3 ∧ ∀ x, x + 1 < mk → kdT tp x ≠ 3)) → (Eqx PTm (up2 V 2 7 (nI 0)) V1) → (tcM V1 (FT tp) mk) → gP D dA o dS V1 L Rf H → va_S (AS o) H0 H locs → lv_has ls 7 [(2, .int (nI gd)), (1, .int (nI k)), (0, .ref (o + 2))] → W p l e (mkRm 5 200) s m args below meth c H locs 0 0 QQ (F0 m 9 ls []) := by
    intro fu1
    induction fu1 with
    | zero => intro k gd mk V1 H locs ls hfu; exact absurd hfu (Nat.not_lt_zero _)
    | succ fu1 ih1 =>
      intro k gd mk V1 H locs ls hfu hk hg2 hmk hne hgo hba hE1 htc hG hS hl
      refine lv_iload_n hx hb dX2_read_9 rfl (lv_at hl 1 rfl) ?_
      refine lv_aload_n hx hb dX2_read_10 rfl (lv_at hl 2 rfl) ?_
      refine g_get (v := .int (nI tp.length)) hx hb hts hown hK hG 2 rfl rfl ok_X2 2 (by decide) q260 rfl (congrArg Value.int ((hE1 2 2 rfl).trans htp.2.1)) dX2_read_11 ?_
      refine n_icmp_ge (tgt := 215) hx hb dX2_read_14 (by decide) (by omega) (by omega) (fun c14 => ?_) (fun c14 => ?_)
      · refine lv_iload_n hx hb dX2_read_215 rfl (lv_at hl 0 rfl) ?_
        refine n_if_eq (tgt := 227) hx hb dX2_read_216 (by decide) (by omega) (fun c216 => ?_) (fun c216 => ?_)
        · refine hend _ _ _ _ hS dX2_read_227 ?_
          have hba1 := hba (by omega)
          exact ⟨rfl, _, mk, hG, ((Eqx.rf.up rfl).trans hE1), tpP_E htp ((Eqx.rf.up rfl).trans hE1), hby, htc, hba1.1, by omega, fun x hx => ⟨hne x (by omega), hba1.2.2 x hx⟩, Or.inr hba1.2.1⟩
        have hgo1 := hgo (by omega)
        refine lv_aload_n hx hb dX2_read_219 rfl (lv_at hl 2 rfl) ?_
        refine lv_iconst (v := (nI 4)) hx hb dX2_read_220 (by decide) ?_
        refine lv_iload_n hx hb dX2_read_221 rfl (lv_at hl 1 rfl) ?_
        refine lv_iload_n hx hb dX2_read_222 rfl (lv_at hl 1 rfl) ?_
        refine lv_iconst (v := (nI 0)) hx hb dX2_read_223 (by decide) ?_
        have hsrm := srK_c (kdT tp mk)
        obtain ⟨hpe, hte⟩ := tk_end (k := mk) hgo1.1 (by omega) hk
        have hkd : kdT tp mk = 0 := congrArg (fun q => q.1) hte
        have hln : lnT tp mk = 0 := congrArg (fun q => q.2.2.2) hte
        have hpk : plT tp mk = k := hpe.trans (by omega)
        refine c_VV hx hb hml hts hown hK hl.1 hS ⟨Nat.le_refl _, Nat.le_refl _⟩ (met_X2_add l D dA hG htc (by omega) 4 k k _ (nI 0) (by omega) (by omega) (by omega) (i2s_n (by omega)) (FT_eq (by omega) hpk (by omega) rfl) (fun z => absurd z (by decide))) (cw_X2_108 hts ⟨Nat.le_of_ble_eq_true rfl, Nat.le_of_ble_eq_true rfl⟩) (hG 2 _ rfl) rfl rfl rfl rfl (Nat.le_of_ble_eq_true rfl) dX2_read_224 (fun _ h => h) (fun H1 locs hq hF hS => ?_)
        obtain ⟨V2, hG, hE2, htc2⟩ := hq
        generalize hHe2 : H1 = H at hG hS ⊢
        clear hHe2 hF
        refine hend _ _ _ _ hS dX2_read_227 ?_
        exact ⟨rfl, _, mk + 1, hG, (((Eqx.rf.up rfl).trans hE1).trans hE2), tpP_E htp (((Eqx.rf.up rfl).trans hE1).trans hE2), hby, htc2, by omega, by omega, fun x hx => ⟨hne x (by omega), hgo1.2 x (by omega)⟩, Or.inl (by rw [Nat.add_sub_cancel]; exact hkd)⟩
      refine lv_iload_n hx hb dX2_read_17 rfl (lv_at hl 0 rfl) ?_
      refine n_if_eq (tgt := 215) hx hb dX2_read_18 (by decide) (by omega) (fun c18 => ?_) (fun c18 => ?_)
      · refine lv_iload_n hx hb dX2_read_215 rfl (lv_at hl 0 rfl) ?_
        refine n_if_eq (tgt := 227) hx hb dX2_read_216 (by decide) (by omega) (fun c216 => ?_) (fun c216 => ?_)
        · refine hend _ _ _ _ hS dX2_read_227 ?_
          have hba1 := hba (by omega)
          exact ⟨rfl, _, mk, hG, ((Eqx.rf.up rfl).trans hE1), tpP_E htp ((Eqx.rf.up rfl).trans hE1), hby, htc, hba1.1, by omega, fun x hx => ⟨hne x (by omega), hba1.2.2 x hx⟩, Or.inr hba1.2.1⟩
        exact absurd c216 (by omega)
      refine lv_aload_n hx hb dX2_read_21 rfl (lv_at hl 2 rfl) ?_
      refine g_get hx hb hts hown hK hG 2 rfl rfl ok_X2 1 (by decide) q258 rfl rfl dX2_read_22 ?_
      refine lv_iload_n hx hb dX2_read_25 rfl (lv_at hl 1 rfl) ?_
      refine n_bald hx hb hK hG 4 rfl (by omega) (by decide) dX2_read_26 ?_
      refine iv (y := (atS tp k)) ((hE1 4 k rfl).trans (tp_at htp (by omega))) ?_
      refine lv_istore_n (lv' := [(3, .int (atS tp k)), (2, .int (nI gd)), (1, .int (nI k)), (0, .ref (o + 2))]) hx hb dX2_read_27 rfl hl (by decide) rfl (fun ls hl => ?_)
      refine lv_iload_n hx hb dX2_read_28 rfl (lv_at hl 2 rfl) ?_
      refine lv_iconst (v := (nI 1)) hx hb dX2_read_29 (by decide) ?_
      refine n_iadd hx hb dX2_read_30 ?_
      refine lv_istore (lv' := [(4, .int (nI (k + 1))), (3, .int (atS tp k)), (2, .int (nI gd)), (1, .int (nI k)), (0, .ref (o + 2))]) hx hb dX2_read_31 hl (by decide) rfl (fun ls hl => ?_)
      refine lv_iload_n hx hb dX2_read_33 rfl (lv_at hl 1 rfl) ?_
      refine lv_bipush (v := (nI 32)) hx hb dX2_read_34 (by decide) ?_
      refine lv_icmp_eq (tgt := 57) hx hb dX2_read_36 (by decide) (fun c36 => ?_) (fun c36 => ?_)
      · have hw : isW (chT tp k) = true := w_of hby c36 (by decide)
        refine lv_iinc (v := (nI (k + 1))) (lv' := [(1, .int (nI (k + 1))), (4, .int (nI (k + 1))), (3, .int (atS tp k)), (2, .int (nI gd)), (0, .ref (o + 2))]) hx hb dX2_read_57 hl (k := 3) rfl (nI_add _ _) (by decide) rfl (fun ls hl => ?_)
        refine lv_goto (tgt := 9) hx hb dX2_read_60 (by decide) ?_
        exact ih1 (k + 1) gd mk V1 _ _ _ (by omega) (by omega) hg2 (by omega) hne (fun z => ⟨(skp_1 (by omega) hw).symm.trans (hgo z).1, (hgo z).2⟩) hba hE1 htc hG hS (lv_sub hl [3, 0, 4] rfl)
      refine lv_iload_n hx hb dX2_read_39 rfl (lv_at hl 1 rfl) ?_
      refine lv_bipush (v := (nI 9)) hx hb dX2_read_40 (by decide) ?_
      refine lv_icmp_eq (tgt := 57) hx hb dX2_read_42 (by decide) (fun c42 => ?_) (fun c42 => ?_)
      · have hw : isW (chT tp k) = true := w_of hby c42 (by decide)
        refine lv_iinc (v := (nI (k + 1))) (lv' := [(1, .int (nI (k + 1))), (4, .int (nI (k + 1))), (3, .int (atS tp k)), (2, .int (nI gd)), (0, .ref (o + 2))]) hx hb dX2_read_57 hl (k := 3) rfl (nI_add _ _) (by decide) rfl (fun ls hl => ?_)
        refine lv_goto (tgt := 9) hx hb dX2_read_60 (by decide) ?_
        exact ih1 (k + 1) gd mk V1 _ _ _ (by omega) (by omega) hg2 (by omega) hne (fun z => ⟨(skp_1 (by omega) hw).symm.trans (hgo z).1, (hgo z).2⟩) hba hE1 htc hG hS (lv_sub hl [3, 0, 4] rfl)
      refine lv_iload_n hx hb dX2_read_45 rfl (lv_at hl 1 rfl) ?_
      refine lv_bipush (v := (nI 10)) hx hb dX2_read_46 (by decide) ?_
      refine lv_icmp_eq (tgt := 57) hx hb dX2_read_48 (by decide) (fun c48 => ?_) (fun c48 => ?_)
      · have hw : isW (chT tp k) = true := w_of hby c48 (by decide)
        refine lv_iinc (v := (nI (k + 1))) (lv' := [(1, .int (nI (k + 1))), (4, .int (nI (k + 1))), (3, .int (atS tp k)), (2, .int (nI gd)), (0, .ref (o + 2))]) hx hb dX2_read_57 hl (k := 3) rfl (nI_add _ _) (by decide) rfl (fun ls hl => ?_)
        refine lv_goto (tgt := 9) hx hb dX2_read_60 (by decide) ?_
        exact ih1 (k + 1) gd mk V1 _ _ _ (by omega) (by omega) hg2 (by omega) hne (fun z => ⟨(skp_1 (by omega) hw).symm.trans (hgo z).1, (hgo z).2⟩) hba hE1 htc hG hS (lv_sub hl [3, 0, 4] rfl)
      refine lv_iload_n hx hb dX2_read_51 rfl (lv_at hl 1 rfl) ?_
      refine lv_bipush (v := (nI 13)) hx hb dX2_read_52 (by decide) ?_
      refine lv_icmp_ne (tgt := 63) hx hb dX2_read_54 (by decide) (fun c54 => ?_) (fun c54 => ?_)
      · have hnw := nw_of hby c36 c42 c48 c54
        have hgo1 := hgo (by omega)
        have hpk : plT tp mk = k := hgo1.1.symm.trans (skp_0 hnw)
        refine lv_iconst (v := (nI 0)) hx hb dX2_read_63 (by decide) ?_
        refine lv_istore (lv' := [(6, .int (nI 0)), (4, .int (nI (k + 1))), (3, .int (atS tp k)), (2, .int (nI gd)), (1, .int (nI k)), (0, .ref (o + 2))]) hx hb dX2_read_64 hl (by decide) rfl (fun ls hl => ?_)
        refine lv_aload_n hx hb dX2_read_66 rfl (lv_at hl 5 rfl) ?_
        refine lv_iload_n hx hb dX2_read_67 rfl (lv_at hl 4 rfl) ?_
        refine c_VI hx hb hml hts hown hK hl.1 hS ⟨Nat.le_refl _, Nat.le_refl _⟩ (met_X2_isLetter l D dA hG (tpP_E htp ((Eqx.rf.up rfl).trans hE1)) hby k (by omega)) (cw_X2_94 hts ⟨Nat.le_of_ble_eq_true rfl, Nat.le_of_ble_eq_true rfl⟩) (hG 2 _ rfl) rfl rfl rfl rfl (Nat.le_of_ble_eq_true rfl) dX2_read_68 (fun _ h => h.elim) (fun r H1 locs hq hF hS => ?_)
        obtain ⟨rfl, rfl⟩ := hq
        have hbl := bN_lt (isL (chT tp k))
        refine n_if_eq (tgt := 126) hx hb dX2_read_71 (by decide) (by omega) (fun c71 => ?_) (fun c71 => ?_)
        · have hnL : ¬ isL (chT tp k) = true := bN0 (by omega)
          refine lv_aload_n hx hb dX2_read_126 rfl (lv_at hl 5 rfl) ?_
          refine lv_iload_n hx hb dX2_read_127 rfl (lv_at hl 4 rfl) ?_
          refine c_VI hx hb hml hts hown hK hl.1 hS ⟨Nat.le_refl _, Nat.le_refl _⟩ (met_X2_isDigit l D dA hG (tpP_E htp ((Eqx.rf.up rfl).trans hE1)) hby k (by omega)) (cw_X2_102 hts ⟨Nat.le_of_ble_eq_true rfl, Nat.le_of_ble_eq_true rfl⟩) (hG 2 _ rfl) rfl rfl rfl rfl (Nat.le_of_ble_eq_true rfl) dX2_read_128 (fun _ h => h.elim) (fun r H1 locs hq hF hS => ?_)
          obtain ⟨rfl, rfl⟩ := hq
          have hbl := bN_lt (isD (chT tp k))
          refine n_if_eq (tgt := 167) hx hb dX2_read_131 (by decide) (by omega) (fun c131 => ?_) (fun c131 => ?_)
          · have hnD : ¬ isD (chT tp k) = true := bN0 (by omega)
            obtain ⟨hln, hkS⟩ := tk_S hpk (by omega) hnL hnD
            have hsgl := chT_lt tp k
            have hsp := sgK_pos (chT tp k)
            have hsgi : sgI tp k < 256 := by unfold sgI; split <;> omega
            refine lv_aload_n hx hb dX2_read_167 rfl (lv_at hl 5 rfl) ?_
            refine lv_iload_n hx hb dX2_read_168 rfl (lv_at hl 4 rfl) ?_
            refine c_VI hx hb hml hts hown hK hl.1 hS ⟨Nat.le_refl _, Nat.le_refl _⟩ (met_X2_sign l D dA hG (tpP_E htp ((Eqx.rf.up rfl).trans hE1)) hby k (by omega)) (cw_X2_105 hts ⟨Nat.le_of_ble_eq_true rfl, Nat.le_of_ble_eq_true rfl⟩) (hG 2 _ rfl) rfl rfl rfl rfl (Nat.le_of_ble_eq_true rfl) dX2_read_169 (fun _ h => h.elim) (fun r H1 locs hq hF hS => ?_)
            obtain ⟨rfl, rfl⟩ := hq
            refine lv_istore (lv' := [(6, .int (nI (sgI tp k))), (4, .int (nI (k + 1))), (3, .int (atS tp k)), (2, .int (nI gd)), (1, .int (nI k)), (0, .ref (o + 2))]) hx hb dX2_read_172 hl (by decide) rfl (fun ls hl => ?_)
            refine lv_iload hx hb dX2_read_174 (lv_at hl 0 rfl) ?_
            refine n_if_ne (tgt := 183) hx hb dX2_read_176 (by decide) (by omega) (fun c176 => ?_) (fun c176 => ?_)
            · have hs3 : sgK (chT tp k) ≠ 3 := fun z => by have := sg_0.mpr z; omega
              have hkd := hkS
              have hsb := sgK_b hs3
              refine lv_iconst (v := (nI 2)) hx hb dX2_read_183 (by decide) ?_
              refine lv_istore (lv' := [(5, .int (nI 2)), (6, .int (nI (sgI tp k))), (4, .int (nI (k + 1))), (3, .int (atS tp k)), (2, .int (nI gd)), (1, .int (nI k)), (0, .ref (o + 2))]) hx hb dX2_read_184 hl (by decide) rfl (fun ls hl => ?_)
              refine lv_aload_n hx hb dX2_read_186 rfl (lv_at hl 6 rfl) ?_
              refine lv_iload hx hb dX2_read_187 (lv_at hl 0 rfl) ?_
              refine lv_iload_n hx hb dX2_read_189 rfl (lv_at hl 5 rfl) ?_
              refine lv_iload hx hb dX2_read_190 (lv_at hl 2 rfl) ?_
              refine lv_iload hx hb dX2_read_192 (lv_at hl 1 rfl) ?_
              have hsrm := srK_c (kdT tp mk)
              refine c_VV hx hb hml hts hown hK hl.1 hS ⟨Nat.le_refl _, Nat.le_refl _⟩ (met_X2_add l D dA hG htc (by omega) 2 k (k + 1) (chT tp k) (nI (sgI tp k)) (by omega) (by omega) (by omega) (i2s_n (by omega)) (FT_eq (by omega) hpk (by omega) (by rw [if_neg (by omega), hpk])) (fun _ => congrArg nI (sg_n hs3))) (cw_X2_108 hts ⟨Nat.le_of_ble_eq_true rfl, Nat.le_of_ble_eq_true rfl⟩) (hG 2 _ rfl) rfl rfl rfl rfl (Nat.le_of_ble_eq_true rfl) dX2_read_194 (fun _ h => h) (fun H1 locs hq hF hS => ?_)
              obtain ⟨V3, hG, hE3, htc3⟩ := hq
              generalize hHe3 : H1 = H at hG hS ⊢
              clear hHe3 hF
              refine lv_iload hx hb dX2_read_197 (lv_at hl 0 rfl) ?_
              refine lv_iconst (v := (nI 5)) hx hb dX2_read_199 (by decide) ?_
              refine n_icmp_eq (tgt := 207) hx hb dX2_read_200 (by decide) (by decide) (by decide) (fun z => absurd z (by decide)) (fun _ => ?_)
              refine lv_iconst (v := (nI 1)) hx hb dX2_read_203 (by decide) ?_
              refine lv_goto (tgt := 208) hx hb dX2_read_204 (by decide) ?_
              refine lv_istore_n (lv' := [(2, .int (nI 1)), (5, .int (nI 2)), (6, .int (nI (sgI tp k))), (4, .int (nI (k + 1))), (3, .int (atS tp k)), (1, .int (nI k)), (0, .ref (o + 2))]) hx hb dX2_read_208 rfl hl (by decide) rfl (fun ls hl => ?_)
              refine lv_iload hx hb dX2_read_209 (lv_at hl 3 rfl) ?_
              refine lv_istore_n (lv' := [(1, .int (nI (k + 1))), (2, .int (nI 1)), (5, .int (nI 2)), (6, .int (nI (sgI tp k))), (4, .int (nI (k + 1))), (3, .int (atS tp k)), (0, .ref (o + 2))]) hx hb dX2_read_211 rfl hl (by decide) rfl (fun ls hl => ?_)
              refine lv_goto (tgt := 9) hx hb dX2_read_212 (by decide) ?_
              exact ih1 (k + 1) 1 (mk + 1) V3 _ _ _ (by omega) (by omega) (by decide) (by omega) (fun x hx => by rcases Nat.lt_succ_iff_lt_or_eq.mp hx with h | h; exact hne x h; rw [h]; omega) (fun z => ⟨pl_next (by omega) (by omega), fun x hx => by rcases Nat.lt_succ_iff_lt_or_eq.mp hx with h | h; exact hgo1.2 x h; rw [h]; omega⟩) (fun z => absurd z (by decide)) (Eqx.trans hE1 hE3) htc3 hG hS (lv_sub hl [1, 0, 6] rfl)
            have hkd : kdT tp mk = 3 := hkS.trans (sg_0.mp (by omega))
            refine lv_iconst (v := (nI 5)) hx hb dX2_read_179 (by decide) ?_
            refine lv_goto (tgt := 184) hx hb dX2_read_180 (by decide) ?_
            refine lv_istore (lv' := [(5, .int (nI 5)), (6, .int (nI (sgI tp k))), (4, .int (nI (k + 1))), (3, .int (atS tp k)), (2, .int (nI gd)), (1, .int (nI k)), (0, .ref (o + 2))]) hx hb dX2_read_184 hl (by decide) rfl (fun ls hl => ?_)
            refine lv_aload_n hx hb dX2_read_186 rfl (lv_at hl 6 rfl) ?_
            refine lv_iload hx hb dX2_read_187 (lv_at hl 0 rfl) ?_
            refine lv_iload_n hx hb dX2_read_189 rfl (lv_at hl 5 rfl) ?_
            refine lv_iload hx hb dX2_read_190 (lv_at hl 2 rfl) ?_
            refine lv_iload hx hb dX2_read_192 (lv_at hl 1 rfl) ?_
            have hsrm := srK_c (kdT tp mk)
            refine c_VV hx hb hml hts hown hK hl.1 hS ⟨Nat.le_refl _, Nat.le_refl _⟩ (met_X2_add l D dA hG htc (by omega) 5 k (k + 1) _ (nI (sgI tp k)) (by omega) (by omega) (by omega) (i2s_n (by omega)) (FT_eq (by omega) hpk (by omega) rfl) (fun z => absurd z (by decide))) (cw_X2_108 hts ⟨Nat.le_of_ble_eq_true rfl, Nat.le_of_ble_eq_true rfl⟩) (hG 2 _ rfl) rfl rfl rfl rfl (Nat.le_of_ble_eq_true rfl) dX2_read_194 (fun _ h => h) (fun H1 locs hq hF hS => ?_)
            obtain ⟨V4, hG, hE4, htc4⟩ := hq
            generalize hHe4 : H1 = H at hG hS ⊢
            clear hHe4 hF
            refine lv_iload hx hb dX2_read_197 (lv_at hl 0 rfl) ?_
            refine lv_iconst (v := (nI 5)) hx hb dX2_read_199 (by decide) ?_
            refine n_icmp_eq (tgt := 207) hx hb dX2_read_200 (by decide) (by decide) (by decide) (fun _ => ?_) (fun z => absurd z (by decide))
            refine lv_iconst (v := (nI 0)) hx hb dX2_read_207 (by decide) ?_
            refine lv_istore_n (lv' := [(2, .int (nI 0)), (5, .int (nI 5)), (6, .int (nI (sgI tp k))), (4, .int (nI (k + 1))), (3, .int (atS tp k)), (1, .int (nI k)), (0, .ref (o + 2))]) hx hb dX2_read_208 rfl hl (by decide) rfl (fun ls hl => ?_)
            refine lv_iload hx hb dX2_read_209 (lv_at hl 3 rfl) ?_
            refine lv_istore_n (lv' := [(1, .int (nI (k + 1))), (2, .int (nI 0)), (5, .int (nI 5)), (6, .int (nI (sgI tp k))), (4, .int (nI (k + 1))), (3, .int (atS tp k)), (0, .ref (o + 2))]) hx hb dX2_read_211 rfl hl (by decide) rfl (fun ls hl => ?_)
            refine lv_goto (tgt := 9) hx hb dX2_read_212 (by decide) ?_
            exact ih1 (k + 1) 0 (mk + 1) V4 _ _ _ (by omega) (by omega) (by decide) (by omega) (fun x hx => by rcases Nat.lt_succ_iff_lt_or_eq.mp hx with h | h; exact hne x h; rw [h]; omega) (fun z => absurd z (by decide)) (fun z => ⟨by omega, by rw [Nat.add_sub_cancel]; exact hkd, fun x hx => hgo1.2 x (by omega)⟩) (Eqx.trans hE1 hE4) htc4 hG hS (lv_sub hl [1, 0, 6] rfl)
          have hisD0 : isD (chT tp k) = true := bN1 (by omega)
          have loop5 : ∀ (fu5 : Nat) (j : Nat) (locs : List Loc) (ls : Array Slot), tp.length - (k + j) < fu5 → (1 ≤ j) → (∀ x, x < j → isD (chT tp (k + x)) = true) → (k + j ≤ tp.length) → va_S (AS o) H0 H locs → lv_has ls 7 [(6, .int (nI 0)), (4, .int (nI (k + j))), (3, .int (atS tp k)), (2, .int (nI gd)), (1, .int (nI k)), (0, .ref (o + 2))] → W p l e (mkRm 5 200) s m args below meth c H locs 0 0 QQ (F0 m 134 ls []) := by
            intro fu5
            induction fu5 with
            | zero => intro j locs ls hfu; exact absurd hfu (Nat.not_lt_zero _)
            | succ fu5 ih5 =>
              intro j locs ls hfu hj1 hL hjs hS hl
              refine lv_aload_n hx hb dX2_read_134 rfl (lv_at hl 5 rfl) ?_
              refine lv_iload hx hb dX2_read_135 (lv_at hl 1 rfl) ?_
              refine c_VI hx hb hml hts hown hK hl.1 hS ⟨Nat.le_refl _, Nat.le_refl _⟩ (met_X2_isDigit l D dA hG (tpP_E htp ((Eqx.rf.up rfl).trans hE1)) hby (k + j) (by omega)) (cw_X2_102 hts ⟨Nat.le_of_ble_eq_true rfl, Nat.le_of_ble_eq_true rfl⟩) (hG 2 _ rfl) rfl rfl rfl rfl (Nat.le_of_ble_eq_true rfl) dX2_read_137 (fun _ h => h.elim) (fun r H1 locs hq hF hS => ?_)
              obtain ⟨rfl, rfl⟩ := hq
              have hbl := bN_lt (isD (chT tp (k + j)))
              refine n_if_eq (tgt := 149) hx hb dX2_read_140 (by decide) (by omega) (fun c140 => ?_) (fun c140 => ?_)
              · have hnx : ¬ isD (chT tp (k + j)) = true := bN0 (by omega)
                have hrn := rnN_at (tp.length - k) k j hL hnx (by omega)
                obtain ⟨hln, hkc⟩ := tk_D hpk (by omega) hisD0 hrn
                refine lv_iload hx hb dX2_read_149 (lv_at hl 1 rfl) ?_
                refine lv_iload_n hx hb dX2_read_151 rfl (lv_at hl 4 rfl) ?_
                refine lv_isub hx hb dX2_read_152 ?_
                refine iv (y := (nI j)) ((pk_sub (by omega)).trans (congrArg nI (by omega))) ?_
                refine lv_iconst (v := (nI 4)) hx hb dX2_read_153 (by decide) ?_
                refine n_icmp_le (tgt := 161) hx hb dX2_read_154 (by decide) (by omega) (by omega) (fun c154 => ?_) (fun c154 => ?_)
                · have hkd : kdT tp mk = 2 := by rcases hkc with h | h; omega; exact h.2
                  refine lv_iconst (v := (nI 1)) hx hb dX2_read_161 (by decide) ?_
                  refine lv_istore (lv' := [(5, .int (nI 1)), (6, .int (nI 0)), (4, .int (nI (k + j))), (3, .int (atS tp k)), (2, .int (nI gd)), (1, .int (nI k)), (0, .ref (o + 2))]) hx hb dX2_read_162 hl (by decide) rfl (fun ls hl => ?_)
                  refine lv_goto (tgt := 186) hx hb dX2_read_164 (by decide) ?_
                  refine lv_aload_n hx hb dX2_read_186 rfl (lv_at hl 6 rfl) ?_
                  refine lv_iload hx hb dX2_read_187 (lv_at hl 0 rfl) ?_
                  refine lv_iload_n hx hb dX2_read_189 rfl (lv_at hl 5 rfl) ?_
                  refine lv_iload hx hb dX2_read_190 (lv_at hl 2 rfl) ?_
                  refine lv_iload hx hb dX2_read_192 (lv_at hl 1 rfl) ?_
                  have hsrm := srK_c (kdT tp mk)
                  refine c_VV hx hb hml hts hown hK hl.1 hS ⟨Nat.le_refl _, Nat.le_refl _⟩ (met_X2_add l D dA hG htc (by omega) 1 k (k + j) _ (nI 0) (by omega) (by omega) (by omega) (i2s_n (by omega)) (FT_eq (by omega) hpk (by omega) rfl) (fun z => absurd z (by decide))) (cw_X2_108 hts ⟨Nat.le_of_ble_eq_true rfl, Nat.le_of_ble_eq_true rfl⟩) (hG 2 _ rfl) rfl rfl rfl rfl (Nat.le_of_ble_eq_true rfl) dX2_read_194 (fun _ h => h) (fun H1 locs hq hF hS => ?_)
                  obtain ⟨V6, hG, hE6, htc6⟩ := hq
                  generalize hHe6 : H1 = H at hG hS ⊢
                  clear hHe6 hF
                  refine lv_iload hx hb dX2_read_197 (lv_at hl 0 rfl) ?_
                  refine lv_iconst (v := (nI 5)) hx hb dX2_read_199 (by decide) ?_
                  refine n_icmp_eq (tgt := 207) hx hb dX2_read_200 (by decide) (by decide) (by decide) (fun z => absurd z (by decide)) (fun _ => ?_)
                  refine lv_iconst (v := (nI 1)) hx hb dX2_read_203 (by decide) ?_
                  refine lv_goto (tgt := 208) hx hb dX2_read_204 (by decide) ?_
                  refine lv_istore_n (lv' := [(2, .int (nI 1)), (5, .int (nI 1)), (6, .int (nI 0)), (4, .int (nI (k + j))), (3, .int (atS tp k)), (1, .int (nI k)), (0, .ref (o + 2))]) hx hb dX2_read_208 rfl hl (by decide) rfl (fun ls hl => ?_)
                  refine lv_iload hx hb dX2_read_209 (lv_at hl 3 rfl) ?_
                  refine lv_istore_n (lv' := [(1, .int (nI (k + j))), (2, .int (nI 1)), (5, .int (nI 1)), (6, .int (nI 0)), (4, .int (nI (k + j))), (3, .int (atS tp k)), (0, .ref (o + 2))]) hx hb dX2_read_211 rfl hl (by decide) rfl (fun ls hl => ?_)
                  refine lv_goto (tgt := 9) hx hb dX2_read_212 (by decide) ?_
                  exact ih1 (k + j) 1 (mk + 1) V6 _ _ _ (by omega) (by omega) (by decide) (by omega) (fun x hx => by rcases Nat.lt_succ_iff_lt_or_eq.mp hx with h | h; exact hne x h; rw [h]; omega) (fun z => ⟨pl_next (by omega) (by omega), fun x hx => by rcases Nat.lt_succ_iff_lt_or_eq.mp hx with h | h; exact hgo1.2 x h; rw [h]; omega⟩) (fun z => absurd z (by decide)) (Eqx.trans hE1 hE6) htc6 hG hS (lv_sub hl [1, 0, 6] rfl)
                have hkd : kdT tp mk = 3 := by rcases hkc with h | h; exact h.2; omega
                refine lv_iconst (v := (nI 5)) hx hb dX2_read_157 (by decide) ?_
                refine lv_goto (tgt := 162) hx hb dX2_read_158 (by decide) ?_
                refine lv_istore (lv' := [(5, .int (nI 5)), (6, .int (nI 0)), (4, .int (nI (k + j))), (3, .int (atS tp k)), (2, .int (nI gd)), (1, .int (nI k)), (0, .ref (o + 2))]) hx hb dX2_read_162 hl (by decide) rfl (fun ls hl => ?_)
                refine lv_goto (tgt := 186) hx hb dX2_read_164 (by decide) ?_
                refine lv_aload_n hx hb dX2_read_186 rfl (lv_at hl 6 rfl) ?_
                refine lv_iload hx hb dX2_read_187 (lv_at hl 0 rfl) ?_
                refine lv_iload_n hx hb dX2_read_189 rfl (lv_at hl 5 rfl) ?_
                refine lv_iload hx hb dX2_read_190 (lv_at hl 2 rfl) ?_
                refine lv_iload hx hb dX2_read_192 (lv_at hl 1 rfl) ?_
                have hsrm := srK_c (kdT tp mk)
                refine c_VV hx hb hml hts hown hK hl.1 hS ⟨Nat.le_refl _, Nat.le_refl _⟩ (met_X2_add l D dA hG htc (by omega) 5 k (k + j) _ (nI 0) (by omega) (by omega) (by omega) (i2s_n (by omega)) (FT_eq (by omega) hpk (by omega) rfl) (fun z => absurd z (by decide))) (cw_X2_108 hts ⟨Nat.le_of_ble_eq_true rfl, Nat.le_of_ble_eq_true rfl⟩) (hG 2 _ rfl) rfl rfl rfl rfl (Nat.le_of_ble_eq_true rfl) dX2_read_194 (fun _ h => h) (fun H1 locs hq hF hS => ?_)
                obtain ⟨V7, hG, hE7, htc7⟩ := hq
                generalize hHe7 : H1 = H at hG hS ⊢
                clear hHe7 hF
                refine lv_iload hx hb dX2_read_197 (lv_at hl 0 rfl) ?_
                refine lv_iconst (v := (nI 5)) hx hb dX2_read_199 (by decide) ?_
                refine n_icmp_eq (tgt := 207) hx hb dX2_read_200 (by decide) (by decide) (by decide) (fun _ => ?_) (fun z => absurd z (by decide))
                refine lv_iconst (v := (nI 0)) hx hb dX2_read_207 (by decide) ?_
                refine lv_istore_n (lv' := [(2, .int (nI 0)), (5, .int (nI 5)), (6, .int (nI 0)), (4, .int (nI (k + j))), (3, .int (atS tp k)), (1, .int (nI k)), (0, .ref (o + 2))]) hx hb dX2_read_208 rfl hl (by decide) rfl (fun ls hl => ?_)
                refine lv_iload hx hb dX2_read_209 (lv_at hl 3 rfl) ?_
                refine lv_istore_n (lv' := [(1, .int (nI (k + j))), (2, .int (nI 0)), (5, .int (nI 5)), (6, .int (nI 0)), (4, .int (nI (k + j))), (3, .int (atS tp k)), (0, .ref (o + 2))]) hx hb dX2_read_211 rfl hl (by decide) rfl (fun ls hl => ?_)
                refine lv_goto (tgt := 9) hx hb dX2_read_212 (by decide) ?_
                exact ih1 (k + j) 0 (mk + 1) V7 _ _ _ (by omega) (by omega) (by decide) (by omega) (fun x hx => by rcases Nat.lt_succ_iff_lt_or_eq.mp hx with h | h; exact hne x h; rw [h]; omega) (fun z => absurd z (by decide)) (fun z => ⟨by omega, by rw [Nat.add_sub_cancel]; exact hkd, fun x hx => hgo1.2 x (by omega)⟩) (Eqx.trans hE1 hE7) htc7 hG hS (lv_sub hl [1, 0, 6] rfl)
              have hisD1 : isD (chT tp (k + j)) = true := bN1 (by omega)
              have hjl := p_lt rfl hisD1
              refine lv_iinc (v := (nI ((k + j) + 1))) (lv' := [(4, .int (nI ((k + j) + 1))), (6, .int (nI 0)), (3, .int (atS tp k)), (2, .int (nI gd)), (1, .int (nI k)), (0, .ref (o + 2))]) hx hb dX2_read_143 hl (k := 1) rfl (nI_add _ _) (by decide) rfl (fun ls hl => ?_)
              refine lv_goto (tgt := 134) hx hb dX2_read_146 (by decide) ?_
              exact ih5 (j + 1) _ _ (by omega) (by omega) (fun x hx => by rcases Nat.lt_succ_iff_lt_or_eq.mp hx with h | h; exact hL x h; rw [h]; exact hisD1) (by omega) hS (lv_sub hl [1, 0, 2, 3, 4, 5] rfl)
          exact loop5 ((tp.length - (k + 1)) + 1) 1 _ _ (Nat.lt_succ_self _) (by decide) (fun x hx => by obtain rfl : x = 0 := (by omega); exact hisD0) (by omega) hS (lv_sub hl [0, 1, 2, 3, 4, 5] rfl)
        have hisL0 : isL (chT tp k) = true := bN1 (by omega)
        have loop8 : ∀ (fu8 : Nat) (j : Nat) (locs : List Loc) (ls : Array Slot), tp.length - (k + j) < fu8 → (1 ≤ j) → (∀ x, x < j → isL (chT tp (k + x)) = true) → (k + j ≤ tp.length) → va_S (AS o) H0 H locs → lv_has ls 7 [(6, .int (nI 0)), (4, .int (nI (k + j))), (3, .int (atS tp k)), (2, .int (nI gd)), (1, .int (nI k)), (0, .ref (o + 2))] → W p l e (mkRm 5 200) s m args below meth c H locs 0 0 QQ (F0 m 74 ls []) := by
          intro fu8
          induction fu8 with
          | zero => intro j locs ls hfu; exact absurd hfu (Nat.not_lt_zero _)
          | succ fu8 ih8 =>
            intro j locs ls hfu hj1 hL hjs hS hl
            refine lv_aload_n hx hb dX2_read_74 rfl (lv_at hl 5 rfl) ?_
            refine lv_iload hx hb dX2_read_75 (lv_at hl 1 rfl) ?_
            refine c_VI hx hb hml hts hown hK hl.1 hS ⟨Nat.le_refl _, Nat.le_refl _⟩ (met_X2_isLetter l D dA hG (tpP_E htp ((Eqx.rf.up rfl).trans hE1)) hby (k + j) (by omega)) (cw_X2_94 hts ⟨Nat.le_of_ble_eq_true rfl, Nat.le_of_ble_eq_true rfl⟩) (hG 2 _ rfl) rfl rfl rfl rfl (Nat.le_of_ble_eq_true rfl) dX2_read_77 (fun _ h => h.elim) (fun r H1 locs hq hF hS => ?_)
            obtain ⟨rfl, rfl⟩ := hq
            have hbl := bN_lt (isL (chT tp (k + j)))
            refine n_if_eq (tgt := 89) hx hb dX2_read_80 (by decide) (by omega) (fun c80 => ?_) (fun c80 => ?_)
            · have hnx : ¬ isL (chT tp (k + j)) = true := bN0 (by omega)
              have hrn := rnN_at (tp.length - k) k j hL hnx (by omega)
              obtain ⟨hln, hnm, hkc⟩ := tk_L hpk (by omega) hisL0 hrn
              refine lv_aload_n hx hb dX2_read_89 rfl (lv_at hl 5 rfl) ?_
              refine lv_iload_n hx hb dX2_read_90 rfl (lv_at hl 4 rfl) ?_
              refine lv_iload hx hb dX2_read_91 (lv_at hl 1 rfl) ?_
              refine c_VI hx hb hml hts hown hK hl.1 hS ⟨Nat.le_refl _, Nat.le_refl _⟩ (met_X2_word l D dA hG (tpP_E htp ((Eqx.rf.up rfl).trans hE1)) hby (bsA_S hbs hS (fun q _ h => by have h2 := h.1; omega)) (a := k) (n := j) (by omega) hL) (cw_X2_98 hts ⟨Nat.le_of_ble_eq_true rfl, Nat.le_of_ble_eq_true rfl⟩) (hG 2 _ rfl) rfl rfl rfl rfl (Nat.le_of_ble_eq_true rfl) dX2_read_93 (fun _ h => h.elim) (fun r H1 locs hq hF hS => ?_)
              obtain ⟨rfl, rfl⟩ := hq
              rcases wd_c (tp := tp) (a := k) (n := j) with ⟨kw, hkw, hwI, hj8, hkf⟩ | ⟨hwI, hkf⟩
              · have hkd : kdT tp mk = 20 + kw := by rcases hkc with h | h; omega; rw [h.2]; exact hkf
                refine iv (y := nI kw) hwI ?_
                refine lv_istore (lv' := [(6, .int (nI kw)), (4, .int (nI (k + j))), (3, .int (atS tp k)), (2, .int (nI gd)), (1, .int (nI k)), (0, .ref (o + 2))]) hx hb dX2_read_96 hl (by decide) rfl (fun ls hl => ?_)
                refine lv_iload hx hb dX2_read_98 (lv_at hl 0 rfl) ?_
                refine n_if_lt (tgt := 107) hx hb dX2_read_100 (by decide) (by omega) ?_
                refine lv_iconst (v := (nI 3)) hx hb dX2_read_103 (by decide) ?_
                refine lv_goto (tgt := 121) hx hb dX2_read_104 (by decide) ?_
                refine lv_istore (lv' := [(5, .int (nI 3)), (6, .int (nI kw)), (4, .int (nI (k + j))), (3, .int (atS tp k)), (2, .int (nI gd)), (1, .int (nI k)), (0, .ref (o + 2))]) hx hb dX2_read_121 hl (by decide) rfl (fun ls hl => ?_)
                refine lv_goto (tgt := 186) hx hb dX2_read_123 (by decide) ?_
                refine lv_aload_n hx hb dX2_read_186 rfl (lv_at hl 6 rfl) ?_
                refine lv_iload hx hb dX2_read_187 (lv_at hl 0 rfl) ?_
                refine lv_iload_n hx hb dX2_read_189 rfl (lv_at hl 5 rfl) ?_
                refine lv_iload hx hb dX2_read_190 (lv_at hl 2 rfl) ?_
                refine lv_iload hx hb dX2_read_192 (lv_at hl 1 rfl) ?_
                have hsrm := srK_c (kdT tp mk)
                refine c_VV hx hb hml hts hown hK hl.1 hS ⟨Nat.le_refl _, Nat.le_refl _⟩ (met_X2_add l D dA hG htc (by omega) 3 k (k + j) kw (nI kw) (by omega) (by omega) (by omega) (i2s_n (by omega)) (FT_eq (by omega) hpk (by omega) (by rw [if_pos (by omega)]; omega)) (fun _ => rfl)) (cw_X2_108 hts ⟨Nat.le_of_ble_eq_true rfl, Nat.le_of_ble_eq_true rfl⟩) (hG 2 _ rfl) rfl rfl rfl rfl (Nat.le_of_ble_eq_true rfl) dX2_read_194 (fun _ h => h) (fun H1 locs hq hF hS => ?_)
                obtain ⟨V9, hG, hE9, htc9⟩ := hq
                generalize hHe9 : H1 = H at hG hS ⊢
                clear hHe9 hF
                refine lv_iload hx hb dX2_read_197 (lv_at hl 0 rfl) ?_
                refine lv_iconst (v := (nI 5)) hx hb dX2_read_199 (by decide) ?_
                refine n_icmp_eq (tgt := 207) hx hb dX2_read_200 (by decide) (by decide) (by decide) (fun z => absurd z (by decide)) (fun _ => ?_)
                refine lv_iconst (v := (nI 1)) hx hb dX2_read_203 (by decide) ?_
                refine lv_goto (tgt := 208) hx hb dX2_read_204 (by decide) ?_
                refine lv_istore_n (lv' := [(2, .int (nI 1)), (5, .int (nI 3)), (6, .int (nI kw)), (4, .int (nI (k + j))), (3, .int (atS tp k)), (1, .int (nI k)), (0, .ref (o + 2))]) hx hb dX2_read_208 rfl hl (by decide) rfl (fun ls hl => ?_)
                refine lv_iload hx hb dX2_read_209 (lv_at hl 3 rfl) ?_
                refine lv_istore_n (lv' := [(1, .int (nI (k + j))), (2, .int (nI 1)), (5, .int (nI 3)), (6, .int (nI kw)), (4, .int (nI (k + j))), (3, .int (atS tp k)), (0, .ref (o + 2))]) hx hb dX2_read_211 rfl hl (by decide) rfl (fun ls hl => ?_)
                refine lv_goto (tgt := 9) hx hb dX2_read_212 (by decide) ?_
                exact ih1 (k + j) 1 (mk + 1) V9 _ _ _ (by omega) (by omega) (by decide) (by omega) (fun x hx => by rcases Nat.lt_succ_iff_lt_or_eq.mp hx with h | h; exact hne x h; rw [h]; omega) (fun z => ⟨pl_next (by omega) (by omega), fun x hx => by rcases Nat.lt_succ_iff_lt_or_eq.mp hx with h | h; exact hgo1.2 x h; rw [h]; omega⟩) (fun z => absurd z (by decide)) (Eqx.trans hE1 hE9) htc9 hG hS (lv_sub hl [1, 0, 6] rfl)
              refine iv (y := -1) hwI ?_
              refine lv_istore (lv' := [(6, .int (-1)), (4, .int (nI (k + j))), (3, .int (atS tp k)), (2, .int (nI gd)), (1, .int (nI k)), (0, .ref (o + 2))]) hx hb dX2_read_96 hl (by decide) rfl (fun ls hl => ?_)
              refine lv_iload hx hb dX2_read_98 (lv_at hl 0 rfl) ?_
              refine lv_if_lt (tgt := 107) hx hb dX2_read_100 (by decide) (fun _ => ?_) (fun z => absurd (by decide) z)
              refine lv_iload hx hb dX2_read_107 (lv_at hl 1 rfl) ?_
              refine lv_iload_n hx hb dX2_read_109 rfl (lv_at hl 4 rfl) ?_
              refine lv_isub hx hb dX2_read_110 ?_
              refine iv (y := (nI j)) ((pk_sub (by omega)).trans (congrArg nI (by omega))) ?_
              refine lv_bipush (v := (nI 8)) hx hb dX2_read_111 (by decide) ?_
              refine n_icmp_le (tgt := 120) hx hb dX2_read_113 (by decide) (by omega) (by omega) (fun c113 => ?_) (fun c113 => ?_)
              · have hkd : kdT tp mk = 1 := by rcases hkc with h | h; omega; rw [h.2]; rcases hkf with g | g; omega; exact g.2
                refine lv_iconst (v := (nI 0)) hx hb dX2_read_120 (by decide) ?_
                refine lv_istore (lv' := [(5, .int (nI 0)), (6, .int (-1)), (4, .int (nI (k + j))), (3, .int (atS tp k)), (2, .int (nI gd)), (1, .int (nI k)), (0, .ref (o + 2))]) hx hb dX2_read_121 hl (by decide) rfl (fun ls hl => ?_)
                refine lv_goto (tgt := 186) hx hb dX2_read_123 (by decide) ?_
                refine lv_aload_n hx hb dX2_read_186 rfl (lv_at hl 6 rfl) ?_
                refine lv_iload hx hb dX2_read_187 (lv_at hl 0 rfl) ?_
                refine lv_iload_n hx hb dX2_read_189 rfl (lv_at hl 5 rfl) ?_
                refine lv_iload hx hb dX2_read_190 (lv_at hl 2 rfl) ?_
                refine lv_iload hx hb dX2_read_192 (lv_at hl 1 rfl) ?_
                have hsrm := srK_c (kdT tp mk)
                refine c_VV hx hb hml hts hown hK hl.1 hS ⟨Nat.le_refl _, Nat.le_refl _⟩ (met_X2_add l D dA hG htc (by omega) 0 k (k + j) _ (-1) (by omega) (by omega) (by omega) i2s_1 (FT_eq (by omega) hpk (by omega) rfl) (fun z => absurd z (by decide))) (cw_X2_108 hts ⟨Nat.le_of_ble_eq_true rfl, Nat.le_of_ble_eq_true rfl⟩) (hG 2 _ rfl) rfl rfl rfl rfl (Nat.le_of_ble_eq_true rfl) dX2_read_194 (fun _ h => h) (fun H1 locs hq hF hS => ?_)
                obtain ⟨V10, hG, hE10, htc10⟩ := hq
                generalize hHe10 : H1 = H at hG hS ⊢
                clear hHe10 hF
                refine lv_iload hx hb dX2_read_197 (lv_at hl 0 rfl) ?_
                refine lv_iconst (v := (nI 5)) hx hb dX2_read_199 (by decide) ?_
                refine n_icmp_eq (tgt := 207) hx hb dX2_read_200 (by decide) (by decide) (by decide) (fun z => absurd z (by decide)) (fun _ => ?_)
                refine lv_iconst (v := (nI 1)) hx hb dX2_read_203 (by decide) ?_
                refine lv_goto (tgt := 208) hx hb dX2_read_204 (by decide) ?_
                refine lv_istore_n (lv' := [(2, .int (nI 1)), (5, .int (nI 0)), (6, .int (-1)), (4, .int (nI (k + j))), (3, .int (atS tp k)), (1, .int (nI k)), (0, .ref (o + 2))]) hx hb dX2_read_208 rfl hl (by decide) rfl (fun ls hl => ?_)
                refine lv_iload hx hb dX2_read_209 (lv_at hl 3 rfl) ?_
                refine lv_istore_n (lv' := [(1, .int (nI (k + j))), (2, .int (nI 1)), (5, .int (nI 0)), (6, .int (-1)), (4, .int (nI (k + j))), (3, .int (atS tp k)), (0, .ref (o + 2))]) hx hb dX2_read_211 rfl hl (by decide) rfl (fun ls hl => ?_)
                refine lv_goto (tgt := 9) hx hb dX2_read_212 (by decide) ?_
                exact ih1 (k + j) 1 (mk + 1) V10 _ _ _ (by omega) (by omega) (by decide) (by omega) (fun x hx => by rcases Nat.lt_succ_iff_lt_or_eq.mp hx with h | h; exact hne x h; rw [h]; omega) (fun z => ⟨pl_next (by omega) (by omega), fun x hx => by rcases Nat.lt_succ_iff_lt_or_eq.mp hx with h | h; exact hgo1.2 x h; rw [h]; omega⟩) (fun z => absurd z (by decide)) (Eqx.trans hE1 hE10) htc10 hG hS (lv_sub hl [1, 0, 6] rfl)
              have hkd : kdT tp mk = 3 := by rcases hkc with h | h; exact h.2; omega
              refine lv_iconst (v := (nI 5)) hx hb dX2_read_116 (by decide) ?_
              refine lv_goto (tgt := 121) hx hb dX2_read_117 (by decide) ?_
              refine lv_istore (lv' := [(5, .int (nI 5)), (6, .int (-1)), (4, .int (nI (k + j))), (3, .int (atS tp k)), (2, .int (nI gd)), (1, .int (nI k)), (0, .ref (o + 2))]) hx hb dX2_read_121 hl (by decide) rfl (fun ls hl => ?_)
              refine lv_goto (tgt := 186) hx hb dX2_read_123 (by decide) ?_
              refine lv_aload_n hx hb dX2_read_186 rfl (lv_at hl 6 rfl) ?_
              refine lv_iload hx hb dX2_read_187 (lv_at hl 0 rfl) ?_
              refine lv_iload_n hx hb dX2_read_189 rfl (lv_at hl 5 rfl) ?_
              refine lv_iload hx hb dX2_read_190 (lv_at hl 2 rfl) ?_
              refine lv_iload hx hb dX2_read_192 (lv_at hl 1 rfl) ?_
              have hsrm := srK_c (kdT tp mk)
              refine c_VV hx hb hml hts hown hK hl.1 hS ⟨Nat.le_refl _, Nat.le_refl _⟩ (met_X2_add l D dA hG htc (by omega) 5 k (k + j) _ (-1) (by omega) (by omega) (by omega) i2s_1 (FT_eq (by omega) hpk (by omega) rfl) (fun z => absurd z (by decide))) (cw_X2_108 hts ⟨Nat.le_of_ble_eq_true rfl, Nat.le_of_ble_eq_true rfl⟩) (hG 2 _ rfl) rfl rfl rfl rfl (Nat.le_of_ble_eq_true rfl) dX2_read_194 (fun _ h => h) (fun H1 locs hq hF hS => ?_)
              obtain ⟨V11, hG, hE11, htc11⟩ := hq
              generalize hHe11 : H1 = H at hG hS ⊢
              clear hHe11 hF
              refine lv_iload hx hb dX2_read_197 (lv_at hl 0 rfl) ?_
              refine lv_iconst (v := (nI 5)) hx hb dX2_read_199 (by decide) ?_
              refine n_icmp_eq (tgt := 207) hx hb dX2_read_200 (by decide) (by decide) (by decide) (fun _ => ?_) (fun z => absurd z (by decide))
              refine lv_iconst (v := (nI 0)) hx hb dX2_read_207 (by decide) ?_
              refine lv_istore_n (lv' := [(2, .int (nI 0)), (5, .int (nI 5)), (6, .int (-1)), (4, .int (nI (k + j))), (3, .int (atS tp k)), (1, .int (nI k)), (0, .ref (o + 2))]) hx hb dX2_read_208 rfl hl (by decide) rfl (fun ls hl => ?_)
              refine lv_iload hx hb dX2_read_209 (lv_at hl 3 rfl) ?_
              refine lv_istore_n (lv' := [(1, .int (nI (k + j))), (2, .int (nI 0)), (5, .int (nI 5)), (6, .int (-1)), (4, .int (nI (k + j))), (3, .int (atS tp k)), (0, .ref (o + 2))]) hx hb dX2_read_211 rfl hl (by decide) rfl (fun ls hl => ?_)
              refine lv_goto (tgt := 9) hx hb dX2_read_212 (by decide) ?_
              exact ih1 (k + j) 0 (mk + 1) V11 _ _ _ (by omega) (by omega) (by decide) (by omega) (fun x hx => by rcases Nat.lt_succ_iff_lt_or_eq.mp hx with h | h; exact hne x h; rw [h]; omega) (fun z => absurd z (by decide)) (fun z => ⟨by omega, by rw [Nat.add_sub_cancel]; exact hkd, fun x hx => hgo1.2 x (by omega)⟩) (Eqx.trans hE1 hE11) htc11 hG hS (lv_sub hl [1, 0, 6] rfl)
            have hisL1 : isL (chT tp (k + j)) = true := bN1 (by omega)
            have hjl := p_lt rfl hisL1
            refine lv_iinc (v := (nI ((k + j) + 1))) (lv' := [(4, .int (nI ((k + j) + 1))), (6, .int (nI 0)), (3, .int (atS tp k)), (2, .int (nI gd)), (1, .int (nI k)), (0, .ref (o + 2))]) hx hb dX2_read_83 hl (k := 1) rfl (nI_add _ _) (by decide) rfl (fun ls hl => ?_)
            refine lv_goto (tgt := 74) hx hb dX2_read_86 (by decide) ?_
            exact ih8 (j + 1) _ _ (by omega) (by omega) (fun x hx => by rcases Nat.lt_succ_iff_lt_or_eq.mp hx with h | h; exact hL x h; rw [h]; exact hisL1) (by omega) hS (lv_sub hl [1, 0, 2, 3, 4, 5] rfl)
        exact loop8 ((tp.length - (k + 1)) + 1) 1 _ _ (Nat.lt_succ_self _) (by decide) (fun x hx => by obtain rfl : x = 0 := (by omega); exact hisL0) (by omega) hS (lv_sub hl [0, 1, 2, 3, 4, 5] rfl)
      have hw : isW (chT tp k) = true := w_of hby c54 (by decide)
      refine lv_iinc (v := (nI (k + 1))) (lv' := [(1, .int (nI (k + 1))), (4, .int (nI (k + 1))), (3, .int (atS tp k)), (2, .int (nI gd)), (0, .ref (o + 2))]) hx hb dX2_read_57 hl (k := 3) rfl (nI_add _ _) (by decide) rfl (fun ls hl => ?_)
      refine lv_goto (tgt := 9) hx hb dX2_read_60 (by decide) ?_
      exact ih1 (k + 1) gd mk V1 _ _ _ (by omega) (by omega) hg2 (by omega) hne (fun z => ⟨(skp_1 (by omega) hw).symm.trans (hgo z).1, (hgo z).2⟩) hba hE1 htc hG hS (lv_sub hl [3, 0, 4] rfl)
  exact loop1 ((tp.length + 1 - 0) + 1) 0 1 0 (up2 V 2 7 (nI 0)) _ _ _ (Nat.lt_succ_self _) (Nat.zero_le _) (by decide) (Nat.le_refl _) (fun x hx => absurd hx (Nat.not_lt_zero _)) (fun _ => ⟨rfl, fun x hx => absurd hx (Nat.not_lt_zero _)⟩) (fun z => absurd z (by decide)) Eqx.rf (⟨rfl, fun j hj => absurd hj (Nat.not_lt_zero _)⟩) hG hS (lv_sub hl [0, 1, 2] rfl)
