def PNu (k j : Nat) : Bool := (k == 1 && j == 6) || (k == 1 && j == 7) || (k == 9 && j == 3) || (k == 9 && j == 5) || (k == 9 && j == 6)
theorem PPs_PNu : ∀ k j, PNu k j = false → PPs k j = false := by intro k j h; simp only [PPs, PNu, Bool.or_eq_false_iff, Bool.and_eq_false_iff, beq_eq_false_iff_ne, ne_eq] at *; omega
theorem PWt_PNu : ∀ k j, PNu k j = false → PWt k j = false := by intro k j h; simp only [PWt, PNu, Bool.or_eq_false_iff, Bool.and_eq_false_iff, beq_eq_false_iff_ne, ne_eq] at *; omega
theorem tk_2 {tp : List Int32} {t : Nat} : tkC (FT tp) 1 t = bdP (kdT tp) (plT tp) t none := (tk_mu sr_1).trans bdP_mu.symm
theorem tk_1 {tp : List Int32} {t : Nat} : tkC (FT tp) 0 t = muP (kdT tp) (plT tp) 1 t none := tk_mu sr_0
theorem PNu_ps : ∀ k j, k = 2 ∨ (4 ≤ k ∧ k ≤ 8) → PNu k j = false := by
  intro k j h
  simp only [PNu, Bool.or_eq_false_iff, Bool.and_eq_false_iff, beq_eq_false_iff_ne, ne_eq]
  omega
theorem woK_E {P : Nat → Nat → Bool} {V V1 : GI} {wo : Fo} (h : woK V wo) (hE : Eqx P V V1) (h5 : P 9 5 = false) (h6 : P 9 6 = false) : woK V1 wo := by
  cases wo with
  | none => exact (hE 9 5 h5).trans h
  | some x => obtain ⟨a, b⟩ := x; exact ⟨(hE 9 5 h5).trans h.1, (hE 9 6 h6).trans h.2.1, h.2.2⟩
theorem cw_X3_68 {R : Room} {s : State} {args : Array Value} (hts : ∀ w ∈ lw_all, w.before args s = true) {f w k j : Nat} (hR : f + 1 ≤ R.frames ∧ 8 + (2 + 11) + w ≤ R.locals) : CallW R s args RX3 RX3 68 yX3_take cX3_take 2 (some .int) (ws_ yX3_take cX3_take 2 (some .int)) (mkRmC f w k j) k j 1 := cwV 1 hts (lw_V q833 q835 qs23 q114 q836) rfl rfl rfl (by decide +kernel) hR
theorem cw_X3_75 {R : Room} {s : State} {args : Array Value} (hts : ∀ w ∈ lw_all, w.before args s = true) {f w k j : Nat} (hR : f + 1 ≤ R.frames ∧ 8 + (3 + 11) + w ≤ R.locals) : CallW R s args RX3 RX3 75 yX3_tell cX3_tell 3 none (ws_ yX3_tell cX3_tell 3 none) (mkRmC f w k j) k j 2 := cwV 2 hts (lw_V q1017 q1019 qs24 q114 q1020) rfl rfl rfl (by decide +kernel) hR
set_option maxHeartbeats 4000000 in
theorem met_X3_number (l : Launch) (D : va_G) (dA : Nat → ClassId) {o : Nat} {V : GI} {L : GL} {Rf : GR} {H0 : Heap} {tp : List Int32} {m0 t : Nat} {wo : Fo} (hG : gP D dA o dS V L Rf H0) (hPS : psC V tp m0) (ht : V 9 3 = nI t) (htm : t < m0) (ht4 : t ≤ 400) (hwo : woK V wo) {lo hi : Nat} (hlo9 : lo < 100000) (hhi9 : hi < 100000) : CtrX l D dA yX3_number cX3_number 5 (some .int) (mkRmC 5 150 0 0) [.ref (o + 9), .int (nI lo), .int (nI hi)] H0 (AS o) (QI (fun r H1 => ∃ V1, r = nI (vlT tp t) ∧ gP D dA o dS V1 L Rf H1 ∧ Eqx PNu V V1 ∧ kdT tp t = 2 ∧ t ≠ 400 ∧ V1 9 3 = nI (t + 1) ∧ woK V1 (nuW tp wo lo hi t))) (fun q H1 => okX D dA o V L Rf (bdP (kdT tp) (plT tp) t none) q H1) := by
  have hlo := gP_sz hG
  have hkl2 := hPS.hm9
  refine ctrX_I (by decide) (Nat.le_of_ble_eq_true rfl) ?_
  intro p e s m args below meth c ls QQ locs hx hb hml hown hts hK hend hthr hS hl
  have hl : lv_has ls 5 [(0, .ref (o + 9)), (1, .int (nI lo)), (2, .int (nI hi))] := hl
  have hthrW : ∀ {pc : Nat} {ls : Array Slot} {rs : List Value} {H : Heap} {locs : List Loc} {q k n : Nat}, k ≤ 0 → n ≤ 0 → va_S (AS o) H0 H locs → fltA D H q → (fun q H1 => okX D dA o V L Rf (bdP (kdT tp) (plT tp) t none) q H1) q H → xq_W p l e (mkRmC 5 150 0 0) s m args below meth c H locs k n QQ (F0 m pc ls rs) q := fun h1 h2 hS hf hq => xq_widen h1 h2 (hthr _ _ _ _ _ _  hS hf hq)
  refine lv_aload_n hx hb dX3_number_0 rfl (lv_at hl 0 rfl) ?_
  refine lv_iconst (v := (nI 1)) hx hb dX3_number_1 (by decide) ?_
  refine c_VXI hx hb hml hts hown hK hl.1 hS ⟨by show 0 ≤ 0; omega, by show 0 ≤ 0; omega⟩ (met_X3_take l D dA hG (psC_E (V1 := V) hPS Eqx.rf PPx_ps).hm (psC_E (V1 := V) hPS Eqx.rf PPx_ps).hm9 (psC_E (V1 := V) hPS Eqx.rf PPx_ps).hbF ht htm ht4 1 (by omega)) (cw_X3_68 hts ⟨by show _ ≤ 5; omega, by show _ ≤ 150; omega⟩) (hG 9 _ rfl) rfl rfl rfl rfl (Nat.le_of_ble_eq_true rfl) dX3_number_2 (fun _ h => h) (fun q H1 locs hq hF hS => hthrW (by show 0 ≤ 0; omega) (by show 0 ≤ 0; omega) hS (okX_flt hq) (okX_tr hq Eqx.rf (by rw [tk_2]))) (fun r H1 locs hq hF hS => ?_)
  obtain ⟨rfl, V1, hG, hE1, ho1, ht1⟩ := hq
  generalize hHe1 : H1 = H at hG hS hF ⊢
  clear hHe1
  rw [tk_mu sr_1] at ho1 ht1
  obtain ⟨hk1, hn1, hme1⟩ := mu_ok ho1
  rw [hme1] at ht1
  have hu1 : V1 9 3 = nI (t + 1) := ht1
  have htm1 : t + 1 < m0 := hPS.next htm (by omega) (by omega)
  have hwo := woK_E hwo hE1 rfl rfl
  refine lv_istore_n (lv' := [(3, .int (nI t)), (0, .ref (o + 9)), (1, .int (nI lo)), (2, .int (nI hi))]) hx hb dX3_number_5 rfl hl (by decide) rfl (fun ls hl => ?_)
  refine lv_aload_n hx hb dX3_number_6 rfl (lv_at hl 1 rfl) ?_
  refine g_get hx hb hts hown hK hG 9 rfl rfl ok_X3 0 (by decide) q294 rfl rfl dX3_number_7 ?_
  refine lv_iload_n hx hb dX3_number_10 rfl (lv_at hl 0 rfl) ?_
  obtain ⟨n, hg1, hg2, hg3, hg4, hnv⟩ := hPS.nu hk1
  have hvb2 : vlT tp t < 16777216 := (vl_lt (sz := tp.length) (chT_lt tp) t).1
  refine c_VI hx hb hml hts hown hK hl.1 hS ⟨by show 0 ≤ 0; omega, by show 0 ≤ 0; omega⟩ (met_X2_number l D dA hG (psC_E (V1 := V1) hPS (hE1.mono PPs_PPx) PPx_ps).1 hPS.2.1 (psC_E (V1 := V1) hPS (hE1.mono PPs_PPx) PPx_ps).hm (q := t) (i := plT tp t) (n := n) (by omega) hPS.hm9 rfl hg1 hg2 hg3 hg4) (cw_X3_72 hts ⟨by show _ ≤ 5; omega, by show _ ≤ 150; omega⟩) (hG 2 _ rfl) rfl rfl rfl rfl (Nat.le_of_ble_eq_true rfl) dX3_number_11 (fun _ h => h.elim) (fun r H1 locs hq hF hS => ?_)
  obtain ⟨rfl, rfl⟩ := hq
  refine iv (y := nI (vlT tp t)) (congrArg nI hnv) ?_
  refine lv_istore (lv' := [(4, .int (nI (vlT tp t))), (3, .int (nI t)), (0, .ref (o + 9)), (1, .int (nI lo)), (2, .int (nI hi))]) hx hb dX3_number_14 hl (by decide) rfl (fun ls hl => ?_)
  refine lv_iload hx hb dX3_number_16 (lv_at hl 0 rfl) ?_
  refine lv_iload_n hx hb dX3_number_18 rfl (lv_at hl 3 rfl) ?_
  refine n_icmp_lt (tgt := 28) hx hb dX3_number_19 (by decide) (by omega) (by omega) (fun c19 => ?_) (fun c19 => ?_)
  · refine lv_aload_n hx hb dX3_number_28 rfl (lv_at hl 2 rfl) ?_
    refine lv_iconst (v := (nI 5)) hx hb dX3_number_29 (by decide) ?_
    refine lv_iload_n hx hb dX3_number_30 rfl (lv_at hl 1 rfl) ?_
    refine c_VV hx hb hml hts hown hK hl.1 hS ⟨by show 0 ≤ 0; omega, by show 0 ≤ 0; omega⟩ (met_X3_tell l D dA hG hwo 5 t (by omega) (by omega) (by omega)) (cw_X3_75 hts ⟨by show _ ≤ 5; omega, by show _ ≤ 150; omega⟩) (hG 9 _ rfl) rfl rfl rfl rfl (Nat.le_of_ble_eq_true rfl) dX3_number_31 (fun _ h => h) (fun H1 locs hq hF hS => ?_)
    obtain ⟨V2, hG, hE2, hwo⟩ := hq
    generalize hHe2 : H1 = H at hG hS hF ⊢
    clear hHe2
    refine lv_iload hx hb dX3_number_34 (lv_at hl 0 rfl) ?_
    refine hend _ _ _ _ _ hS dX3_number_36 ?_
    have hW : nuW tp wo lo hi t = woC wo 5 t := if_pos (by omega)
    exact ⟨_, rfl, _, rfl, hG, ((hE1.mono PPs_PNu).trans (hE2.mono PWt_PNu)), hk1, hn1, ((hE2 9 3 rfl).trans hu1), by rw [hW]; exact hwo⟩
  refine lv_iload hx hb dX3_number_22 (lv_at hl 0 rfl) ?_
  refine lv_iload_n hx hb dX3_number_24 rfl (lv_at hl 4 rfl) ?_
  refine n_icmp_le (tgt := 34) hx hb dX3_number_25 (by decide) (by omega) (by omega) (fun c25 => ?_) (fun c25 => ?_)
  · refine lv_iload hx hb dX3_number_34 (lv_at hl 0 rfl) ?_
    refine hend _ _ _ _ _ hS dX3_number_36 ?_
    have hW : nuW tp wo lo hi t = wo := if_neg (by omega)
    exact ⟨_, rfl, _, rfl, hG, (hE1.mono PPs_PNu), hk1, hn1, hu1, by rw [hW]; exact hwo⟩
  refine lv_aload_n hx hb dX3_number_28 rfl (lv_at hl 2 rfl) ?_
  refine lv_iconst (v := (nI 5)) hx hb dX3_number_29 (by decide) ?_
  refine lv_iload_n hx hb dX3_number_30 rfl (lv_at hl 1 rfl) ?_
  refine c_VV hx hb hml hts hown hK hl.1 hS ⟨by show 0 ≤ 0; omega, by show 0 ≤ 0; omega⟩ (met_X3_tell l D dA hG hwo 5 t (by omega) (by omega) (by omega)) (cw_X3_75 hts ⟨by show _ ≤ 5; omega, by show _ ≤ 150; omega⟩) (hG 9 _ rfl) rfl rfl rfl rfl (Nat.le_of_ble_eq_true rfl) dX3_number_31 (fun _ h => h) (fun H1 locs hq hF hS => ?_)
  obtain ⟨V3, hG, hE3, hwo⟩ := hq
  generalize hHe3 : H1 = H at hG hS hF ⊢
  clear hHe3
  refine lv_iload hx hb dX3_number_34 (lv_at hl 0 rfl) ?_
  refine hend _ _ _ _ _ hS dX3_number_36 ?_
  have hW : nuW tp wo lo hi t = woC wo 5 t := if_pos (by omega)
  exact ⟨_, rfl, _, rfl, hG, ((hE1.mono PPs_PNu).trans (hE3.mono PWt_PNu)), hk1, hn1, ((hE3 9 3 rfl).trans hu1), by rw [hW]; exact hwo⟩
theorem cw_X3_79 {R : Room} {s : State} {args : Array Value} (hts : ∀ w ∈ lw_all, w.before args s = true) {f w k j : Nat} (hR : f + 1 ≤ R.frames ∧ 8 + (4 + 11) + w ≤ R.locals) : CallW R s args RX3 RX2 79 yX2_text cX2_text 4 (some (.object "java/lang/String")) (ws_ yX2_text cX2_text 4 (some (.object "java/lang/String"))) (mkRmC f w k j) k j 1 := cwV 1 hts (lw_V q837 q838 q839 q113 q840) rfl rfl rfl (by decide +kernel) hR
theorem cw_X3_86 {R : Room} {s : State} {args : Array Value} (hts : ∀ w ∈ lw_all, w.before args s = true) {f w k j : Nat} (hR : f + 1 ≤ R.frames ∧ 8 + (3 + 11) + w ≤ R.locals) : CallW R s args RX3 RX4 86 yX4_has cX4_has 3 (some .boolean) (ws_ yX4_has cX4_has 3 (some .boolean)) (mkRmC f w k j) k j 1 := cwV 1 hts (lw_V q1003 q1004 q1005 q115 q1006) rfl rfl rfl (by decide +kernel) hR
set_option maxHeartbeats 4000000 in
theorem met_X3_name (l : Launch) (D : va_G) (dA : Nat → ClassId) {o : Nat} {V : GI} {L : GL} {Rf : GR} {H0 : Heap} {tp : List Int32} {m0 t : Nat} {wo : Fo} (hG : gP D dA o dS V L Rf H0) (hPS : psC V tp m0) (ht : V 9 3 = nI t) (htm : t < m0) (ht4 : t ≤ 400) (hwo : woK V wo) {ed tx ea hi : Nat} {VT : GI} {LT : GL} {RT : GR} {r : Rs} (hbs : bsA D dA H0 o Rf ed) (hGT : gP D dA tx dT VT LT RT H0) (hTT : ttS D dA H0 o ed tx ea hi VT RT r) (hrt : Rf 9 2 = some tx) : CtrX l D dA yX3_name cX3_name 3 (some (.object "java/lang/String")) (mkRmC 12 560 4 40) [.ref (o + 9)] H0 (AN o H0.size) (QR (fun r1 H1 => ∃ sa lt V1, r1 = some sa ∧ H0.size ≤ sa ∧ gP D dA o dS V1 L Rf H1 ∧ Eqx PNu V V1 ∧ strA D dA H1 (fun q => H0.size ≤ q) sa lt ∧ ltP lt ∧ wdN lt = nmT tp t ∧ kdT tp t = 1 ∧ t ≠ 400 ∧ V1 9 3 = nI (t + 1) ∧ woK V1 (if hasF (rNm r) (nmT tp t) (rN r) = true then woC wo 3 t else wo))) (fun q H1 => okX D dA o V L Rf (muP (kdT tp) (plT tp) 1 t none) q H1) := by
  have hlo := gP_sz hG
  have hkl2 := hPS.hm9
  refine ctrX_R (by decide) (Nat.le_of_ble_eq_true rfl) (Or.inl ⟨_, rfl⟩) ?_
  intro p e s m args below meth c ls QQ locs hx hb hml hown hts hK hend hthr hS hl
  have hl : lv_has ls 3 [(0, .ref (o + 9))] := hl
  have hthrW : ∀ {pc : Nat} {ls : Array Slot} {rs : List Value} {H : Heap} {locs : List Loc} {q k n : Nat}, k ≤ 4 → n ≤ 40 → va_S (AN o H0.size) H0 H locs → fltA D H q → (fun q H1 => okX D dA o V L Rf (muP (kdT tp) (plT tp) 1 t none) q H1) q H → xq_W p l e (mkRmC 12 560 4 40) s m args below meth c H locs k n QQ (F0 m pc ls rs) q := fun h1 h2 hS hf hq => xq_widen h1 h2 (hthr _ _ _ _ _ _  hS hf hq)
  refine lv_aload_n hx hb dX3_name_0 rfl (lv_at hl 0 rfl) ?_
  refine lv_iconst (v := (nI 0)) hx hb dX3_name_1 (by decide) ?_
  refine c_VXI hx hb hml hts hown hK hl.1 hS ⟨by show 0 ≤ 4; omega, by show 0 ≤ 40; omega⟩ (met_X3_take l D dA hG (psC_E (V1 := V) hPS Eqx.rf PPx_ps).hm (psC_E (V1 := V) hPS Eqx.rf PPx_ps).hm9 (psC_E (V1 := V) hPS Eqx.rf PPx_ps).hbF ht htm ht4 0 (by omega)) (cw_X3_68 hts ⟨by show _ ≤ 12; omega, by show _ ≤ 560; omega⟩) (hG 9 _ rfl) rfl rfl rfl rfl (Nat.le_of_ble_eq_true rfl) dX3_name_2 (fun _ h => Or.inl h) (fun q H1 locs hq hF hS => hthrW (by show 0 ≤ 4; omega) (by show 0 ≤ 40; omega) hS (okX_flt hq) (okX_tr hq Eqx.rf (by rw [tk_1]))) (fun r H1 locs hq hF hS => ?_)
  obtain ⟨rfl, V1, hG, hE1, ho1, ht1⟩ := hq
  generalize hHe1 : H1 = H at hG hS hF ⊢
  clear hHe1
  rw [tk_mu sr_0] at ho1 ht1
  obtain ⟨hk1, hn1, hme1⟩ := mu_ok ho1
  rw [hme1] at ht1
  have hu1 : V1 9 3 = nI (t + 1) := ht1
  have hGT := hGT.fr hF (fun k hk z => by have hk5 : k < 5 := hk; have := z.2.1; have := hTT.1; omega)
  have hTT := ttS_F hTT hF (fun _ _ z => Or.inl z)
  have hbs := bsA_F hbs hF (fun q _ z => by have := z.1; omega) (fun _ => rfl)
  have htm1 : t + 1 < m0 := hPS.next htm (by omega) (by omega)
  have hwo := woK_E hwo hE1 rfl rfl
  refine lv_istore_n (lv' := [(1, .int (nI t)), (0, .ref (o + 9))]) hx hb dX3_name_5 rfl hl (by decide) rfl (fun ls hl => ?_)
  refine lv_aload_n hx hb dX3_name_6 rfl (lv_at hl 1 rfl) ?_
  refine g_get hx hb hts hown hK hG 9 rfl rfl ok_X3 0 (by decide) q294 rfl rfl dX3_name_7 ?_
  refine lv_iload_n hx hb dX3_name_10 rfl (lv_at hl 0 rfl) ?_
  obtain ⟨n, hg1, hg2, hg3, hg4, hnv⟩ := hPS.nm hk1
  obtain ⟨cap, g, hea, hcc, heo, hsl⟩ := hTT.2.2.2.2.1
  have hrn9 := hTT.2.1
  obtain ⟨z1, hz1⟩ : ∃ x, H.size = x := ⟨_, rfl⟩
  have hsz1 := hS.1
  have hsl2 : ∀ k, k < rN r → ∃ a nm, g k = some a ∧ slN D dA H (TB tx ea hi) a (rNm r k) nm [.int (nI (rLf r k)), .int (nI (rHb r k))] ∧ nm < z1 := fun k hk => by
    obtain ⟨a, nm, k1, k2, k3, k4⟩ := hsl k hk
    exact ⟨a, nm, k3, k4, by rw [← hz1]; exact slN_lt k4⟩
  refine c_VRA (rm := mkRmC 9 420 4 40) hx hb hml hts hown hK hl.1 hS (met_X2_text l D dA hG (psC_E (V1 := V1) hPS (hE1.mono PPs_PPx) PPx_ps).1 hPS.2.1 (psC_E (V1 := V1) hPS (hE1.mono PPs_PPx) PPx_ps).hm (q := t) (i := plT tp t) (n := n) (by omega) hPS.hm9 rfl hg1 hg2 hg3 (ltT_128 hg4) hbs.1) (cw_X3_79 hts ⟨by show _ ≤ 12; omega, by show _ ≤ 560; omega⟩) (hG 2 _ rfl) rfl rfl rfl rfl (Nat.le_of_ble_eq_true rfl) dX3_name_11 (fun q h => Or.inr (Nat.le_trans hsz1 h)) ⟨by show 0 + 4 ≤ 4; omega, by show 0 + 40 ≤ 40; omega⟩ (fun r H locs hq hF hS => ?_)
  obtain ⟨sa, rfl, hsa0, hG, hsa⟩ := hq
  have hGT := hGT.fr hF (fun k hk z => absurd (hGT.lt hk) (Nat.not_lt.mpr z))
  have hTT := ttS_F hTT hF (fun q h1 h2 => absurd h1 (Nat.not_lt.mpr h2))
  have hbs := bsA_F hbs hF (fun q h1 h2 => absurd h1 (Nat.not_lt.mpr h2)) (fun _ => rfl)
  have hea := hea.kept (hF.2 _ hea.lt (fun z => absurd hea.lt (Nat.not_lt.mpr z)))
  have hsl3 : ∀ k, k < rN r → ∃ a nm vs, g k = some a ∧ slN D dA H (TB tx ea hi) a (rNm r k) nm vs ∧ nm ≠ sa := fun k hk => by
    obtain ⟨a, nm, k1, k2, k3⟩ := hsl2 k hk
    exact ⟨a, nm, _, k1, slN_F k2 hF (fun h z => absurd h (Nat.not_lt.mpr z)) (fun q h _ z => absurd h (Nat.not_lt.mpr z)), by omega⟩
  have hsa := strA_m hsa (B2 := fun q => H0.size ≤ q) (fun q _ h => Nat.le_trans hsz1 h)
  have hlx7 : wdN (ltT tp (plT tp t) n) = nmT tp t := (nmN_w n hg2).symm.trans hnv
  refine lv_astore_n (lv' := [(2, .ref sa), (1, .int (nI t)), (0, .ref (o + 9))]) hx hb dX3_name_14 rfl hl (by decide) rfl (fun ls hl => ?_)
  refine lv_aload_n hx hb dX3_name_15 rfl (lv_at hl 2 rfl) ?_
  refine g_get (v := .ref tx) hx hb hts hown hK hG 9 rfl rfl ok_X3 2 (by decide) q296 rfl (congrArg va_rf hrt) dX3_name_16 ?_
  refine lv_aload_n hx hb dX3_name_19 rfl (lv_at hl 0 rfl) ?_
  refine c_VI hx hb hml hts hown hK hl.1 hS ⟨by show 0 + 4 ≤ 4; omega, by show 0 + 40 ≤ 40; omega⟩ (met_X4_has l D dA (hGT 0 _ rfl) (tt_al hGT hTT.2.2.1 hTT.2.2.2.1) hea (by omega) (by omega) hsl3 hsa (ltT_p hg4) hlx7 hbs.1) (cw_X3_86 hts ⟨by show _ ≤ 12; omega, by show _ ≤ 560; omega⟩) (hGT 0 _ rfl) rfl rfl rfl rfl (Nat.le_of_ble_eq_true rfl) dX3_name_20 (fun _ h => h.elim) (fun r H1 locs hq hF hS => ?_)
  obtain ⟨rfl, rfl⟩ := hq
  have hbh := bN_lt (hasF (rNm r) (nmT tp t) (rN r))
  refine n_if_eq (tgt := 32) hx hb dX3_name_23 (by decide) (by omega) (fun c23 => ?_) (fun c23 => ?_)
  · refine lv_aload_n hx hb dX3_name_32 rfl (lv_at hl 0 rfl) ?_
    refine W.widen (k := 4) (n := 40) (by show 0 + 4 ≤ 4; omega) (by show 0 + 40 ≤ 40; omega) ?_
    refine hend _ _ _ _ _ hS dX3_name_33 (Or.inr ⟨_, rfl⟩) ?_
    have hW : (if hasF (rNm r) (nmT tp t) (rN r) = true then woC wo 3 t else wo) = wo := if_neg (bN0 (by omega))
    exact ⟨some sa, rfl, sa, _, _, rfl, by omega, hG, (hE1.mono PPs_PNu), hsa, ltT_p hg4, hlx7, hk1, hn1, hu1, by rw [hW]; exact hwo⟩
  refine lv_aload_n hx hb dX3_name_26 rfl (lv_at hl 2 rfl) ?_
  refine lv_iconst (v := (nI 3)) hx hb dX3_name_27 (by decide) ?_
  refine lv_iload_n hx hb dX3_name_28 rfl (lv_at hl 1 rfl) ?_
  refine c_VV hx hb hml hts hown hK hl.1 hS ⟨by show 0 + 4 ≤ 4; omega, by show 0 + 40 ≤ 40; omega⟩ (met_X3_tell l D dA hG hwo 3 t (by omega) (by omega) (by omega)) (cw_X3_75 hts ⟨by show _ ≤ 12; omega, by show _ ≤ 560; omega⟩) (hG 9 _ rfl) rfl rfl rfl rfl (Nat.le_of_ble_eq_true rfl) dX3_name_29 (fun _ h => Or.inl h) (fun H1 locs hq hF hS => ?_)
  obtain ⟨V2, hG, hE2, hwo⟩ := hq
  generalize hHe2 : H1 = H at hG hS hF ⊢
  clear hHe2
  have hGT := hGT.fr hF (fun k hk z => by have hk5 : k < 5 := hk; have := z.2.1; have := hTT.1; omega)
  have hTT := ttS_F hTT hF (fun _ _ z => Or.inl z)
  have hbs := bsA_F hbs hF (fun q _ z => by have := z.1; omega) (fun _ => rfl)
  have hsa := strA_F hsa hF (fun q _ h z => by have h2 : H0.size ≤ q := h; have := z.2.1; omega)
  refine lv_aload_n hx hb dX3_name_32 rfl (lv_at hl 0 rfl) ?_
  refine W.widen (k := 4) (n := 40) (by show 0 + 4 ≤ 4; omega) (by show 0 + 40 ≤ 40; omega) ?_
  refine hend _ _ _ _ _ hS dX3_name_33 (Or.inr ⟨_, rfl⟩) ?_
  have hW : (if hasF (rNm r) (nmT tp t) (rN r) = true then woC wo 3 t else wo) = woC wo 3 t := if_pos (bN1 (by omega))
  exact ⟨some sa, rfl, sa, _, _, rfl, by omega, hG, ((hE1.mono PPs_PNu).trans (hE2.mono PWt_PNu)), hsa, ltT_p hg4, hlx7, hk1, hn1, ((hE2 9 3 rfl).trans hu1), by rw [hW]; exact hwo⟩
