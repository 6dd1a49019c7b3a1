def PRd (k j : Nat) : Bool := k == 1 || k == 9 || k == 5 || k == 6 || k == 7 || k == 8 || (k == 2 && j == 7)
theorem PPx_PRd : ∀ k j, PRd k j = false → PPx k j = false := by intro k j h; simp only [PPx, PRd, Bool.or_eq_false_iff, Bool.and_eq_false_iff, beq_eq_false_iff_ne, ne_eq] at *; omega
theorem PPs_PRd : ∀ k j, PRd k j = false → PPs k j = false := by intro k j h; simp only [PPs, PRd, Bool.or_eq_false_iff, Bool.and_eq_false_iff, beq_eq_false_iff_ne, ne_eq] at *; omega
theorem PPo_PRd : ∀ k j, PRd k j = false → PPo k j = false := by intro k j h; simp only [PPo, PRd, Bool.or_eq_false_iff, Bool.and_eq_false_iff, beq_eq_false_iff_ne, ne_eq] at *; omega
theorem PNu_PRd : ∀ k j, PRd k j = false → PNu k j = false := by intro k j h; simp only [PNu, PRd, Bool.or_eq_false_iff, Bool.and_eq_false_iff, beq_eq_false_iff_ne, ne_eq] at *; omega
theorem PFt_PRd : ∀ k j, PRd k j = false → PFt k j = false := by intro k j h; simp only [PFt, PRd, Bool.or_eq_false_iff, Bool.and_eq_false_iff, beq_eq_false_iff_ne, ne_eq] at *; omega
theorem PTm_PRd : ∀ k j, PRd k j = false → PTm k j = false := by intro k j h; simp only [PTm, PRd, Bool.or_eq_false_iff, Bool.and_eq_false_iff, beq_eq_false_iff_ne, ne_eq] at *; omega
theorem tt_0 {D : va_G} {dA : Nat → ClassId} {H : Heap} {o ed tx : Nat} {Rf : GR} (h1 : o + 522 ≤ tx) (hb : bsA D dA H o Rf ed) : ttS D dA H o ed tx ed (tx + 5) (fun _ _ => 0) (fun k _ => if k = 1 then some ed else none) rs0 := by
  obtain ⟨b1, b2, b3, b4, b5, b6, b7, b8, b9⟩ := hb
  exact ⟨⟨h1, Nat.le_refl _⟩, Nat.zero_le _, rfl, rfl, ⟨0, fun _ => none, b8, Or.inl ⟨rfl, rfl, rfl, b7⟩, Or.inl b7, fun k hk => absurd hk (Nat.not_lt_zero _)⟩, fun b hb => rfl, rfl, Nat.zero_le _, rfl, rfl, rfl, fun k hk => trivial⟩
theorem wt_0 {VT : GI} {bs : Nat → Nat} {wo : Fo} : wtS VT rs0 bs wo := ⟨fun i hi => absurd hi (Nat.not_lt_zero _), fun _ => ⟨fun k hk => absurd hk (Nat.not_lt_zero _), fun i hi => absurd hi (Nat.not_lt_zero _), fun b _ hne => absurd rfl hne⟩⟩
theorem tt_0at {D : va_G} {dA : Nat → ClassId} {H : Heap} {tx n : Nat} {VT : GI} {LT : GL} {RT : GR} (hGT : gP D dA tx dT VT LT RT H) (hc : VT 0 4 = nI n) : va_at D CL (tx, .inr (4, [.ref (tx + 1), .ref (tx + 2), .ref (tx + 3), .ref (tx + 4), .int (nI n), .int (VT 0 5), .int (VT 0 6), .int (VT 0 7)])) H := by
  have a0 : va_at D CL (tx, .inr (4, [.ref (tx + 1), .ref (tx + 2), .ref (tx + 3), .ref (tx + 4), .int (VT 0 4), .int (VT 0 5), .int (VT 0 6), .int (VT 0 7)])) H := hGT 0 _ rfl
  rw [hc] at a0
  exact a0
theorem rdX_0 {kd pl vl nm : Nat → Nat} : rdX kd pl vl nm = rdL kd pl vl nm 402 0 none none rs0 := by unfold rdX; rfl
theorem onX_s1 {tp : List Int32} {t t1 : Nat} {wo wo1 : Fo} {r r1 : Rs} {n : Nat} {RX : Nat × Fo × Fo × Rs} (hk : kdT tp t ≠ 0) (h : onX tp t wo r t1 wo1 r1) (hm : muP (kdT tp) (plT tp) 4 t1 none = (t1 + 1, none)) (hR : rdL (kdT tp) (plT tp) (vlT tp) (nmT tp) (n + 1) t none (woN tp wo) r = RX) : rdL (kdT tp) (plT tp) (vlT tp) (nmT tp) n (t1 + 1) none (woN tp wo1) r1 = RX := by
  have e := h.1 (by rw [hm])
  rw [hm] at e
  exact (rdL_1 hk e).symm.trans hR
theorem cw_X3_92 {R : Room} {s : State} {args : Array Value} (hts : ∀ w ∈ lw_all, w.before args s = true) {f w k j : Nat} (hR : f + 1 ≤ R.frames ∧ 8 + (7 + 11) + w ≤ R.locals) : CallW R s args RX3 RX2 92 yX2_read cX2_read 7 none (ws_ yX2_read cX2_read 7 none) (mkRmC f w k j) k j 0 := cwV 0 hts (lw_V q622 q623 q624 q113 q625) rfl rfl rfl (by decide +kernel) hR
theorem cw_X3_106 {R : Room} {s : State} {args : Array Value} (hts : ∀ w ∈ lw_all, w.before args s = true) {f w k j : Nat} (hR : f + 1 ≤ R.frames ∧ 8 + (2 + 11) + w ≤ R.locals) : CallW R s args RX3 RX4 106 yX4_isWhole cX4_isWhole 2 (some .boolean) (ws_ yX4_isWhole cX4_isWhole 2 (some .boolean)) (mkRmC f w k j) k j 0 := cwV 0 hts (lw_V q1094 q1095 q1096 q115 q1097) rfl rfl rfl (by decide +kernel) hR
theorem cw_X3_99 {R : Room} {s : State} {args : Array Value} (hts : ∀ w ∈ lw_all, w.before args s = true) {f w k j : Nat} (hR : f + 1 ≤ R.frames ∧ 8 + (4 + 11) + w ≤ R.locals) : CallW R s args RX3 RX3 99 yX3_told cX3_told 4 none (ws_ yX3_told cX3_told 4 none) (mkRmC f w k j) k j 0 := cwV 0 hts (lw_V q714 q716 qs11 q114 q717) rfl rfl rfl (by decide +kernel) hR
set_option maxHeartbeats 4000000 in
theorem met_X3_read (l : Launch) (D : va_G) (dA : Nat → ClassId) {o : Nat} {V : GI} {L : GL} {Rf : GR} {H0 : Heap} (hG : gP D dA o dS V L Rf H0) {tp : List Int32} (htp : tpP V tp) (hby : byT tp) {ed : Nat} (hbs : bsA D dA H0 o Rf ed) : CtrX l D dA yX3_read cX3_read 1 (some (.object "PartedSide$Text")) (mkRmC 46 1100 2900 26000) [.ref (o + 9)] H0 (AN o H0.size) (QR (fun r1 H1 => ∃ tx V1 Rf1, r1 = some tx ∧ gP D dA o dS V1 L Rf1 H1 ∧ Eqx PRd V V1 ∧ (∀ k j, k ≠ 9 → Rf1 k j = Rf k j) ∧ (rdF (kdT tp) (plT tp) (vlT tp) (nmT tp)) = none ∧ txA D dA H1 (NS o) tx (txR (rdT (kdT tp) (plT tp) (vlT tp) (nmT tp))) ∧ slpA D dA H1 (NS o) tx (txR (rdT (kdT tp) (plT tp) (vlT tp) (nmT tp))))) (fun q H1 => okR D dA o PRd V L Rf (rdF (kdT tp) (plT tp) (vlT tp) (nmT tp)) q H1) := by
  have hlo := gP_sz hG
  have ht2 := htp.1
  refine ctrX_R (by decide) (Nat.le_of_ble_eq_true rfl) (Or.inl ⟨_, rfl⟩) ?_
  intro p e s m args below meth c ls QQ locs hx hb hml hown hts hK hend hthr hS hl
  have hl : lv_has ls 1 [(0, .ref (o + 9))] := hl
  have hthrW : ∀ {pc : Nat} {ls : Array Slot} {rs : List Value} {H : Heap} {locs : List Loc} {q k n : Nat}, k ≤ 2900 → n ≤ 26000 → va_S (AN o H0.size) H0 H locs → fltA D H q → (fun q H1 => okR D dA o PRd V L Rf (rdF (kdT tp) (plT tp) (vlT tp) (nmT tp)) q H1) q H → xq_W p l e (mkRmC 46 1100 2900 26000) s m args below meth c H locs k n QQ (F0 m pc ls rs) q := fun h1 h2 hS hf hq => xq_widen h1 h2 (hthr _ _ _ _ _ _  hS hf hq)
  refine lv_aload_n hx hb dX3_read_0 rfl (lv_at hl 0 rfl) ?_
  refine g_get hx hb hts hown hK hG 9 rfl rfl ok_X3 0 (by decide) q294 rfl rfl dX3_read_1 ?_
  refine c_VV hx hb hml hts hown hK hl.1 hS ⟨by show 0 ≤ 2900; omega, by show 0 ≤ 26000; omega⟩ (met_X2_read l D dA hG htp hby hbs) (cw_X3_92 hts ⟨by show _ ≤ 46; omega, by show _ ≤ 1100; omega⟩) (hG 2 _ rfl) rfl rfl rfl rfl (Nat.le_of_ble_eq_true rfl) dX3_read_4 (fun _ h => Or.inl h) (fun H1 locs hq hF hS => ?_)
  obtain ⟨V1, m0, hG, hE1, hPS⟩ := hq
  generalize hHe1 : H1 = H at hG hS hF ⊢
  clear hHe1
  have hbs := bsA_F hbs hF (fun q _ z => by have := z.1; omega) (fun _ => rfl)
  refine lv_aload_n hx hb dX3_read_7 rfl (lv_at hl 0 rfl) ?_
  have hsz0 := hS.1
  have hlo2 := gP_sz hG
  obtain ⟨na2, hna2⟩ : ∃ x, H.size = x := ⟨_, rfl⟩
  have hnl2 : H0.size ≤ na2 := by have := hS.1; omega
  refine x_new hx hb hts hown hK (ci := 4) (fs := [.null, .null, .null, .null, .int 0, .int 0, .int 0, .int 0]) rfl ok_X4 q696 q317 q115 (by intro j hj; match j, hj with | 0, _ => rfl | 1, _ => rfl | 2, _ => rfl | 3, _ => rfl | 4, _ => rfl | 5, _ => rfl | 6, _ => rfl | 7, _ => rfl) hS (by show 0 + 1 ≤ 2900; omega) (by show 0 + 8 ≤ 26000; omega) dX3_read_8 hna2 (fun H hat2 hz2 hF hS => ?_)
  have hG := hG.fr hF (fun _ _ z => z)
  have hbs := bsA_F hbs hF (fun _ _ z => z.elim) (fun _ => rfl)
  refine lv_dup hx hb dX3_read_11 rfl ?_
  refine c_IN (host := "PartedSide") (rm := (mkRmC 4 140 4 25)) hx hb hml hts hown hK hl.1 hS (met_X4_init l D dA hat2 hz2 hbs.2.2.2.2.1 (by have := hbs.2.2.2.2.2.1; omega)) ⟨va_cnB 0 hts (lw_meth q320) rfl rfl rfl (hK.2.1 _ q697 rfl) (hts _ q115) (by decide +kernel) ⟨by show 4 + 1 ≤ 46; omega, by show 8 + (1 + 11) + 140 ≤ 1100; omega⟩, rfl, hts _ q319⟩ rfl rfl (Nat.le_of_ble_eq_true rfl) dX3_read_12 (fun q hq => Or.inr (by have z : na2 ≤ q := hq; omega)) ⟨by show 0 + 1 + 4 ≤ 2900; omega, by show 0 + 8 + 25 ≤ 26000; omega⟩ (fun H locs hq hF hS => ?_)
  obtain ⟨hGT, hzt⟩ := hq
  have hG := hG.fr hF (fun k hk z => by rw [dS_len] at hk; have z2 : na2 ≤ o + k := z; omega)
  have hbs := bsA_F hbs hF (fun q _ z => by have z2 : na2 ≤ q := z; omega) (fun _ => rfl)
  generalize hnae : na2 = tx at *
  have hTT := tt_0 (tx := tx) (by omega) hbs
  refine g_putR hx hb hts hown hK hG hS 9 (Or.inl (AS_in 9 (by decide))) rfl rfl ok_X3 2 (by decide) q296 rfl (Or.inl rfl) rfl rfl dX3_read_15 (fun H locs hG hO hS => ?_)
  have hGT := hGT.on hO (fun j hj => by first | (rw [dS_len] at hj; omega) | (have hj4 : j < 5 := hj; omega))
  have hF := hO.fr (A := AS o) (AS_in 9 (by decide))
  have hTT := ttS_F hTT hF (fun _ _ z => Or.inl z)
  have hbs := bsA_F hbs hF (fun q _ z => by have := z.1; omega) (fun _ => rfl)
  obtain ⟨Rf1, hRf1⟩ : ∃ x, x = up2 Rf 9 2 (some tx) := ⟨_, rfl⟩
  rw [← hRf1] at hG
  have hrt : Rf1 9 2 = some tx := by rw [hRf1]; exact up2_s
  have hrk : ∀ k j, k ≠ 9 → Rf1 k j = Rf k j := fun k j hk => by rw [hRf1]; exact up2_n (fun z => hk z.1)
  have hbs := bsA_F (Rf1 := Rf1) hbs (A := A0) ⟨Nat.le_refl _, fun _ _ _ => rfl⟩ (fun _ _ z => z.elim) (fun w9 => hrk 3 w9 (by decide))
  refine lv_aload_n hx hb dX3_read_18 rfl (lv_at hl 0 rfl) ?_
  refine lv_iconst (v := (nI 0)) hx hb dX3_read_19 (by decide) ?_
  refine g_put hx hb hts hown hK hG hS 9 (Or.inl (AS_in 9 (by decide))) rfl rfl ok_X3 3 (by decide) q297 rfl rfl rfl rfl dX3_read_20 (fun H locs hG hO hS => ?_)
  have hGT := hGT.on hO (fun j hj => by first | (rw [dS_len] at hj; omega) | (have hj4 : j < 5 := hj; omega))
  have hF := hO.fr (A := AS o) (AS_in 9 (by decide))
  have hTT := ttS_F hTT hF (fun _ _ z => Or.inl z)
  have hbs := bsA_F hbs hF (fun q _ z => by have := z.1; omega) (fun _ => rfl)
  refine lv_aload_n hx hb dX3_read_23 rfl (lv_at hl 0 rfl) ?_
  refine lv_iconst (v := (nI 0)) hx hb dX3_read_24 (by decide) ?_
  refine g_put hx hb hts hown hK hG hS 9 (Or.inl (AS_in 9 (by decide))) rfl rfl ok_X3 4 (by decide) q298 rfl rfl rfl rfl dX3_read_25 (fun H locs hG hO hS => ?_)
  have hGT := hGT.on hO (fun j hj => by first | (rw [dS_len] at hj; omega) | (have hj4 : j < 5 := hj; omega))
  have hF := hO.fr (A := AS o) (AS_in 9 (by decide))
  have hTT := ttS_F hTT hF (fun _ _ z => Or.inl z)
  have hbs := bsA_F hbs hF (fun q _ z => by have := z.1; omega) (fun _ => rfl)
  refine lv_aload_n hx hb dX3_read_28 rfl (lv_at hl 0 rfl) ?_
  refine lv_iconst (v := (nI 0)) hx hb dX3_read_29 (by decide) ?_
  refine g_put hx hb hts hown hK hG hS 9 (Or.inl (AS_in 9 (by decide))) rfl rfl ok_X3 5 (by decide) q299 rfl rfl rfl rfl dX3_read_30 (fun H locs hG hO hS => ?_)
  have hGT := hGT.on hO (fun j hj => by first | (rw [dS_len] at hj; omega) | (have hj4 : j < 5 := hj; omega))
  have hF := hO.fr (A := AS o) (AS_in 9 (by decide))
  have hTT := ttS_F hTT hF (fun _ _ z => Or.inl z)
  have hbs := bsA_F hbs hF (fun q _ z => by have := z.1; omega) (fun _ => rfl)
  refine W.widen (k := (5 + 6 * 0)) (n := (33 + 60 * 0)) (by show 0 + 1 + 4 ≤ _; omega) (by show 0 + 8 + 25 ≤ _; omega) ?_
  obtain ⟨RX, hRX0⟩ : ∃ x, rdX (kdT tp) (plT tp) (vlT tp) (nmT tp) = x := ⟨_, rfl⟩
  have hPS0 := psC_E (V1 := up2 (up2 (up2 V1 9 3 (nI 0)) 9 4 (nI 0)) 9 5 (nI 0)) hPS (((Eqx.rf.up rfl).up rfl).up rfl) PPx_ps
  have hkl2 := hPS.hm9
  have hm00 := hPS.2.2.2.1
  have loop3 : ∀ (fu3 : Nat) (nu : Nat) (t : Nat) (ea : Nat) (hi : Nat) (r : Rs) (bs : Nat → Nat) (wo : Fo) (VT : GI) (RT : GR) (VL : GI) (H : Heap) (locs : List Loc) (ls : Array Slot), nu < fu3 → (rdL (kdT tp) (plT tp) (vlT tp) (nmT tp) nu t none (woN tp wo) r = RX) → (402 ≤ nu + t) → (t ≤ 400) → (t < m0) → (∀ x, wo = some x → x.2 < t) → (wtS VT r bs wo) → (Eqx PRd (up2 (up2 (up2 V1 9 3 (nI 0)) 9 4 (nI 0)) 9 5 (nI 0)) VL) → (VL 9 3 = nI t) → (VL 9 4 = nI (6 - 6)) → (woK VL wo) → (psC VL tp m0) → (gP D dA tx dT VT (fun _ _ => 0) RT H) → (ttS D dA H o ed tx ea hi VT RT r) → (bsA D dA H o Rf1 ed) → gP D dA o dS VL L Rf1 H → va_S (AN o H0.size) H0 H locs → lv_has ls 1 [(0, .ref (o + 9))] → W p l e (mkRmC 46 1100 2900 26000) s m args below meth c H locs (5 + 6 * t) (33 + 60 * t) QQ (F0 m 33 ls []) := by
    intro fu3
    induction fu3 with
    | zero => intro nu t ea hi r bs wo VT RT VL H locs ls hfu; exact absurd hfu (Nat.not_lt_zero _)
    | succ fu3 ih3 =>
      intro nu t ea hi r bs wo VT RT VL H locs ls hfu hRX hnu ht4 htm hwl hwt hEL hu ho hwo hPS hGT hTT hbs hG hS hl
      obtain ⟨n1, rfl⟩ : ∃ x, nu = x + 1 := ⟨nu - 1, by omega⟩
      have hsrm := srK_c (kdT tp t)
      refine lv_aload_n hx hb dX3_read_33 rfl (lv_at hl 0 rfl) ?_
      refine c_VXI hx hb hml hts hown hK hl.1 hS ⟨by show (5 + 6 * t) ≤ 2900; omega, by show (33 + 60 * t) ≤ 26000; omega⟩ (met_X3_sort l D dA hG (psC_E (V1 := VL) hPS Eqx.rf PPx_ps).hm (psC_E (V1 := VL) hPS Eqx.rf PPx_ps).hm9 (psC_E (V1 := VL) hPS Eqx.rf PPx_ps).hbF hu htm ht4) (cw_X3_65 hts ⟨by show _ ≤ 46; omega, by show _ ≤ 1100; omega⟩) (hG 9 _ rfl) rfl rfl rfl rfl (Nat.le_of_ble_eq_true rfl) dX3_read_34 (fun _ h => Or.inl h) (fun q H1 locs hq hF hS => hthrW (by show (5 + 6 * t) ≤ 2900; omega) (by show (33 + 60 * t) ≤ 26000; omega) hS (okX_flt hq.1) (okR_of hq.1 (((((hE1.mono PTm_PRd).up rfl).up rfl).up rfl).trans hEL) PPx_PRd hrk (fun q9 h9 => rdG_f hRX0 (by have h5 : srK (kdT tp t) = 5 := hq.2; have hs := srK_c (kdT tp t); have e8 : kdT tp t < 20 := (by omega); have e9 := on_x (kd := kdT tp) (pl := plT tp) (vl := vlT tp) (nm := nmT tp) (t := t) (wo := woN tp wo) (r := r) (Or.inl e8); rw [← hRX]; exact rdL_f (by omega) ((congrArg (fun x => x.2.1) e9).trans h9))))) (fun r H1 locs hq hF hS => ?_)
      obtain ⟨rfl, rfl, hn5_4⟩ := hq
      have hk3_4 : kdT tp t ≠ 3 := fun z => hn5_4 (show srK (kdT tp t) = 5 by rw [z]; rfl)
      have hsr4 := srK_c (kdT tp t)
      refine iv (y := nI (srK (kdT tp t))) rfl ?_
      refine lv_iconst (v := (nI 4)) hx hb dX3_read_37 (by decide) ?_
      refine n_icmp_eq (tgt := 54) hx hb dX3_read_38 (by decide) (by omega) (by omega) (fun c38 => ?_) (fun c38 => ?_)
      · have hk0 : kdT tp t = 0 := by omega
        have hRXe : RX = (t, none, woN tp wo, r) := by rw [← hRX]; exact rdL_0 (fun z => z.2 hk0)
        have hcn : VT 0 4 = nI (rCn r) := hTT.2.2.2.2.2.2.1
        have hcn9 : rCn r ≤ 9 := hTT.2.2.2.2.2.2.2.1
        have hrn9 : rN r ≤ 9 := hTT.2.1
        rcases wo with _ | ⟨a, b⟩
        · refine lv_aload_n hx hb dX3_read_54 rfl (lv_at hl 0 rfl) ?_
          refine g_get (v := .int (nI 0)) hx hb hts hown hK hG 9 rfl rfl ok_X3 5 (by decide) q299 rfl (congrArg Value.int hwo) dX3_read_55 ?_
          refine n_if_eq (tgt := 74) hx hb dX3_read_58 (by decide) (by omega) (fun c58 => ?_) (fun c58 => ?_)
          · refine lv_aload_n hx hb dX3_read_74 rfl (lv_at hl 0 rfl) ?_
            refine g_get (v := .ref tx) hx hb hts hown hK hG 9 rfl rfl ok_X3 2 (by decide) q296 rfl (congrArg va_rf hrt) dX3_read_75 ?_
            refine c_VI hx hb hml hts hown hK hl.1 hS ⟨by show (5 + 6 * t) ≤ 2900; omega, by show (33 + 60 * t) ≤ 26000; omega⟩ (met_X4_isWhole l D dA (tt_0at hGT hcn) (tt_al hGT hTT.2.2.1 hTT.2.2.2.1) (hGT 4 _ rfl) hcn9 hrn9 hwt.1) (cw_X3_106 hts ⟨by show _ ≤ 46; omega, by show _ ≤ 1100; omega⟩) (hGT 0 _ rfl) rfl rfl rfl rfl (Nat.le_of_ble_eq_true rfl) dX3_read_78 (fun _ h => h.elim) (fun r H1 locs hq hF hS => ?_)
            obtain ⟨rfl, rfl⟩ := hq
            have hbw := bN_lt (wlF bs (rN r) (rCn r))
            refine n_if_ne (tgt := 95) hx hb dX3_read_81 (by decide) (by omega) (fun c81 => ?_) (fun c81 => ?_)
            · refine lv_aload_n hx hb dX3_read_95 rfl (lv_at hl 0 rfl) ?_
              refine g_get (v := .ref tx) hx hb hts hown hK hG 9 rfl rfl ok_X3 2 (by decide) q296 rfl (congrArg va_rf hrt) dX3_read_96 ?_
              refine W.widen (k := 2900) (n := 26000) (by show (5 + 6 * t) ≤ 2900; omega) (by show (33 + 60 * t) ≤ 26000; omega) ?_
              refine hend _ _ _ _ _ hS dX3_read_99 (Or.inr ⟨_, rfl⟩) ?_
              have hF9 : (rdF (kdT tp) (plT tp) (vlT tp) (nmT tp)) = none := by rw [rdG_n hRX0 (by rw [hRXe]), hRXe]; show (if abA (rHc r) (rN r) = true then woN tp none else some (6, plT tp t)) = none; rw [if_pos (by rw [← wl_ab hwt]; exact bN1 (by omega))]; rfl
              have hT9 : (rdT (kdT tp) (plT tp) (vlT tp) (nmT tp)) = r := by show (rdX (kdT tp) (plT tp) (vlT tp) (nmT tp)).2.2.2 = r; rw [hRX0, hRXe]
              rw [hT9]
              exact ⟨some tx, rfl, tx, _, Rf1, rfl, hG, (((((hE1.mono PTm_PRd).up rfl).up rfl).up rfl).trans hEL), hrk, hF9, tt_txA hGT hTT, tt_slpA hGT hTT (hwt.2 rfl).1⟩
            refine lv_aload_n hx hb dX3_read_84 rfl (lv_at hl 0 rfl) ?_
            refine lv_bipush (v := (nI 6)) hx hb dX3_read_85 (by decide) ?_
            refine lv_aload_n hx hb dX3_read_87 rfl (lv_at hl 0 rfl) ?_
            refine g_get (v := .int (nI t)) hx hb hts hown hK hG 9 rfl rfl ok_X3 3 (by decide) q297 rfl (congrArg Value.int hu) dX3_read_88 ?_
            refine c_VR hx hb hml hts hown hK hl.1 hS ⟨by show (5 + 6 * t) ≤ 2900; omega, by show (33 + 60 * t) ≤ 26000; omega⟩ (met_X3_wrongAt l D dA hG (psC_E (V1 := VL) hPS Eqx.rf PPx_ps).hm (psC_E (V1 := VL) hPS Eqx.rf PPx_ps).hm9 (nI 6) (q := t) (by omega)) (cw_X3_35 hts ⟨by show _ ≤ 46; omega, by show _ ≤ 1100; omega⟩) (hG 9 _ rfl) rfl rfl rfl rfl (Nat.le_of_ble_eq_true rfl) dX3_read_91 (fun _ h => Or.inl h) (fun r H1 locs hq hF hS => ?_)
            obtain ⟨rfl, V5, hG, hE5, h6_5, h7_5⟩ := hq
            generalize hHe5 : H1 = H at hG hS hF ⊢
            clear hHe5
            refine xq_athrow hx hb dX3_read_94 ?_
            exact hthrW (by show (5 + 6 * t) ≤ 2900; omega) (by show (33 + 60 * t) ≤ 26000; omega) hS ⟨_, hG 1 _ rfl⟩ ⟨rfl, _, _, hG, ((((((hE1.mono PTm_PRd).up rfl).up rfl).up rfl).trans hEL).trans (hE5.mono PFt_PRd)), hrk, _, _, (by rw [rdG_n hRX0 (by rw [hRXe]), hRXe]; show (if abA (rHc r) (rN r) = true then woN tp none else some (6, plT tp t)) = some (6, plT tp t); rw [if_neg (by rw [← wl_ab hwt]; exact bN0 (by omega))]), h6_5, h7_5⟩
          exact absurd c58 (Nat.lt_irrefl 0)
        have hwo0 := hwo
        obtain ⟨hw1, hw2, hw3, hw4, hw5⟩ := hwo0
        have hwb : b < t := hwl (a, b) rfl
        refine lv_aload_n hx hb dX3_read_54 rfl (lv_at hl 0 rfl) ?_
        refine g_get (v := .int (nI a)) hx hb hts hown hK hG 9 rfl rfl ok_X3 5 (by decide) q299 rfl (congrArg Value.int hw1) dX3_read_55 ?_
        refine n_if_eq (tgt := 74) hx hb dX3_read_58 (by decide) (by omega) (fun c58 => ?_) (fun c58 => ?_)
        · exact absurd c58 (by omega)
        refine lv_aload_n hx hb dX3_read_61 rfl (lv_at hl 0 rfl) ?_
        refine lv_aload_n hx hb dX3_read_62 rfl (lv_at hl 0 rfl) ?_
        refine g_get (v := .int (nI a)) hx hb hts hown hK hG 9 rfl rfl ok_X3 5 (by decide) q299 rfl (congrArg Value.int hw1) dX3_read_63 ?_
        refine lv_aload_n hx hb dX3_read_66 rfl (lv_at hl 0 rfl) ?_
        refine g_get (v := .int (nI b)) hx hb hts hown hK hG 9 rfl rfl ok_X3 6 (by decide) q300 rfl (congrArg Value.int hw2) dX3_read_67 ?_
        refine c_VR hx hb hml hts hown hK hl.1 hS ⟨by show (5 + 6 * t) ≤ 2900; omega, by show (33 + 60 * t) ≤ 26000; omega⟩ (met_X3_wrongAt l D dA hG (psC_E (V1 := VL) hPS Eqx.rf PPx_ps).hm (psC_E (V1 := VL) hPS Eqx.rf PPx_ps).hm9 (nI a) (q := b) (by omega)) (cw_X3_35 hts ⟨by show _ ≤ 46; omega, by show _ ≤ 1100; omega⟩) (hG 9 _ rfl) rfl rfl rfl rfl (Nat.le_of_ble_eq_true rfl) dX3_read_70 (fun _ h => Or.inl h) (fun r H1 locs hq hF hS => ?_)
        obtain ⟨rfl, V6, hG, hE6, h6_6, h7_6⟩ := hq
        generalize hHe6 : H1 = H at hG hS hF ⊢
        clear hHe6
        refine xq_athrow hx hb dX3_read_73 ?_
        exact hthrW (by show (5 + 6 * t) ≤ 2900; omega) (by show (33 + 60 * t) ≤ 26000; omega) hS ⟨_, hG 1 _ rfl⟩ ⟨rfl, _, _, hG, ((((((hE1.mono PTm_PRd).up rfl).up rfl).up rfl).trans hEL).trans (hE6.mono PFt_PRd)), hrk, _, _, (by rw [rdG_n hRX0 (by rw [hRXe]), hRXe]; have hpl := psC.plm hPS t hwb htm; show (if abA (rHc r) (rN r) = true then some (a, plT tp b) else if plT tp b < plT tp t ∨ (plT tp t = plT tp b ∧ a ≤ 6) then some (a, plT tp b) else some (6, plT tp t)) = some (a, plT tp b); rw [if_pos (Or.inl hpl), ite_self]), h6_6, h7_6⟩
      have hk0 : kdT tp t ≠ 0 := by omega
      refine lv_aload_n hx hb dX3_read_41 rfl (lv_at hl 0 rfl) ?_
      obtain ⟨kt, hkt⟩ : ∃ x, x = (if (onP (kdT tp) (plT tp) (vlT tp) (nmT tp) t (woN tp wo) r).2.1 = none then 6 * ((onP (kdT tp) (plT tp) (vlT tp) (nmT tp) t (woN tp wo) r).1 - t) else 410) := ⟨_, rfl⟩
      obtain ⟨jt, hjt⟩ : ∃ x, x = (if (onP (kdT tp) (plT tp) (vlT tp) (nmT tp) t (woN tp wo) r).2.1 = none then 60 * ((onP (kdT tp) (plT tp) (vlT tp) (nmT tp) t (woN tp wo) r).1 - t) else 1300) := ⟨_, rfl⟩
      have hkb : kt ≤ 2410 ∧ jt ≤ 24000 + 1300 ∧ 6 * t + kt ≤ 2810 ∧ 60 * t + jt ≤ 25300 := by
        by_cases ok : (onP (kdT tp) (plT tp) (vlT tp) (nmT tp) t (woN tp wo) r).2.1 = none
        · have h4 := on_le ht4 ok
          rw [if_pos ok] at hkt hjt
          omega
        · rw [if_neg ok] at hkt hjt
          omega
      have hszt := hS.1
      have htxl := hGT.lt (k := 4) (by decide)
      refine c_VXVA (rm := mkRmC 44 1000 kt jt) hx hb hml hts hown hK hl.1 hS (met_X3_told l D dA hG (psC_E (V1 := VL) hPS Eqx.rf PPx_ps) hu htm ht4 hwo hbs hGT hTT hrt hwt hwl ho (fun ok => by rw [if_pos ok] at hkt hjt; omega) (fun ok => by rw [if_neg ok] at hkt hjt; omega)) (cw_X3_99 hts ⟨by show _ ≤ 46; omega, by show _ ≤ 1100; omega⟩) (hG 9 _ rfl) rfl rfl rfl rfl (Nat.le_of_ble_eq_true rfl) dX3_read_42 (fun q h => by rcases h with h | h; exact Or.inl h; exact Or.inr (by omega)) ⟨by show (5 + 6 * t) + kt ≤ 2900; omega, by show (33 + 60 * t) + jt ≤ 26000; omega⟩ (fun q H1 locs hq hF hS => xq_widen (k := 2900) (n := 26000) (by show (5 + 6 * t) + kt ≤ 2900; omega) (by show (33 + 60 * t) + jt ≤ 26000; omega) (hthr _ _ _ _ _ _  hS (okX_flt hq) (okR_of hq (((((hE1.mono PTm_PRd).up rfl).up rfl).up rfl).trans hEL) PPx_PRd hrk (fun q9 h9 => rdG_f hRX0 (by rw [← hRX]; exact rdL_f hk0 h9))))) (fun H locs hq hF hS => ?_)
      obtain ⟨V7, t1, wo1, VT1, RT1, ea1, r1, bs1, hG, hE7, hu7, hop1, htt1, ht14, ht1m, hwo, hwl1, hGT, hTT, hwt1, hox⟩ := hq
      have hbs := bsA_F hbs hF (fun q _ z => by rcases z with z | z; (have := z.1; omega); omega) (fun _ => rfl)
      obtain ⟨hi1, hhi1⟩ : ∃ x, H.size = x := ⟨_, rfl⟩
      rw [hhi1] at hTT
      refine lv_aload_n hx hb dX3_read_45 rfl (lv_at hl 0 rfl) ?_
      refine lv_bipush (v := (nI 59)) hx hb dX3_read_46 (by decide) ?_
      refine c_VXV hx hb hml hts hown hK hl.1 hS ⟨by show (5 + 6 * t) + kt ≤ 2900; omega, by show (33 + 60 * t) + jt ≤ 26000; omega⟩ (met_X3_sign l D dA hG (psC_E (V1 := V7) hPS hE7 PPx_ps).hm (psC_E (V1 := V7) hPS hE7 PPx_ps).hm9 (psC_E (V1 := V7) hPS hE7 PPx_ps).hbF hu7 ht1m ht14 59 (by omega)) (cw_X3_102 hts ⟨by show _ ≤ 46; omega, by show _ ≤ 1100; omega⟩) (hG 9 _ rfl) rfl rfl rfl rfl (Nat.le_of_ble_eq_true rfl) dX3_read_48 (fun _ h => Or.inl h) (fun q H1 locs hq hF hS => hthrW (by show (5 + 6 * t) + kt ≤ 2900; omega) (by show (33 + 60 * t) + jt ≤ 26000; omega) hS (okX_flt hq) (okR_of hq ((((((hE1.mono PTm_PRd).up rfl).up rfl).up rfl).trans hEL).trans (hE7.mono PPx_PRd)) PPx_PRd hrk (fun q9 h9 => rdG_f hRX0 (by rw [mu_sg (tp := tp) (t := t1) (y := 59) (K := 4) rfl (by decide)] at h9; rw [← hRX]; exact rdL_f hk0 (hox.2 _ h9))))) (fun H1 locs hq hF hS => ?_)
      obtain ⟨V8, hG, hE8, ho8, ht8⟩ := hq
      generalize hHe8 : H1 = H at hG hS hF ⊢
      clear hHe8
      rw [mu_sg (tp := tp) (t := t1) (y := 59) (K := 4) rfl (by decide)] at ho8 ht8
      obtain ⟨hmk8, hmn8, hme8⟩ := mu_ok ho8
      rw [hme8] at ht8
      have hu8 : V8 9 3 = nI (t1 + 1) := ht8
      have hGT := hGT.fr hF (fun k hk z => by have hk5 : k < 5 := hk; have := z.2.1; have := hTT.1; omega)
      have hTT := ttS_F hTT hF (fun _ _ z => Or.inl z)
      have hbs := bsA_F hbs hF (fun q _ z => by have := z.1; omega) (fun _ => rfl)
      have htm8 : t1 + 1 < m0 := hPS.next ht1m (by omega) (by omega)
      refine lv_goto (tgt := 33) hx hb dX3_read_51 (by decide) ?_
      have hkv : kt = 6 * (t1 + 1 - t) ∧ jt = 60 * (t1 + 1 - t) := by
        have e9 := hox.1 (by rw [hme8])
        rw [hme8] at e9
        rw [hkt, hjt, e9]
        exact ⟨if_pos rfl, if_pos rfl⟩
      refine W.widen (k := (5 + 6 * (t1 + 1))) (n := (33 + 60 * (t1 + 1))) (by show (5 + 6 * t) + kt ≤ _; omega) (by show (33 + 60 * t) + jt ≤ _; omega) ?_
      exact ih3 n1 (t1 + 1) ea1 hi1 r1 bs1 wo1 VT1 RT1 V8 _ _ _ (by omega) (onX_s1 hk0 hox hme8 hRX) (by omega) (by omega) htm8 (lt_up hwl1 (by omega)) hwt1 (Eqx.trans (Eqx.trans hEL (hE7.mono PPx_PRd)) (hE8.mono PPs_PRd)) hu8 ((hE8 9 4 rfl).trans hop1) (woK_E hwo hE8 rfl rfl) (psC_E (V1 := V8) hPS (hE7.trans (hE8.mono PPs_PPx)) PPx_ps) hGT hTT hbs hG hS (lv_sub hl [0] rfl)
  exact loop3 (402 + 1) 402 0 ed (tx + 5) rs0 (fun _ => 0) none (fun _ _ => 0) (fun k _ => if k = 1 then some ed else none) (up2 (up2 (up2 V1 9 3 (nI 0)) 9 4 (nI 0)) 9 5 (nI 0)) _ _ _ (Nat.lt_succ_self _) (rdX_0.symm.trans hRX0) (by omega) (by omega) hm00 (fun x hx => nomatch hx) wt_0 Eqx.rf rfl rfl rfl hPS0 hGT hTT hbs hG hS (lv_sub hl [0] rfl)
