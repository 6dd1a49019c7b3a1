theorem PNu_PPx : ∀ k j, PPx k j = false → PNu k j = false := by intro k j h; simp only [PNu, PPx, Bool.or_eq_false_iff, Bool.and_eq_false_iff, beq_eq_false_iff_ne, ne_eq] at *; omega
theorem onX_s {V : GI} {tp : List Int32} {m t : Nat} {wo : Fo} {r : Rs} (hPS : psC V tp m) (hw : ∀ x, wo = some x → x.2 < t) (hm : t + 3 < m) (h20 : kdT tp t = 20) (hr : rmP (plT tp) (rN r) 9 t = (t + 1, none)) (h1 : muP (kdT tp) (plT tp) 1 (t + 1) none = (t + 1 + 1, none)) (k2 : kdT tp (t + 1 + 1) = 2) (n2 : t + 1 + 1 ≠ 400) (k3 : kdT tp (t + 1 + 1 + 1) = 2) (n3 : t + 1 + 1 + 1 ≠ 400) : onX tp t wo r (t + 1 + 1 + 1 + 1) (nuW tp (nuW tp (if hasF (rNm r) (nmT tp (t + 1)) (rN r) = true then woC wo 3 (t + 1) else wo) 0 1 (t + 1 + 1)) 0 9 (t + 1 + 1 + 1)) (slR r (nmT tp (t + 1)) (vlT tp (t + 1 + 1)) (vlT tp (t + 1 + 1 + 1))) := by
  apply onX_of
  rw [on_s h20 hr, sl_ok h1 ((bdP_2 k2).trans (goC_n n2)) ((bdP_2 k3).trans (goC_n n3)) k2 k3, smW_has]
  have hw0 : ∀ x, wo = some x → x.2 < m := fun x hx => by have := hw x hx; omega
  have e1 : (if hasF (rNm r) (nmT tp (t + 1)) (rN r) = true then woP none (woN tp wo) 3 (plT tp (t + 1)) else woN tp wo) = woN tp (if hasF (rNm r) (nmT tp (t + 1)) (rN r) = true then woC wo 3 (t + 1) else wo) := by
    by_cases c : hasF (rNm r) (nmT tp (t + 1)) (rN r) = true
    · rw [if_pos c, if_pos c, wo_P hPS hw0 (by omega)]
    · rw [if_neg c, if_neg c]
  have hw1 : ∀ x, (if hasF (rNm r) (nmT tp (t + 1)) (rN r) = true then woC wo 3 (t + 1) else wo) = some x → x.2 < m := by
    split
    · exact woC_lt hw0 (by omega)
    · exact hw0
  rw [e1, nu_W hPS hw1 (by omega) k2, nu_W hPS (nuW_lt hw1 (by omega)) (by omega) k3]
theorem onX_c {V : GI} {tp : List Int32} {m t : Nat} {wo : Fo} {r : Rs} (hPS : psC V tp m) (hw : ∀ x, wo = some x → x.2 < t) (hm : t + 2 < m) (h21 : kdT tp t = 21) (hr : rmP (plT tp) (rCn r) 9 t = (t + 1, none)) (k2 : kdT tp (t + 1) = 2) (n2 : t + 1 ≠ 400) (k3 : kdT tp (t + 1 + 1) = 2) (n3 : t + 1 + 1 ≠ 400) : onX tp t wo r (t + 1 + 1 + 1) (nuW tp (nuW tp wo 0 8 (t + 1)) 0 99 (t + 1 + 1)) (clR r (vlT tp (t + 1)) (vlT tp (t + 1 + 1))) := by
  apply onX_of
  rw [on_c h21 hr, cl_ok ((bdP_2 k2).trans (goC_n n2)) ((bdP_2 k3).trans (goC_n n3)) k2 k3]
  have hw0 : ∀ x, wo = some x → x.2 < m := fun x hx => by have := hw x hx; omega
  rw [nu_W hPS hw0 (by omega) k2, nu_W hPS (nuW_lt hw0 (by omega)) (by omega) k3]
theorem onX_t {V : GI} {tp : List Int32} {m t : Nat} {wo : Fo} {r : Rs} (hPS : psC V tp m) (hw : ∀ x, wo = some x → x.2 < t) (hm : t + 1 < m) (h26 : 26 ≤ kdT tp t ∧ kdT tp t ≤ 28) (n1 : t ≠ 400) (k2 : kdT tp (t + 1) = 2) (n2 : t + 1 ≠ 400) : onX tp t wo r (t + 1 + 1) (nuW tp wo 0 (tiH (kdT tp t)) (t + 1)) (tiR (kdT tp t) r (vlT tp (t + 1))) := by
  apply onX_of
  have hw0 : ∀ x, wo = some x → x.2 < m := fun x hx => by have := hw x hx; omega
  rw [on_t2 h26 n1 ((bdP_2 k2).trans (goC_n n2)) k2, nu_W hPS hw0 (by omega) k2]
theorem wt_s {VT VT1 : GI} {tp : List Int32} {r : Rs} {bs : Nat → Nat} {wo wo1 : Fo} {x h a b : Nat} (hwt : wtS VT r bs wo) (hv : ∀ i, VT1 4 i = VT 4 i) (hw1 : wo1 = none → wo = none) : wtS VT1 (slR r x (vlT tp a) h) bs (nuW tp (nuW tp wo1 0 1 a) 0 9 b) := by
  refine ⟨fun i hi => ⟨(hv i).trans (hwt.1 i hi).1, (hwt.1 i hi).2⟩, fun hn => ?_⟩
  have e1 := (nuW_n hn).1
  obtain ⟨e2, -, e3⟩ := nuW_n e1
  obtain ⟨g1, g2, g3⟩ := hwt.2 (hw1 e2)
  refine ⟨fun k hk => ?_, g2, g3⟩
  have hk1 : k < rN r + 1 := hk
  show va_up (rLf r) (rN r) (vlT tp a) k < 2
  unfold va_up
  split
  · omega
  · exact g1 k (by omega)
theorem wt_c {VT VT1 : GI} {tp : List Int32} {r : Rs} {bs : Nat → Nat} {wo : Fo} {v a c : Nat} (hwt : wtS VT r bs wo) (hv : ∀ i, i ≠ rCn r → VT1 4 i = VT 4 i) (hv2 : VT1 4 (rCn r) = nI (vlT tp a)) (hvb : vlT tp a < 16777216) : wtS VT1 (clR r (vlT tp a) v) (va_up bs (rCn r) (vlT tp a)) (nuW tp (nuW tp wo 0 8 a) 0 99 c) := by
  have hcn : rCn (clR r (vlT tp a) v) = rCn r + 1 := rfl
  refine ⟨fun i hi => ?_, fun hn => ?_⟩
  · rw [hcn] at hi
    unfold va_up
    by_cases e : i = rCn r
    · rw [if_pos e, e]; exact ⟨hv2, hvb⟩
    · rw [if_neg e, hv i e]; exact hwt.1 i (by omega)
  · have e1 := (nuW_n hn).1
    obtain ⟨e2, -, e3⟩ := nuW_n e1
    obtain ⟨g1, g2, g3⟩ := hwt.2 e2
    have hhc : rHc (clR r (vlT tp a) v) = va_up (rHc r) (vlT tp a) 1 := if_pos e3
    refine ⟨g1, fun i hi => ?_, fun b hb hne => ?_⟩
    · rw [hcn] at hi
      rw [hhc]
      unfold va_up
      by_cases e : i = rCn r
      · rw [if_pos e, if_pos rfl]; exact ⟨e3, by decide⟩
      · rw [if_neg e]
        obtain ⟨q1, q2⟩ := g2 i (by omega)
        refine ⟨q1, ?_⟩
        split
        · decide
        · exact q2
    · rw [hhc] at hne
      rw [hcn]
      by_cases e : b = vlT tp a
      · exact ⟨rCn r, by omega, by unfold va_up; rw [if_pos rfl]; exact e.symm⟩
      · unfold va_up at hne
        rw [if_neg e] at hne
        obtain ⟨i, q1, q2⟩ := g3 b hb hne
        exact ⟨i, by omega, by unfold va_up; rw [if_neg (by omega)]; exact q2⟩
theorem wt_o {VT VT1 : GI} {r r1 : Rs} {bs : Nat → Nat} {wo wo1 : Fo} (hwt : wtS VT r bs wo) (hv : ∀ i, VT1 4 i = VT 4 i) (hw1 : wo1 = none → wo = none) (e1 : rN r1 = rN r) (e2 : rLf r1 = rLf r) (e3 : rHc r1 = rHc r) (e4 : rCn r1 = rCn r) : wtS VT1 r1 bs wo1 := by
  unfold wtS
  rw [e1, e2, e3, e4]
  exact ⟨fun i hi => ⟨(hv i).trans (hwt.1 i hi).1, (hwt.1 i hi).2⟩, fun hn => hwt.2 (hw1 hn)⟩
theorem has_n {wo : Fo} {b : Bool} {n q : Nat} (h : (if b = true then woC wo n q else wo) = none) : wo = none := by
  split at h
  · exact absurd h woC_ne
  · exact h
theorem has_lt {wo : Fo} {b : Bool} {n q t : Nat} (hw : ∀ x, wo = some x → x.2 < t) (hq : q < t) : ∀ x, (if b = true then woC wo n q else wo) = some x → x.2 < t := by
  split
  · exact woC_lt hw hq
  · exact hw
theorem lt_up {wo : Fo} {t t1 : Nat} (hw : ∀ x, wo = some x → x.2 < t) (h : t ≤ t1) : ∀ x, wo = some x → x.2 < t1 := fun x hx => Nat.lt_of_lt_of_le (hw x hx) h
theorem cw_X3_122 {R : Room} {s : State} {args : Array Value} (hts : ∀ w ∈ lw_all, w.before args s = true) {f w k j : Nat} (hR : f + 1 ≤ R.frames ∧ 8 + (1 + 11) + w ≤ R.locals) : CallW R s args RX3 RJ5 122 yJ5_size cJ5_size 1 (some .int) (ws_ yJ5_size cJ5_size 1 (some .int)) (mkRmC f w k j) k j 0 := cwV 0 hts (lw_V q826 q504 q505 q118 q506) rfl rfl rfl (by decide +kernel) hR
theorem cw_X3_132 {R : Room} {s : State} {args : Array Value} (hts : ∀ w ∈ lw_all, w.before args s = true) {f w k j : Nat} (hR : f + 1 ≤ R.frames ∧ 8 + (3 + 11) + w ≤ R.locals) : CallW R s args RX3 RX3 132 yX3_name cX3_name 3 (some (.object "java/lang/String")) (ws_ yX3_name cX3_name 3 (some (.object "java/lang/String"))) (mkRmC f w k j) k j 0 := cwV 0 hts (lw_V q829 q831 qs22 q114 q832) rfl rfl rfl (by decide +kernel) hR
theorem cw_X3_139 {R : Room} {s : State} {args : Array Value} (hts : ∀ w ∈ lw_all, w.before args s = true) {f w k j : Nat} (hR : f + 1 ≤ R.frames ∧ 8 + (5 + 11) + w ≤ R.locals) : CallW R s args RX3 RX3 139 yX3_number cX3_number 5 (some .int) (ws_ yX3_number cX3_number 5 (some .int)) (mkRmC f w k j) k j 2 := cwV 2 hts (lw_V q1038 q1040 qs25 q114 q1041) rfl rfl rfl (by decide +kernel) hR
theorem cw_X3_148 {R : Room} {s : State} {args : Array Value} (hts : ∀ w ∈ lw_all, w.before args s = true) {f w k j : Nat} (hR : f + 1 ≤ R.frames ∧ 8 + (2 + 11) + w ≤ R.locals) : CallW R s args RX3 RJ5 148 yJ5_add cJ5_add 2 (some .boolean) (ws_ yJ5_add cJ5_add 2 (some .boolean)) (mkRmC f w k j) k j 1 := cwV 1 hts (lw_V q1042 q1043 q1044 q118 q1045) rfl rfl rfl (by decide +kernel) hR
theorem cw_X3_114 {R : Room} {s : State} {args : Array Value} (hts : ∀ w ∈ lw_all, w.before args s = true) {f w k j : Nat} (hR : f + 1 ≤ R.frames ∧ 8 + (2 + 11) + w ≤ R.locals) : CallW R s args RX3 RX3 114 yX3_law cX3_law 2 (some (.object "PartedSide$Law")) (ws_ yX3_law cX3_law 2 (some (.object "PartedSide$Law"))) (mkRmC f w k j) k j 0 := cwV 0 hts (lw_V q722 q724 qs13 q114 q725) rfl rfl rfl (by decide +kernel) hR
set_option maxHeartbeats 4000000 in
theorem met_X3_told (l : Launch) (D : va_G) (dA : Nat → ClassId) {o : Nat} {V : GI} {L : GL} {Rf : GR} {H0 : Heap} {tp : List Int32} {m0 t : Nat} {wo : Fo} (hG : gP D dA o dS V L Rf H0) (hPS : psC V tp m0) (ht : V 9 3 = nI t) (htm : t < m0) (ht4 : t ≤ 400) (hwo : woK V wo) {ed tx ea hi : Nat} {VT : GI} {LT : GL} {RT : GR} {r : Rs} (hbs : bsA D dA H0 o Rf ed) (hGT : gP D dA tx dT VT LT RT H0) (hTT : ttS D dA H0 o ed tx ea hi VT RT r) (hrt : Rf 9 2 = some tx) {bs : Nat → Nat} (hwt : wtS VT r bs wo) (hwl : ∀ x, wo = some x → x.2 < t) (hop : V 9 4 = nI (6 - 6)) {kt jt : Nat} (hkt1 : (onP (kdT tp) (plT tp) (vlT tp) (nmT tp) t (woN tp wo) r).2.1 = none → 6 * ((onP (kdT tp) (plT tp) (vlT tp) (nmT tp) t (woN tp wo) r).1 - t) ≤ kt ∧ 60 * ((onP (kdT tp) (plT tp) (vlT tp) (nmT tp) t (woN tp wo) r).1 - t) ≤ jt) (hkt2 : (onP (kdT tp) (plT tp) (vlT tp) (nmT tp) t (woN tp wo) r).2.1 ≠ none → 410 ≤ kt ∧ 1300 ≤ jt) : CtrX l D dA yX3_told cX3_told 4 none (mkRmC 44 1000 kt jt) [.ref (o + 9)] H0 (AN o tx) (QV (fun H1 => ∃ V1 t1 wo1 VT1 RT1 ea1 r1 bs1, gP D dA o dS V1 L Rf H1 ∧ Eqx PPx V V1 ∧ V1 9 3 = nI t1 ∧ V1 9 4 = nI (6 - 6) ∧ t < t1 ∧ t1 ≤ 400 ∧ t1 < m0 ∧ woK V1 wo1 ∧ (∀ x, wo1 = some x → x.2 < t1) ∧ gP D dA tx dT VT1 LT RT1 H1 ∧ ttS D dA H1 o ed tx ea1 H1.size VT1 RT1 r1 ∧ wtS VT1 r1 bs1 wo1 ∧ onX tp t wo r t1 wo1 r1)) (fun q H1 => okX D dA o V L Rf ((onP (kdT tp) (plT tp) (vlT tp) (nmT tp) t (woN tp wo) r).1, (onP (kdT tp) (plT tp) (vlT tp) (nmT tp) t (woN tp wo) r).2.1) q H1) := by
  have hlo := gP_sz hG
  have hkl2 := hPS.hm9
  have hcn : VT 0 4 = nI (rCn r) := hTT.2.2.2.2.2.2.1
  have hcn9 : rCn r ≤ 9 := hTT.2.2.2.2.2.2.2.1
  have hrn9 : rN r ≤ 9 := hTT.2.1
  have htx : o + 522 ≤ tx := hTT.1.1
  have htxl := hGT.lt (k := 4) (by decide)
  have hTT0 := hTT
  have hkd41 := kd_41 tp t
  refine ctrX_V (by decide) (Nat.le_of_ble_eq_true rfl) ?_
  intro p e s m args below meth c ls QQ locs hx hb hml hown hts hK hend hthr hS hl
  have hl : lv_has ls 4 [(0, .ref (o + 9))] := hl
  have hthrW : ∀ {pc : Nat} {ls : Array Slot} {rs : List Value} {H : Heap} {locs : List Loc} {q k n : Nat}, k ≤ kt → n ≤ jt → va_S (AN o tx) H0 H locs → fltA D H q → (fun q H1 => okX D dA o V L Rf ((onP (kdT tp) (plT tp) (vlT tp) (nmT tp) t (woN tp wo) r).1, (onP (kdT tp) (plT tp) (vlT tp) (nmT tp) t (woN tp wo) r).2.1) q H1) q H → xq_W p l e (mkRmC 44 1000 kt jt) s m args below meth c H locs k n QQ (F0 m pc ls rs) q := fun h1 h2 hS hf hq => xq_widen h1 h2 (hthr _ _ _ _ _ _  hS hf hq)
  refine lv_aload_n hx hb dX3_told_0 rfl (lv_at hl 0 rfl) ?_
  refine c_VXI hx hb hml hts hown hK hl.1 hS ⟨by show 0 ≤ kt; omega, by show 0 ≤ jt; omega⟩ (met_X3_sort l D dA hG (psC_E (V1 := V) hPS Eqx.rf PPx_ps).hm (psC_E (V1 := V) hPS Eqx.rf PPx_ps).hm9 (psC_E (V1 := V) hPS Eqx.rf PPx_ps).hbF ht htm ht4) (cw_X3_65 hts ⟨by show _ ≤ 44; omega, by show _ ≤ 1000; omega⟩) (hG 9 _ rfl) rfl rfl rfl rfl (Nat.le_of_ble_eq_true rfl) dX3_told_1 (fun _ h => Or.inl h) (fun q H1 locs hq hF hS => hthrW (by show 0 ≤ kt; omega) (by show 0 ≤ jt; omega) hS (okX_flt hq.1) (okX_tr hq.1 Eqx.rf (by have h5 : srK (kdT tp t) = 5 := hq.2; have hs := srK_c (kdT tp t); have e8 : kdT tp t < 20 := (by omega); have e9 := on_x (kd := kdT tp) (pl := plT tp) (vl := vlT tp) (nm := nmT tp) (t := t) (wo := woN tp wo) (r := r) (Or.inl e8); exact (congrArg (fun x => x.2.1) e9).symm))) (fun r H1 locs hq hF hS => ?_)
  obtain ⟨rfl, rfl, hn5_1⟩ := hq
  have hk3_1 : kdT tp t ≠ 3 := fun z => hn5_1 (show srK (kdT tp t) = 5 by rw [z]; rfl)
  have hsr1 := srK_c (kdT tp t)
  refine iv (y := nI (srK (kdT tp t))) rfl ?_
  refine lv_iconst (v := (nI 3)) hx hb dX3_told_4 (by decide) ?_
  refine n_icmp_ne (tgt := 23) hx hb dX3_told_5 (by decide) (by omega) (by omega) (fun c5 => ?_) (fun c5 => ?_)
  · refine lv_iconst (v := (-1)) hx hb dX3_told_23 (by decide) ?_
    refine lv_istore_n (lv' := [(1, .int (-1)), (0, .ref (o + 9))]) hx hb dX3_told_24 rfl hl (by decide) rfl (fun ls hl => ?_)
    refine lv_iload_n hx hb dX3_told_25 rfl (lv_at hl 0 rfl) ?_
    refine lv_iconst (v := (nI 2)) hx hb dX3_told_26 (by decide) ?_
    refine lv_icmp_lt (tgt := 55) hx hb dX3_told_27 (by decide) (fun c27 => ?_) (fun c27 => ?_)
    · refine lv_iload_n hx hb dX3_told_55 rfl (lv_at hl 0 rfl) ?_
      refine lv_tableOut (tgt := 312) hx hb dX3_told_56 (Or.inl (by decide)) (by decide) ?_
      refine lv_aload_n hx hb dX3_told_312 rfl (lv_at hl 1 rfl) ?_
      refine lv_iconst (v := (nI 1)) hx hb dX3_told_313 (by decide) ?_
      refine c_VR hx hb hml hts hown hK hl.1 hS ⟨by show 0 ≤ kt; omega, by show 0 ≤ jt; omega⟩ (met_X3_wrong l D dA hG (psC_E (V1 := V) hPS Eqx.rf PPx_ps).hm (psC_E (V1 := V) hPS Eqx.rf PPx_ps).hm9 ht htm ht4 (nI 1)) (cw_X3_48 hts ⟨by show _ ≤ 44; omega, by show _ ≤ 1000; omega⟩) (hG 9 _ rfl) rfl rfl rfl rfl (Nat.le_of_ble_eq_true rfl) dX3_told_314 (fun _ h => Or.inl h) (fun r H1 locs hq hF hS => ?_)
      obtain ⟨rfl, V2, hG, hE2, h6_2, h7_2⟩ := hq
      generalize hHe2 : H1 = H at hG hS hF ⊢
      clear hHe2
      refine xq_athrow hx hb dX3_told_317 ?_
      exact hthrW (by show 0 ≤ kt; omega) (by show 0 ≤ jt; omega) hS ⟨_, hG 1 _ rfl⟩ ⟨rfl, _, _, hG, (hE2.mono PFt_PPx), fun _ _ _ => rfl, _, _, (show (onP (kdT tp) (plT tp) (vlT tp) (nmT tp) t (woN tp wo) r).2.1 = some (1, plT tp t) from congrArg (fun x => x.2.1) (on_x (kd := kdT tp) (pl := plT tp) (vl := vlT tp) (nm := nmT tp) (t := t) (wo := woN tp wo) (r := r) (Or.inl (by have hs := srK_c (kdT tp t); omega)))), h6_2, h7_2⟩
    exact absurd c27 (by decide)
  refine lv_aload_n hx hb dX3_told_8 rfl (lv_at hl 0 rfl) ?_
  refine g_get hx hb hts hown hK hG 9 rfl rfl ok_X3 0 (by decide) q294 rfl rfl dX3_told_9 ?_
  refine g_get hx hb hts hown hK hG 2 rfl rfl ok_X2 6 (by decide) q268 rfl rfl dX3_told_12 ?_
  refine lv_aload_n hx hb dX3_told_15 rfl (lv_at hl 0 rfl) ?_
  refine g_get (v := .int (nI t)) hx hb hts hown hK hG 9 rfl rfl ok_X3 3 (by decide) q297 rfl (congrArg Value.int ht) dX3_told_16 ?_
  refine n_sald hx hb hK hG 8 rfl (by omega) (by decide) dX3_told_19 ?_
  refine iv (y := (nI (kdT tp t - 20))) (what_wd hPS htm (by have hs := srK_c (kdT tp t); omega)) ?_
  refine lv_goto (tgt := 24) hx hb dX3_told_20 (by decide) ?_
  refine lv_istore_n (lv' := [(1, .int (nI (kdT tp t - 20))), (0, .ref (o + 9))]) hx hb dX3_told_24 rfl hl (by decide) rfl (fun ls hl => ?_)
  refine lv_iload_n hx hb dX3_told_25 rfl (lv_at hl 0 rfl) ?_
  refine lv_iconst (v := (nI 2)) hx hb dX3_told_26 (by decide) ?_
  refine n_icmp_lt (tgt := 55) hx hb dX3_told_27 (by decide) (by omega) (by omega) (fun c27 => ?_) (fun c27 => ?_)
  · refine lv_iload_n hx hb dX3_told_55 rfl (lv_at hl 0 rfl) ?_
    rcases (by omega : kdT tp t = 20 ∨ kdT tp t = 21) with hkv | hkv
    · have hk20 : kdT tp t = 20 := by omega
      refine iv (y := nI 0) (congrArg nI (by omega)) ?_
      refine lv_tableIn (tgt := 108) (off := 52) hx hb dX3_told_56 (by decide) (by decide) rfl (by decide) ?_
      refine lv_aload_n hx hb dX3_told_108 rfl (lv_at hl 1 rfl) ?_
      refine lv_aload_n hx hb dX3_told_109 rfl (lv_at hl 1 rfl) ?_
      refine g_get (v := .ref tx) hx hb hts hown hK hG 9 rfl rfl ok_X3 2 (by decide) q296 rfl (congrArg va_rf hrt) dX3_told_110 ?_
      refine g_get hx hb hts hown hK hGT 0 rfl rfl ok_X4 0 (by decide) q352 rfl rfl dX3_told_113 ?_
      refine c_VI hx hb hml hts hown hK hl.1 hS ⟨by show 0 ≤ kt; omega, by show 0 ≤ jt; omega⟩ (met_J5_size l D dA (tt_al hGT hTT.2.2.1 hTT.2.2.2.1)) (cw_X3_122 hts ⟨by show _ ≤ 44; omega, by show _ ≤ 1000; omega⟩) (hGT 1 _ rfl) rfl rfl rfl rfl (Nat.le_of_ble_eq_true rfl) dX3_told_116 (fun _ h => h.elim) (fun r H1 locs hq hF hS => ?_)
      obtain ⟨rfl, rfl⟩ := hq
      refine lv_bipush (v := (nI 9)) hx hb dX3_told_119 (by decide) ?_
      refine c_VXV hx hb hml hts hown hK hl.1 hS ⟨by show 0 ≤ kt; omega, by show 0 ≤ jt; omega⟩ (met_X3_begins l D dA hG (psC_E (V1 := V) hPS Eqx.rf PPx_ps).hm (psC_E (V1 := V) hPS Eqx.rf PPx_ps).hm9 ht htm ht4 (rN r) 9 (by omega) (by omega)) (cw_X3_127 hts ⟨by show _ ≤ 44; omega, by show _ ≤ 1000; omega⟩) (hG 9 _ rfl) rfl rfl rfl rfl (Nat.le_of_ble_eq_true rfl) dX3_told_121 (fun _ h => Or.inl h) (fun q H1 locs hq hF hS => hthrW (by show 0 ≤ kt; omega) (by show 0 ≤ jt; omega) hS (okX_flt hq) (okX_tr hq Eqx.rf (by obtain ⟨q9, h9⟩ := okX_some hq; exact h9.trans (on_s0 hk20 h9).symm))) (fun H1 locs hq hF hS => ?_)
      obtain ⟨V3, hG, hE3, ho3, ht3⟩ := hq
      generalize hHe3 : H1 = H at hG hS hF ⊢
      clear hHe3
      obtain ⟨hb4, hbn, hbe⟩ := rm_ok ho3
      rw [hbe] at ht3
      have hbe : rmP (plT tp) (rN r) 9 t = (t + 1, none) := hbe
      have hu3 : V3 9 3 = nI (t + 1) := ht3
      have hGT := hGT.fr hF (fun k hk z => by have hk5 : k < 5 := hk; have := z.2.1; have := hTT.1; omega)
      have hTT := ttS_F hTT hF (fun _ _ z => Or.inl z)
      have hbs := bsA_F hbs hF (fun q _ z => by have := z.1; omega) (fun _ => rfl)
      have hwo := woK_E hwo hE3 rfl rfl
      have htm3 : t + 1 < m0 := hPS.next htm (by omega) (by omega)
      have hkS : 6 ≤ kt ∧ 53 ≤ jt := by
        by_cases ok : (onP (kdT tp) (plT tp) (vlT tp) (nmT tp) t (woN tp wo) r).2.1 = none
        · have h9 := hkt1 ok
          rw [on_s hk20 hbe] at ok h9
          have := sl_ge ok
          omega
        · have h9 := hkt2 ok
          omega
      have hTT := ttS_hi hTT (by have := hS.1; omega)
      have hsz8 := hS.1
      obtain ⟨na4, hna4⟩ : ∃ x, H.size = x := ⟨_, rfl⟩
      have hnl4 : H0.size ≤ na4 := by have := hS.1; omega
      refine x_new hx hb hts hown hK (ci := 12) (fs := [.null, .int 0, .int 0]) rfl ok_X19 q827 q828 q138 (by intro j hj; match j, hj with | 0, _ => rfl | 1, _ => rfl | 2, _ => rfl) hS (by show 0 + 1 ≤ kt; omega) (by show 0 + 3 ≤ jt; omega) dX3_told_124 hna4 (fun H hat4 hz4 hF hS => ?_)
      have hG := hG.fr hF (fun _ _ z => z)
      have hGT := hGT.fr hF (fun _ _ z => z)
      have hTT := ttS_F hTT hF (fun _ _ z => z.elim)
      have hbs := bsA_F hbs hF (fun _ _ z => z.elim) (fun _ => rfl)
      have hTT : ttS D dA H o ed tx ea na4 VT RT r := by rw [← hna4]; exact hTT
      refine lv_dup hx hb dX3_told_127 rfl ?_
      refine lv_aload_n hx hb dX3_told_128 rfl (lv_at hl 1 rfl) ?_
      have hsz9 := hS.1
      have hszn := hat4.lt
      dsimp only at hszn
      have hznn := hz4
      refine c_VXRA (rm := mkRmC 12 560 4 40) hx hb hml hts hown hK hl.1 hS (met_X3_name l D dA hG (psC_E (V1 := V3) hPS (hE3.mono PPs_PPx) PPx_ps) hu3 htm3 (by omega) hwo hbs hGT hTT hrt) (cw_X3_132 hts ⟨by show _ ≤ 44; omega, by show _ ≤ 1000; omega⟩) (hG 9 _ rfl) rfl rfl rfl rfl (Nat.le_of_ble_eq_true rfl) dX3_told_129 (fun q h => by rcases h with h | h; exact Or.inl h; exact Or.inr (by omega)) ⟨by show 0 + 1 + 4 ≤ kt; omega, by show 0 + 3 + 40 ≤ jt; omega⟩ (fun q H1 locs hq hF hS => xq_widen (k := kt) (n := jt) (by show 0 + 1 + 4 ≤ kt; omega) (by show 0 + 3 + 40 ≤ jt; omega) (hthr _ _ _ _ _ _  hS (okX_flt hq) (okX_tr hq (hE3.mono PPs_PPx) (by obtain ⟨q9, h9⟩ := okX_some hq; exact h9.trans ((congrArg (fun x => x.2.1) (on_s hk20 hbe)).trans (sl_f1 h9)).symm)))) (fun r1 H locs hq hF hS => ?_)
      obtain ⟨sa, lt, V5, rfl, hsa0, hG, hE5, hsa, hltp, hwdn, hk5, hn5, hu5, hwo⟩ := hq
      have hGT := hGT.fr hF (fun k hk z => by have hk5 : k < 5 := hk; have hlt := hGT.lt hk; rcases z with z | z; (have := z.2.1; have := hTT.1; omega); omega)
      have hTT := ttS_F hTT hF (fun q h1 h2 => by rcases h2 with h2 | h2; exact Or.inl h2; omega)
      have hbs := bsA_F hbs hF (fun q h1 z => by rcases z with z | z; (have := z.1; omega); omega) (fun _ => rfl)
      have hat4 := hat4.kept (hF.2 _ hat4.lt (fun z => by have hlt := hat4.lt; dsimp only at hlt; rcases z with z | z; (have := z.2.1; dsimp only at this; omega); dsimp only at z; omega))
      have hsa := strA_m hsa (B2 := fun q => na4 < q) (fun q _ h => by have h2 : _ ≤ q := h; omega)
      have hnme : muP (kdT tp) (plT tp) 1 (t + 1) none = (t + 1 + 1, none) := (muP_go hk5).trans (goC_n hn5)
      have htm5 : (t + 1) + 1 < m0 := hPS.next (t := t + 1) htm3 (by omega) (by omega)
      refine c_IV (rm := (mkRmC 1 40 0 0)) hx hb hml hts hown hK hl.1 hS (met_X19_init l D dA (nm := sa) hat4) (cwI 1 hts (lw_meth q1023) rfl rfl rfl (hts _ q138) (hts _ q1021) (hts _ q1022) rfl (by decide +kernel) ⟨by show 1 + 1 ≤ 44; omega, by show 8 + (2 + 11) + 40 ≤ 1000; omega⟩) rfl rfl (Nat.le_of_ble_eq_true rfl) dX3_told_132 (fun q hq => by have z : q = na4 := hq; exact Or.inr (by omega)) ⟨by show 0 + 1 + 4 ≤ kt; omega, by show 0 + 3 + 40 ≤ jt; omega⟩ (fun H locs hq hF hS => ?_)
      have hat_s := hq
      have hG := hG.fr hF (fun k hk z => by rw [dS_len] at hk; have z2 : o + k = na4 := z; omega)
      have hGT := hGT.fr hF (fun k hk z => by have hk5 : k < 5 := hk; have z2 : tx + k = na4 := z; have := hGT.lt hk; omega)
      have hTT := ttS_F hTT hF (fun q hq z => Or.inr (Or.inr (by have z2 : q = na4 := z; omega)))
      have hbs := bsA_F hbs hF (fun q hq z => by have z2 : q = na4 := z; omega) (fun _ => rfl)
      have hsa := strA_F hsa hF (fun q _ h z => by have h2 : na4 < q := h; have z2 : q = na4 := z; omega)
      refine lv_astore_n (lv' := [(2, .ref na4), (1, .int (nI (kdT tp t - 20))), (0, .ref (o + 9))]) hx hb dX3_told_135 rfl hl (by decide) rfl (fun ls hl => ?_)
      refine lv_aload_n hx hb dX3_told_136 rfl (lv_at hl 0 rfl) ?_
      refine lv_aload_n hx hb dX3_told_137 rfl (lv_at hl 2 rfl) ?_
      refine lv_iconst (v := (nI 0)) hx hb dX3_told_138 (by decide) ?_
      refine lv_iconst (v := (nI 1)) hx hb dX3_told_139 (by decide) ?_
      refine c_VXI hx hb hml hts hown hK hl.1 hS ⟨by show 0 + 1 + 4 ≤ kt; omega, by show 0 + 3 + 40 ≤ jt; omega⟩ (met_X3_number l D dA hG (psC_E (V1 := V5) hPS ((hE3.mono PPs_PPx).trans (hE5.mono PNu_PPx)) PPx_ps) hu5 htm5 (by omega) hwo (lo := 0) (hi := 1) (by omega) (by omega)) (cw_X3_139 hts ⟨by show _ ≤ 44; omega, by show _ ≤ 1000; omega⟩) (hG 9 _ rfl) rfl rfl rfl rfl (Nat.le_of_ble_eq_true rfl) dX3_told_140 (fun _ h => Or.inl h) (fun q H1 locs hq hF hS => hthrW (by show 0 + 1 + 4 ≤ kt; omega) (by show 0 + 3 + 40 ≤ jt; omega) hS (okX_flt hq) (okX_tr hq ((hE3.mono PPs_PPx).trans (hE5.mono PNu_PPx)) (by obtain ⟨q9, h9⟩ := okX_some hq; exact h9.trans ((congrArg (fun x => x.2.1) (on_s hk20 hbe)).trans (sl_f2 hnme h9)).symm))) (fun r H1 locs hq hF hS => ?_)
      obtain ⟨V6, rfl, hG, hE6, hk6, hn6, hu6, hwo⟩ := hq
      generalize hHe6 : H1 = H at hG hS hF ⊢
      clear hHe6
      have hGT := hGT.fr hF (fun k hk z => by have hk5 : k < 5 := hk; have := z.2.1; have := hTT.1; omega)
      have hTT := ttS_F hTT hF (fun _ _ z => Or.inl z)
      have hbs := bsA_F hbs hF (fun q _ z => by have := z.1; omega) (fun _ => rfl)
      have hsa := strA_F hsa hF (fun q _ h z => by have h2 : na4 < q := h; have := z.2.1; omega)
      have hat_s := hat_s.kept (hF.2 _ hat_s.lt (fun z => by have := z.2.1; dsimp only at this; omega))
      have hvb6 : vlT tp ((t + 1) + 1) < 16777216 := (vl_lt (sz := tp.length) (chT_lt tp) _).1
      have htm6 : ((t + 1) + 1) + 1 < m0 := hPS.next (t := (t + 1) + 1) htm5 (by omega) (by omega)
      refine x_put hx hb hts hown hK hat_s rfl ok_X19 1 (by decide) q1028 (Or.inl rfl) rfl rfl (Nat.le_of_ble_eq_true rfl) dX3_told_143 (fun H i hat7 hO => ?_)
      have hS := hO.S (k := i) hS (Or.inr (by omega))
      have hF := hO.fr (A := fun z => z = na4) rfl
      have hG := hG.fr hF (fun k hk z => by rw [dS_len] at hk; have z2 : o + k = na4 := z; omega)
      have hGT := hGT.fr hF (fun k hk z => by have hk5 : k < 5 := hk; have z2 : tx + k = na4 := z; have := hGT.lt hk; omega)
      have hTT := ttS_F hTT hF (fun q hq z => Or.inr (Or.inr (by have z2 : q = na4 := z; omega)))
      have hbs := bsA_F hbs hF (fun q hq z => by have z2 : q = na4 := z; omega) (fun _ => rfl)
      have hsa := strA_F hsa hF (fun q _ h z => by have h2 : na4 < q := h; have z2 : q = na4 := z; omega)
      refine lv_aload_n hx hb dX3_told_146 rfl (lv_at hl 0 rfl) ?_
      refine lv_aload_n hx hb dX3_told_147 rfl (lv_at hl 2 rfl) ?_
      refine lv_iconst (v := (nI 0)) hx hb dX3_told_148 (by decide) ?_
      refine lv_bipush (v := (nI 9)) hx hb dX3_told_149 (by decide) ?_
      refine c_VXI hx hb hml hts hown hK hl.1 hS ⟨by show 0 + 1 + 4 ≤ kt; omega, by show 0 + 3 + 40 ≤ jt; omega⟩ (met_X3_number l D dA hG (psC_E (V1 := V6) hPS (((hE3.mono PPs_PPx).trans (hE5.mono PNu_PPx)).trans (hE6.mono PNu_PPx)) PPx_ps) hu6 htm6 (by omega) hwo (lo := 0) (hi := 9) (by omega) (by omega)) (cw_X3_139 hts ⟨by show _ ≤ 44; omega, by show _ ≤ 1000; omega⟩) (hG 9 _ rfl) rfl rfl rfl rfl (Nat.le_of_ble_eq_true rfl) dX3_told_151 (fun _ h => Or.inl h) (fun q H1 locs hq hF hS => hthrW (by show 0 + 1 + 4 ≤ kt; omega) (by show 0 + 3 + 40 ≤ jt; omega) hS (okX_flt hq) (okX_tr hq (((hE3.mono PPs_PPx).trans (hE5.mono PNu_PPx)).trans (hE6.mono PNu_PPx)) (by obtain ⟨q9, h9⟩ := okX_some hq; exact h9.trans ((congrArg (fun x => x.2.1) (on_s hk20 hbe)).trans (sl_f3 hnme ((bdP_2 hk6).trans (goC_n hn6)) h9)).symm))) (fun r H1 locs hq hF hS => ?_)
      obtain ⟨V8, rfl, hG, hE8, hk8, hn8, hu8, hwo⟩ := hq
      generalize hHe8 : H1 = H at hG hS hF ⊢
      clear hHe8
      have hGT := hGT.fr hF (fun k hk z => by have hk5 : k < 5 := hk; have := z.2.1; have := hTT.1; omega)
      have hTT := ttS_F hTT hF (fun _ _ z => Or.inl z)
      have hbs := bsA_F hbs hF (fun q _ z => by have := z.1; omega) (fun _ => rfl)
      have hsa := strA_F hsa hF (fun q _ h z => by have h2 : na4 < q := h; have := z.2.1; omega)
      have hat7 := hat7.kept (hF.2 _ hat7.lt (fun z => by have := z.2.1; dsimp only at this; omega))
      have hvb8 : vlT tp (((t + 1) + 1) + 1) < 16777216 := (vl_lt (sz := tp.length) (chT_lt tp) _).1
      have htm8 : (((t + 1) + 1) + 1) + 1 < m0 := hPS.next (t := ((t + 1) + 1) + 1) htm6 (by omega) (by omega)
      refine x_put hx hb hts hown hK hat7 rfl ok_X19 2 (by decide) q1030 (Or.inl rfl) rfl rfl (Nat.le_of_ble_eq_true rfl) dX3_told_154 (fun H i hat9 hO => ?_)
      have hS := hO.S (k := i) hS (Or.inr (by omega))
      have hF := hO.fr (A := fun z => z = na4) rfl
      have hG := hG.fr hF (fun k hk z => by rw [dS_len] at hk; have z2 : o + k = na4 := z; omega)
      have hGT := hGT.fr hF (fun k hk z => by have hk5 : k < 5 := hk; have z2 : tx + k = na4 := z; have := hGT.lt hk; omega)
      have hTT := ttS_F hTT hF (fun q hq z => Or.inr (Or.inr (by have z2 : q = na4 := z; omega)))
      have hbs := bsA_F hbs hF (fun q hq z => by have z2 : q = na4 := z; omega) (fun _ => rfl)
      have hsa := strA_F hsa hF (fun q _ h z => by have h2 : na4 < q := h; have z2 : q = na4 := z; omega)
      refine lv_aload_n hx hb dX3_told_157 rfl (lv_at hl 2 rfl) ?_
      refine g_get (v := .ref tx) hx hb hts hown hK hG 9 rfl rfl ok_X3 2 (by decide) q296 rfl (congrArg va_rf hrt) dX3_told_158 ?_
      refine g_get hx hb hts hown hK hGT 0 rfl rfl ok_X4 0 (by decide) q352 rfl rfl dX3_told_161 ?_
      refine lv_aload_n hx hb dX3_told_164 rfl (lv_at hl 0 rfl) ?_
      obtain ⟨g, hli, htadd⟩ := tt_add hGT hTT (by have := hTT.2.1; omega)
      obtain ⟨z9, hz9⟩ : ∃ x, H.size = x := ⟨_, rfl⟩
      have hnl9 := hat9.lt
      dsimp only at hnl9
      have hsz9 := hS.1
      refine c_VIA (rm := mkRmC 4 180 1 10) hx hb hml hts hown hK hl.1 hS (met_J5_add l D dA (z := z9) hli (by omega) (by have := hTT.2.1; omega) hat9 hbs.2.2.2.2.1 (by have := hbs.2.2.2.2.2.1; omega) hz9) (cw_X3_148 hts ⟨by show _ ≤ 44; omega, by show _ ≤ 1000; omega⟩) (hGT 1 _ rfl) rfl rfl rfl rfl (Nat.le_of_ble_eq_true rfl) dX3_told_165 (fun q h => by rcases h with h | h | h; exact Or.inr (by omega); (obtain ⟨cap9, g9, -, hcc9, -, -⟩ := hTT.2.2.2.2.1; exact Or.inr (by omega)); exact Or.inr (by omega)) ⟨by show 0 + 1 + 4 + 1 ≤ kt; omega, by show 0 + 3 + 40 + 10 ≤ jt; omega⟩ (fun r H locs hq hF hS => ?_)
      obtain ⟨rfl, ea1, g1, hli1, hg1, hg2, hea1⟩ := hq
      obtain ⟨VT1, RT1, hGT1, hV1, hR1, hTT1⟩ := htadd H ea1 g1 na4 sa (nmT tp (t + 1)) _ _ z9 lt hF hz9 hli1 hg1 hg2 hea1 (by omega) hat9 hsa hltp hwdn
      obtain ⟨cap9, g9, -, hcc9, -, -⟩ := hTT.2.2.2.2.1
      have hG := hG.fr hF (fun k hk z => by rw [dS_len] at hk; rcases z with z | z | z <;> omega)
      refine lv_pop hx hb dX3_told_168 rfl ?_
      refine lv_goto (tgt := 318) hx hb dX3_told_169 (by decide) ?_
      refine W.widen (k := kt) (n := jt) (by show 0 + 1 + 4 + 1 ≤ kt; omega) (by show 0 + 3 + 40 + 10 ≤ jt; omega) ?_
      refine hend _ _ _ _ hS dX3_told_318 ?_
      exact ⟨rfl, _, (((t + 1) + 1) + 1) + 1, _, VT1, RT1, ea1, _, bs, hG, ((((hE3.mono PPs_PPx).trans (hE5.mono PNu_PPx)).trans (hE6.mono PNu_PPx)).trans (hE8.mono PNu_PPx)), hu8, (((hE8 9 4 rfl).trans ((hE6 9 4 rfl).trans ((hE5 9 4 rfl).trans (hE3 9 4 rfl)))).trans hop), by omega, by omega, htm8, hwo, nuW_lt (nuW_lt (has_lt (lt_up hwl (by omega)) (by omega)) (by omega)) (by omega), hGT1, hTT1, wt_s hwt (fun i => hV1 4 i (by decide)) has_n, onX_s hPS hwl (by omega) hk20 hbe hnme hk6 hn6 hk8 hn8⟩
    have hk21 : kdT tp t = 21 := by omega
    refine iv (y := nI 1) (congrArg nI (by omega)) ?_
    refine lv_tableIn (tgt := 172) (off := 116) hx hb dX3_told_56 (by decide) (by decide) rfl (by decide) ?_
    refine lv_aload_n hx hb dX3_told_172 rfl (lv_at hl 1 rfl) ?_
    refine lv_aload_n hx hb dX3_told_173 rfl (lv_at hl 1 rfl) ?_
    refine g_get (v := .ref tx) hx hb hts hown hK hG 9 rfl rfl ok_X3 2 (by decide) q296 rfl (congrArg va_rf hrt) dX3_told_174 ?_
    refine g_get (v := .int (nI (rCn r))) hx hb hts hown hK hGT 0 rfl rfl ok_X4 4 (by decide) q363 rfl (congrArg Value.int hcn) dX3_told_177 ?_
    refine lv_bipush (v := (nI 9)) hx hb dX3_told_180 (by decide) ?_
    refine c_VXV hx hb hml hts hown hK hl.1 hS ⟨by show 0 ≤ kt; omega, by show 0 ≤ jt; omega⟩ (met_X3_begins l D dA hG (psC_E (V1 := V) hPS Eqx.rf PPx_ps).hm (psC_E (V1 := V) hPS Eqx.rf PPx_ps).hm9 ht htm ht4 (rCn r) 9 (by omega) (by omega)) (cw_X3_127 hts ⟨by show _ ≤ 44; omega, by show _ ≤ 1000; omega⟩) (hG 9 _ rfl) rfl rfl rfl rfl (Nat.le_of_ble_eq_true rfl) dX3_told_182 (fun _ h => Or.inl h) (fun q H1 locs hq hF hS => hthrW (by show 0 ≤ kt; omega) (by show 0 ≤ jt; omega) hS (okX_flt hq) (okX_tr hq Eqx.rf (by obtain ⟨q9, h9⟩ := okX_some hq; exact h9.trans (on_c0 hk21 h9).symm))) (fun H1 locs hq hF hS => ?_)
    obtain ⟨V10, hG, hE10, ho10, ht10⟩ := hq
    generalize hHe10 : H1 = H at hG hS hF ⊢
    clear hHe10
    obtain ⟨hb4, hbn, hbe⟩ := rm_ok ho10
    rw [hbe] at ht10
    have hbe : rmP (plT tp) (rCn r) 9 t = (t + 1, none) := hbe
    have hu10 : V10 9 3 = nI (t + 1) := ht10
    have hGT := hGT.fr hF (fun k hk z => by have hk5 : k < 5 := hk; have := z.2.1; have := hTT.1; omega)
    have hTT := ttS_F hTT hF (fun _ _ z => Or.inl z)
    have hbs := bsA_F hbs hF (fun q _ z => by have := z.1; omega) (fun _ => rfl)
    have hwo := woK_E hwo hE10 rfl rfl
    have htm10 : t + 1 < m0 := hPS.next htm (by omega) (by omega)
    refine lv_aload_n hx hb dX3_told_185 rfl (lv_at hl 1 rfl) ?_
    refine lv_iconst (v := (nI 0)) hx hb dX3_told_186 (by decide) ?_
    refine lv_bipush (v := (nI 8)) hx hb dX3_told_187 (by decide) ?_
    refine c_VXI hx hb hml hts hown hK hl.1 hS ⟨by show 0 ≤ kt; omega, by show 0 ≤ jt; omega⟩ (met_X3_number l D dA hG (psC_E (V1 := V10) hPS (hE10.mono PPs_PPx) PPx_ps) hu10 htm10 (by omega) hwo (lo := 0) (hi := 8) (by omega) (by omega)) (cw_X3_139 hts ⟨by show _ ≤ 44; omega, by show _ ≤ 1000; omega⟩) (hG 9 _ rfl) rfl rfl rfl rfl (Nat.le_of_ble_eq_true rfl) dX3_told_189 (fun _ h => Or.inl h) (fun q H1 locs hq hF hS => hthrW (by show 0 ≤ kt; omega) (by show 0 ≤ jt; omega) hS (okX_flt hq) (okX_tr hq (hE10.mono PPs_PPx) (by obtain ⟨q9, h9⟩ := okX_some hq; exact h9.trans ((congrArg (fun x => x.2.1) (on_c hk21 hbe)).trans (cl_f1 h9)).symm))) (fun r H1 locs hq hF hS => ?_)
    obtain ⟨V11, rfl, hG, hE11, hk11, hn11, hu11, hwo⟩ := hq
    generalize hHe11 : H1 = H at hG hS hF ⊢
    clear hHe11
    have hGT := hGT.fr hF (fun k hk z => by have hk5 : k < 5 := hk; have := z.2.1; have := hTT.1; omega)
    have hTT := ttS_F hTT hF (fun _ _ z => Or.inl z)
    have hbs := bsA_F hbs hF (fun q _ z => by have := z.1; omega) (fun _ => rfl)
    have hvb11 : vlT tp (t + 1) < 16777216 := (vl_lt (sz := tp.length) (chT_lt tp) _).1
    have htm11 : (t + 1) + 1 < m0 := hPS.next (t := t + 1) htm10 (by omega) (by omega)
    refine lv_istore_n (lv' := [(2, .int (nI (vlT tp (t + 1)))), (1, .int (nI (kdT tp t - 20))), (0, .ref (o + 9))]) hx hb dX3_told_192 rfl hl (by decide) rfl (fun ls hl => ?_)
    refine lv_aload_n hx hb dX3_told_193 rfl (lv_at hl 2 rfl) ?_
    refine lv_iconst (v := (nI 0)) hx hb dX3_told_194 (by decide) ?_
    refine lv_bipush (v := (nI 99)) hx hb dX3_told_195 (by decide) ?_
    refine c_VXI hx hb hml hts hown hK hl.1 hS ⟨by show 0 ≤ kt; omega, by show 0 ≤ jt; omega⟩ (met_X3_number l D dA hG (psC_E (V1 := V11) hPS ((hE10.mono PPs_PPx).trans (hE11.mono PNu_PPx)) PPx_ps) hu11 htm11 (by omega) hwo (lo := 0) (hi := 99) (by omega) (by omega)) (cw_X3_139 hts ⟨by show _ ≤ 44; omega, by show _ ≤ 1000; omega⟩) (hG 9 _ rfl) rfl rfl rfl rfl (Nat.le_of_ble_eq_true rfl) dX3_told_197 (fun _ h => Or.inl h) (fun q H1 locs hq hF hS => hthrW (by show 0 ≤ kt; omega) (by show 0 ≤ jt; omega) hS (okX_flt hq) (okX_tr hq ((hE10.mono PPs_PPx).trans (hE11.mono PNu_PPx)) (by obtain ⟨q9, h9⟩ := okX_some hq; exact h9.trans ((congrArg (fun x => x.2.1) (on_c hk21 hbe)).trans (cl_f2 ((bdP_2 hk11).trans (goC_n hn11)) h9)).symm))) (fun r H1 locs hq hF hS => ?_)
    obtain ⟨V12, rfl, hG, hE12, hk12, hn12, hu12, hwo⟩ := hq
    generalize hHe12 : H1 = H at hG hS hF ⊢
    clear hHe12
    have hGT := hGT.fr hF (fun k hk z => by have hk5 : k < 5 := hk; have := z.2.1; have := hTT.1; omega)
    have hTT := ttS_F hTT hF (fun _ _ z => Or.inl z)
    have hbs := bsA_F hbs hF (fun q _ z => by have := z.1; omega) (fun _ => rfl)
    have hvb12 : vlT tp ((t + 1) + 1) < 16777216 := (vl_lt (sz := tp.length) (chT_lt tp) _).1
    have htm12 : ((t + 1) + 1) + 1 < m0 := hPS.next (t := (t + 1) + 1) htm11 (by omega) (by omega)
    refine lv_istore_n (lv' := [(3, .int (nI (vlT tp ((t + 1) + 1)))), (2, .int (nI (vlT tp (t + 1)))), (1, .int (nI (kdT tp t - 20))), (0, .ref (o + 9))]) hx hb dX3_told_200 rfl hl (by decide) rfl (fun ls hl => ?_)
    refine lv_aload_n hx hb dX3_told_201 rfl (lv_at hl 3 rfl) ?_
    refine g_get (v := .ref tx) hx hb hts hown hK hG 9 rfl rfl ok_X3 2 (by decide) q296 rfl (congrArg va_rf hrt) dX3_told_202 ?_
    refine g_get hx hb hts hown hK hGT 0 rfl rfl ok_X4 3 (by decide) q361 rfl rfl dX3_told_205 ?_
    refine lv_aload_n hx hb dX3_told_208 rfl (lv_at hl 3 rfl) ?_
    refine g_get (v := .ref tx) hx hb hts hown hK hG 9 rfl rfl ok_X3 2 (by decide) q296 rfl (congrArg va_rf hrt) dX3_told_209 ?_
    refine g_get (v := .int (nI (rCn r))) hx hb hts hown hK hGT 0 rfl rfl ok_X4 4 (by decide) q363 rfl (congrArg Value.int hcn) dX3_told_212 ?_
    refine lv_iload_n hx hb dX3_told_215 rfl (lv_at hl 1 rfl) ?_
    refine n_iast hx hb hK hGT hS 4 (Or.inr (by omega)) rfl (by omega) (by decide) dX3_told_216 (fun H locs hGT hO hS => ?_)
    have hG := hG.on hO (fun j hj => by first | (rw [dS_len] at hj; omega) | (have hj4 : j < 5 := hj; omega))
    have hF := hO.fr (A := fun z => z = tx + 4) rfl
    have hTT := ttS_F hTT hF (fun q _ z => Or.inr (Or.inl (by have z2 : q = tx + 4 := z; omega)))
    refine lv_aload_n hx hb dX3_told_217 rfl (lv_at hl 3 rfl) ?_
    refine g_get (v := .ref tx) hx hb hts hown hK hG 9 rfl rfl ok_X3 2 (by decide) q296 rfl (congrArg va_rf hrt) dX3_told_218 ?_
    refine lv_dup hx hb dX3_told_221 rfl ?_
    refine g_get (v := .int (nI (rCn r))) hx hb hts hown hK hGT 0 rfl rfl ok_X4 4 (by decide) q363 rfl (congrArg Value.int hcn) dX3_told_222 ?_
    refine lv_iconst (v := (nI 1)) hx hb dX3_told_225 (by decide) ?_
    refine n_iadd hx hb dX3_told_226 ?_
    refine g_put hx hb hts hown hK hGT hS 0 (Or.inr (by omega)) rfl rfl ok_X4 4 (by decide) q363 rfl rfl rfl rfl dX3_told_227 (fun H locs hGT hO hS => ?_)
    have hG := hG.on hO (fun j hj => by first | (rw [dS_len] at hj; omega) | (have hj4 : j < 5 := hj; omega))
    have hF := hO.fr (A := fun z => z = tx + 0) rfl
    have hTT := ttS_F hTT hF (fun q _ z => Or.inr (Or.inl (by have z2 : q = tx + 0 := z; omega)))
    refine lv_iload_n hx hb dX3_told_230 rfl (lv_at hl 1 rfl) ?_
    refine lv_bipush (v := (nI 9)) hx hb dX3_told_231 (by decide) ?_
    refine n_icmp_ge (tgt := 318) hx hb dX3_told_233 (by decide) (by omega) (by omega) (fun c233 => ?_) (fun c233 => ?_)
    · refine W.widen (k := kt) (n := jt) (by show 0 ≤ kt; omega) (by show 0 ≤ jt; omega) ?_
      refine hend _ _ _ _ hS dX3_told_318 ?_
      have hsz7 := hGT.lt (k := 4) (by decide)
      have hTT2 := ttS_hi hTT (by omega)
      exact ⟨rfl, _, ((t + 1) + 1) + 1, _, _, _, ea, _, _, hG, (((hE10.mono PPs_PPx).trans (hE11.mono PNu_PPx)).trans (hE12.mono PNu_PPx)), hu12, (((hE12 9 4 rfl).trans ((hE11 9 4 rfl).trans (hE10 9 4 rfl))).trans hop), by omega, by omega, htm12, hwo, nuW_lt (nuW_lt (lt_up hwl (by omega)) (by omega)) (by omega), hGT, ttS_to (r1 := clR r (vlT tp (t + 1)) (vlT tp (t + 1 + 1))) hTT2 rfl rfl rfl rfl ((up2_n (fun z => by omega)).trans (up2_n (fun z => by omega))) rfl (fun b hb => by show _ = nI ((if vlT tp (t + 1) ≤ 8 then va_up (rCo r) (vlT tp (t + 1)) (vlT tp (t + 1 + 1)) else rCo r) b); rw [if_neg (by omega)]; exact ((up2_n (fun z => by omega)).trans (up2_n (fun z => by omega))).trans (hTT2.2.2.2.2.2.1 b hb)) (up2_s) (by show rCn r + 1 ≤ 9; omega) (((up2_n (fun z => by omega)).trans (up2_n (fun z => by omega))).trans (hTT2.2.2.2.2.2.2.2.2.1)) (((up2_n (fun z => by omega)).trans (up2_n (fun z => by omega))).trans (hTT2.2.2.2.2.2.2.2.2.2.1)) (((up2_n (fun z => by omega)).trans (up2_n (fun z => by omega))).trans (hTT2.2.2.2.2.2.2.2.2.2.2.1)) hTT2.2.2.2.2.2.2.2.2.2.2.2, wt_c (r := r) hwt (fun i hi => (up2_n (fun z => by omega)).trans (up2_n (fun z => hi z.2))) ((up2_n (fun z => by omega)).trans up2_s) (by omega), onX_c hPS hwl (by omega) hk21 hbe hk11 hn11 hk12 hn12⟩
    refine lv_aload_n hx hb dX3_told_236 rfl (lv_at hl 3 rfl) ?_
    refine g_get (v := .ref tx) hx hb hts hown hK hG 9 rfl rfl ok_X3 2 (by decide) q296 rfl (congrArg va_rf hrt) dX3_told_237 ?_
    refine g_get hx hb hts hown hK hGT 0 rfl rfl ok_X4 2 (by decide) q358 rfl rfl dX3_told_240 ?_
    refine lv_iload_n hx hb dX3_told_243 rfl (lv_at hl 1 rfl) ?_
    refine lv_iload_n hx hb dX3_told_244 rfl (lv_at hl 0 rfl) ?_
    refine n_iast hx hb hK hGT hS 3 (Or.inr (by omega)) rfl (by omega) (by decide) dX3_told_245 (fun H locs hGT hO hS => ?_)
    have hG := hG.on hO (fun j hj => by first | (rw [dS_len] at hj; omega) | (have hj4 : j < 5 := hj; omega))
    have hF := hO.fr (A := fun z => z = tx + 3) rfl
    have hTT := ttS_F hTT hF (fun q _ z => Or.inr (Or.inl (by have z2 : q = tx + 3 := z; omega)))
    refine lv_goto (tgt := 318) hx hb dX3_told_246 (by decide) ?_
    refine W.widen (k := kt) (n := jt) (by show 0 ≤ kt; omega) (by show 0 ≤ jt; omega) ?_
    refine hend _ _ _ _ hS dX3_told_318 ?_
    have hsz7 := hGT.lt (k := 4) (by decide)
    have hTT2 := ttS_hi hTT (by omega)
    exact ⟨rfl, _, ((t + 1) + 1) + 1, _, _, _, ea, _, _, hG, (((hE10.mono PPs_PPx).trans (hE11.mono PNu_PPx)).trans (hE12.mono PNu_PPx)), hu12, (((hE12 9 4 rfl).trans ((hE11 9 4 rfl).trans (hE10 9 4 rfl))).trans hop), by omega, by omega, htm12, hwo, nuW_lt (nuW_lt (lt_up hwl (by omega)) (by omega)) (by omega), hGT, ttS_to (r1 := clR r (vlT tp (t + 1)) (vlT tp (t + 1 + 1))) hTT2 rfl rfl rfl rfl ((up2_n (fun z => by omega)).trans ((up2_n (fun z => by omega)).trans (up2_n (fun z => by omega)))) rfl (fun b hb => by show _ = nI ((if vlT tp (t + 1) ≤ 8 then va_up (rCo r) (vlT tp (t + 1)) (vlT tp (t + 1 + 1)) else rCo r) b); rw [if_pos (by omega)]; unfold va_up; by_cases e : b = vlT tp (t + 1); rw [if_pos e, e]; exact up2_s; rw [if_neg e]; exact (up2_n (fun z => e z.2)).trans (((up2_n (fun z => by omega)).trans (up2_n (fun z => by omega))).trans (hTT2.2.2.2.2.2.1 b hb))) ((up2_n (fun z => by omega)).trans up2_s) (by show rCn r + 1 ≤ 9; omega) (((up2_n (fun z => by omega)).trans ((up2_n (fun z => by omega)).trans (up2_n (fun z => by omega)))).trans (hTT2.2.2.2.2.2.2.2.2.1)) (((up2_n (fun z => by omega)).trans ((up2_n (fun z => by omega)).trans (up2_n (fun z => by omega)))).trans (hTT2.2.2.2.2.2.2.2.2.2.1)) (((up2_n (fun z => by omega)).trans ((up2_n (fun z => by omega)).trans (up2_n (fun z => by omega)))).trans (hTT2.2.2.2.2.2.2.2.2.2.2.1)) hTT2.2.2.2.2.2.2.2.2.2.2.2, wt_c (r := r) hwt (fun i hi => (up2_n (fun z => by omega)).trans ((up2_n (fun z => by omega)).trans (up2_n (fun z => hi z.2)))) ((up2_n (fun z => by omega)).trans ((up2_n (fun z => by omega)).trans up2_s)) (by omega), onX_c hPS hwl (by omega) hk21 hbe hk11 hn11 hk12 hn12⟩
  refine lv_iload_n hx hb dX3_told_30 rfl (lv_at hl 0 rfl) ?_
  refine lv_iconst (v := (nI 5)) hx hb dX3_told_31 (by decide) ?_
  refine n_icmp_gt (tgt := 55) hx hb dX3_told_32 (by decide) (by omega) (by omega) (fun c32 => ?_) (fun c32 => ?_)
  · refine lv_iload_n hx hb dX3_told_55 rfl (lv_at hl 0 rfl) ?_
    rcases (by omega : kdT tp t = 26 ∨ kdT tp t = 27 ∨ kdT tp t = 28 ∨ 28 < kdT tp t) with hkv | hkv | hkv | hkv
    · have hk26 : 26 ≤ kdT tp t ∧ kdT tp t ≤ 28 := by omega
      refine iv (y := nI 6) (congrArg nI (by omega)) ?_
      refine lv_tableIn (tgt := 249) (off := 193) hx hb dX3_told_56 (by decide) (by decide) rfl (by decide) ?_
      refine lv_aload_n hx hb dX3_told_249 rfl (lv_at hl 1 rfl) ?_
      refine c_VXV hx hb hml hts hown hK hl.1 hS ⟨by show 0 ≤ kt; omega, by show 0 ≤ jt; omega⟩ (met_X3_pass l D dA hG (psC_E (V1 := V) hPS Eqx.rf PPx_ps).hm (psC_E (V1 := V) hPS Eqx.rf PPx_ps).hm9 ht htm ht4) (cw_X3_59 hts ⟨by show _ ≤ 44; omega, by show _ ≤ 1000; omega⟩) (hG 9 _ rfl) rfl rfl rfl rfl (Nat.le_of_ble_eq_true rfl) dX3_told_250 (fun _ h => Or.inl h) (fun q H1 locs hq hF hS => hthrW (by show 0 ≤ kt; omega) (by show 0 ≤ jt; omega) hS (okX_flt hq) (okX_tr hq Eqx.rf (by obtain ⟨q9, h9⟩ := okX_some hq; exact h9.trans (on_t0 hk26 h9).symm))) (fun H1 locs hq hF hS => ?_)
      obtain ⟨V13, hG, hE13, ho13, ht13⟩ := hq
      generalize hHe13 : H1 = H at hG hS hF ⊢
      clear hHe13
      have hn13 := go_ne ho13
      have hu13 : V13 9 3 = nI (t + 1) := by have e := ht13; rw [goC_n hn13] at e; exact e
      have hGT := hGT.fr hF (fun k hk z => by have hk5 : k < 5 := hk; have := z.2.1; have := hTT.1; omega)
      have hTT := ttS_F hTT hF (fun _ _ z => Or.inl z)
      have hbs := bsA_F hbs hF (fun q _ z => by have := z.1; omega) (fun _ => rfl)
      have htm13 : t + 1 < m0 := hPS.next htm (by omega) hk3_1
      have hwo := woK_E hwo hE13 rfl rfl
      refine lv_aload_n hx hb dX3_told_253 rfl (lv_at hl 1 rfl) ?_
      refine g_get (v := .ref tx) hx hb hts hown hK hG 9 rfl rfl ok_X3 2 (by decide) q296 rfl (congrArg va_rf hrt) dX3_told_254 ?_
      refine lv_aload_n hx hb dX3_told_257 rfl (lv_at hl 1 rfl) ?_
      refine lv_iconst (v := (nI 0)) hx hb dX3_told_258 (by decide) ?_
      refine lv_iconst (v := (nI 1)) hx hb dX3_told_259 (by decide) ?_
      refine c_VXI hx hb hml hts hown hK hl.1 hS ⟨by show 0 ≤ kt; omega, by show 0 ≤ jt; omega⟩ (met_X3_number l D dA hG (psC_E (V1 := V13) hPS (hE13.mono PPs_PPx) PPx_ps) hu13 htm13 (by omega) hwo (lo := 0) (hi := 1) (by omega) (by omega)) (cw_X3_139 hts ⟨by show _ ≤ 44; omega, by show _ ≤ 1000; omega⟩) (hG 9 _ rfl) rfl rfl rfl rfl (Nat.le_of_ble_eq_true rfl) dX3_told_260 (fun _ h => Or.inl h) (fun q H1 locs hq hF hS => hthrW (by show 0 ≤ kt; omega) (by show 0 ≤ jt; omega) hS (okX_flt hq) (okX_tr hq (hE13.mono PPs_PPx) (by obtain ⟨q9, h9⟩ := okX_some hq; exact h9.trans (on_t1 hk26 hn13 h9).symm))) (fun r H1 locs hq hF hS => ?_)
      obtain ⟨V14, rfl, hG, hE14, hk14, hn14, hu14, hwo⟩ := hq
      generalize hHe14 : H1 = H at hG hS hF ⊢
      clear hHe14
      have hGT := hGT.fr hF (fun k hk z => by have hk5 : k < 5 := hk; have := z.2.1; have := hTT.1; omega)
      have hTT := ttS_F hTT hF (fun _ _ z => Or.inl z)
      have hbs := bsA_F hbs hF (fun q _ z => by have := z.1; omega) (fun _ => rfl)
      have hvb14 : vlT tp (t + 1) < 16777216 := (vl_lt (sz := tp.length) (chT_lt tp) _).1
      have htm14 : (t + 1) + 1 < m0 := hPS.next (t := t + 1) htm13 (by omega) (by omega)
      refine g_put hx hb hts hown hK hGT hS 0 (Or.inr (by omega)) rfl rfl ok_X4 5 (by decide) q366 rfl rfl rfl rfl dX3_told_263 (fun H locs hGT hO hS => ?_)
      have hG := hG.on hO (fun j hj => by first | (rw [dS_len] at hj; omega) | (have hj4 : j < 5 := hj; omega))
      have hF := hO.fr (A := fun z => z = tx + 0) rfl
      have hTT := ttS_F hTT hF (fun q _ z => Or.inr (Or.inl (by have z2 : q = tx + 0 := z; omega)))
      refine lv_goto (tgt := 318) hx hb dX3_told_266 (by decide) ?_
      refine W.widen (k := kt) (n := jt) (by show 0 ≤ kt; omega) (by show 0 ≤ jt; omega) ?_
      refine hend _ _ _ _ hS dX3_told_318 ?_
      have hsz7 := hGT.lt (k := 4) (by decide)
      have hTT2 := ttS_hi hTT (by omega)
      have hr1 : tiR (kdT tp t) r (vlT tp (t + 1)) = rgR r (vlT tp (t + 1)) := by unfold tiR; rw [if_pos hkv]
      have hh1 : tiH (kdT tp t) = 1 := by unfold tiH; rw [if_pos hkv]
      have hox := onX_t (wo := wo) (r := r) hPS hwl (by omega) hk26 hn13 hk14 hn14
      rw [hr1, hh1] at hox
      exact ⟨rfl, _, (t + 1) + 1, _, _, _, ea, _, bs, hG, ((hE13.mono PPs_PPx).trans (hE14.mono PNu_PPx)), hu14, (((hE14 9 4 rfl).trans (hE13 9 4 rfl)).trans hop), by omega, by omega, htm14, hwo, nuW_lt (lt_up hwl (by omega)) (by omega), hGT, ttS_to (r1 := rgR r (vlT tp (t + 1))) hTT2 rfl rfl rfl rfl (up2_n (fun z => by omega)) rfl (fun b hb => (up2_n (fun z => by omega)).trans (hTT2.2.2.2.2.2.1 b hb)) ((up2_n (fun z => by omega)).trans hTT2.2.2.2.2.2.2.1) hTT2.2.2.2.2.2.2.2.1 (up2_s) ((up2_n (fun z => by omega)).trans hTT2.2.2.2.2.2.2.2.2.2.1) ((up2_n (fun z => by omega)).trans hTT2.2.2.2.2.2.2.2.2.2.2.1) hTT2.2.2.2.2.2.2.2.2.2.2.2, wt_o hwt (fun i => up2_n (fun z => by omega)) (fun z => (nuW_n z).1) rfl rfl rfl rfl, hox⟩
    · have hk26 : 26 ≤ kdT tp t ∧ kdT tp t ≤ 28 := by omega
      refine iv (y := nI 7) (congrArg nI (by omega)) ?_
      refine lv_tableIn (tgt := 269) (off := 213) hx hb dX3_told_56 (by decide) (by decide) rfl (by decide) ?_
      refine lv_aload_n hx hb dX3_told_269 rfl (lv_at hl 1 rfl) ?_
      refine c_VXV hx hb hml hts hown hK hl.1 hS ⟨by show 0 ≤ kt; omega, by show 0 ≤ jt; omega⟩ (met_X3_pass l D dA hG (psC_E (V1 := V) hPS Eqx.rf PPx_ps).hm (psC_E (V1 := V) hPS Eqx.rf PPx_ps).hm9 ht htm ht4) (cw_X3_59 hts ⟨by show _ ≤ 44; omega, by show _ ≤ 1000; omega⟩) (hG 9 _ rfl) rfl rfl rfl rfl (Nat.le_of_ble_eq_true rfl) dX3_told_270 (fun _ h => Or.inl h) (fun q H1 locs hq hF hS => hthrW (by show 0 ≤ kt; omega) (by show 0 ≤ jt; omega) hS (okX_flt hq) (okX_tr hq Eqx.rf (by obtain ⟨q9, h9⟩ := okX_some hq; exact h9.trans (on_t0 hk26 h9).symm))) (fun H1 locs hq hF hS => ?_)
      obtain ⟨V15, hG, hE15, ho15, ht15⟩ := hq
      generalize hHe15 : H1 = H at hG hS hF ⊢
      clear hHe15
      have hn15 := go_ne ho15
      have hu15 : V15 9 3 = nI (t + 1) := by have e := ht15; rw [goC_n hn15] at e; exact e
      have hGT := hGT.fr hF (fun k hk z => by have hk5 : k < 5 := hk; have := z.2.1; have := hTT.1; omega)
      have hTT := ttS_F hTT hF (fun _ _ z => Or.inl z)
      have hbs := bsA_F hbs hF (fun q _ z => by have := z.1; omega) (fun _ => rfl)
      have htm15 : t + 1 < m0 := hPS.next htm (by omega) hk3_1
      have hwo := woK_E hwo hE15 rfl rfl
      refine lv_aload_n hx hb dX3_told_273 rfl (lv_at hl 1 rfl) ?_
      refine g_get (v := .ref tx) hx hb hts hown hK hG 9 rfl rfl ok_X3 2 (by decide) q296 rfl (congrArg va_rf hrt) dX3_told_274 ?_
      refine lv_aload_n hx hb dX3_told_277 rfl (lv_at hl 1 rfl) ?_
      refine lv_iconst (v := (nI 0)) hx hb dX3_told_278 (by decide) ?_
      refine lv_bipush (v := (nI 23)) hx hb dX3_told_279 (by decide) ?_
      refine c_VXI hx hb hml hts hown hK hl.1 hS ⟨by show 0 ≤ kt; omega, by show 0 ≤ jt; omega⟩ (met_X3_number l D dA hG (psC_E (V1 := V15) hPS (hE15.mono PPs_PPx) PPx_ps) hu15 htm15 (by omega) hwo (lo := 0) (hi := 23) (by omega) (by omega)) (cw_X3_139 hts ⟨by show _ ≤ 44; omega, by show _ ≤ 1000; omega⟩) (hG 9 _ rfl) rfl rfl rfl rfl (Nat.le_of_ble_eq_true rfl) dX3_told_281 (fun _ h => Or.inl h) (fun q H1 locs hq hF hS => hthrW (by show 0 ≤ kt; omega) (by show 0 ≤ jt; omega) hS (okX_flt hq) (okX_tr hq (hE15.mono PPs_PPx) (by obtain ⟨q9, h9⟩ := okX_some hq; exact h9.trans (on_t1 hk26 hn15 h9).symm))) (fun r H1 locs hq hF hS => ?_)
      obtain ⟨V16, rfl, hG, hE16, hk16, hn16, hu16, hwo⟩ := hq
      generalize hHe16 : H1 = H at hG hS hF ⊢
      clear hHe16
      have hGT := hGT.fr hF (fun k hk z => by have hk5 : k < 5 := hk; have := z.2.1; have := hTT.1; omega)
      have hTT := ttS_F hTT hF (fun _ _ z => Or.inl z)
      have hbs := bsA_F hbs hF (fun q _ z => by have := z.1; omega) (fun _ => rfl)
      have hvb16 : vlT tp (t + 1) < 16777216 := (vl_lt (sz := tp.length) (chT_lt tp) _).1
      have htm16 : (t + 1) + 1 < m0 := hPS.next (t := t + 1) htm15 (by omega) (by omega)
      refine g_put hx hb hts hown hK hGT hS 0 (Or.inr (by omega)) rfl rfl ok_X4 6 (by decide) q369 rfl rfl rfl rfl dX3_told_284 (fun H locs hGT hO hS => ?_)
      have hG := hG.on hO (fun j hj => by first | (rw [dS_len] at hj; omega) | (have hj4 : j < 5 := hj; omega))
      have hF := hO.fr (A := fun z => z = tx + 0) rfl
      have hTT := ttS_F hTT hF (fun q _ z => Or.inr (Or.inl (by have z2 : q = tx + 0 := z; omega)))
      refine lv_goto (tgt := 318) hx hb dX3_told_287 (by decide) ?_
      refine W.widen (k := kt) (n := jt) (by show 0 ≤ kt; omega) (by show 0 ≤ jt; omega) ?_
      refine hend _ _ _ _ hS dX3_told_318 ?_
      have hsz7 := hGT.lt (k := 4) (by decide)
      have hTT2 := ttS_hi hTT (by omega)
      have hr1 : tiR (kdT tp t) r (vlT tp (t + 1)) = bgR r (vlT tp (t + 1)) := by unfold tiR; rw [if_neg (by omega), if_pos hkv]
      have hh1 : tiH (kdT tp t) = 23 := by unfold tiH; rw [if_neg (by omega), if_pos hkv]
      have hox := onX_t (wo := wo) (r := r) hPS hwl (by omega) hk26 hn15 hk16 hn16
      rw [hr1, hh1] at hox
      exact ⟨rfl, _, (t + 1) + 1, _, _, _, ea, _, bs, hG, ((hE15.mono PPs_PPx).trans (hE16.mono PNu_PPx)), hu16, (((hE16 9 4 rfl).trans (hE15 9 4 rfl)).trans hop), by omega, by omega, htm16, hwo, nuW_lt (lt_up hwl (by omega)) (by omega), hGT, ttS_to (r1 := bgR r (vlT tp (t + 1))) hTT2 rfl rfl rfl rfl (up2_n (fun z => by omega)) rfl (fun b hb => (up2_n (fun z => by omega)).trans (hTT2.2.2.2.2.2.1 b hb)) ((up2_n (fun z => by omega)).trans hTT2.2.2.2.2.2.2.1) hTT2.2.2.2.2.2.2.2.1 ((up2_n (fun z => by omega)).trans hTT2.2.2.2.2.2.2.2.2.1) (up2_s) ((up2_n (fun z => by omega)).trans hTT2.2.2.2.2.2.2.2.2.2.2.1) hTT2.2.2.2.2.2.2.2.2.2.2.2, wt_o hwt (fun i => up2_n (fun z => by omega)) (fun z => (nuW_n z).1) rfl rfl rfl rfl, hox⟩
    · have hk26 : 26 ≤ kdT tp t ∧ kdT tp t ≤ 28 := by omega
      refine iv (y := nI 8) (congrArg nI (by omega)) ?_
      refine lv_tableIn (tgt := 290) (off := 234) hx hb dX3_told_56 (by decide) (by decide) rfl (by decide) ?_
      refine lv_aload_n hx hb dX3_told_290 rfl (lv_at hl 1 rfl) ?_
      refine c_VXV hx hb hml hts hown hK hl.1 hS ⟨by show 0 ≤ kt; omega, by show 0 ≤ jt; omega⟩ (met_X3_pass l D dA hG (psC_E (V1 := V) hPS Eqx.rf PPx_ps).hm (psC_E (V1 := V) hPS Eqx.rf PPx_ps).hm9 ht htm ht4) (cw_X3_59 hts ⟨by show _ ≤ 44; omega, by show _ ≤ 1000; omega⟩) (hG 9 _ rfl) rfl rfl rfl rfl (Nat.le_of_ble_eq_true rfl) dX3_told_291 (fun _ h => Or.inl h) (fun q H1 locs hq hF hS => hthrW (by show 0 ≤ kt; omega) (by show 0 ≤ jt; omega) hS (okX_flt hq) (okX_tr hq Eqx.rf (by obtain ⟨q9, h9⟩ := okX_some hq; exact h9.trans (on_t0 hk26 h9).symm))) (fun H1 locs hq hF hS => ?_)
      obtain ⟨V17, hG, hE17, ho17, ht17⟩ := hq
      generalize hHe17 : H1 = H at hG hS hF ⊢
      clear hHe17
      have hn17 := go_ne ho17
      have hu17 : V17 9 3 = nI (t + 1) := by have e := ht17; rw [goC_n hn17] at e; exact e
      have hGT := hGT.fr hF (fun k hk z => by have hk5 : k < 5 := hk; have := z.2.1; have := hTT.1; omega)
      have hTT := ttS_F hTT hF (fun _ _ z => Or.inl z)
      have hbs := bsA_F hbs hF (fun q _ z => by have := z.1; omega) (fun _ => rfl)
      have htm17 : t + 1 < m0 := hPS.next htm (by omega) hk3_1
      have hwo := woK_E hwo hE17 rfl rfl
      refine lv_aload_n hx hb dX3_told_294 rfl (lv_at hl 1 rfl) ?_
      refine g_get (v := .ref tx) hx hb hts hown hK hG 9 rfl rfl ok_X3 2 (by decide) q296 rfl (congrArg va_rf hrt) dX3_told_295 ?_
      refine lv_aload_n hx hb dX3_told_298 rfl (lv_at hl 1 rfl) ?_
      refine lv_iconst (v := (nI 0)) hx hb dX3_told_299 (by decide) ?_
      refine lv_sipush (v := (nI 9999)) hx hb dX3_told_300 (by decide) ?_
      refine c_VXI hx hb hml hts hown hK hl.1 hS ⟨by show 0 ≤ kt; omega, by show 0 ≤ jt; omega⟩ (met_X3_number l D dA hG (psC_E (V1 := V17) hPS (hE17.mono PPs_PPx) PPx_ps) hu17 htm17 (by omega) hwo (lo := 0) (hi := 9999) (by omega) (by omega)) (cw_X3_139 hts ⟨by show _ ≤ 44; omega, by show _ ≤ 1000; omega⟩) (hG 9 _ rfl) rfl rfl rfl rfl (Nat.le_of_ble_eq_true rfl) dX3_told_303 (fun _ h => Or.inl h) (fun q H1 locs hq hF hS => hthrW (by show 0 ≤ kt; omega) (by show 0 ≤ jt; omega) hS (okX_flt hq) (okX_tr hq (hE17.mono PPs_PPx) (by obtain ⟨q9, h9⟩ := okX_some hq; exact h9.trans (on_t1 hk26 hn17 h9).symm))) (fun r H1 locs hq hF hS => ?_)
      obtain ⟨V18, rfl, hG, hE18, hk18, hn18, hu18, hwo⟩ := hq
      generalize hHe18 : H1 = H at hG hS hF ⊢
      clear hHe18
      have hGT := hGT.fr hF (fun k hk z => by have hk5 : k < 5 := hk; have := z.2.1; have := hTT.1; omega)
      have hTT := ttS_F hTT hF (fun _ _ z => Or.inl z)
      have hbs := bsA_F hbs hF (fun q _ z => by have := z.1; omega) (fun _ => rfl)
      have hvb18 : vlT tp (t + 1) < 16777216 := (vl_lt (sz := tp.length) (chT_lt tp) _).1
      have htm18 : (t + 1) + 1 < m0 := hPS.next (t := t + 1) htm17 (by omega) (by omega)
      refine g_put hx hb hts hown hK hGT hS 0 (Or.inr (by omega)) rfl rfl ok_X4 7 (by decide) q372 rfl rfl rfl rfl dX3_told_306 (fun H locs hGT hO hS => ?_)
      have hG := hG.on hO (fun j hj => by first | (rw [dS_len] at hj; omega) | (have hj4 : j < 5 := hj; omega))
      have hF := hO.fr (A := fun z => z = tx + 0) rfl
      have hTT := ttS_F hTT hF (fun q _ z => Or.inr (Or.inl (by have z2 : q = tx + 0 := z; omega)))
      refine lv_goto (tgt := 318) hx hb dX3_told_309 (by decide) ?_
      refine W.widen (k := kt) (n := jt) (by show 0 ≤ kt; omega) (by show 0 ≤ jt; omega) ?_
      refine hend _ _ _ _ hS dX3_told_318 ?_
      have hsz7 := hGT.lt (k := 4) (by decide)
      have hTT2 := ttS_hi hTT (by omega)
      have hr1 : tiR (kdT tp t) r (vlT tp (t + 1)) = seR r (vlT tp (t + 1)) := by unfold tiR; rw [if_neg (by omega), if_neg (by omega)]
      have hh1 : tiH (kdT tp t) = 9999 := by unfold tiH; rw [if_neg (by omega), if_neg (by omega)]
      have hox := onX_t (wo := wo) (r := r) hPS hwl (by omega) hk26 hn17 hk18 hn18
      rw [hr1, hh1] at hox
      exact ⟨rfl, _, (t + 1) + 1, _, _, _, ea, _, bs, hG, ((hE17.mono PPs_PPx).trans (hE18.mono PNu_PPx)), hu18, (((hE18 9 4 rfl).trans (hE17 9 4 rfl)).trans hop), by omega, by omega, htm18, hwo, nuW_lt (lt_up hwl (by omega)) (by omega), hGT, ttS_to (r1 := seR r (vlT tp (t + 1))) hTT2 rfl rfl rfl rfl (up2_n (fun z => by omega)) rfl (fun b hb => (up2_n (fun z => by omega)).trans (hTT2.2.2.2.2.2.1 b hb)) ((up2_n (fun z => by omega)).trans hTT2.2.2.2.2.2.2.1) hTT2.2.2.2.2.2.2.2.1 ((up2_n (fun z => by omega)).trans hTT2.2.2.2.2.2.2.2.2.1) ((up2_n (fun z => by omega)).trans hTT2.2.2.2.2.2.2.2.2.2.1) (up2_s) hTT2.2.2.2.2.2.2.2.2.2.2.2, wt_o hwt (fun i => up2_n (fun z => by omega)) (fun z => (nuW_n z).1) rfl rfl rfl rfl, hox⟩
    refine lv_tableOut (tgt := 312) hx hb dX3_told_56 (Or.inr (by rw [nI_toInt (by omega)]; omega)) (by decide) ?_
    refine lv_aload_n hx hb dX3_told_312 rfl (lv_at hl 1 rfl) ?_
    refine lv_iconst (v := (nI 1)) hx hb dX3_told_313 (by decide) ?_
    refine c_VR hx hb hml hts hown hK hl.1 hS ⟨by show 0 ≤ kt; omega, by show 0 ≤ jt; omega⟩ (met_X3_wrong l D dA hG (psC_E (V1 := V) hPS Eqx.rf PPx_ps).hm (psC_E (V1 := V) hPS Eqx.rf PPx_ps).hm9 ht htm ht4 (nI 1)) (cw_X3_48 hts ⟨by show _ ≤ 44; omega, by show _ ≤ 1000; omega⟩) (hG 9 _ rfl) rfl rfl rfl rfl (Nat.le_of_ble_eq_true rfl) dX3_told_314 (fun _ h => Or.inl h) (fun r H1 locs hq hF hS => ?_)
    obtain ⟨rfl, V19, hG, hE19, h6_19, h7_19⟩ := hq
    generalize hHe19 : H1 = H at hG hS hF ⊢
    clear hHe19
    refine xq_athrow hx hb dX3_told_317 ?_
    exact hthrW (by show 0 ≤ kt; omega) (by show 0 ≤ jt; omega) hS ⟨_, hG 1 _ rfl⟩ ⟨rfl, _, _, hG, (hE19.mono PFt_PPx), fun _ _ _ => rfl, _, _, (show (onP (kdT tp) (plT tp) (vlT tp) (nmT tp) t (woN tp wo) r).2.1 = some (1, plT tp t) from congrArg (fun x => x.2.1) (on_x (kd := kdT tp) (pl := plT tp) (vl := vlT tp) (nm := nmT tp) (t := t) (wo := woN tp wo) (r := r) (Or.inr hkv))), h6_19, h7_19⟩
  have hkl : 22 ≤ kdT tp t ∧ kdT tp t ≤ 25 := by omega
  refine lv_aload_n hx hb dX3_told_35 rfl (lv_at hl 1 rfl) ?_
  refine c_VXV hx hb hml hts hown hK hl.1 hS ⟨by show 0 ≤ kt; omega, by show 0 ≤ jt; omega⟩ (met_X3_pass l D dA hG (psC_E (V1 := V) hPS Eqx.rf PPx_ps).hm (psC_E (V1 := V) hPS Eqx.rf PPx_ps).hm9 ht htm ht4) (cw_X3_59 hts ⟨by show _ ≤ 44; omega, by show _ ≤ 1000; omega⟩) (hG 9 _ rfl) rfl rfl rfl rfl (Nat.le_of_ble_eq_true rfl) dX3_told_36 (fun _ h => Or.inl h) (fun q H1 locs hq hF hS => hthrW (by show 0 ≤ kt; omega) (by show 0 ≤ jt; omega) hS (okX_flt hq) (okX_tr hq Eqx.rf (by obtain ⟨q9, h9⟩ := okX_some hq; exact h9.trans (on_l0 hkl h9).symm))) (fun H1 locs hq hF hS => ?_)
  obtain ⟨V20, hG, hE20, ho20, ht20⟩ := hq
  generalize hHe20 : H1 = H at hG hS hF ⊢
  clear hHe20
  have hn20 := go_ne ho20
  have hu20 : V20 9 3 = nI (t + 1) := by have e := ht20; rw [goC_n hn20] at e; exact e
  have hGT := hGT.fr hF (fun k hk z => by have hk5 : k < 5 := hk; have := z.2.1; have := hTT.1; omega)
  have hTT := ttS_F hTT hF (fun _ _ z => Or.inl z)
  have hbs := bsA_F hbs hF (fun q _ z => by have := z.1; omega) (fun _ => rfl)
  have htm20 : t + 1 < m0 := hPS.next htm (by omega) hk3_1
  have hwo := woK_E hwo hE20 rfl rfl
  refine lv_aload_n hx hb dX3_told_39 rfl (lv_at hl 1 rfl) ?_
  refine g_get (v := .ref tx) hx hb hts hown hK hG 9 rfl rfl ok_X3 2 (by decide) q296 rfl (congrArg va_rf hrt) dX3_told_40 ?_
  refine g_get hx hb hts hown hK hGT 0 rfl rfl ok_X4 1 (by decide) q355 rfl rfl dX3_told_43 ?_
  refine lv_iload_n hx hb dX3_told_46 rfl (lv_at hl 0 rfl) ?_
  refine lv_iconst (v := (nI 2)) hx hb dX3_told_47 (by decide) ?_
  refine n_isub hx hb dX3_told_48 (by omega) ?_
  refine lv_aload_n hx hb dX3_told_49 rfl (lv_at hl 1 rfl) ?_
  have hsz9 := hS.1
  have hsl9 : ∀ x, t + 1 ≤ x → x ≤ 400 → ((lwP (kdT tp) (plT tp) (vlT tp) (t + 1) none).2.1 = none → x ≤ (lwP (kdT tp) (plT tp) (vlT tp) (t + 1) none).1) → 4 + (x - (t + 1)) ≤ kt ∧ 17 + 3 * (x - (t + 1)) ≤ jt := fun x hx1 hx2 hx3 => by
    have e9 := on_l (pl := plT tp) (vl := vlT tp) (nm := nmT tp) (wo := woN tp wo) (r := r) hkl
    rw [goC_n hn20] at e9
    by_cases ok : (onP (kdT tp) (plT tp) (vlT tp) (nmT tp) t (woN tp wo) r).2.1 = none
    · have h9 := hkt1 ok
      rw [e9] at ok h9
      have h8 := hx3 ok
      dsimp only at h9
      omega
    · have h9 := hkt2 ok
      omega
  refine c_VXRA (rm := mkRmC 42 900 kt jt) hx hb hml hts hown hK hl.1 hS (met_X3_law l D dA hG (psC_E (V1 := V20) hPS (hE20.mono PPs_PPx) PPx_ps) hu20 htm20 (by omega) ((hE20 9 4 rfl).trans hop) hsl9) (cw_X3_114 hts ⟨by show _ ≤ 44; omega, by show _ ≤ 1000; omega⟩) (hG 9 _ rfl) rfl rfl rfl rfl (Nat.le_of_ble_eq_true rfl) dX3_told_50 (fun q h => by rcases h with h | h; exact Or.inl h; exact Or.inr (by omega)) ⟨by show 0 + kt ≤ kt; omega, by show 0 + jt ≤ jt; omega⟩ (fun q H1 locs hq hF hS => xq_widen (k := kt) (n := jt) (by show 0 + kt ≤ kt; omega) (by show 0 + jt ≤ jt; omega) (hthr _ _ _ _ _ _  hS (okX_flt hq) (okX_tr hq (hE20.mono PPs_PPx) (by obtain ⟨q9, h9⟩ := okX_some hq; exact h9.trans (on_l1 hkl hn20 h9).symm)))) (fun r1 H locs hq hF hS => ?_)
  obtain ⟨a, t1, w1, V21, rfl, hG, hE21, hop1, hu21, htt1, ht14, ht1m, hasz, hlw, hlp⟩ := hq
  have hGT := hGT.fr hF (fun k hk z => by have hk5 : k < 5 := hk; have hlt := hGT.lt hk; rcases z with z | z; (have := z.2.1; have := hTT.1; omega); omega)
  have hTT := ttS_F hTT hF (fun q h1 h2 => by rcases h2 with h2 | h2; exact Or.inl h2; omega)
  have hbs := bsA_F hbs hF (fun q h1 z => by rcases z with z | z; (have := z.1; omega); omega) (fun _ => rfl)
  have hwo := woK_E hwo hE21 rfl rfl
  have hlw0 := hlw
  obtain ⟨l1, l2, l3, f1, f2, f3, o0, o1, o2, o3, hla, -⟩ := hlw0
  have hO2 := hGT.lt (k := 4) (by decide)
  refine g_aast hx hb hK hGT hS 2 (Or.inr (Nat.le_add_right _ _)) 8 rfl (fun _ => rfl) rfl hla rfl (Or.inl rfl) (i := (kdT tp t - 20) - 2) (by omega) (by decide) dX3_told_53 (fun H locs hGT hO hS => ?_)
  have hG := hG.on hO (fun j hj => by rw [dS_len] at hj; omega)
  have hF := hO.fr (A := fun z => z = tx + 2) rfl
  have hTT := ttS_F hTT hF (fun q _ z => Or.inr (Or.inl (by have z2 : q = tx + 2 := z; omega)))
  have hlw := lwA_kept (fun q hq1 hq2 => hF.2 q hq2 (fun z => by have z2 : q = tx + 2 := z; have h2 : _ ≤ q := hq1; omega)) hlw
  refine W.widen (k := kt) (n := jt) (by show 0 + kt ≤ kt; omega) (by show 0 + jt ≤ jt; omega) ?_
  refine hend _ _ _ _ hS dX3_told_54 ?_
  have hsz7 := hGT.lt (k := 4) (by decide)
  have hTT2 := ttS_hi hTT (by omega)
  refine ⟨rfl, _, t1, wo, _, _, ea, lwS r (kdT tp t - 22) (some w1), bs, hG, ((hE20.mono PPs_PPx).trans (hE21.mono PPo_PPx)), hu21, hop1, by omega, ht14, ht1m, hwo, lt_up hwl (by omega), hGT, ttS_to hTT2 rfl rfl rfl rfl rfl ?_ hTT2.2.2.2.2.2.1 hTT2.2.2.2.2.2.2.1 hTT2.2.2.2.2.2.2.2.1 hTT2.2.2.2.2.2.2.2.2.1 hTT2.2.2.2.2.2.2.2.2.2.1 hTT2.2.2.2.2.2.2.2.2.2.2.1 ?_, wt_o hwt (fun _ => rfl) (fun z => z) rfl rfl rfl rfl, onX_l hkl hn20 hlp⟩
  · exact up2_n (fun z => by omega)
  · intro k hk
    have e9 : kdT tp t - 22 = kdT tp t - 20 - 2 := by omega
    show lwB D dA H _ (up2 RT 2 (kdT tp t - 20 - 2) (some a) 2 k) (va_up (rLw r) (kdT tp t - 22) (some w1) k)
    rw [e9]
    unfold va_up
    by_cases e : k = kdT tp t - 20 - 2
    · rw [if_pos e, e, up2_s]
      exact lwA_mono (fun q hq1 hq2 => by have h2 : _ ≤ q := hq2; obtain ⟨cap9, g9, hea9, -⟩ := hTT0.2.2.2.2.1; have h3 := hea9.lt; dsimp only at h3; exact ⟨by omega, by omega, hq1⟩) hlw
    · rw [if_neg e, up2_n (fun z => e z.2)]
      exact hTT2.2.2.2.2.2.2.2.2.2.2.2 k hk
