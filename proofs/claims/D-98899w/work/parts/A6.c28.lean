theorem smA_F2 {D : va_G} {A O : Nat → Prop} {H H1 : Heap} {d a : Nat} {es : List Sg} (h : smA D H O d a es) (hF : Fr A H H1) (hA : ∀ q, q < H.size → O q → ¬ A q) : smA D H1 O d a es := smA_kept (fun q h1 h2 => hF.2 q h2 (hA q h2 h1)) d a es h
theorem kd_41 (tp : List Int32) (j : Nat) : kdT tp j < 41 := by
  rcases tk_c tp j with h | h | h | h
  · omega
  · have := kwF_c (nmT tp j) 21
    omega
  · omega
  · have h2 := h.2.2.2.2
    have h3 := sgK_pos (chT tp (plT tp j))
    omega
theorem mu_ok {kd pl : Nat → Nat} {k t : Nat} (h : (muP kd pl k t none).2 = none) : kd t = k ∧ t ≠ 400 ∧ muP kd pl k t none = (t + 1, none) := by
  by_cases hk : kd t = k
  · rw [muP_go hk] at h
    have h4 := go_ne h
    exact ⟨hk, h4, by rw [muP_go hk, goC_n h4]⟩
  · rw [muP_no hk] at h
    exact nomatch h
set_option maxHeartbeats 4000000 in
theorem met_X15_init (l : Launch) (D : va_G) (dA : Nat → ClassId) {H0 : Heap} {a : Nat} : Ctr l D dA yX15_init cX15_init 1 none (mkRm 1 20) [.ref a] H0 A0 (QV (fun H1 => H0 = H1)) := by
  refine ctr_V (by decide) (Nat.le_of_ble_eq_true rfl) ?_
  intro p e s m args below meth c ls QQ locs hx hb hml hown hts hK hend hS hl
  have hl : lv_has ls 1 [(0, .ref a)] := hl
  refine lv_aload_n hx hb dX15_init_0 rfl (lv_at hl 0 rfl) ?_
  refine x_obj hx hb hml hts hown hl.1 q791 q152 q153 (Nat.le_of_ble_eq_true rfl) ⟨Nat.le_of_ble_eq_true rfl, Nat.le_of_ble_eq_true rfl⟩ dX15_init_1 ?_
  refine hend _ _ _ _ hS dX15_init_4 ?_
  exact ⟨rfl, rfl⟩
set_option maxHeartbeats 4000000 in
theorem met_X16_init (l : Launch) (D : va_G) (dA : Nat → ClassId) {H0 : Heap} {a : Nat} {x0 : Value} (v : Int32) (hat : va_at D CL (a, .inr (9, [x0])) H0) : Ctr l D dA yX16_init cX16_init 2 none (mkRm 2 50) [.ref a, .int v] H0 (fun z => z = a) (QV (fun H1 => va_at D CL (a, .inr (9, [.int v])) H1)) := by
  refine ctr_K (by decide) (Nat.le_of_ble_eq_true rfl) ?_
  intro p e s m args below meth c ls QQ locs hx hb hml hown hts hK hnm hend hS hl
  have hl : lv_has ls 2 [(0, .ref a), (1, .int v)] := hl
  refine lv_aload_n hx hb dX16_init_0 rfl (lv_at hl 0 rfl) ?_
  refine c_IN (host := "PartedSide") (rm := (mkRmC 1 20 0 0)) hx hb hml hts hown hK hl.1 hS (met_X15_init l D dA ) ⟨va_cnB 0 hts (lw_meth q790) rfl rfl rfl (hK.2.1 _ q788 rfl) (hts _ q134) (by decide +kernel) ⟨Nat.le_of_ble_eq_true rfl, Nat.le_of_ble_eq_true rfl⟩, rfl, hts _ q789⟩ rfl rfl (Nat.le_of_ble_eq_true rfl) dX16_init_1 (fun _ h => h.elim) ⟨Nat.le_refl _, Nat.le_refl _⟩ (fun H locs hq hF hS => ?_)
  subst hq
  refine lv_aload_n hx hb dX16_init_4 rfl (lv_at hl 0 rfl) ?_
  refine lv_iload_n hx hb dX16_init_5 rfl (lv_at hl 1 rfl) ?_
  refine x_put hx hb hts hown hK hat rfl ok_X16 0 (by decide) q792 (Or.inr ⟨rfl, hnm, rfl⟩) rfl rfl (Nat.le_of_ble_eq_true rfl) dX16_init_6 (fun H i hat1 hO => ?_)
  have hS := hO.S (k := i) hS rfl
  refine hend _ _ _ _ hS dX16_init_9 ?_
  exact ⟨rfl, hat1⟩
set_option maxHeartbeats 4000000 in
theorem met_X17_init (l : Launch) (D : va_G) (dA : Nat → ClassId) {H0 : Heap} {a : Nat} {x0 : Value} (v : Int32) (hat : va_at D CL (a, .inr (10, [x0])) H0) : Ctr l D dA yX17_init cX17_init 2 none (mkRm 2 50) [.ref a, .int v] H0 (fun z => z = a) (QV (fun H1 => va_at D CL (a, .inr (10, [.int v])) H1)) := by
  refine ctr_K (by decide) (Nat.le_of_ble_eq_true rfl) ?_
  intro p e s m args below meth c ls QQ locs hx hb hml hown hts hK hnm hend hS hl
  have hl : lv_has ls 2 [(0, .ref a), (1, .int v)] := hl
  refine lv_aload_n hx hb dX17_init_0 rfl (lv_at hl 0 rfl) ?_
  refine c_IN (host := "PartedSide") (rm := (mkRmC 1 20 0 0)) hx hb hml hts hown hK hl.1 hS (met_X15_init l D dA ) ⟨va_cnB 0 hts (lw_meth q790) rfl rfl rfl (hK.2.1 _ q801 rfl) (hts _ q134) (by decide +kernel) ⟨Nat.le_of_ble_eq_true rfl, Nat.le_of_ble_eq_true rfl⟩, rfl, hts _ q789⟩ rfl rfl (Nat.le_of_ble_eq_true rfl) dX17_init_1 (fun _ h => h.elim) ⟨Nat.le_refl _, Nat.le_refl _⟩ (fun H locs hq hF hS => ?_)
  subst hq
  refine lv_aload_n hx hb dX17_init_4 rfl (lv_at hl 0 rfl) ?_
  refine lv_iload_n hx hb dX17_init_5 rfl (lv_at hl 1 rfl) ?_
  refine x_put hx hb hts hown hK hat rfl ok_X17 0 (by decide) q802 (Or.inr ⟨rfl, hnm, rfl⟩) rfl rfl (Nat.le_of_ble_eq_true rfl) dX17_init_6 (fun H i hat1 hO => ?_)
  have hS := hO.S (k := i) hS rfl
  refine hend _ _ _ _ hS dX17_init_9 ?_
  exact ⟨rfl, hat1⟩
set_option maxHeartbeats 4000000 in
theorem met_X18_init (l : Launch) (D : va_G) (dA : Nat → ClassId) {H0 : Heap} {a : Nat} {x0 x1 x2 : Value} (v : Int32) (a1 a2 : Nat) (hat : va_at D CL (a, .inr (11, [x0, x1, x2])) H0) : Ctr l D dA yX18_init cX18_init 4 none (mkRm 2 50) [.ref a, .int v, .ref a1, .ref a2] H0 (fun z => z = a) (QV (fun H1 => va_at D CL (a, .inr (11, [.int v, .ref a1, .ref a2])) H1)) := by
  refine ctr_K (by decide) (Nat.le_of_ble_eq_true rfl) ?_
  intro p e s m args below meth c ls QQ locs hx hb hml hown hts hK hnm hend hS hl
  have hl : lv_has ls 4 [(0, .ref a), (1, .int v), (2, .ref a1), (3, .ref a2)] := hl
  refine lv_aload_n hx hb dX18_init_0 rfl (lv_at hl 0 rfl) ?_
  refine c_IN (host := "PartedSide") (rm := (mkRmC 1 20 0 0)) hx hb hml hts hown hK hl.1 hS (met_X15_init l D dA ) ⟨va_cnB 0 hts (lw_meth q790) rfl rfl rfl (hK.2.1 _ q811 rfl) (hts _ q134) (by decide +kernel) ⟨Nat.le_of_ble_eq_true rfl, Nat.le_of_ble_eq_true rfl⟩, rfl, hts _ q789⟩ rfl rfl (Nat.le_of_ble_eq_true rfl) dX18_init_1 (fun _ h => h.elim) ⟨Nat.le_refl _, Nat.le_refl _⟩ (fun H locs hq hF hS => ?_)
  subst hq
  refine lv_aload_n hx hb dX18_init_4 rfl (lv_at hl 0 rfl) ?_
  refine lv_iload_n hx hb dX18_init_5 rfl (lv_at hl 1 rfl) ?_
  refine x_put hx hb hts hown hK hat rfl ok_X18 0 (by decide) q812 (Or.inr ⟨rfl, hnm, rfl⟩) rfl rfl (Nat.le_of_ble_eq_true rfl) dX18_init_6 (fun H i hat1 hO => ?_)
  have hS := hO.S (k := i) hS rfl
  refine lv_aload_n hx hb dX18_init_9 rfl (lv_at hl 0 rfl) ?_
  refine lv_aload_n hx hb dX18_init_10 rfl (lv_at hl 2 rfl) ?_
  refine x_put hx hb hts hown hK hat1 rfl ok_X18 1 (by decide) q813 (Or.inr ⟨rfl, hnm, rfl⟩) rfl rfl (Nat.le_of_ble_eq_true rfl) dX18_init_11 (fun H i hat2 hO => ?_)
  have hS := hO.S (k := i) hS rfl
  refine lv_aload_n hx hb dX18_init_14 rfl (lv_at hl 0 rfl) ?_
  refine lv_aload_n hx hb dX18_init_15 rfl (lv_at hl 3 rfl) ?_
  refine x_put hx hb hts hown hK hat2 rfl ok_X18 2 (by decide) q814 (Or.inr ⟨rfl, hnm, rfl⟩) rfl rfl (Nat.le_of_ble_eq_true rfl) dX18_init_16 (fun H i hat3 hO => ?_)
  have hS := hO.S (k := i) hS rfl
  refine hend _ _ _ _ hS dX18_init_19 ?_
  exact ⟨rfl, hat3⟩
theorem cw_X3_180 {R : Room} {s : State} {args : Array Value} (hts : ∀ w ∈ lw_all, w.before args s = true) {f w k j : Nat} (hR : f + 1 ≤ R.frames ∧ 8 + (3 + 11) + w ≤ R.locals) : CallW R s args RX3 RX3 180 yX3_sum cX3_sum 3 (some (.object "PartedSide$Sum")) (ws_ yX3_sum cX3_sum 3 (some (.object "PartedSide$Sum"))) (mkRmC f w k j) k j 0 := cwV 0 hts (lw_V q767 q769 qs18 q114 q770) rfl rfl rfl (by decide +kernel) hR
theorem cw_X3_102 {R : Room} {s : State} {args : Array Value} (hts : ∀ w ∈ lw_all, w.before args s = true) {f w k j : Nat} (hR : f + 1 ≤ R.frames ∧ 8 + (2 + 11) + w ≤ R.locals) : CallW R s args RX3 RX3 102 yX3_sign cX3_sign 2 none (ws_ yX3_sign cX3_sign 2 none) (mkRmC f w k j) k j 1 := cwV 1 hts (lw_V q751 q753 qs14 q114 q754) rfl rfl rfl (by decide +kernel) hR
theorem cw_X3_72 {R : Room} {s : State} {args : Array Value} (hts : ∀ w ∈ lw_all, w.before args s = true) {f w k j : Nat} (hR : f + 1 ≤ R.frames ∧ 8 + (4 + 11) + w ≤ R.locals) : CallW R s args RX3 RX2 72 yX2_number cX2_number 4 (some .int) (ws_ yX2_number cX2_number 4 (some .int)) (mkRmC f w k j) k j 1 := cwV 1 hts (lw_V q781 q782 q783 q113 q784) rfl rfl rfl (by decide +kernel) hR
set_option maxHeartbeats 4000000 in
theorem met_X3_unit (l : Launch) (D : va_G) (dA : Nat → ClassId) {d : Nat} {o : Nat} {V : GI} {L : GL} {Rf : GR} {H0 : Heap} {tp : List Int32} {m0 t : Nat} {R3 : Nat × Fo × List Sg} (hG : gP D dA o dS V L Rf H0) (hPS : psC V tp m0) (ht : V 9 3 = nI t) (htm : t < m0) (ht4 : t ≤ 400) (hop : V 9 4 = nI (6 - d)) (hd6 : d ≤ 6) (hR : rdU (kdT tp) (plT tp) (vlT tp) 402 d t = R3) (hSU : ∀ d1, d = d1 + 1 → exK l D dA yX3_sum cX3_sum 3 (22 + 3 * d1) (444 + 70 * d1) d1 (fun kd pl vl => smP kd pl 402 (rdU kd pl vl 402 d1))) : CtrX l D dA yX3_unit cX3_unit 2 (some (.object "PartedSide$Sum")) (mkRmC (20 + 3 * d) (400 + 70 * d) (R3.1 - t) (3 * (R3.1 - t))) [.ref (o + 9)] H0 (AN o H0.size) (QR (exQ D dA o V L Rf H0.size m0 t R3)) (exX D dA o V L Rf R3) := by
  have hlo := gP_sz hG
  have hkl := kd_41 tp t
  have hkl2 := hPS.hm9
  refine ctrX_R (by decide) (Nat.le_of_ble_eq_true rfl) (Or.inl ⟨_, rfl⟩) ?_
  intro p e s m args below meth c ls QQ locs hx hb hml hown hts hK hend hthr hS hl
  have hl : lv_has ls 2 [(0, .ref (o + 9))] := hl
  have hthrW : ∀ {pc : Nat} {ls : Array Slot} {rs : List Value} {H : Heap} {locs : List Loc} {q k n : Nat}, k ≤ (R3.1 - t) → n ≤ (3 * (R3.1 - t)) → va_S (AN o H0.size) H0 H locs → fltA D H q → (exX D dA o V L Rf R3) q H → xq_W p l e (mkRmC (20 + 3 * d) (400 + 70 * d) (R3.1 - t) (3 * (R3.1 - t))) s m args below meth c H locs k n QQ (F0 m pc ls rs) q := fun h1 h2 hS hf hq => xq_widen h1 h2 (hthr _ _ _ _ _ _  hS hf hq)
  refine lv_aload_n hx hb dX3_unit_0 rfl (lv_at hl 0 rfl) ?_
  refine c_VXI hx hb hml hts hown hK hl.1 hS ⟨by show 0 ≤ (R3.1 - t); omega, by show 0 ≤ (3 * (R3.1 - t)); omega⟩ (met_X3_sort l D dA hG (psC_E (V1 := V) hPS Eqx.rf PPx_ps).hm (psC_E (V1 := V) hPS Eqx.rf PPx_ps).hm9 (psC_E (V1 := V) hPS Eqx.rf PPx_ps).hbF ht htm ht4) (cw_X3_65 hts ⟨by show _ ≤ (20 + 3 * d); omega, by show _ ≤ (400 + 70 * d); omega⟩) (hG 9 _ rfl) rfl rfl rfl rfl (Nat.le_of_ble_eq_true rfl) dX3_unit_1 (fun _ h => Or.inl h) (fun q H1 locs hq hF hS => hthrW (by show 0 ≤ (R3.1 - t); omega) (by show 0 ≤ (3 * (R3.1 - t)); omega) hS (okX_flt hq.1) (okX_tr hq.1 Eqx.rf (by have h5 : srK (kdT tp t) = 5 := hq.2; have hs := srK_c (kdT tp t); exact congrArg (fun x => x.2.1) (Eq.trans (Eq.symm (un_1 (kd := kdT tp) (pl := plT tp) (vl := vlT tp) (N := 402) (d := d) (t := t) (fun z => by have := unK_c.mp z; omega) (by omega))) hR)))) (fun r H1 locs hq hF hS => ?_)
  obtain ⟨rfl, rfl, hn5_1⟩ := hq
  have hk3_1 : kdT tp t ≠ 3 := fun z => hn5_1 (show srK (kdT tp t) = 5 by rw [z]; rfl)
  have hsr1 := srK_c (kdT tp t)
  refine iv (y := nI (srK (kdT tp t))) rfl ?_
  refine lv_iconst (v := (nI 1)) hx hb dX3_unit_4 (by decide) ?_
  refine n_icmp_ne (tgt := 33) hx hb dX3_unit_5 (by decide) (by omega) (by omega) (fun c5 => ?_) (fun c5 => ?_)
  · refine lv_aload_n hx hb dX3_unit_33 rfl (lv_at hl 0 rfl) ?_
    refine c_VXI hx hb hml hts hown hK hl.1 hS ⟨by show 0 ≤ (R3.1 - t); omega, by show 0 ≤ (3 * (R3.1 - t)); omega⟩ (met_X3_sort l D dA hG (psC_E (V1 := V) hPS Eqx.rf PPx_ps).hm (psC_E (V1 := V) hPS Eqx.rf PPx_ps).hm9 (psC_E (V1 := V) hPS Eqx.rf PPx_ps).hbF ht htm ht4) (cw_X3_65 hts ⟨by show _ ≤ (20 + 3 * d); omega, by show _ ≤ (400 + 70 * d); omega⟩) (hG 9 _ rfl) rfl rfl rfl rfl (Nat.le_of_ble_eq_true rfl) dX3_unit_34 (fun _ h => Or.inl h) (fun q H1 locs hq hF hS => hthrW (by show 0 ≤ (R3.1 - t); omega) (by show 0 ≤ (3 * (R3.1 - t)); omega) hS (okX_flt hq.1) (okX_tr hq.1 Eqx.rf (by have h5 : srK (kdT tp t) = 5 := hq.2; have hs := srK_c (kdT tp t); exact congrArg (fun x => x.2.1) (Eq.trans (Eq.symm (un_1 (kd := kdT tp) (pl := plT tp) (vl := vlT tp) (N := 402) (d := d) (t := t) (fun z => by have := unK_c.mp z; omega) (by omega))) hR)))) (fun r H1 locs hq hF hS => ?_)
    obtain ⟨rfl, rfl, hn5_2⟩ := hq
    have hk3_2 : kdT tp t ≠ 3 := fun z => hn5_2 (show srK (kdT tp t) = 5 by rw [z]; rfl)
    have hsr2 := srK_c (kdT tp t)
    refine iv (y := nI (srK (kdT tp t))) rfl ?_
    refine lv_iconst (v := (nI 3)) hx hb dX3_unit_37 (by decide) ?_
    refine n_icmp_ne (tgt := 87) hx hb dX3_unit_38 (by decide) (by omega) (by omega) (fun c38 => ?_) (fun c38 => ?_)
    · refine lv_aload_n hx hb dX3_unit_87 rfl (lv_at hl 0 rfl) ?_
      refine lv_bipush (v := (nI 40)) hx hb dX3_unit_88 (by decide) ?_
      refine c_VI hx hb hml hts hown hK hl.1 hS ⟨by show 0 ≤ (R3.1 - t); omega, by show 0 ≤ (3 * (R3.1 - t)); omega⟩ (met_X3_isSign l D dA hG (psC_E (V1 := V) hPS Eqx.rf PPx_ps).hm (psC_E (V1 := V) hPS Eqx.rf PPx_ps).hm9 (psC_E (V1 := V) hPS Eqx.rf PPx_ps).hbF ht htm ht4 40 (by omega)) (cw_X3_55 hts ⟨by show _ ≤ (20 + 3 * d); omega, by show _ ≤ (400 + 70 * d); omega⟩) (hG 9 _ rfl) rfl rfl rfl rfl (Nat.le_of_ble_eq_true rfl) dX3_unit_90 (fun _ h => h.elim) (fun r H1 locs hq hF hS => ?_)
      obtain ⟨rfl, rfl⟩ := hq
      rw [is_sg (tp := tp) (t := t) (y := 40) (K := 6) rfl (by decide)]
      have hbl := bN_lt (decide (kdT tp t = 6))
      refine n_if_ne (tgt := 102) hx hb dX3_unit_93 (by decide) (by omega) (fun c93 => ?_) (fun c93 => ?_)
      · have hk6 := bN_p.mp c93
        refine lv_aload_n hx hb dX3_unit_102 rfl (lv_at hl 0 rfl) ?_
        refine g_get (v := .int (nI (6 - d))) hx hb hts hown hK hG 9 rfl rfl ok_X3 4 (by decide) q298 rfl (congrArg Value.int hop) dX3_unit_103 ?_
        refine lv_bipush (v := (nI 6)) hx hb dX3_unit_106 (by decide) ?_
        refine n_icmp_ne (tgt := 117) hx hb dX3_unit_108 (by decide) (by omega) (by omega) (fun c108 => ?_) (fun c108 => ?_)
        · obtain ⟨d1, rfl⟩ : ∃ x, d = x + 1 := ⟨d - 1, by omega⟩
          refine lv_aload_n hx hb dX3_unit_117 rfl (lv_at hl 0 rfl) ?_
          refine lv_dup hx hb dX3_unit_118 rfl ?_
          refine g_get (v := .int (nI (6 - (d1 + 1)))) hx hb hts hown hK hG 9 rfl rfl ok_X3 4 (by decide) q298 rfl (congrArg Value.int hop) dX3_unit_119 ?_
          refine lv_iconst (v := (nI 1)) hx hb dX3_unit_122 (by decide) ?_
          refine lv_iadd hx hb dX3_unit_123 ?_
          refine iv (y := (nI (6 - d1))) ((nI_add _ _).trans (congrArg nI (by omega))) ?_
          refine g_put hx hb hts hown hK hG hS 9 (Or.inl (AS_in 9 (by decide))) rfl rfl ok_X3 4 (by decide) q298 rfl rfl rfl rfl dX3_unit_124 (fun H locs hG hO hS => ?_)
          refine lv_aload_n hx hb dX3_unit_127 rfl (lv_at hl 0 rfl) ?_
          refine c_VXV hx hb hml hts hown hK hl.1 hS ⟨by show 0 ≤ (R3.1 - t); omega, by show 0 ≤ (3 * (R3.1 - t)); omega⟩ (met_X3_pass l D dA hG (psC_E (V1 := up2 V 9 4 (nI (6 - d1))) hPS (Eqx.rf.up rfl) PPx_ps).hm (psC_E (V1 := up2 V 9 4 (nI (6 - d1))) hPS (Eqx.rf.up rfl) PPx_ps).hm9 ht htm ht4) (cw_X3_59 hts ⟨by show _ ≤ (20 + 3 * (d1 + 1)); omega, by show _ ≤ (400 + 70 * (d1 + 1)); omega⟩) (hG 9 _ rfl) rfl rfl rfl rfl (Nat.le_of_ble_eq_true rfl) dX3_unit_128 (fun _ h => Or.inl h) (fun q H1 locs hq hF hS => hthrW (by show 0 ≤ (R3.1 - t); omega) (by show 0 ≤ (3 * (R3.1 - t)); omega) hS (okX_flt hq) (okX_tr hq (Eqx.rf.up rfl) (congrArg (fun x => x.2.1) (Eq.trans (Eq.symm (un_6g (by omega) (okX_ne hq))) hR)))) (fun H1 locs hq hF hS => ?_)
          obtain ⟨V3, hG, hE3, ho3, ht3⟩ := hq
          generalize hHe3 : H1 = H at hG hS hF ⊢
          clear hHe3
          have hn3 := go_ne ho3
          have hu3 : V3 9 3 = nI (t + 1) := by have e := ht3; rw [goC_n hn3] at e; exact e
          have htm3 : t + 1 < m0 := hPS.next htm (by omega) hk3_2
          refine lv_aload_n hx hb dX3_unit_131 rfl (lv_at hl 0 rfl) ?_
          obtain ⟨R4, hR4⟩ : ∃ x, smP (kdT tp) (plT tp) 402 (rdU (kdT tp) (plT tp) (vlT tp) 402 d1) (t + 1) = x := ⟨_, rfl⟩
          have hge4 := un_6ge (R3 := R3) (by omega) hn3 hR4 hR
          have hsz4 := hS.1
          refine c_VXRA (rm := mkRmC (22 + 3 * d1) (444 + 70 * d1) (R4.1 - (t + 1)) (3 * (R4.1 - (t + 1)))) hx hb hml hts hown hK hl.1 hS (hSU d1 rfl hG (psC_E (V1 := V3) hPS ((Eqx.rf.up rfl).trans (hE3.mono PPs_PPx)) PPx_ps) hu3 htm3 (by omega) (hE3 9 4 rfl) (by omega) hR4) (cw_X3_180 hts ⟨by show _ ≤ (20 + 3 * (d1 + 1)); omega, by show _ ≤ (400 + 70 * (d1 + 1)); omega⟩) (hG 9 _ rfl) rfl rfl rfl rfl (Nat.le_of_ble_eq_true rfl) dX3_unit_132 (fun q hq => hq.elim Or.inl (fun z => Or.inr (Nat.le_trans hS.1 z))) ⟨by show 0 + (R4.1 - (t + 1)) ≤ (R3.1 - t); omega, by show 0 + 3 * (R4.1 - (t + 1)) ≤ (3 * (R3.1 - t)); omega⟩ (fun q H1 locs hq hF hS => xq_widen (k := (R3.1 - t)) (n := (3 * (R3.1 - t))) (by show 0 + (R4.1 - (t + 1)) ≤ (R3.1 - t); omega) (by show 0 + 3 * (R4.1 - (t + 1)) ≤ (3 * (R3.1 - t)); omega) (hthr _ _ _ _ _ _  hS (okX_flt hq) (okX_tr hq ((Eqx.rf.up rfl).trans (hE3.mono PPs_PPx)) (congrArg (fun x => x.2.1) (Eq.trans (Eq.symm (Eq.trans (un_6s (by omega) hn3 hR4) (if_neg (okX_ne hq)))) hR))))) (fun r H locs hq hF hS => ?_)
          obtain ⟨t4, fo4, es4⟩ := R4
          obtain ⟨a4, V4, rfl, hG, hE4, hop4, hfo4, hu4, hlt4, hle4, hlm4, hsm4⟩ := hq
          have hfo4 : fo4 = none := hfo4
          subst hfo4
          have hu4 : V4 9 3 = nI t4 := hu4
          have hlt4 : t + 1 < t4 := hlt4
          have hle4 : t4 ≤ 400 := hle4
          have hlm4 : t4 < m0 := hlm4
          have hsm4 : smA D H _ (t4 - (t + 1)) a4 es4 := hsm4
          have hsm4 := smA_mono (O2 := fun q => H0.size ≤ q) (fun q _ h => Nat.le_trans hsz4 h) _ _ _ hsm4
          have hop4 : V4 9 4 = nI (6 - d1) := hop4.trans (hE3 9 4 rfl)
          have hge4 : t4 ≤ R3.1 ∧ t + 1 ≤ t4 := hge4
          refine lv_astore_n (lv' := [(1, .ref a4), (0, .ref (o + 9))]) hx hb dX3_unit_135 rfl hl (by decide) rfl (fun ls hl => ?_)
          refine lv_aload_n hx hb dX3_unit_136 rfl (lv_at hl 1 rfl) ?_
          refine lv_bipush (v := (nI 41)) hx hb dX3_unit_137 (by decide) ?_
          refine c_VXV hx hb hml hts hown hK hl.1 hS ⟨by show 0 + (t4 - (t + 1)) ≤ (R3.1 - t); omega, by show 0 + 3 * (t4 - (t + 1)) ≤ (3 * (R3.1 - t)); omega⟩ (met_X3_sign l D dA hG (psC_E (V1 := V4) hPS (((Eqx.rf.up rfl).trans (hE3.mono PPs_PPx)).trans (hE4.mono PPo_PPx)) PPx_ps).hm (psC_E (V1 := V4) hPS (((Eqx.rf.up rfl).trans (hE3.mono PPs_PPx)).trans (hE4.mono PPo_PPx)) PPx_ps).hm9 (psC_E (V1 := V4) hPS (((Eqx.rf.up rfl).trans (hE3.mono PPs_PPx)).trans (hE4.mono PPo_PPx)) PPx_ps).hbF hu4 hlm4 hle4 41 (by omega)) (cw_X3_102 hts ⟨by show _ ≤ (20 + 3 * (d1 + 1)); omega, by show _ ≤ (400 + 70 * (d1 + 1)); omega⟩) (hG 9 _ rfl) rfl rfl rfl rfl (Nat.le_of_ble_eq_true rfl) dX3_unit_139 (fun _ h => Or.inl h) (fun q H1 locs hq hF hS => hthrW (by show 0 + (t4 - (t + 1)) ≤ (R3.1 - t); omega) (by show 0 + 3 * (t4 - (t + 1)) ≤ (3 * (R3.1 - t)); omega) hS (okX_flt hq) (okX_tr hq (((Eqx.rf.up rfl).trans (hE3.mono PPs_PPx)).trans (hE4.mono PPo_PPx)) (by rw [mu_sg (tp := tp) (t := t4) (y := 41) (K := 7) rfl (by decide)]; exact congrArg (fun x => x.2.1) (Eq.trans (Eq.symm (Eq.trans (un_6s (by omega) hn3 hR4) (if_pos rfl))) hR)))) (fun H1 locs hq hF hS => ?_)
          obtain ⟨V5, hG, hE5, ho5, ht5⟩ := hq
          generalize hHe5 : H1 = H at hG hS hF ⊢
          clear hHe5
          rw [mu_sg (tp := tp) (t := t4) (y := 41) (K := 7) rfl (by decide)] at ho5 ht5
          obtain ⟨hmk5, hmn5, hme5⟩ := mu_ok ho5
          rw [hme5] at ht5
          have hu5 : V5 9 3 = nI (t4 + 1) := ht5
          have hsm4 := smA_F2 hsm4 hF (fun q hqs hq z => by (try dsimp only at hq); have := z.2.1; omega)
          have htm5 : t4 + 1 < m0 := hPS.next hlm4 (by omega) (by omega)
          refine lv_aload_n hx hb dX3_unit_142 rfl (lv_at hl 1 rfl) ?_
          refine lv_dup hx hb dX3_unit_143 rfl ?_
          refine g_get (v := .int (nI (6 - d1))) hx hb hts hown hK hG 9 rfl rfl ok_X3 4 (by decide) q298 rfl (congrArg Value.int ((hE5 9 4 rfl).trans hop4)) dX3_unit_144 ?_
          refine lv_iconst (v := (nI 1)) hx hb dX3_unit_147 (by decide) ?_
          refine lv_isub hx hb dX3_unit_148 ?_
          refine iv (y := (nI (6 - (d1 + 1)))) ((pk_sub (by omega)).trans (congrArg nI (by omega))) ?_
          refine g_put hx hb hts hown hK hG hS 9 (Or.inl (AS_in 9 (by decide))) rfl rfl ok_X3 4 (by decide) q298 rfl rfl rfl rfl dX3_unit_149 (fun H locs hG hO hS => ?_)
          have hF := hO.fr (A := AS o) (AS_in 9 (by decide))
          have hsm4 := smA_F2 hsm4 hF (fun q hqs hq z => by (try dsimp only at hq); have := z.2.1; omega)
          refine lv_aload_n hx hb dX3_unit_152 rfl (lv_at hl 0 rfl) ?_
          have hR3 : R3 = (t4 + 1, none, es4) := by rw [← hR, un_6s (by omega) hn3 hR4]; show (if (none : Fo) = none then ((muP (kdT tp) (plT tp) 7 t4 none).1, (muP (kdT tp) (plT tp) 7 t4 none).2, es4) else _) = _; rw [if_pos rfl, hme5]
          have hR31 : R3.1 = t4 + 1 := by rw [hR3]
          refine W.widen (k := (R3.1 - t)) (n := (3 * (R3.1 - t))) (by show 0 + (t4 - (t + 1)) ≤ (R3.1 - t); omega) (by show 0 + 3 * (t4 - (t + 1)) ≤ (3 * (R3.1 - t)); omega) ?_
          refine hend _ _ _ _ _ hS dX3_unit_153 (Or.inr ⟨_, rfl⟩) ?_
          subst hR3
          exact ⟨some a4, rfl, a4, _, rfl, hG, (((((Eqx.rf.up rfl).trans (hE3.mono PPs_PPo)).trans hE4).trans (hE5.mono PPs_PPo)).up rfl), ((rfl).trans hop.symm), rfl, hu5, by show t < t4 + 1; omega, by show t4 + 1 ≤ 400; omega, htm5, smA_le (by show t4 - (t + 1) ≤ t4 + 1 - t; omega) hsm4⟩
        have hd0 : d = 0 := by omega
        refine lv_aload_n hx hb dX3_unit_111 rfl (lv_at hl 0 rfl) ?_
        refine lv_iconst (v := (nI 2)) hx hb dX3_unit_112 (by decide) ?_
        refine c_VR hx hb hml hts hown hK hl.1 hS ⟨by show 0 ≤ (R3.1 - t); omega, by show 0 ≤ (3 * (R3.1 - t)); omega⟩ (met_X3_wrong l D dA hG (psC_E (V1 := V) hPS Eqx.rf PPx_ps).hm (psC_E (V1 := V) hPS Eqx.rf PPx_ps).hm9 ht htm ht4 (nI 2)) (cw_X3_48 hts ⟨by show _ ≤ (20 + 3 * d); omega, by show _ ≤ (400 + 70 * d); omega⟩) (hG 9 _ rfl) rfl rfl rfl rfl (Nat.le_of_ble_eq_true rfl) dX3_unit_113 (fun _ h => Or.inl h) (fun r H1 locs hq hF hS => ?_)
        obtain ⟨rfl, V6, hG, hE6, h6_6, h7_6⟩ := hq
        generalize hHe6 : H1 = H at hG hS hF ⊢
        clear hHe6
        refine xq_athrow hx hb dX3_unit_116 ?_
        exact hthrW (by show 0 ≤ (R3.1 - t); omega) (by show 0 ≤ (3 * (R3.1 - t)); omega) hS ⟨_, hG 1 _ rfl⟩ ⟨rfl, _, _, hG, (hE6.mono PFt_PPx), fun _ _ _ => rfl, _, _, (congrArg (fun x => x.2.1) (Eq.trans (Eq.symm hR) ((congrArg (fun x => rdU (kdT tp) (plT tp) (vlT tp) 402 x t) hd0).trans (un_6z (by omega))))), h6_6, h7_6⟩
      have hk6 := bN_z.mp c93
      refine lv_aload_n hx hb dX3_unit_96 rfl (lv_at hl 0 rfl) ?_
      refine lv_iconst (v := (nI 1)) hx hb dX3_unit_97 (by decide) ?_
      refine c_VR hx hb hml hts hown hK hl.1 hS ⟨by show 0 ≤ (R3.1 - t); omega, by show 0 ≤ (3 * (R3.1 - t)); omega⟩ (met_X3_wrong l D dA hG (psC_E (V1 := V) hPS Eqx.rf PPx_ps).hm (psC_E (V1 := V) hPS Eqx.rf PPx_ps).hm9 ht htm ht4 (nI 1)) (cw_X3_48 hts ⟨by show _ ≤ (20 + 3 * d); omega, by show _ ≤ (400 + 70 * d); omega⟩) (hG 9 _ rfl) rfl rfl rfl rfl (Nat.le_of_ble_eq_true rfl) dX3_unit_98 (fun _ h => Or.inl h) (fun r H1 locs hq hF hS => ?_)
      obtain ⟨rfl, V7, hG, hE7, h6_7, h7_7⟩ := hq
      generalize hHe7 : H1 = H at hG hS hF ⊢
      clear hHe7
      refine xq_athrow hx hb dX3_unit_101 ?_
      exact hthrW (by show 0 ≤ (R3.1 - t); omega) (by show 0 ≤ (3 * (R3.1 - t)); omega) hS ⟨_, hG 1 _ rfl⟩ ⟨rfl, _, _, hG, (hE7.mono PFt_PPx), fun _ _ _ => rfl, _, _, (congrArg (fun x => x.2.1) (Eq.trans (Eq.symm hR) (un_1 (kd := kdT tp) (pl := plT tp) (vl := vlT tp) (N := 402) (d := d) (t := t) (fun z => by have := unK_c.mp z; omega) (by omega)))), h6_7, h7_7⟩
    have hkb : 20 ≤ kdT tp t := by omega
    refine lv_aload_n hx hb dX3_unit_41 rfl (lv_at hl 0 rfl) ?_
    refine g_get hx hb hts hown hK hG 9 rfl rfl ok_X3 0 (by decide) q294 rfl rfl dX3_unit_42 ?_
    refine g_get hx hb hts hown hK hG 2 rfl rfl ok_X2 6 (by decide) q268 rfl rfl dX3_unit_45 ?_
    refine lv_aload_n hx hb dX3_unit_48 rfl (lv_at hl 0 rfl) ?_
    refine g_get (v := .int (nI t)) hx hb hts hown hK hG 9 rfl rfl ok_X3 3 (by decide) q297 rfl (congrArg Value.int ht) dX3_unit_49 ?_
    refine n_sald hx hb hK hG 8 rfl (by omega) (by decide) dX3_unit_52 ?_
    refine iv (y := (nI (kdT tp t - 20))) (what_wd hPS htm (by omega)) ?_
    refine lv_bipush (v := (nI 12)) hx hb dX3_unit_53 (by decide) ?_
    refine n_icmp_lt (tgt := 87) hx hb dX3_unit_55 (by decide) (by omega) (by omega) (fun c55 => ?_) (fun c55 => ?_)
    · refine lv_aload_n hx hb dX3_unit_87 rfl (lv_at hl 0 rfl) ?_
      refine lv_bipush (v := (nI 40)) hx hb dX3_unit_88 (by decide) ?_
      refine c_VI hx hb hml hts hown hK hl.1 hS ⟨by show 0 ≤ (R3.1 - t); omega, by show 0 ≤ (3 * (R3.1 - t)); omega⟩ (met_X3_isSign l D dA hG (psC_E (V1 := V) hPS Eqx.rf PPx_ps).hm (psC_E (V1 := V) hPS Eqx.rf PPx_ps).hm9 (psC_E (V1 := V) hPS Eqx.rf PPx_ps).hbF ht htm ht4 40 (by omega)) (cw_X3_55 hts ⟨by show _ ≤ (20 + 3 * d); omega, by show _ ≤ (400 + 70 * d); omega⟩) (hG 9 _ rfl) rfl rfl rfl rfl (Nat.le_of_ble_eq_true rfl) dX3_unit_90 (fun _ h => h.elim) (fun r H1 locs hq hF hS => ?_)
      obtain ⟨rfl, rfl⟩ := hq
      rw [is_sg (tp := tp) (t := t) (y := 40) (K := 6) rfl (by decide)]
      have hbl := bN_lt (decide (kdT tp t = 6))
      refine n_if_ne (tgt := 102) hx hb dX3_unit_93 (by decide) (by omega) (fun c93 => ?_) (fun c93 => ?_)
      · have hk6 := bN_p.mp c93
        refine lv_aload_n hx hb dX3_unit_102 rfl (lv_at hl 0 rfl) ?_
        refine g_get (v := .int (nI (6 - d))) hx hb hts hown hK hG 9 rfl rfl ok_X3 4 (by decide) q298 rfl (congrArg Value.int hop) dX3_unit_103 ?_
        refine lv_bipush (v := (nI 6)) hx hb dX3_unit_106 (by decide) ?_
        refine n_icmp_ne (tgt := 117) hx hb dX3_unit_108 (by decide) (by omega) (by omega) (fun c108 => ?_) (fun c108 => ?_)
        · obtain ⟨d1, rfl⟩ : ∃ x, d = x + 1 := ⟨d - 1, by omega⟩
          refine lv_aload_n hx hb dX3_unit_117 rfl (lv_at hl 0 rfl) ?_
          refine lv_dup hx hb dX3_unit_118 rfl ?_
          refine g_get (v := .int (nI (6 - (d1 + 1)))) hx hb hts hown hK hG 9 rfl rfl ok_X3 4 (by decide) q298 rfl (congrArg Value.int hop) dX3_unit_119 ?_
          refine lv_iconst (v := (nI 1)) hx hb dX3_unit_122 (by decide) ?_
          refine lv_iadd hx hb dX3_unit_123 ?_
          refine iv (y := (nI (6 - d1))) ((nI_add _ _).trans (congrArg nI (by omega))) ?_
          refine g_put hx hb hts hown hK hG hS 9 (Or.inl (AS_in 9 (by decide))) rfl rfl ok_X3 4 (by decide) q298 rfl rfl rfl rfl dX3_unit_124 (fun H locs hG hO hS => ?_)
          refine lv_aload_n hx hb dX3_unit_127 rfl (lv_at hl 0 rfl) ?_
          refine c_VXV hx hb hml hts hown hK hl.1 hS ⟨by show 0 ≤ (R3.1 - t); omega, by show 0 ≤ (3 * (R3.1 - t)); omega⟩ (met_X3_pass l D dA hG (psC_E (V1 := up2 V 9 4 (nI (6 - d1))) hPS (Eqx.rf.up rfl) PPx_ps).hm (psC_E (V1 := up2 V 9 4 (nI (6 - d1))) hPS (Eqx.rf.up rfl) PPx_ps).hm9 ht htm ht4) (cw_X3_59 hts ⟨by show _ ≤ (20 + 3 * (d1 + 1)); omega, by show _ ≤ (400 + 70 * (d1 + 1)); omega⟩) (hG 9 _ rfl) rfl rfl rfl rfl (Nat.le_of_ble_eq_true rfl) dX3_unit_128 (fun _ h => Or.inl h) (fun q H1 locs hq hF hS => hthrW (by show 0 ≤ (R3.1 - t); omega) (by show 0 ≤ (3 * (R3.1 - t)); omega) hS (okX_flt hq) (okX_tr hq (Eqx.rf.up rfl) (congrArg (fun x => x.2.1) (Eq.trans (Eq.symm (un_6g (by omega) (okX_ne hq))) hR)))) (fun H1 locs hq hF hS => ?_)
          obtain ⟨V8, hG, hE8, ho8, ht8⟩ := hq
          generalize hHe8 : H1 = H at hG hS hF ⊢
          clear hHe8
          have hn8 := go_ne ho8
          have hu8 : V8 9 3 = nI (t + 1) := by have e := ht8; rw [goC_n hn8] at e; exact e
          have htm8 : t + 1 < m0 := hPS.next htm (by omega) hk3_2
          refine lv_aload_n hx hb dX3_unit_131 rfl (lv_at hl 0 rfl) ?_
          obtain ⟨R9, hR9⟩ : ∃ x, smP (kdT tp) (plT tp) 402 (rdU (kdT tp) (plT tp) (vlT tp) 402 d1) (t + 1) = x := ⟨_, rfl⟩
          have hge9 := un_6ge (R3 := R3) (by omega) hn8 hR9 hR
          have hsz9 := hS.1
          refine c_VXRA (rm := mkRmC (22 + 3 * d1) (444 + 70 * d1) (R9.1 - (t + 1)) (3 * (R9.1 - (t + 1)))) hx hb hml hts hown hK hl.1 hS (hSU d1 rfl hG (psC_E (V1 := V8) hPS ((Eqx.rf.up rfl).trans (hE8.mono PPs_PPx)) PPx_ps) hu8 htm8 (by omega) (hE8 9 4 rfl) (by omega) hR9) (cw_X3_180 hts ⟨by show _ ≤ (20 + 3 * (d1 + 1)); omega, by show _ ≤ (400 + 70 * (d1 + 1)); omega⟩) (hG 9 _ rfl) rfl rfl rfl rfl (Nat.le_of_ble_eq_true rfl) dX3_unit_132 (fun q hq => hq.elim Or.inl (fun z => Or.inr (Nat.le_trans hS.1 z))) ⟨by show 0 + (R9.1 - (t + 1)) ≤ (R3.1 - t); omega, by show 0 + 3 * (R9.1 - (t + 1)) ≤ (3 * (R3.1 - t)); omega⟩ (fun q H1 locs hq hF hS => xq_widen (k := (R3.1 - t)) (n := (3 * (R3.1 - t))) (by show 0 + (R9.1 - (t + 1)) ≤ (R3.1 - t); omega) (by show 0 + 3 * (R9.1 - (t + 1)) ≤ (3 * (R3.1 - t)); omega) (hthr _ _ _ _ _ _  hS (okX_flt hq) (okX_tr hq ((Eqx.rf.up rfl).trans (hE8.mono PPs_PPx)) (congrArg (fun x => x.2.1) (Eq.trans (Eq.symm (Eq.trans (un_6s (by omega) hn8 hR9) (if_neg (okX_ne hq)))) hR))))) (fun r H locs hq hF hS => ?_)
          obtain ⟨t9, fo9, es9⟩ := R9
          obtain ⟨a9, V9, rfl, hG, hE9, hop9, hfo9, hu9, hlt9, hle9, hlm9, hsm9⟩ := hq
          have hfo9 : fo9 = none := hfo9
          subst hfo9
          have hu9 : V9 9 3 = nI t9 := hu9
          have hlt9 : t + 1 < t9 := hlt9
          have hle9 : t9 ≤ 400 := hle9
          have hlm9 : t9 < m0 := hlm9
          have hsm9 : smA D H _ (t9 - (t + 1)) a9 es9 := hsm9
          have hsm9 := smA_mono (O2 := fun q => H0.size ≤ q) (fun q _ h => Nat.le_trans hsz9 h) _ _ _ hsm9
          have hop9 : V9 9 4 = nI (6 - d1) := hop9.trans (hE8 9 4 rfl)
          have hge9 : t9 ≤ R3.1 ∧ t + 1 ≤ t9 := hge9
          refine lv_astore_n (lv' := [(1, .ref a9), (0, .ref (o + 9))]) hx hb dX3_unit_135 rfl hl (by decide) rfl (fun ls hl => ?_)
          refine lv_aload_n hx hb dX3_unit_136 rfl (lv_at hl 1 rfl) ?_
          refine lv_bipush (v := (nI 41)) hx hb dX3_unit_137 (by decide) ?_
          refine c_VXV hx hb hml hts hown hK hl.1 hS ⟨by show 0 + (t9 - (t + 1)) ≤ (R3.1 - t); omega, by show 0 + 3 * (t9 - (t + 1)) ≤ (3 * (R3.1 - t)); omega⟩ (met_X3_sign l D dA hG (psC_E (V1 := V9) hPS (((Eqx.rf.up rfl).trans (hE8.mono PPs_PPx)).trans (hE9.mono PPo_PPx)) PPx_ps).hm (psC_E (V1 := V9) hPS (((Eqx.rf.up rfl).trans (hE8.mono PPs_PPx)).trans (hE9.mono PPo_PPx)) PPx_ps).hm9 (psC_E (V1 := V9) hPS (((Eqx.rf.up rfl).trans (hE8.mono PPs_PPx)).trans (hE9.mono PPo_PPx)) PPx_ps).hbF hu9 hlm9 hle9 41 (by omega)) (cw_X3_102 hts ⟨by show _ ≤ (20 + 3 * (d1 + 1)); omega, by show _ ≤ (400 + 70 * (d1 + 1)); omega⟩) (hG 9 _ rfl) rfl rfl rfl rfl (Nat.le_of_ble_eq_true rfl) dX3_unit_139 (fun _ h => Or.inl h) (fun q H1 locs hq hF hS => hthrW (by show 0 + (t9 - (t + 1)) ≤ (R3.1 - t); omega) (by show 0 + 3 * (t9 - (t + 1)) ≤ (3 * (R3.1 - t)); omega) hS (okX_flt hq) (okX_tr hq (((Eqx.rf.up rfl).trans (hE8.mono PPs_PPx)).trans (hE9.mono PPo_PPx)) (by rw [mu_sg (tp := tp) (t := t9) (y := 41) (K := 7) rfl (by decide)]; exact congrArg (fun x => x.2.1) (Eq.trans (Eq.symm (Eq.trans (un_6s (by omega) hn8 hR9) (if_pos rfl))) hR)))) (fun H1 locs hq hF hS => ?_)
          obtain ⟨V10, hG, hE10, ho10, ht10⟩ := hq
          generalize hHe10 : H1 = H at hG hS hF ⊢
          clear hHe10
          rw [mu_sg (tp := tp) (t := t9) (y := 41) (K := 7) rfl (by decide)] at ho10 ht10
          obtain ⟨hmk10, hmn10, hme10⟩ := mu_ok ho10
          rw [hme10] at ht10
          have hu10 : V10 9 3 = nI (t9 + 1) := ht10
          have hsm9 := smA_F2 hsm9 hF (fun q hqs hq z => by (try dsimp only at hq); have := z.2.1; omega)
          have htm10 : t9 + 1 < m0 := hPS.next hlm9 (by omega) (by omega)
          refine lv_aload_n hx hb dX3_unit_142 rfl (lv_at hl 1 rfl) ?_
          refine lv_dup hx hb dX3_unit_143 rfl ?_
          refine g_get (v := .int (nI (6 - d1))) hx hb hts hown hK hG 9 rfl rfl ok_X3 4 (by decide) q298 rfl (congrArg Value.int ((hE10 9 4 rfl).trans hop9)) dX3_unit_144 ?_
          refine lv_iconst (v := (nI 1)) hx hb dX3_unit_147 (by decide) ?_
          refine lv_isub hx hb dX3_unit_148 ?_
          refine iv (y := (nI (6 - (d1 + 1)))) ((pk_sub (by omega)).trans (congrArg nI (by omega))) ?_
          refine g_put hx hb hts hown hK hG hS 9 (Or.inl (AS_in 9 (by decide))) rfl rfl ok_X3 4 (by decide) q298 rfl rfl rfl rfl dX3_unit_149 (fun H locs hG hO hS => ?_)
          have hF := hO.fr (A := AS o) (AS_in 9 (by decide))
          have hsm9 := smA_F2 hsm9 hF (fun q hqs hq z => by (try dsimp only at hq); have := z.2.1; omega)
          refine lv_aload_n hx hb dX3_unit_152 rfl (lv_at hl 0 rfl) ?_
          have hR3 : R3 = (t9 + 1, none, es9) := by rw [← hR, un_6s (by omega) hn8 hR9]; show (if (none : Fo) = none then ((muP (kdT tp) (plT tp) 7 t9 none).1, (muP (kdT tp) (plT tp) 7 t9 none).2, es9) else _) = _; rw [if_pos rfl, hme10]
          have hR31 : R3.1 = t9 + 1 := by rw [hR3]
          refine W.widen (k := (R3.1 - t)) (n := (3 * (R3.1 - t))) (by show 0 + (t9 - (t + 1)) ≤ (R3.1 - t); omega) (by show 0 + 3 * (t9 - (t + 1)) ≤ (3 * (R3.1 - t)); omega) ?_
          refine hend _ _ _ _ _ hS dX3_unit_153 (Or.inr ⟨_, rfl⟩) ?_
          subst hR3
          exact ⟨some a9, rfl, a9, _, rfl, hG, (((((Eqx.rf.up rfl).trans (hE8.mono PPs_PPo)).trans hE9).trans (hE10.mono PPs_PPo)).up rfl), ((rfl).trans hop.symm), rfl, hu10, by show t < t9 + 1; omega, by show t9 + 1 ≤ 400; omega, htm10, smA_le (by show t9 - (t + 1) ≤ t9 + 1 - t; omega) hsm9⟩
        have hd0 : d = 0 := by omega
        refine lv_aload_n hx hb dX3_unit_111 rfl (lv_at hl 0 rfl) ?_
        refine lv_iconst (v := (nI 2)) hx hb dX3_unit_112 (by decide) ?_
        refine c_VR hx hb hml hts hown hK hl.1 hS ⟨by show 0 ≤ (R3.1 - t); omega, by show 0 ≤ (3 * (R3.1 - t)); omega⟩ (met_X3_wrong l D dA hG (psC_E (V1 := V) hPS Eqx.rf PPx_ps).hm (psC_E (V1 := V) hPS Eqx.rf PPx_ps).hm9 ht htm ht4 (nI 2)) (cw_X3_48 hts ⟨by show _ ≤ (20 + 3 * d); omega, by show _ ≤ (400 + 70 * d); omega⟩) (hG 9 _ rfl) rfl rfl rfl rfl (Nat.le_of_ble_eq_true rfl) dX3_unit_113 (fun _ h => Or.inl h) (fun r H1 locs hq hF hS => ?_)
        obtain ⟨rfl, V11, hG, hE11, h6_11, h7_11⟩ := hq
        generalize hHe11 : H1 = H at hG hS hF ⊢
        clear hHe11
        refine xq_athrow hx hb dX3_unit_116 ?_
        exact hthrW (by show 0 ≤ (R3.1 - t); omega) (by show 0 ≤ (3 * (R3.1 - t)); omega) hS ⟨_, hG 1 _ rfl⟩ ⟨rfl, _, _, hG, (hE11.mono PFt_PPx), fun _ _ _ => rfl, _, _, (congrArg (fun x => x.2.1) (Eq.trans (Eq.symm hR) ((congrArg (fun x => rdU (kdT tp) (plT tp) (vlT tp) 402 x t) hd0).trans (un_6z (by omega))))), h6_11, h7_11⟩
      have hk6 := bN_z.mp c93
      refine lv_aload_n hx hb dX3_unit_96 rfl (lv_at hl 0 rfl) ?_
      refine lv_iconst (v := (nI 1)) hx hb dX3_unit_97 (by decide) ?_
      refine c_VR hx hb hml hts hown hK hl.1 hS ⟨by show 0 ≤ (R3.1 - t); omega, by show 0 ≤ (3 * (R3.1 - t)); omega⟩ (met_X3_wrong l D dA hG (psC_E (V1 := V) hPS Eqx.rf PPx_ps).hm (psC_E (V1 := V) hPS Eqx.rf PPx_ps).hm9 ht htm ht4 (nI 1)) (cw_X3_48 hts ⟨by show _ ≤ (20 + 3 * d); omega, by show _ ≤ (400 + 70 * d); omega⟩) (hG 9 _ rfl) rfl rfl rfl rfl (Nat.le_of_ble_eq_true rfl) dX3_unit_98 (fun _ h => Or.inl h) (fun r H1 locs hq hF hS => ?_)
      obtain ⟨rfl, V12, hG, hE12, h6_12, h7_12⟩ := hq
      generalize hHe12 : H1 = H at hG hS hF ⊢
      clear hHe12
      refine xq_athrow hx hb dX3_unit_101 ?_
      exact hthrW (by show 0 ≤ (R3.1 - t); omega) (by show 0 ≤ (3 * (R3.1 - t)); omega) hS ⟨_, hG 1 _ rfl⟩ ⟨rfl, _, _, hG, (hE12.mono PFt_PPx), fun _ _ _ => rfl, _, _, (congrArg (fun x => x.2.1) (Eq.trans (Eq.symm hR) (un_1 (kd := kdT tp) (pl := plT tp) (vl := vlT tp) (N := 402) (d := d) (t := t) (fun z => by have := unK_c.mp z; omega) (by omega)))), h6_12, h7_12⟩
    refine lv_aload_n hx hb dX3_unit_58 rfl (lv_at hl 0 rfl) ?_
    refine c_VXV hx hb hml hts hown hK hl.1 hS ⟨by show 0 ≤ (R3.1 - t); omega, by show 0 ≤ (3 * (R3.1 - t)); omega⟩ (met_X3_pass l D dA hG (psC_E (V1 := V) hPS Eqx.rf PPx_ps).hm (psC_E (V1 := V) hPS Eqx.rf PPx_ps).hm9 ht htm ht4) (cw_X3_59 hts ⟨by show _ ≤ (20 + 3 * d); omega, by show _ ≤ (400 + 70 * d); omega⟩) (hG 9 _ rfl) rfl rfl rfl rfl (Nat.le_of_ble_eq_true rfl) dX3_unit_59 (fun _ h => Or.inl h) (fun q H1 locs hq hF hS => hthrW (by show 0 ≤ (R3.1 - t); omega) (by show 0 ≤ (3 * (R3.1 - t)); omega) hS (okX_flt hq) (okX_tr hq Eqx.rf (congrArg (fun x => x.2.1) (Eq.trans (Eq.symm (un_v (unK_c.mpr (by omega)))) hR)))) (fun H1 locs hq hF hS => ?_)
    obtain ⟨V13, hG, hE13, ho13, ht13⟩ := hq
    generalize hHe13 : H1 = H at hG hS hF ⊢
    clear hHe13
    have hn13 := go_ne ho13
    have hu13 : V13 9 3 = nI (t + 1) := by have e := ht13; rw [goC_n hn13] at e; exact e
    have htm13 : t + 1 < m0 := hPS.next htm (by omega) hk3_2
    have hR31 : R3.1 = t + 1 := by rw [← hR, un_v (unK_c.mpr (by omega)), goC_n hn13]
    obtain ⟨na14, hna14⟩ : ∃ x, H.size = x := ⟨_, rfl⟩
    have hnl14 : H0.size ≤ na14 := by have := hS.1; omega
    refine x_new hx hb hts hown hK (ci := 10) (fs := [.int 0]) rfl ok_X17 q796 q797 q136 (by intro j hj; match j, hj with | 0, _ => rfl) hS (by show 0 + 1 ≤ (R3.1 - t); omega) (by show 0 + 1 ≤ (3 * (R3.1 - t)); omega) dX3_unit_62 hna14 (fun H hat14 hz14 hF hS => ?_)
    have hG := hG.fr hF (fun _ _ z => z)
    refine lv_dup hx hb dX3_unit_65 rfl ?_
    refine lv_aload_n hx hb dX3_unit_66 rfl (lv_at hl 0 rfl) ?_
    refine g_get hx hb hts hown hK hG 9 rfl rfl ok_X3 0 (by decide) q294 rfl rfl dX3_unit_67 ?_
    refine g_get hx hb hts hown hK hG 2 rfl rfl ok_X2 6 (by decide) q268 rfl rfl dX3_unit_70 ?_
    refine lv_aload_n hx hb dX3_unit_73 rfl (lv_at hl 0 rfl) ?_
    refine g_get (v := .int (nI (t + 1))) hx hb hts hown hK hG 9 rfl rfl ok_X3 3 (by decide) q297 rfl (congrArg Value.int hu13) dX3_unit_74 ?_
    refine lv_iconst (v := (nI 1)) hx hb dX3_unit_77 (by decide) ?_
    refine lv_isub hx hb dX3_unit_78 ?_
    refine iv (y := (nI t)) (pk_sub (Nat.le_add_left 1 t)) ?_
    refine n_sald hx hb hK hG 8 rfl (by omega) (by decide) dX3_unit_79 ?_
    refine iv (y := (nI (kdT tp t - 20))) ((hE13 8 t rfl).trans (what_wd hPS htm (by omega))) ?_
    refine lv_bipush (v := (nI 12)) hx hb dX3_unit_80 (by decide) ?_
    refine lv_isub hx hb dX3_unit_82 ?_
    refine iv (y := (nI (kdT tp t - 32))) ((pk_sub (by omega)).trans (congrArg nI (by omega))) ?_
    refine c_IV (rm := (mkRmC 2 50 0 0)) hx hb hml hts hown hK hl.1 hS (met_X17_init l D dA (nI (kdT tp t - 32)) hat14) (cwI 1 hts (lw_meth q800) rfl rfl rfl (hts _ q136) (hts _ q798) (hts _ q799) rfl (by decide +kernel) ⟨by show 2 + 1 ≤ (20 + 3 * d); omega, by show 8 + (2 + 11) + 50 ≤ (400 + 70 * d); omega⟩) rfl rfl (Nat.le_of_ble_eq_true rfl) dX3_unit_83 (fun q hq => Or.inr (by have z : q = na14 := hq; omega)) ⟨by show 0 + 1 ≤ (R3.1 - t); omega, by show 0 + 1 ≤ (3 * (R3.1 - t)); omega⟩ (fun H locs hq hF hS => ?_)
    have hq_na14 := hq
    have hG := hG.fr hF (fun k hk z => by rw [dS_len] at hk; have z : o + k = na14 := z; omega)
    have hR3 : R3 = (t + 1, none, [(1, nI (kdT tp t - 32))]) := by rw [← hR, un_v (unK_c.mpr (by omega)), goC_n hn13, unE_v ⟨by omega, by omega⟩]
    have hR31 : R3.1 = t + 1 := by rw [hR3]
    refine W.widen (k := (R3.1 - t)) (n := (3 * (R3.1 - t))) (by show 0 + 1 ≤ (R3.1 - t); omega) (by show 0 + 1 ≤ (3 * (R3.1 - t)); omega) ?_
    refine hend _ _ _ _ _ hS dX3_unit_86 (Or.inr ⟨_, rfl⟩) ?_
    subst hR3
    exact ⟨some na14, rfl, na14, _, rfl, hG, (hE13.mono PPs_PPo), (hE13 9 4 rfl), rfl, hu13, by show t < t + 1; omega, by show t + 1 ≤ 400; omega, htm13, (by show smA D H (fun q => H0.size ≤ q) (t + 1 - t) na14 _; rw [show t + 1 - t = 0 + 1 by omega]; exact ⟨hnl14, Or.inr (Or.inl ⟨kdT tp t - 32, by omega, rfl, hq_na14⟩)⟩)⟩
  refine lv_aload_n hx hb dX3_unit_8 rfl (lv_at hl 0 rfl) ?_
  refine c_VXV hx hb hml hts hown hK hl.1 hS ⟨by show 0 ≤ (R3.1 - t); omega, by show 0 ≤ (3 * (R3.1 - t)); omega⟩ (met_X3_pass l D dA hG (psC_E (V1 := V) hPS Eqx.rf PPx_ps).hm (psC_E (V1 := V) hPS Eqx.rf PPx_ps).hm9 ht htm ht4) (cw_X3_59 hts ⟨by show _ ≤ (20 + 3 * d); omega, by show _ ≤ (400 + 70 * d); omega⟩) (hG 9 _ rfl) rfl rfl rfl rfl (Nat.le_of_ble_eq_true rfl) dX3_unit_9 (fun _ h => Or.inl h) (fun q H1 locs hq hF hS => hthrW (by show 0 ≤ (R3.1 - t); omega) (by show 0 ≤ (3 * (R3.1 - t)); omega) hS (okX_flt hq) (okX_tr hq Eqx.rf (congrArg (fun x => x.2.1) (Eq.trans (Eq.symm (un_v (unK_c.mpr (by omega)))) hR)))) (fun H1 locs hq hF hS => ?_)
  obtain ⟨V15, hG, hE15, ho15, ht15⟩ := hq
  generalize hHe15 : H1 = H at hG hS hF ⊢
  clear hHe15
  have hn15 := go_ne ho15
  have hu15 : V15 9 3 = nI (t + 1) := by have e := ht15; rw [goC_n hn15] at e; exact e
  have htm15 : t + 1 < m0 := hPS.next htm (by omega) hk3_1
  have hR31 : R3.1 = t + 1 := by rw [← hR, un_v (unK_c.mpr (by omega)), goC_n hn15]
  obtain ⟨na16, hna16⟩ : ∃ x, H.size = x := ⟨_, rfl⟩
  have hnl16 : H0.size ≤ na16 := by have := hS.1; omega
  refine x_new hx hb hts hown hK (ci := 9) (fs := [.int 0]) rfl ok_X16 q779 q780 q135 (by intro j hj; match j, hj with | 0, _ => rfl) hS (by show 0 + 1 ≤ (R3.1 - t); omega) (by show 0 + 1 ≤ (3 * (R3.1 - t)); omega) dX3_unit_12 hna16 (fun H hat16 hz16 hF hS => ?_)
  have hG := hG.fr hF (fun _ _ z => z)
  refine lv_dup hx hb dX3_unit_15 rfl ?_
  refine lv_aload_n hx hb dX3_unit_16 rfl (lv_at hl 0 rfl) ?_
  refine g_get hx hb hts hown hK hG 9 rfl rfl ok_X3 0 (by decide) q294 rfl rfl dX3_unit_17 ?_
  refine lv_aload_n hx hb dX3_unit_20 rfl (lv_at hl 0 rfl) ?_
  refine g_get (v := .int (nI (t + 1))) hx hb hts hown hK hG 9 rfl rfl ok_X3 3 (by decide) q297 rfl (congrArg Value.int hu15) dX3_unit_21 ?_
  refine lv_iconst (v := (nI 1)) hx hb dX3_unit_24 (by decide) ?_
  refine lv_isub hx hb dX3_unit_25 ?_
  refine iv (y := (nI t)) (pk_sub (Nat.le_add_left 1 t)) ?_
  obtain ⟨nn, hnu1, hnu2, hnu3, hnu4, hnu5⟩ := hPS.nu (t := t) (by omega)
  refine c_VI hx hb hml hts hown hK hl.1 hS ⟨by show 0 + 1 ≤ (R3.1 - t); omega, by show 0 + 1 ≤ (3 * (R3.1 - t)); omega⟩ (met_X2_number l D dA hG (psC_E (V1 := V15) hPS (hE15.mono PPs_PPx) PPx_ps).1 (psC_E (V1 := V15) hPS (hE15.mono PPs_PPx) PPx_ps).2.1 (psC_E (V1 := V15) hPS (hE15.mono PPs_PPx) PPx_ps).hm (q := t) (i := plT tp t) (n := nn) htm (psC_E (V1 := V15) hPS (hE15.mono PPs_PPx) PPx_ps).hm9 rfl hnu1 hnu2 hnu3 hnu4) (cw_X3_72 hts ⟨by show _ ≤ (20 + 3 * d); omega, by show _ ≤ (400 + 70 * d); omega⟩) (hG 2 _ rfl) rfl rfl rfl rfl (Nat.le_of_ble_eq_true rfl) dX3_unit_26 (fun _ h => h.elim) (fun r H1 locs hq hF hS => ?_)
  obtain ⟨rfl, rfl⟩ := hq
  rw [hnu5]
  refine c_IV (rm := (mkRmC 2 50 0 0)) hx hb hml hts hown hK hl.1 hS (met_X16_init l D dA (nI (vlT tp t)) hat16) (cwI 1 hts (lw_meth q787) rfl rfl rfl (hts _ q135) (hts _ q785) (hts _ q786) rfl (by decide +kernel) ⟨by show 2 + 1 ≤ (20 + 3 * d); omega, by show 8 + (2 + 11) + 50 ≤ (400 + 70 * d); omega⟩) rfl rfl (Nat.le_of_ble_eq_true rfl) dX3_unit_29 (fun q hq => Or.inr (by have z : q = na16 := hq; omega)) ⟨by show 0 + 1 ≤ (R3.1 - t); omega, by show 0 + 1 ≤ (3 * (R3.1 - t)); omega⟩ (fun H locs hq hF hS => ?_)
  have hq_na16 := hq
  have hG := hG.fr hF (fun k hk z => by rw [dS_len] at hk; have z : o + k = na16 := z; omega)
  have hR3 : R3 = (t + 1, none, [(0, nI (vlT tp t))]) := by rw [← hR, un_v (unK_c.mpr (by omega)), goC_n hn15, unE_2 (by omega)]
  have hR31 : R3.1 = t + 1 := by rw [hR3]
  refine W.widen (k := (R3.1 - t)) (n := (3 * (R3.1 - t))) (by show 0 + 1 ≤ (R3.1 - t); omega) (by show 0 + 1 ≤ (3 * (R3.1 - t)); omega) ?_
  refine hend _ _ _ _ _ hS dX3_unit_32 (Or.inr ⟨_, rfl⟩) ?_
  subst hR3
  exact ⟨some na16, rfl, na16, _, rfl, hG, (hE15.mono PPs_PPo), (hE15 9 4 rfl), rfl, hu15, by show t < t + 1; omega, by show t + 1 ≤ 400; omega, htm15, (by show smA D H (fun q => H0.size ≤ q) (t + 1 - t) na16 _; rw [show t + 1 - t = 0 + 1 by omega]; exact ⟨hnl16, Or.inl ⟨_, rfl, hq_na16⟩⟩)⟩
theorem cw_X3_201 {R : Room} {s : State} {args : Array Value} (hts : ∀ w ∈ lw_all, w.before args s = true) {f w k j : Nat} (hR : f + 1 ≤ R.frames ∧ 8 + (2 + 11) + w ≤ R.locals) : CallW R s args RX3 RX3 201 yX3_unit cX3_unit 2 (some (.object "PartedSide$Sum")) (ws_ yX3_unit cX3_unit 2 (some (.object "PartedSide$Sum"))) (mkRmC f w k j) k j 0 := cwV 0 hts (lw_V q775 q777 qs20 q114 q778) rfl rfl rfl (by decide +kernel) hR
set_option maxHeartbeats 4000000 in
theorem met_X3_part (l : Launch) (D : va_G) (dA : Nat → ClassId) {d : Nat} {o : Nat} {V : GI} {L : GL} {Rf : GR} {H0 : Heap} {tp : List Int32} {m0 t : Nat} {R3 : Nat × Fo × List Sg} (hG : gP D dA o dS V L Rf H0) (hPS : psC V tp m0) (ht : V 9 3 = nI t) (htm : t < m0) (ht4 : t ≤ 400) (hop : V 9 4 = nI (6 - d)) (hd6 : d ≤ 6) (hR : ptP (kdT tp) (plT tp) 402 (rdU (kdT tp) (plT tp) (vlT tp) 402 d) t = R3) (hU : exK l D dA yX3_unit cX3_unit 2 (20 + 3 * d) (400 + 70 * d) d (fun kd pl vl => rdU kd pl vl 402 d)) : CtrX l D dA yX3_part cX3_part 3 (some (.object "PartedSide$Sum")) (mkRmC (21 + 3 * d) (422 + 70 * d) (R3.1 - t) (3 * (R3.1 - t))) [.ref (o + 9)] H0 (AN o H0.size) (QR (exQ D dA o V L Rf H0.size m0 t R3)) (exX D dA o V L Rf R3) := by
  have hlo := gP_sz hG
  have hkl := kd_41 tp t
  have hkl2 := hPS.hm9
  have hR : jnP (kdT tp) (plT tp) 10 15 402 (rdU (kdT tp) (plT tp) (vlT tp) 402 d) t = R3 := hR
  refine ctrX_R (by decide) (Nat.le_of_ble_eq_true rfl) (Or.inl ⟨_, rfl⟩) ?_
  intro p e s m args below meth c ls QQ locs hx hb hml hown hts hK hend hthr hS hl
  have hl : lv_has ls 3 [(0, .ref (o + 9))] := hl
  have hthrW : ∀ {pc : Nat} {ls : Array Slot} {rs : List Value} {H : Heap} {locs : List Loc} {q k n : Nat}, k ≤ (R3.1 - t) → n ≤ (3 * (R3.1 - t)) → va_S (AN o H0.size) H0 H locs → fltA D H q → (exX D dA o V L Rf R3) q H → xq_W p l e (mkRmC (21 + 3 * d) (422 + 70 * d) (R3.1 - t) (3 * (R3.1 - t))) s m args below meth c H locs k n QQ (F0 m pc ls rs) q := fun h1 h2 hS hf hq => xq_widen h1 h2 (hthr _ _ _ _ _ _  hS hf hq)
  refine lv_aload_n hx hb dX3_part_0 rfl (lv_at hl 0 rfl) ?_
  obtain ⟨R1, hR1⟩ : ∃ x, rdU (kdT tp) (plT tp) (vlT tp) 402 d t = x := ⟨_, rfl⟩
  have hge1 := jnP_u3 (R3 := R3) (rdU_mo d) hR1 hR
  have hsz1 := hS.1
  refine c_VXRA (rm := mkRmC (20 + 3 * d) (400 + 70 * d) (R1.1 - t) (3 * (R1.1 - t))) hx hb hml hts hown hK hl.1 hS (hU hG (psC_E (V1 := V) hPS Eqx.rf PPx_ps) ht htm ht4 hop (by omega) hR1) (cw_X3_201 hts ⟨by show _ ≤ (21 + 3 * d); omega, by show _ ≤ (422 + 70 * d); omega⟩) (hG 9 _ rfl) rfl rfl rfl rfl (Nat.le_of_ble_eq_true rfl) dX3_part_1 (fun q hq => hq.elim Or.inl (fun z => Or.inr (Nat.le_trans hS.1 z))) ⟨by show 0 + (R1.1 - t) ≤ (R3.1 - t); omega, by show 0 + 3 * (R1.1 - t) ≤ (3 * (R3.1 - t)); omega⟩ (fun q H1 locs hq hF hS => xq_widen (k := (R3.1 - t)) (n := (3 * (R3.1 - t))) (by show 0 + (R1.1 - t) ≤ (R3.1 - t); omega) (by show 0 + 3 * (R1.1 - t) ≤ (3 * (R3.1 - t)); omega) (hthr _ _ _ _ _ _  hS (okX_flt hq) (okX_tr hq Eqx.rf (Eq.trans (Eq.symm (jnP_u2 hR1 (okX_ne hq))) (congrArg (fun x => x.2.1) hR))))) (fun r H locs hq hF hS => ?_)
  obtain ⟨t1, fo1, es1⟩ := R1
  obtain ⟨a1, V1, rfl, hG, hE1, hop1, hfo1, hu1, hlt1, hle1, hlm1, hsm1⟩ := hq
  have hfo1 : fo1 = none := hfo1
  subst hfo1
  have hu1 : V1 9 3 = nI t1 := hu1
  have hlt1 : t < t1 := hlt1
  have hle1 : t1 ≤ 400 := hle1
  have hlm1 : t1 < m0 := hlm1
  have hsm1 : smA D H _ (t1 - (t)) a1 es1 := hsm1
  have hsm1 := smA_mono (O2 := fun q => H0.size ≤ q) (fun q _ h => Nat.le_trans hsz1 h) _ _ _ hsm1
  have hop1 : V1 9 4 = nI (6 - d) := hop1.trans hop
  have hge1 : t1 ≤ R3.1 ∧ t ≤ t1 := hge1
  refine lv_astore_n (lv' := [(1, .ref a1), (0, .ref (o + 9))]) hx hb dX3_part_4 rfl hl (by decide) rfl (fun ls hl => ?_)
  have hJ1 := (jnP_u hR1).symm.trans hR
  refine W.widen (k := t1 - t) (n := 3 * (t1 - t)) (by show 0 + (t1 - t) ≤ _; omega) (by show 0 + 3 * (t1 - t) ≤ _; omega) ?_
  have loop2 : ∀ (fu2 : Nat) (nf : Nat) (u : Nat) (av : Nat) (es : List Sg) (VL : GI) (H : Heap) (locs : List Loc) (ls : Array Slot), nf < fu2 → (jnL (kdT tp) (plT tp) 10 15 (rdU (kdT tp) (plT tp) (vlT tp) 402 d) nf u es = R3) → (402 ≤ nf + u) → (u ≤ 400) → (u < m0) → (t < u) → (Eqx PPo V1 VL) → (VL 9 3 = nI u) → (VL 9 4 = nI (6 - d)) → (smA D H (fun q => H0.size ≤ q) (u - t) av es) → gP D dA o dS VL L Rf H → va_S (AN o H0.size) H0 H locs → lv_has ls 3 [(1, .ref av), (0, .ref (o + 9))] → W p l e (mkRmC (21 + 3 * d) (422 + 70 * d) (R3.1 - t) (3 * (R3.1 - t))) s m args below meth c H locs (u - t) (3 * (u - t)) QQ (F0 m 5 ls []) := by
    intro fu2
    induction fu2 with
    | zero => intro nf u av es VL H locs ls hfu; exact absurd hfu (Nat.not_lt_zero _)
    | succ fu2 ih2 =>
      intro nf u av es VL H locs ls hfu hJ hnf hu4 hum htu hEL hu ho hsm hG hS hl
      obtain ⟨n1, rfl⟩ : ∃ x, nf = x + 1 := ⟨nf - 1, by omega⟩
      have hur : u ≤ R3.1 := by rw [← hJ]; exact jnL_mo (rdU_mo d) _ _ _
      refine lv_aload_n hx hb dX3_part_5 rfl (lv_at hl 1 rfl) ?_
      refine lv_bipush (v := (nI 42)) hx hb dX3_part_6 (by decide) ?_
      refine c_VI hx hb hml hts hown hK hl.1 hS ⟨by show (u - t) ≤ (R3.1 - t); omega, by show (3 * (u - t)) ≤ (3 * (R3.1 - t)); omega⟩ (met_X3_isSign l D dA hG (psC_E (V1 := VL) hPS ((hE1.mono PPo_PPx).trans (hEL.mono PPo_PPx)) PPx_ps).hm (psC_E (V1 := VL) hPS ((hE1.mono PPo_PPx).trans (hEL.mono PPo_PPx)) PPx_ps).hm9 (psC_E (V1 := VL) hPS ((hE1.mono PPo_PPx).trans (hEL.mono PPo_PPx)) PPx_ps).hbF hu hum hu4 42 (by omega)) (cw_X3_55 hts ⟨by show _ ≤ (21 + 3 * d); omega, by show _ ≤ (422 + 70 * d); omega⟩) (hG 9 _ rfl) rfl rfl rfl rfl (Nat.le_of_ble_eq_true rfl) dX3_part_8 (fun _ h => h.elim) (fun r H1 locs hq hF hS => ?_)
      obtain ⟨rfl, rfl⟩ := hq
      rw [is_sg (tp := tp) (t := u) (y := 42) (K := 10) rfl (by decide)]
      have hbl := bN_lt (decide (kdT tp u = 10))
      refine n_if_ne (tgt := 23) hx hb dX3_part_11 (by decide) (by omega) (fun c11 => ?_) (fun c11 => ?_)
      · have hk1 : kdT tp u = 10 := bN_p.mp c11
        have hkk : kdT tp u = 10 ∨ kdT tp u = 15 := Or.inl hk1
        refine lv_aload_n hx hb dX3_part_23 rfl (lv_at hl 1 rfl) ?_
        refine g_get hx hb hts hown hK hG 9 rfl rfl ok_X3 0 (by decide) q294 rfl rfl dX3_part_24 ?_
        refine g_get hx hb hts hown hK hG 2 rfl rfl ok_X2 6 (by decide) q268 rfl rfl dX3_part_27 ?_
        refine lv_aload_n hx hb dX3_part_30 rfl (lv_at hl 1 rfl) ?_
        refine g_get (v := .int (nI u)) hx hb hts hown hK hG 9 rfl rfl ok_X3 3 (by decide) q297 rfl (congrArg Value.int hu) dX3_part_31 ?_
        refine n_sald hx hb hK hG 8 rfl (by omega) (by decide) dX3_part_34 ?_
        refine iv (y := (nI 42)) (((hEL 8 u rfl).trans (hE1 8 u rfl)).trans (what_sg hPS hum (y := 42) (K := 10) rfl (by decide) hk1)) ?_
        refine lv_istore_n (lv' := [(2, .int (nI 42)), (1, .ref av), (0, .ref (o + 9))]) hx hb dX3_part_35 rfl hl (by decide) rfl (fun ls hl => ?_)
        refine lv_aload_n hx hb dX3_part_36 rfl (lv_at hl 2 rfl) ?_
        refine c_VXV hx hb hml hts hown hK hl.1 hS ⟨by show (u - t) ≤ (R3.1 - t); omega, by show (3 * (u - t)) ≤ (3 * (R3.1 - t)); omega⟩ (met_X3_pass l D dA hG (psC_E (V1 := VL) hPS ((hE1.mono PPo_PPx).trans (hEL.mono PPo_PPx)) PPx_ps).hm (psC_E (V1 := VL) hPS ((hE1.mono PPo_PPx).trans (hEL.mono PPo_PPx)) PPx_ps).hm9 hu hum hu4) (cw_X3_59 hts ⟨by show _ ≤ (21 + 3 * d); omega, by show _ ≤ (422 + 70 * d); omega⟩) (hG 9 _ rfl) rfl rfl rfl rfl (Nat.le_of_ble_eq_true rfl) dX3_part_37 (fun _ h => Or.inl h) (fun q H1 locs hq hF hS => hthrW (by show (u - t) ≤ (R3.1 - t); omega) (by show (3 * (u - t)) ≤ (3 * (R3.1 - t)); omega) hS (okX_flt hq) (okX_tr hq ((hE1.mono PPo_PPx).trans (hEL.mono PPo_PPx)) (Eq.trans (Eq.symm (jnL_g2 hkk (okX_ne hq))) (congrArg (fun x => x.2.1) hJ)))) (fun H1 locs hq hF hS => ?_)
        obtain ⟨V3, hG, hE3, ho3, ht3⟩ := hq
        generalize hHe3 : H1 = H at hG hS hF ⊢
        clear hHe3
        have hn3 := go_ne ho3
        have hu3 : V3 9 3 = nI (u + 1) := by have e := ht3; rw [goC_n hn3] at e; exact e
        have hsm := smA_F2 hsm hF (fun q hqs hq z => by (try dsimp only at hq); have := z.2.1; omega)
        have htm3 : u + 1 < m0 := hPS.next hum (by omega) (by omega)
        have hur1 : u + 1 ≤ R3.1 := by have h := jnL_u3 (R3 := R3) (rdU_mo d) hkk hn3 rfl hJ; omega
        obtain ⟨na4, hna4⟩ : ∃ x, H.size = x := ⟨_, rfl⟩
        have hnl4 : H0.size ≤ na4 := by have := hS.1; omega
        have hsm := smA_mono (O2 := fun q => H0.size ≤ q ∧ q < na4) (fun q h1 h2 => ⟨h2, by omega⟩) _ _ _ hsm
        refine x_new hx hb hts hown hK (ci := 11) (fs := [.int 0, .null, .null]) rfl ok_X18 q806 q807 q137 (by intro j hj; match j, hj with | 0, _ => rfl | 1, _ => rfl | 2, _ => rfl) hS (by show (u - t) + 1 ≤ (R3.1 - t); omega) (by show (3 * (u - t)) + 3 ≤ (3 * (R3.1 - t)); omega) dX3_part_40 hna4 (fun H hat4 hz4 hF hS => ?_)
        have hG := hG.fr hF (fun _ _ z => z)
        have hsm := smA_F2 hsm hF (fun q hqs hq z => z)
        refine lv_dup hx hb dX3_part_43 rfl ?_
        refine lv_iload_n hx hb dX3_part_44 rfl (lv_at hl 0 rfl) ?_
        refine lv_aload_n hx hb dX3_part_45 rfl (lv_at hl 1 rfl) ?_
        refine lv_aload_n hx hb dX3_part_46 rfl (lv_at hl 2 rfl) ?_
        obtain ⟨R5, hR5⟩ : ∃ x, rdU (kdT tp) (plT tp) (vlT tp) 402 d (u + 1) = x := ⟨_, rfl⟩
        have hge5 := jnL_u3 (R3 := R3) (rdU_mo d) hkk hn3 hR5 hJ
        have hsz5 := hS.1
        refine c_VXRA (rm := mkRmC (20 + 3 * d) (400 + 70 * d) (R5.1 - (u + 1)) (3 * (R5.1 - (u + 1)))) hx hb hml hts hown hK hl.1 hS (hU hG (psC_E (V1 := V3) hPS (((hE1.mono PPo_PPx).trans (hEL.mono PPo_PPx)).trans (hE3.mono PPs_PPx)) PPx_ps) hu3 htm3 (by omega) ((hE3 9 4 rfl).trans ho) (by omega) hR5) (cw_X3_201 hts ⟨by show _ ≤ (21 + 3 * d); omega, by show _ ≤ (422 + 70 * d); omega⟩) (hG 9 _ rfl) rfl rfl rfl rfl (Nat.le_of_ble_eq_true rfl) dX3_part_47 (fun q hq => hq.elim Or.inl (fun z => Or.inr (Nat.le_trans hS.1 z))) ⟨by show (u - t) + 1 + (R5.1 - (u + 1)) ≤ (R3.1 - t); omega, by show (3 * (u - t)) + 3 + 3 * (R5.1 - (u + 1)) ≤ (3 * (R3.1 - t)); omega⟩ (fun q H1 locs hq hF hS => xq_widen (k := (R3.1 - t)) (n := (3 * (R3.1 - t))) (by show (u - t) + 1 + (R5.1 - (u + 1)) ≤ (R3.1 - t); omega) (by show (3 * (u - t)) + 3 + 3 * (R5.1 - (u + 1)) ≤ (3 * (R3.1 - t)); omega) (hthr _ _ _ _ _ _  hS (okX_flt hq) (okX_tr hq (((hE1.mono PPo_PPx).trans (hEL.mono PPo_PPx)).trans (hE3.mono PPs_PPx)) (Eq.trans (Eq.symm (jnL_u2 hkk hn3 hR5 (okX_ne hq))) (congrArg (fun x => x.2.1) hJ))))) (fun r H locs hq hF hS => ?_)
        obtain ⟨t5, fo5, es5⟩ := R5
        obtain ⟨a5, V5, rfl, hG, hE5, hop5, hfo5, hu5, hlt5, hle5, hlm5, hsm5⟩ := hq
        have hfo5 : fo5 = none := hfo5
        subst hfo5
        have hu5 : V5 9 3 = nI t5 := hu5
        have hlt5 : u + 1 < t5 := hlt5
        have hle5 : t5 ≤ 400 := hle5
        have hlm5 : t5 < m0 := hlm5
        have hsm5 : smA D H _ (t5 - (u + 1)) a5 es5 := hsm5
        have hsm := smA_F2 hsm hF (fun q hqs hq z => by (try dsimp only at hq); rcases z with z | z; (have := z.2.1; omega); omega)
        have hat4 := hat4.kept (hF.2 _ hat4.lt (fun z => by have hlt := hat4.lt; dsimp only at hlt; rcases z with z | z; (have := z.2.1; dsimp only at this; omega); dsimp only at z; omega))
        have hsm5 := smA_mono (O2 := fun q => na4 < q) (fun q _ h => by have h2 : _ ≤ q := h; omega) _ _ _ hsm5
        have hop5 : V5 9 4 = nI (6 - d) := hop5.trans ((hE3 9 4 rfl).trans ho)
        have hge5 : t5 ≤ R3.1 ∧ u + 1 ≤ t5 := hge5
        refine c_IV (rm := (mkRmC 2 50 0 0)) hx hb hml hts hown hK hl.1 hS (met_X18_init l D dA (nI 42) av a5 hat4) (cwI 3 hts (lw_meth q810) rfl rfl rfl (hts _ q137) (hts _ q808) (hts _ q809) rfl (by decide +kernel) ⟨by show 2 + 1 ≤ (21 + 3 * d); omega, by show 8 + (4 + 11) + 50 ≤ (422 + 70 * d); omega⟩) rfl rfl (Nat.le_of_ble_eq_true rfl) dX3_part_50 (fun q hq => Or.inr (by have z : q = na4 := hq; omega)) ⟨by show (u - t) + 1 + (t5 - (u + 1)) ≤ (R3.1 - t); omega, by show (3 * (u - t)) + 3 + 3 * (t5 - (u + 1)) ≤ (3 * (R3.1 - t)); omega⟩ (fun H locs hq hF hS => ?_)
        have hq_na4 := hq
        have hG := hG.fr hF (fun k hk z => by rw [dS_len] at hk; have z : o + k = na4 := z; omega)
        have hsm := smA_F2 hsm hF (fun q hqs hq z => by (try dsimp only at hq); have z2 : q = _ := z; omega)
        have hsm5 := smA_F2 hsm5 hF (fun q hqs hq z => by (try dsimp only at hq); have z2 : q = _ := z; omega)
        refine lv_astore_n (lv' := [(1, .ref na4), (2, .int (nI 42)), (0, .ref (o + 9))]) hx hb dX3_part_53 rfl hl (by decide) rfl (fun ls hl => ?_)
        refine lv_goto (tgt := 5) hx hb dX3_part_54 (by decide) ?_
        refine W.widen (k := t5 - t) (n := 3 * (t5 - t)) (by show (u - t) + 1 + (t5 - (u + 1)) ≤ _; omega) (by show (3 * (u - t)) + 3 + 3 * (t5 - (u + 1)) ≤ _; omega) ?_
        exact ih2 n1 t5 na4 (es ++ es5 ++ [(opK (kdT tp u), nI 0)]) V5 _ _ _ (by omega) ((jnL_go hkk hn3 hR5).symm.trans hJ) (by omega) (by omega) (by omega) (by omega) (Eqx.trans (Eqx.trans hEL (hE3.mono PPs_PPo)) hE5) hu5 (hop5) (smA_jn (k := 2) (by decide) (by rw [hk1]; rfl) hnl4 hq_na4 (smA_mono (fun q _ h => h.1) _ _ _ hsm) (smA_mono (fun q _ h => by have h2 : na4 < q := h; show H0.size ≤ q; omega) _ _ _ hsm5) (by omega) (by omega)) hG hS (lv_sub hl [0, 2] rfl)
      have hm1 := bN_z.mp c11
      refine lv_aload_n hx hb dX3_part_14 rfl (lv_at hl 1 rfl) ?_
      refine lv_bipush (v := (nI 47)) hx hb dX3_part_15 (by decide) ?_
      refine c_VI hx hb hml hts hown hK hl.1 hS ⟨by show (u - t) ≤ (R3.1 - t); omega, by show (3 * (u - t)) ≤ (3 * (R3.1 - t)); omega⟩ (met_X3_isSign l D dA hG (psC_E (V1 := VL) hPS ((hE1.mono PPo_PPx).trans (hEL.mono PPo_PPx)) PPx_ps).hm (psC_E (V1 := VL) hPS ((hE1.mono PPo_PPx).trans (hEL.mono PPo_PPx)) PPx_ps).hm9 (psC_E (V1 := VL) hPS ((hE1.mono PPo_PPx).trans (hEL.mono PPo_PPx)) PPx_ps).hbF hu hum hu4 47 (by omega)) (cw_X3_55 hts ⟨by show _ ≤ (21 + 3 * d); omega, by show _ ≤ (422 + 70 * d); omega⟩) (hG 9 _ rfl) rfl rfl rfl rfl (Nat.le_of_ble_eq_true rfl) dX3_part_17 (fun _ h => h.elim) (fun r H1 locs hq hF hS => ?_)
      obtain ⟨rfl, rfl⟩ := hq
      rw [is_sg (tp := tp) (t := u) (y := 47) (K := 15) rfl (by decide)]
      have hbl := bN_lt (decide (kdT tp u = 15))
      refine n_if_eq (tgt := 57) hx hb dX3_part_20 (by decide) (by omega) (fun c20 => ?_) (fun c20 => ?_)
      · have hm2 := bN_z.mp c20
        refine lv_aload_n hx hb dX3_part_57 rfl (lv_at hl 0 rfl) ?_
        have hR3 : R3 = (u, none, es) := by rw [← hJ, jnL_no (by omega)]
        have hR31 : R3.1 = u := by rw [hR3]
        refine W.widen (k := (R3.1 - t)) (n := (3 * (R3.1 - t))) (by show (u - t) ≤ (R3.1 - t); omega) (by show (3 * (u - t)) ≤ (3 * (R3.1 - t)); omega) ?_
        refine hend _ _ _ _ _ hS dX3_part_58 (Or.inr ⟨_, rfl⟩) ?_
        subst hR3
        exact ⟨some av, rfl, av, _, rfl, hG, (hE1.trans hEL), ho.trans hop.symm, rfl, hu, htu, hu4, hum, hsm⟩
      have hk1 : kdT tp u = 15 := bN_p.mp c20
      have hkk : kdT tp u = 10 ∨ kdT tp u = 15 := Or.inr hk1
      refine lv_aload_n hx hb dX3_part_23 rfl (lv_at hl 1 rfl) ?_
      refine g_get hx hb hts hown hK hG 9 rfl rfl ok_X3 0 (by decide) q294 rfl rfl dX3_part_24 ?_
      refine g_get hx hb hts hown hK hG 2 rfl rfl ok_X2 6 (by decide) q268 rfl rfl dX3_part_27 ?_
      refine lv_aload_n hx hb dX3_part_30 rfl (lv_at hl 1 rfl) ?_
      refine g_get (v := .int (nI u)) hx hb hts hown hK hG 9 rfl rfl ok_X3 3 (by decide) q297 rfl (congrArg Value.int hu) dX3_part_31 ?_
      refine n_sald hx hb hK hG 8 rfl (by omega) (by decide) dX3_part_34 ?_
      refine iv (y := (nI 47)) (((hEL 8 u rfl).trans (hE1 8 u rfl)).trans (what_sg hPS hum (y := 47) (K := 15) rfl (by decide) hk1)) ?_
      refine lv_istore_n (lv' := [(2, .int (nI 47)), (1, .ref av), (0, .ref (o + 9))]) hx hb dX3_part_35 rfl hl (by decide) rfl (fun ls hl => ?_)
      refine lv_aload_n hx hb dX3_part_36 rfl (lv_at hl 2 rfl) ?_
      refine c_VXV hx hb hml hts hown hK hl.1 hS ⟨by show (u - t) ≤ (R3.1 - t); omega, by show (3 * (u - t)) ≤ (3 * (R3.1 - t)); omega⟩ (met_X3_pass l D dA hG (psC_E (V1 := VL) hPS ((hE1.mono PPo_PPx).trans (hEL.mono PPo_PPx)) PPx_ps).hm (psC_E (V1 := VL) hPS ((hE1.mono PPo_PPx).trans (hEL.mono PPo_PPx)) PPx_ps).hm9 hu hum hu4) (cw_X3_59 hts ⟨by show _ ≤ (21 + 3 * d); omega, by show _ ≤ (422 + 70 * d); omega⟩) (hG 9 _ rfl) rfl rfl rfl rfl (Nat.le_of_ble_eq_true rfl) dX3_part_37 (fun _ h => Or.inl h) (fun q H1 locs hq hF hS => hthrW (by show (u - t) ≤ (R3.1 - t); omega) (by show (3 * (u - t)) ≤ (3 * (R3.1 - t)); omega) hS (okX_flt hq) (okX_tr hq ((hE1.mono PPo_PPx).trans (hEL.mono PPo_PPx)) (Eq.trans (Eq.symm (jnL_g2 hkk (okX_ne hq))) (congrArg (fun x => x.2.1) hJ)))) (fun H1 locs hq hF hS => ?_)
      obtain ⟨V6, hG, hE6, ho6, ht6⟩ := hq
      generalize hHe6 : H1 = H at hG hS hF ⊢
      clear hHe6
      have hn6 := go_ne ho6
      have hu6 : V6 9 3 = nI (u + 1) := by have e := ht6; rw [goC_n hn6] at e; exact e
      have hsm := smA_F2 hsm hF (fun q hqs hq z => by (try dsimp only at hq); have := z.2.1; omega)
      have htm6 : u + 1 < m0 := hPS.next hum (by omega) (by omega)
      have hur1 : u + 1 ≤ R3.1 := by have h := jnL_u3 (R3 := R3) (rdU_mo d) hkk hn6 rfl hJ; omega
      obtain ⟨na7, hna7⟩ : ∃ x, H.size = x := ⟨_, rfl⟩
      have hnl7 : H0.size ≤ na7 := by have := hS.1; omega
      have hsm := smA_mono (O2 := fun q => H0.size ≤ q ∧ q < na7) (fun q h1 h2 => ⟨h2, by omega⟩) _ _ _ hsm
      refine x_new hx hb hts hown hK (ci := 11) (fs := [.int 0, .null, .null]) rfl ok_X18 q806 q807 q137 (by intro j hj; match j, hj with | 0, _ => rfl | 1, _ => rfl | 2, _ => rfl) hS (by show (u - t) + 1 ≤ (R3.1 - t); omega) (by show (3 * (u - t)) + 3 ≤ (3 * (R3.1 - t)); omega) dX3_part_40 hna7 (fun H hat7 hz7 hF hS => ?_)
      have hG := hG.fr hF (fun _ _ z => z)
      have hsm := smA_F2 hsm hF (fun q hqs hq z => z)
      refine lv_dup hx hb dX3_part_43 rfl ?_
      refine lv_iload_n hx hb dX3_part_44 rfl (lv_at hl 0 rfl) ?_
      refine lv_aload_n hx hb dX3_part_45 rfl (lv_at hl 1 rfl) ?_
      refine lv_aload_n hx hb dX3_part_46 rfl (lv_at hl 2 rfl) ?_
      obtain ⟨R8, hR8⟩ : ∃ x, rdU (kdT tp) (plT tp) (vlT tp) 402 d (u + 1) = x := ⟨_, rfl⟩
      have hge8 := jnL_u3 (R3 := R3) (rdU_mo d) hkk hn6 hR8 hJ
      have hsz8 := hS.1
      refine c_VXRA (rm := mkRmC (20 + 3 * d) (400 + 70 * d) (R8.1 - (u + 1)) (3 * (R8.1 - (u + 1)))) hx hb hml hts hown hK hl.1 hS (hU hG (psC_E (V1 := V6) hPS (((hE1.mono PPo_PPx).trans (hEL.mono PPo_PPx)).trans (hE6.mono PPs_PPx)) PPx_ps) hu6 htm6 (by omega) ((hE6 9 4 rfl).trans ho) (by omega) hR8) (cw_X3_201 hts ⟨by show _ ≤ (21 + 3 * d); omega, by show _ ≤ (422 + 70 * d); omega⟩) (hG 9 _ rfl) rfl rfl rfl rfl (Nat.le_of_ble_eq_true rfl) dX3_part_47 (fun q hq => hq.elim Or.inl (fun z => Or.inr (Nat.le_trans hS.1 z))) ⟨by show (u - t) + 1 + (R8.1 - (u + 1)) ≤ (R3.1 - t); omega, by show (3 * (u - t)) + 3 + 3 * (R8.1 - (u + 1)) ≤ (3 * (R3.1 - t)); omega⟩ (fun q H1 locs hq hF hS => xq_widen (k := (R3.1 - t)) (n := (3 * (R3.1 - t))) (by show (u - t) + 1 + (R8.1 - (u + 1)) ≤ (R3.1 - t); omega) (by show (3 * (u - t)) + 3 + 3 * (R8.1 - (u + 1)) ≤ (3 * (R3.1 - t)); omega) (hthr _ _ _ _ _ _  hS (okX_flt hq) (okX_tr hq (((hE1.mono PPo_PPx).trans (hEL.mono PPo_PPx)).trans (hE6.mono PPs_PPx)) (Eq.trans (Eq.symm (jnL_u2 hkk hn6 hR8 (okX_ne hq))) (congrArg (fun x => x.2.1) hJ))))) (fun r H locs hq hF hS => ?_)
      obtain ⟨t8, fo8, es8⟩ := R8
      obtain ⟨a8, V8, rfl, hG, hE8, hop8, hfo8, hu8, hlt8, hle8, hlm8, hsm8⟩ := hq
      have hfo8 : fo8 = none := hfo8
      subst hfo8
      have hu8 : V8 9 3 = nI t8 := hu8
      have hlt8 : u + 1 < t8 := hlt8
      have hle8 : t8 ≤ 400 := hle8
      have hlm8 : t8 < m0 := hlm8
      have hsm8 : smA D H _ (t8 - (u + 1)) a8 es8 := hsm8
      have hsm := smA_F2 hsm hF (fun q hqs hq z => by (try dsimp only at hq); rcases z with z | z; (have := z.2.1; omega); omega)
      have hat7 := hat7.kept (hF.2 _ hat7.lt (fun z => by have hlt := hat7.lt; dsimp only at hlt; rcases z with z | z; (have := z.2.1; dsimp only at this; omega); dsimp only at z; omega))
      have hsm8 := smA_mono (O2 := fun q => na7 < q) (fun q _ h => by have h2 : _ ≤ q := h; omega) _ _ _ hsm8
      have hop8 : V8 9 4 = nI (6 - d) := hop8.trans ((hE6 9 4 rfl).trans ho)
      have hge8 : t8 ≤ R3.1 ∧ u + 1 ≤ t8 := hge8
      refine c_IV (rm := (mkRmC 2 50 0 0)) hx hb hml hts hown hK hl.1 hS (met_X18_init l D dA (nI 47) av a8 hat7) (cwI 3 hts (lw_meth q810) rfl rfl rfl (hts _ q137) (hts _ q808) (hts _ q809) rfl (by decide +kernel) ⟨by show 2 + 1 ≤ (21 + 3 * d); omega, by show 8 + (4 + 11) + 50 ≤ (422 + 70 * d); omega⟩) rfl rfl (Nat.le_of_ble_eq_true rfl) dX3_part_50 (fun q hq => Or.inr (by have z : q = na7 := hq; omega)) ⟨by show (u - t) + 1 + (t8 - (u + 1)) ≤ (R3.1 - t); omega, by show (3 * (u - t)) + 3 + 3 * (t8 - (u + 1)) ≤ (3 * (R3.1 - t)); omega⟩ (fun H locs hq hF hS => ?_)
      have hq_na7 := hq
      have hG := hG.fr hF (fun k hk z => by rw [dS_len] at hk; have z : o + k = na7 := z; omega)
      have hsm := smA_F2 hsm hF (fun q hqs hq z => by (try dsimp only at hq); have z2 : q = _ := z; omega)
      have hsm8 := smA_F2 hsm8 hF (fun q hqs hq z => by (try dsimp only at hq); have z2 : q = _ := z; omega)
      refine lv_astore_n (lv' := [(1, .ref na7), (2, .int (nI 47)), (0, .ref (o + 9))]) hx hb dX3_part_53 rfl hl (by decide) rfl (fun ls hl => ?_)
      refine lv_goto (tgt := 5) hx hb dX3_part_54 (by decide) ?_
      refine W.widen (k := t8 - t) (n := 3 * (t8 - t)) (by show (u - t) + 1 + (t8 - (u + 1)) ≤ _; omega) (by show (3 * (u - t)) + 3 + 3 * (t8 - (u + 1)) ≤ _; omega) ?_
      exact ih2 n1 t8 na7 (es ++ es8 ++ [(opK (kdT tp u), nI 0)]) V8 _ _ _ (by omega) ((jnL_go hkk hn6 hR8).symm.trans hJ) (by omega) (by omega) (by omega) (by omega) (Eqx.trans (Eqx.trans hEL (hE6.mono PPs_PPo)) hE8) hu8 (hop8) (smA_jn (k := 3) (by decide) (by rw [hk1]; rfl) hnl7 hq_na7 (smA_mono (fun q _ h => h.1) _ _ _ hsm) (smA_mono (fun q _ h => by have h2 : na7 < q := h; show H0.size ≤ q; omega) _ _ _ hsm8) (by omega) (by omega)) hG hS (lv_sub hl [0, 2] rfl)
  exact loop2 (402 + 1) 402 t1 a1 es1 V1 _ _ _ (Nat.lt_succ_self _) hJ1 (by omega) hle1 hlm1 hlt1 Eqx.rf hu1 hop1 hsm1 hG hS (lv_sub hl [0, 1] rfl)
theorem cw_X3_193 {R : Room} {s : State} {args : Array Value} (hts : ∀ w ∈ lw_all, w.before args s = true) {f w k j : Nat} (hR : f + 1 ≤ R.frames ∧ 8 + (3 + 11) + w ≤ R.locals) : CallW R s args RX3 RX3 193 yX3_part cX3_part 3 (some (.object "PartedSide$Sum")) (ws_ yX3_part cX3_part 3 (some (.object "PartedSide$Sum"))) (mkRmC f w k j) k j 0 := cwV 0 hts (lw_V q771 q773 qs19 q114 q774) rfl rfl rfl (by decide +kernel) hR
set_option maxHeartbeats 4000000 in
theorem met_X3_sum (l : Launch) (D : va_G) (dA : Nat → ClassId) {d : Nat} {o : Nat} {V : GI} {L : GL} {Rf : GR} {H0 : Heap} {tp : List Int32} {m0 t : Nat} {R3 : Nat × Fo × List Sg} (hG : gP D dA o dS V L Rf H0) (hPS : psC V tp m0) (ht : V 9 3 = nI t) (htm : t < m0) (ht4 : t ≤ 400) (hop : V 9 4 = nI (6 - d)) (hd6 : d ≤ 6) (hR : smP (kdT tp) (plT tp) 402 (rdU (kdT tp) (plT tp) (vlT tp) 402 d) t = R3) (hP : exK l D dA yX3_part cX3_part 3 (21 + 3 * d) (422 + 70 * d) d (fun kd pl vl => ptP kd pl 402 (rdU kd pl vl 402 d))) : CtrX l D dA yX3_sum cX3_sum 3 (some (.object "PartedSide$Sum")) (mkRmC (22 + 3 * d) (444 + 70 * d) (R3.1 - t) (3 * (R3.1 - t))) [.ref (o + 9)] H0 (AN o H0.size) (QR (exQ D dA o V L Rf H0.size m0 t R3)) (exX D dA o V L Rf R3) := by
  have hlo := gP_sz hG
  have hkl := kd_41 tp t
  have hkl2 := hPS.hm9
  have hR : jnP (kdT tp) (plT tp) 8 9 402 (ptP (kdT tp) (plT tp) 402 (rdU (kdT tp) (plT tp) (vlT tp) 402 d)) t = R3 := hR
  refine ctrX_R (by decide) (Nat.le_of_ble_eq_true rfl) (Or.inl ⟨_, rfl⟩) ?_
  intro p e s m args below meth c ls QQ locs hx hb hml hown hts hK hend hthr hS hl
  have hl : lv_has ls 3 [(0, .ref (o + 9))] := hl
  have hthrW : ∀ {pc : Nat} {ls : Array Slot} {rs : List Value} {H : Heap} {locs : List Loc} {q k n : Nat}, k ≤ (R3.1 - t) → n ≤ (3 * (R3.1 - t)) → va_S (AN o H0.size) H0 H locs → fltA D H q → (exX D dA o V L Rf R3) q H → xq_W p l e (mkRmC (22 + 3 * d) (444 + 70 * d) (R3.1 - t) (3 * (R3.1 - t))) s m args below meth c H locs k n QQ (F0 m pc ls rs) q := fun h1 h2 hS hf hq => xq_widen h1 h2 (hthr _ _ _ _ _ _  hS hf hq)
  refine lv_aload_n hx hb dX3_sum_0 rfl (lv_at hl 0 rfl) ?_
  obtain ⟨R1, hR1⟩ : ∃ x, ptP (kdT tp) (plT tp) 402 (rdU (kdT tp) (plT tp) (vlT tp) 402 d) t = x := ⟨_, rfl⟩
  have hge1 := jnP_u3 (R3 := R3) rdP_mo hR1 hR
  have hsz1 := hS.1
  refine c_VXRA (rm := mkRmC (21 + 3 * d) (422 + 70 * d) (R1.1 - t) (3 * (R1.1 - t))) hx hb hml hts hown hK hl.1 hS (hP hG (psC_E (V1 := V) hPS Eqx.rf PPx_ps) ht htm ht4 hop (by omega) hR1) (cw_X3_193 hts ⟨by show _ ≤ (22 + 3 * d); omega, by show _ ≤ (444 + 70 * d); omega⟩) (hG 9 _ rfl) rfl rfl rfl rfl (Nat.le_of_ble_eq_true rfl) dX3_sum_1 (fun q hq => hq.elim Or.inl (fun z => Or.inr (Nat.le_trans hS.1 z))) ⟨by show 0 + (R1.1 - t) ≤ (R3.1 - t); omega, by show 0 + 3 * (R1.1 - t) ≤ (3 * (R3.1 - t)); omega⟩ (fun q H1 locs hq hF hS => xq_widen (k := (R3.1 - t)) (n := (3 * (R3.1 - t))) (by show 0 + (R1.1 - t) ≤ (R3.1 - t); omega) (by show 0 + 3 * (R1.1 - t) ≤ (3 * (R3.1 - t)); omega) (hthr _ _ _ _ _ _  hS (okX_flt hq) (okX_tr hq Eqx.rf (Eq.trans (Eq.symm (jnP_u2 hR1 (okX_ne hq))) (congrArg (fun x => x.2.1) hR))))) (fun r H locs hq hF hS => ?_)
  obtain ⟨t1, fo1, es1⟩ := R1
  obtain ⟨a1, V1, rfl, hG, hE1, hop1, hfo1, hu1, hlt1, hle1, hlm1, hsm1⟩ := hq
  have hfo1 : fo1 = none := hfo1
  subst hfo1
  have hu1 : V1 9 3 = nI t1 := hu1
  have hlt1 : t < t1 := hlt1
  have hle1 : t1 ≤ 400 := hle1
  have hlm1 : t1 < m0 := hlm1
  have hsm1 : smA D H _ (t1 - (t)) a1 es1 := hsm1
  have hsm1 := smA_mono (O2 := fun q => H0.size ≤ q) (fun q _ h => Nat.le_trans hsz1 h) _ _ _ hsm1
  have hop1 : V1 9 4 = nI (6 - d) := hop1.trans hop
  have hge1 : t1 ≤ R3.1 ∧ t ≤ t1 := hge1
  refine lv_astore_n (lv' := [(1, .ref a1), (0, .ref (o + 9))]) hx hb dX3_sum_4 rfl hl (by decide) rfl (fun ls hl => ?_)
  have hJ1 := (jnP_u hR1).symm.trans hR
  refine W.widen (k := t1 - t) (n := 3 * (t1 - t)) (by show 0 + (t1 - t) ≤ _; omega) (by show 0 + 3 * (t1 - t) ≤ _; omega) ?_
  have loop2 : ∀ (fu2 : Nat) (nf : Nat) (u : Nat) (av : Nat) (es : List Sg) (VL : GI) (H : Heap) (locs : List Loc) (ls : Array Slot), nf < fu2 → (jnL (kdT tp) (plT tp) 8 9 (ptP (kdT tp) (plT tp) 402 (rdU (kdT tp) (plT tp) (vlT tp) 402 d)) nf u es = R3) → (402 ≤ nf + u) → (u ≤ 400) → (u < m0) → (t < u) → (Eqx PPo V1 VL) → (VL 9 3 = nI u) → (VL 9 4 = nI (6 - d)) → (smA D H (fun q => H0.size ≤ q) (u - t) av es) → gP D dA o dS VL L Rf H → va_S (AN o H0.size) H0 H locs → lv_has ls 3 [(1, .ref av), (0, .ref (o + 9))] → W p l e (mkRmC (22 + 3 * d) (444 + 70 * d) (R3.1 - t) (3 * (R3.1 - t))) s m args below meth c H locs (u - t) (3 * (u - t)) QQ (F0 m 5 ls []) := by
    intro fu2
    induction fu2 with
    | zero => intro nf u av es VL H locs ls hfu; exact absurd hfu (Nat.not_lt_zero _)
    | succ fu2 ih2 =>
      intro nf u av es VL H locs ls hfu hJ hnf hu4 hum htu hEL hu ho hsm hG hS hl
      obtain ⟨n1, rfl⟩ : ∃ x, nf = x + 1 := ⟨nf - 1, by omega⟩
      have hur : u ≤ R3.1 := by rw [← hJ]; exact jnL_mo rdP_mo _ _ _
      refine lv_aload_n hx hb dX3_sum_5 rfl (lv_at hl 1 rfl) ?_
      refine lv_bipush (v := (nI 43)) hx hb dX3_sum_6 (by decide) ?_
      refine c_VI hx hb hml hts hown hK hl.1 hS ⟨by show (u - t) ≤ (R3.1 - t); omega, by show (3 * (u - t)) ≤ (3 * (R3.1 - t)); omega⟩ (met_X3_isSign l D dA hG (psC_E (V1 := VL) hPS ((hE1.mono PPo_PPx).trans (hEL.mono PPo_PPx)) PPx_ps).hm (psC_E (V1 := VL) hPS ((hE1.mono PPo_PPx).trans (hEL.mono PPo_PPx)) PPx_ps).hm9 (psC_E (V1 := VL) hPS ((hE1.mono PPo_PPx).trans (hEL.mono PPo_PPx)) PPx_ps).hbF hu hum hu4 43 (by omega)) (cw_X3_55 hts ⟨by show _ ≤ (22 + 3 * d); omega, by show _ ≤ (444 + 70 * d); omega⟩) (hG 9 _ rfl) rfl rfl rfl rfl (Nat.le_of_ble_eq_true rfl) dX3_sum_8 (fun _ h => h.elim) (fun r H1 locs hq hF hS => ?_)
      obtain ⟨rfl, rfl⟩ := hq
      rw [is_sg (tp := tp) (t := u) (y := 43) (K := 8) rfl (by decide)]
      have hbl := bN_lt (decide (kdT tp u = 8))
      refine n_if_ne (tgt := 23) hx hb dX3_sum_11 (by decide) (by omega) (fun c11 => ?_) (fun c11 => ?_)
      · have hk1 : kdT tp u = 8 := bN_p.mp c11
        have hkk : kdT tp u = 8 ∨ kdT tp u = 9 := Or.inl hk1
        refine lv_aload_n hx hb dX3_sum_23 rfl (lv_at hl 1 rfl) ?_
        refine g_get hx hb hts hown hK hG 9 rfl rfl ok_X3 0 (by decide) q294 rfl rfl dX3_sum_24 ?_
        refine g_get hx hb hts hown hK hG 2 rfl rfl ok_X2 6 (by decide) q268 rfl rfl dX3_sum_27 ?_
        refine lv_aload_n hx hb dX3_sum_30 rfl (lv_at hl 1 rfl) ?_
        refine g_get (v := .int (nI u)) hx hb hts hown hK hG 9 rfl rfl ok_X3 3 (by decide) q297 rfl (congrArg Value.int hu) dX3_sum_31 ?_
        refine n_sald hx hb hK hG 8 rfl (by omega) (by decide) dX3_sum_34 ?_
        refine iv (y := (nI 43)) (((hEL 8 u rfl).trans (hE1 8 u rfl)).trans (what_sg hPS hum (y := 43) (K := 8) rfl (by decide) hk1)) ?_
        refine lv_istore_n (lv' := [(2, .int (nI 43)), (1, .ref av), (0, .ref (o + 9))]) hx hb dX3_sum_35 rfl hl (by decide) rfl (fun ls hl => ?_)
        refine lv_aload_n hx hb dX3_sum_36 rfl (lv_at hl 2 rfl) ?_
        refine c_VXV hx hb hml hts hown hK hl.1 hS ⟨by show (u - t) ≤ (R3.1 - t); omega, by show (3 * (u - t)) ≤ (3 * (R3.1 - t)); omega⟩ (met_X3_pass l D dA hG (psC_E (V1 := VL) hPS ((hE1.mono PPo_PPx).trans (hEL.mono PPo_PPx)) PPx_ps).hm (psC_E (V1 := VL) hPS ((hE1.mono PPo_PPx).trans (hEL.mono PPo_PPx)) PPx_ps).hm9 hu hum hu4) (cw_X3_59 hts ⟨by show _ ≤ (22 + 3 * d); omega, by show _ ≤ (444 + 70 * d); omega⟩) (hG 9 _ rfl) rfl rfl rfl rfl (Nat.le_of_ble_eq_true rfl) dX3_sum_37 (fun _ h => Or.inl h) (fun q H1 locs hq hF hS => hthrW (by show (u - t) ≤ (R3.1 - t); omega) (by show (3 * (u - t)) ≤ (3 * (R3.1 - t)); omega) hS (okX_flt hq) (okX_tr hq ((hE1.mono PPo_PPx).trans (hEL.mono PPo_PPx)) (Eq.trans (Eq.symm (jnL_g2 hkk (okX_ne hq))) (congrArg (fun x => x.2.1) hJ)))) (fun H1 locs hq hF hS => ?_)
        obtain ⟨V3, hG, hE3, ho3, ht3⟩ := hq
        generalize hHe3 : H1 = H at hG hS hF ⊢
        clear hHe3
        have hn3 := go_ne ho3
        have hu3 : V3 9 3 = nI (u + 1) := by have e := ht3; rw [goC_n hn3] at e; exact e
        have hsm := smA_F2 hsm hF (fun q hqs hq z => by (try dsimp only at hq); have := z.2.1; omega)
        have htm3 : u + 1 < m0 := hPS.next hum (by omega) (by omega)
        have hur1 : u + 1 ≤ R3.1 := by have h := jnL_u3 (R3 := R3) rdP_mo hkk hn3 rfl hJ; omega
        obtain ⟨na4, hna4⟩ : ∃ x, H.size = x := ⟨_, rfl⟩
        have hnl4 : H0.size ≤ na4 := by have := hS.1; omega
        have hsm := smA_mono (O2 := fun q => H0.size ≤ q ∧ q < na4) (fun q h1 h2 => ⟨h2, by omega⟩) _ _ _ hsm
        refine x_new hx hb hts hown hK (ci := 11) (fs := [.int 0, .null, .null]) rfl ok_X18 q806 q807 q137 (by intro j hj; match j, hj with | 0, _ => rfl | 1, _ => rfl | 2, _ => rfl) hS (by show (u - t) + 1 ≤ (R3.1 - t); omega) (by show (3 * (u - t)) + 3 ≤ (3 * (R3.1 - t)); omega) dX3_sum_40 hna4 (fun H hat4 hz4 hF hS => ?_)
        have hG := hG.fr hF (fun _ _ z => z)
        have hsm := smA_F2 hsm hF (fun q hqs hq z => z)
        refine lv_dup hx hb dX3_sum_43 rfl ?_
        refine lv_iload_n hx hb dX3_sum_44 rfl (lv_at hl 0 rfl) ?_
        refine lv_aload_n hx hb dX3_sum_45 rfl (lv_at hl 1 rfl) ?_
        refine lv_aload_n hx hb dX3_sum_46 rfl (lv_at hl 2 rfl) ?_
        obtain ⟨R5, hR5⟩ : ∃ x, ptP (kdT tp) (plT tp) 402 (rdU (kdT tp) (plT tp) (vlT tp) 402 d) (u + 1) = x := ⟨_, rfl⟩
        have hge5 := jnL_u3 (R3 := R3) rdP_mo hkk hn3 hR5 hJ
        have hsz5 := hS.1
        refine c_VXRA (rm := mkRmC (21 + 3 * d) (422 + 70 * d) (R5.1 - (u + 1)) (3 * (R5.1 - (u + 1)))) hx hb hml hts hown hK hl.1 hS (hP hG (psC_E (V1 := V3) hPS (((hE1.mono PPo_PPx).trans (hEL.mono PPo_PPx)).trans (hE3.mono PPs_PPx)) PPx_ps) hu3 htm3 (by omega) ((hE3 9 4 rfl).trans ho) (by omega) hR5) (cw_X3_193 hts ⟨by show _ ≤ (22 + 3 * d); omega, by show _ ≤ (444 + 70 * d); omega⟩) (hG 9 _ rfl) rfl rfl rfl rfl (Nat.le_of_ble_eq_true rfl) dX3_sum_47 (fun q hq => hq.elim Or.inl (fun z => Or.inr (Nat.le_trans hS.1 z))) ⟨by show (u - t) + 1 + (R5.1 - (u + 1)) ≤ (R3.1 - t); omega, by show (3 * (u - t)) + 3 + 3 * (R5.1 - (u + 1)) ≤ (3 * (R3.1 - t)); omega⟩ (fun q H1 locs hq hF hS => xq_widen (k := (R3.1 - t)) (n := (3 * (R3.1 - t))) (by show (u - t) + 1 + (R5.1 - (u + 1)) ≤ (R3.1 - t); omega) (by show (3 * (u - t)) + 3 + 3 * (R5.1 - (u + 1)) ≤ (3 * (R3.1 - t)); omega) (hthr _ _ _ _ _ _  hS (okX_flt hq) (okX_tr hq (((hE1.mono PPo_PPx).trans (hEL.mono PPo_PPx)).trans (hE3.mono PPs_PPx)) (Eq.trans (Eq.symm (jnL_u2 hkk hn3 hR5 (okX_ne hq))) (congrArg (fun x => x.2.1) hJ))))) (fun r H locs hq hF hS => ?_)
        obtain ⟨t5, fo5, es5⟩ := R5
        obtain ⟨a5, V5, rfl, hG, hE5, hop5, hfo5, hu5, hlt5, hle5, hlm5, hsm5⟩ := hq
        have hfo5 : fo5 = none := hfo5
        subst hfo5
        have hu5 : V5 9 3 = nI t5 := hu5
        have hlt5 : u + 1 < t5 := hlt5
        have hle5 : t5 ≤ 400 := hle5
        have hlm5 : t5 < m0 := hlm5
        have hsm5 : smA D H _ (t5 - (u + 1)) a5 es5 := hsm5
        have hsm := smA_F2 hsm hF (fun q hqs hq z => by (try dsimp only at hq); rcases z with z | z; (have := z.2.1; omega); omega)
        have hat4 := hat4.kept (hF.2 _ hat4.lt (fun z => by have hlt := hat4.lt; dsimp only at hlt; rcases z with z | z; (have := z.2.1; dsimp only at this; omega); dsimp only at z; omega))
        have hsm5 := smA_mono (O2 := fun q => na4 < q) (fun q _ h => by have h2 : _ ≤ q := h; omega) _ _ _ hsm5
        have hop5 : V5 9 4 = nI (6 - d) := hop5.trans ((hE3 9 4 rfl).trans ho)
        have hge5 : t5 ≤ R3.1 ∧ u + 1 ≤ t5 := hge5
        refine c_IV (rm := (mkRmC 2 50 0 0)) hx hb hml hts hown hK hl.1 hS (met_X18_init l D dA (nI 43) av a5 hat4) (cwI 3 hts (lw_meth q810) rfl rfl rfl (hts _ q137) (hts _ q808) (hts _ q809) rfl (by decide +kernel) ⟨by show 2 + 1 ≤ (22 + 3 * d); omega, by show 8 + (4 + 11) + 50 ≤ (444 + 70 * d); omega⟩) rfl rfl (Nat.le_of_ble_eq_true rfl) dX3_sum_50 (fun q hq => Or.inr (by have z : q = na4 := hq; omega)) ⟨by show (u - t) + 1 + (t5 - (u + 1)) ≤ (R3.1 - t); omega, by show (3 * (u - t)) + 3 + 3 * (t5 - (u + 1)) ≤ (3 * (R3.1 - t)); omega⟩ (fun H locs hq hF hS => ?_)
        have hq_na4 := hq
        have hG := hG.fr hF (fun k hk z => by rw [dS_len] at hk; have z : o + k = na4 := z; omega)
        have hsm := smA_F2 hsm hF (fun q hqs hq z => by (try dsimp only at hq); have z2 : q = _ := z; omega)
        have hsm5 := smA_F2 hsm5 hF (fun q hqs hq z => by (try dsimp only at hq); have z2 : q = _ := z; omega)
        refine lv_astore_n (lv' := [(1, .ref na4), (2, .int (nI 43)), (0, .ref (o + 9))]) hx hb dX3_sum_53 rfl hl (by decide) rfl (fun ls hl => ?_)
        refine lv_goto (tgt := 5) hx hb dX3_sum_54 (by decide) ?_
        refine W.widen (k := t5 - t) (n := 3 * (t5 - t)) (by show (u - t) + 1 + (t5 - (u + 1)) ≤ _; omega) (by show (3 * (u - t)) + 3 + 3 * (t5 - (u + 1)) ≤ _; omega) ?_
        exact ih2 n1 t5 na4 (es ++ es5 ++ [(opK (kdT tp u), nI 0)]) V5 _ _ _ (by omega) ((jnL_go hkk hn3 hR5).symm.trans hJ) (by omega) (by omega) (by omega) (by omega) (Eqx.trans (Eqx.trans hEL (hE3.mono PPs_PPo)) hE5) hu5 (hop5) (smA_jn (k := 0) (by decide) (by rw [hk1]; rfl) hnl4 hq_na4 (smA_mono (fun q _ h => h.1) _ _ _ hsm) (smA_mono (fun q _ h => by have h2 : na4 < q := h; show H0.size ≤ q; omega) _ _ _ hsm5) (by omega) (by omega)) hG hS (lv_sub hl [0, 2] rfl)
      have hm1 := bN_z.mp c11
      refine lv_aload_n hx hb dX3_sum_14 rfl (lv_at hl 1 rfl) ?_
      refine lv_bipush (v := (nI 45)) hx hb dX3_sum_15 (by decide) ?_
      refine c_VI hx hb hml hts hown hK hl.1 hS ⟨by show (u - t) ≤ (R3.1 - t); omega, by show (3 * (u - t)) ≤ (3 * (R3.1 - t)); omega⟩ (met_X3_isSign l D dA hG (psC_E (V1 := VL) hPS ((hE1.mono PPo_PPx).trans (hEL.mono PPo_PPx)) PPx_ps).hm (psC_E (V1 := VL) hPS ((hE1.mono PPo_PPx).trans (hEL.mono PPo_PPx)) PPx_ps).hm9 (psC_E (V1 := VL) hPS ((hE1.mono PPo_PPx).trans (hEL.mono PPo_PPx)) PPx_ps).hbF hu hum hu4 45 (by omega)) (cw_X3_55 hts ⟨by show _ ≤ (22 + 3 * d); omega, by show _ ≤ (444 + 70 * d); omega⟩) (hG 9 _ rfl) rfl rfl rfl rfl (Nat.le_of_ble_eq_true rfl) dX3_sum_17 (fun _ h => h.elim) (fun r H1 locs hq hF hS => ?_)
      obtain ⟨rfl, rfl⟩ := hq
      rw [is_sg (tp := tp) (t := u) (y := 45) (K := 9) rfl (by decide)]
      have hbl := bN_lt (decide (kdT tp u = 9))
      refine n_if_eq (tgt := 57) hx hb dX3_sum_20 (by decide) (by omega) (fun c20 => ?_) (fun c20 => ?_)
      · have hm2 := bN_z.mp c20
        refine lv_aload_n hx hb dX3_sum_57 rfl (lv_at hl 0 rfl) ?_
        have hR3 : R3 = (u, none, es) := by rw [← hJ, jnL_no (by omega)]
        have hR31 : R3.1 = u := by rw [hR3]
        refine W.widen (k := (R3.1 - t)) (n := (3 * (R3.1 - t))) (by show (u - t) ≤ (R3.1 - t); omega) (by show (3 * (u - t)) ≤ (3 * (R3.1 - t)); omega) ?_
        refine hend _ _ _ _ _ hS dX3_sum_58 (Or.inr ⟨_, rfl⟩) ?_
        subst hR3
        exact ⟨some av, rfl, av, _, rfl, hG, (hE1.trans hEL), ho.trans hop.symm, rfl, hu, htu, hu4, hum, hsm⟩
      have hk1 : kdT tp u = 9 := bN_p.mp c20
      have hkk : kdT tp u = 8 ∨ kdT tp u = 9 := Or.inr hk1
      refine lv_aload_n hx hb dX3_sum_23 rfl (lv_at hl 1 rfl) ?_
      refine g_get hx hb hts hown hK hG 9 rfl rfl ok_X3 0 (by decide) q294 rfl rfl dX3_sum_24 ?_
      refine g_get hx hb hts hown hK hG 2 rfl rfl ok_X2 6 (by decide) q268 rfl rfl dX3_sum_27 ?_
      refine lv_aload_n hx hb dX3_sum_30 rfl (lv_at hl 1 rfl) ?_
      refine g_get (v := .int (nI u)) hx hb hts hown hK hG 9 rfl rfl ok_X3 3 (by decide) q297 rfl (congrArg Value.int hu) dX3_sum_31 ?_
      refine n_sald hx hb hK hG 8 rfl (by omega) (by decide) dX3_sum_34 ?_
      refine iv (y := (nI 45)) (((hEL 8 u rfl).trans (hE1 8 u rfl)).trans (what_sg hPS hum (y := 45) (K := 9) rfl (by decide) hk1)) ?_
      refine lv_istore_n (lv' := [(2, .int (nI 45)), (1, .ref av), (0, .ref (o + 9))]) hx hb dX3_sum_35 rfl hl (by decide) rfl (fun ls hl => ?_)
      refine lv_aload_n hx hb dX3_sum_36 rfl (lv_at hl 2 rfl) ?_
      refine c_VXV hx hb hml hts hown hK hl.1 hS ⟨by show (u - t) ≤ (R3.1 - t); omega, by show (3 * (u - t)) ≤ (3 * (R3.1 - t)); omega⟩ (met_X3_pass l D dA hG (psC_E (V1 := VL) hPS ((hE1.mono PPo_PPx).trans (hEL.mono PPo_PPx)) PPx_ps).hm (psC_E (V1 := VL) hPS ((hE1.mono PPo_PPx).trans (hEL.mono PPo_PPx)) PPx_ps).hm9 hu hum hu4) (cw_X3_59 hts ⟨by show _ ≤ (22 + 3 * d); omega, by show _ ≤ (444 + 70 * d); omega⟩) (hG 9 _ rfl) rfl rfl rfl rfl (Nat.le_of_ble_eq_true rfl) dX3_sum_37 (fun _ h => Or.inl h) (fun q H1 locs hq hF hS => hthrW (by show (u - t) ≤ (R3.1 - t); omega) (by show (3 * (u - t)) ≤ (3 * (R3.1 - t)); omega) hS (okX_flt hq) (okX_tr hq ((hE1.mono PPo_PPx).trans (hEL.mono PPo_PPx)) (Eq.trans (Eq.symm (jnL_g2 hkk (okX_ne hq))) (congrArg (fun x => x.2.1) hJ)))) (fun H1 locs hq hF hS => ?_)
      obtain ⟨V6, hG, hE6, ho6, ht6⟩ := hq
      generalize hHe6 : H1 = H at hG hS hF ⊢
      clear hHe6
      have hn6 := go_ne ho6
      have hu6 : V6 9 3 = nI (u + 1) := by have e := ht6; rw [goC_n hn6] at e; exact e
      have hsm := smA_F2 hsm hF (fun q hqs hq z => by (try dsimp only at hq); have := z.2.1; omega)
      have htm6 : u + 1 < m0 := hPS.next hum (by omega) (by omega)
      have hur1 : u + 1 ≤ R3.1 := by have h := jnL_u3 (R3 := R3) rdP_mo hkk hn6 rfl hJ; omega
      obtain ⟨na7, hna7⟩ : ∃ x, H.size = x := ⟨_, rfl⟩
      have hnl7 : H0.size ≤ na7 := by have := hS.1; omega
      have hsm := smA_mono (O2 := fun q => H0.size ≤ q ∧ q < na7) (fun q h1 h2 => ⟨h2, by omega⟩) _ _ _ hsm
      refine x_new hx hb hts hown hK (ci := 11) (fs := [.int 0, .null, .null]) rfl ok_X18 q806 q807 q137 (by intro j hj; match j, hj with | 0, _ => rfl | 1, _ => rfl | 2, _ => rfl) hS (by show (u - t) + 1 ≤ (R3.1 - t); omega) (by show (3 * (u - t)) + 3 ≤ (3 * (R3.1 - t)); omega) dX3_sum_40 hna7 (fun H hat7 hz7 hF hS => ?_)
      have hG := hG.fr hF (fun _ _ z => z)
      have hsm := smA_F2 hsm hF (fun q hqs hq z => z)
      refine lv_dup hx hb dX3_sum_43 rfl ?_
      refine lv_iload_n hx hb dX3_sum_44 rfl (lv_at hl 0 rfl) ?_
      refine lv_aload_n hx hb dX3_sum_45 rfl (lv_at hl 1 rfl) ?_
      refine lv_aload_n hx hb dX3_sum_46 rfl (lv_at hl 2 rfl) ?_
      obtain ⟨R8, hR8⟩ : ∃ x, ptP (kdT tp) (plT tp) 402 (rdU (kdT tp) (plT tp) (vlT tp) 402 d) (u + 1) = x := ⟨_, rfl⟩
      have hge8 := jnL_u3 (R3 := R3) rdP_mo hkk hn6 hR8 hJ
      have hsz8 := hS.1
      refine c_VXRA (rm := mkRmC (21 + 3 * d) (422 + 70 * d) (R8.1 - (u + 1)) (3 * (R8.1 - (u + 1)))) hx hb hml hts hown hK hl.1 hS (hP hG (psC_E (V1 := V6) hPS (((hE1.mono PPo_PPx).trans (hEL.mono PPo_PPx)).trans (hE6.mono PPs_PPx)) PPx_ps) hu6 htm6 (by omega) ((hE6 9 4 rfl).trans ho) (by omega) hR8) (cw_X3_193 hts ⟨by show _ ≤ (22 + 3 * d); omega, by show _ ≤ (444 + 70 * d); omega⟩) (hG 9 _ rfl) rfl rfl rfl rfl (Nat.le_of_ble_eq_true rfl) dX3_sum_47 (fun q hq => hq.elim Or.inl (fun z => Or.inr (Nat.le_trans hS.1 z))) ⟨by show (u - t) + 1 + (R8.1 - (u + 1)) ≤ (R3.1 - t); omega, by show (3 * (u - t)) + 3 + 3 * (R8.1 - (u + 1)) ≤ (3 * (R3.1 - t)); omega⟩ (fun q H1 locs hq hF hS => xq_widen (k := (R3.1 - t)) (n := (3 * (R3.1 - t))) (by show (u - t) + 1 + (R8.1 - (u + 1)) ≤ (R3.1 - t); omega) (by show (3 * (u - t)) + 3 + 3 * (R8.1 - (u + 1)) ≤ (3 * (R3.1 - t)); omega) (hthr _ _ _ _ _ _  hS (okX_flt hq) (okX_tr hq (((hE1.mono PPo_PPx).trans (hEL.mono PPo_PPx)).trans (hE6.mono PPs_PPx)) (Eq.trans (Eq.symm (jnL_u2 hkk hn6 hR8 (okX_ne hq))) (congrArg (fun x => x.2.1) hJ))))) (fun r H locs hq hF hS => ?_)
      obtain ⟨t8, fo8, es8⟩ := R8
      obtain ⟨a8, V8, rfl, hG, hE8, hop8, hfo8, hu8, hlt8, hle8, hlm8, hsm8⟩ := hq
      have hfo8 : fo8 = none := hfo8
      subst hfo8
      have hu8 : V8 9 3 = nI t8 := hu8
      have hlt8 : u + 1 < t8 := hlt8
      have hle8 : t8 ≤ 400 := hle8
      have hlm8 : t8 < m0 := hlm8
      have hsm8 : smA D H _ (t8 - (u + 1)) a8 es8 := hsm8
      have hsm := smA_F2 hsm hF (fun q hqs hq z => by (try dsimp only at hq); rcases z with z | z; (have := z.2.1; omega); omega)
      have hat7 := hat7.kept (hF.2 _ hat7.lt (fun z => by have hlt := hat7.lt; dsimp only at hlt; rcases z with z | z; (have := z.2.1; dsimp only at this; omega); dsimp only at z; omega))
      have hsm8 := smA_mono (O2 := fun q => na7 < q) (fun q _ h => by have h2 : _ ≤ q := h; omega) _ _ _ hsm8
      have hop8 : V8 9 4 = nI (6 - d) := hop8.trans ((hE6 9 4 rfl).trans ho)
      have hge8 : t8 ≤ R3.1 ∧ u + 1 ≤ t8 := hge8
      refine c_IV (rm := (mkRmC 2 50 0 0)) hx hb hml hts hown hK hl.1 hS (met_X18_init l D dA (nI 45) av a8 hat7) (cwI 3 hts (lw_meth q810) rfl rfl rfl (hts _ q137) (hts _ q808) (hts _ q809) rfl (by decide +kernel) ⟨by show 2 + 1 ≤ (22 + 3 * d); omega, by show 8 + (4 + 11) + 50 ≤ (444 + 70 * d); omega⟩) rfl rfl (Nat.le_of_ble_eq_true rfl) dX3_sum_50 (fun q hq => Or.inr (by have z : q = na7 := hq; omega)) ⟨by show (u - t) + 1 + (t8 - (u + 1)) ≤ (R3.1 - t); omega, by show (3 * (u - t)) + 3 + 3 * (t8 - (u + 1)) ≤ (3 * (R3.1 - t)); omega⟩ (fun H locs hq hF hS => ?_)
      have hq_na7 := hq
      have hG := hG.fr hF (fun k hk z => by rw [dS_len] at hk; have z : o + k = na7 := z; omega)
      have hsm := smA_F2 hsm hF (fun q hqs hq z => by (try dsimp only at hq); have z2 : q = _ := z; omega)
      have hsm8 := smA_F2 hsm8 hF (fun q hqs hq z => by (try dsimp only at hq); have z2 : q = _ := z; omega)
      refine lv_astore_n (lv' := [(1, .ref na7), (2, .int (nI 45)), (0, .ref (o + 9))]) hx hb dX3_sum_53 rfl hl (by decide) rfl (fun ls hl => ?_)
      refine lv_goto (tgt := 5) hx hb dX3_sum_54 (by decide) ?_
      refine W.widen (k := t8 - t) (n := 3 * (t8 - t)) (by show (u - t) + 1 + (t8 - (u + 1)) ≤ _; omega) (by show (3 * (u - t)) + 3 + 3 * (t8 - (u + 1)) ≤ _; omega) ?_
      exact ih2 n1 t8 na7 (es ++ es8 ++ [(opK (kdT tp u), nI 0)]) V8 _ _ _ (by omega) ((jnL_go hkk hn6 hR8).symm.trans hJ) (by omega) (by omega) (by omega) (by omega) (Eqx.trans (Eqx.trans hEL (hE6.mono PPs_PPo)) hE8) hu8 (hop8) (smA_jn (k := 1) (by decide) (by rw [hk1]; rfl) hnl7 hq_na7 (smA_mono (fun q _ h => h.1) _ _ _ hsm) (smA_mono (fun q _ h => by have h2 : na7 < q := h; show H0.size ≤ q; omega) _ _ _ hsm8) (by omega) (by omega)) hG hS (lv_sub hl [0, 2] rfl)
  exact loop2 (402 + 1) 402 t1 a1 es1 V1 _ _ _ (Nat.lt_succ_self _) hJ1 (by omega) hle1 hlm1 hlt1 Eqx.rf hu1 hop1 hsm1 hG hS (lv_sub hl [0, 1] rfl)
theorem exS_all (l : Launch) (D : va_G) (dA : Nat → ClassId) : ∀ d, exK l D dA yX3_sum cX3_sum 3 (22 + 3 * d) (444 + 70 * d) d (fun kd pl vl => smP kd pl 402 (rdU kd pl vl 402 d)) := by
  intro d
  induction d with
  | zero => exact fun hG hPS ht htm ht4 hop hd hR => met_X3_sum l D dA hG hPS ht htm ht4 hop hd hR (fun hG hPS ht htm ht4 hop hd hR => met_X3_part l D dA hG hPS ht htm ht4 hop hd hR (fun hG hPS ht htm ht4 hop hd hR => met_X3_unit l D dA hG hPS ht htm ht4 hop hd hR (fun d1 h => absurd h (by omega))))
  | succ d ih => exact fun hG hPS ht htm ht4 hop hd hR => met_X3_sum l D dA hG hPS ht htm ht4 hop hd hR (fun hG hPS ht htm ht4 hop hd hR => met_X3_part l D dA hG hPS ht htm ht4 hop hd hR (fun hG hPS ht htm ht4 hop hd hR => met_X3_unit l D dA hG hPS ht htm ht4 hop hd hR (fun d1 h => by obtain rfl : d = d1 := (by omega); exact ih)))
