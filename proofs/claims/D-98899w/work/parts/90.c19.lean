theorem ok_X1 : ClsOK RX1 TX1 8 tyX1 := ⟨in_X1, tyX1_ok, nmX1⟩
theorem ok_X2 : ClsOK RX2 TX2 8 tyX2 := ⟨in_X2, tyX2_ok, nmX2⟩
theorem ok_X3 : ClsOK RX3 TX3 7 tyX3 := ⟨in_X3, tyX3_ok, nmX3⟩
def PTc (k j : Nat) : Bool := k == 4 || (k == 2 && j == 2)
def PTt (k j : Nat) : Bool := k == 76 || k == 77 || k == 79 || (k == 0 && j == 15)
/-- the class's tape -/
def tpP (V : GI) (tp : List Int32) : Prop := tp.length ≤ 2000 ∧ V 2 2 = nI tp.length ∧ ∀ (i : Nat) (x : Int32), tp[i]? = some x → V 4 i = x
theorem tpP_app {V : GI} {tp : List Int32} {x : Int32} (h : tpP V tp) (hl : tp.length < 2000) : tpP (up2 (up2 V 4 tp.length x) 2 2 (nI (tp.length + 1))) (tp ++ [x]) := by
  refine ⟨by simp; omega, by rw [up2_s]; simp, fun i y hi => ?_⟩
  rw [up2_n (by omega)]
  by_cases e : i < tp.length
  · rw [List.getElem?_append_left e] at hi
    rw [up2_n (by omega)]
    exact h.2.2 i y hi
  · rw [List.getElem?_append_right (by omega)] at hi
    have h0 : i - tp.length < 1 := (List.getElem?_eq_some_iff.mp hi).1
    obtain rfl : i = tp.length := by omega
    rw [Nat.sub_self] at hi
    cases hi
    exact up2_s
def tlP (V : GI) (tl : List Tl) : Prop := tl.length ≤ 20 ∧ V 0 15 = nI tl.length ∧ ∀ (i : Nat) (q : Tl), tl[i]? = some q → V 76 i = nI q.1 ∧ V 77 i = nI q.2.1 ∧ V 79 i = nI q.2.2 ∧ q.1 < 9 ∧ q.2.1 < 25 ∧ q.2.2 < 2
theorem tlP_app {V V1 : GI} {tl : List Tl} {b q x : Nat} (h : tlP V tl) (hl : tl.length < 20) (hb : b < 9) (hq : q < 25) (hx : x < 2) (h0 : V1 0 15 = nI (tl.length + 1)) (h1 : ∀ i, V1 76 i = up2 V 76 tl.length (nI b) 76 i) (h2 : ∀ i, V1 77 i = up2 V 77 tl.length (nI q) 77 i) (h3 : ∀ i, V1 79 i = up2 V 79 tl.length (nI x) 79 i) : tlP V1 (tl ++ [(b, q, x)]) := by
  refine ⟨by simp; omega, by rw [h0]; simp, fun i p hi => ?_⟩
  rw [h1, h2, h3]
  by_cases e : i < tl.length
  · rw [List.getElem?_append_left e] at hi
    rw [up2_n (fun z => by omega), up2_n (fun z => by omega), up2_n (fun z => by omega)]
    exact h.2.2 i p hi
  · rw [List.getElem?_append_right (by omega)] at hi
    have h0 : i - tl.length < 1 := (List.getElem?_eq_some_iff.mp hi).1
    obtain rfl : i = tl.length := by omega
    rw [Nat.sub_self] at hi
    cases hi
    exact ⟨up2_s, up2_s, up2_s, hb, hq, hx⟩
theorem narY {y : Nat} (h : y < 2) : vp_nar .boolean (nI y) = nI y := by
  obtain rfl | rfl : y = 0 ∨ y = 1 := by omega
  · decide
  · decide
set_option maxHeartbeats 4000000 in
theorem met_X0_typed (l : Launch) (D : va_G) (dA : Nat → ClassId) {o : Nat} {V : GI} {L : GL} {Rf : GR} {H0 : Heap} (hG : gP D dA o dS V L Rf H0) (tp : List Int32) (htp : tpP V tp) (ht9 : tp.length + 4 ≤ 2000) (x : Int32) : Ctr l D dA yX0_typed cX0_typed 3 none (mkRm 0 0) [.ref o, .int x] H0 (AS o) (QV (fun H1 => ∃ V1, gP D dA o dS V1 L Rf H1 ∧ Eqx PTc V V1 ∧ tpP V1 (tp ++ by4 x))) := by
  refine ctr_V (by decide) (Nat.le_of_ble_eq_true rfl) ?_
  intro p e s m args below meth c ls QQ locs hx hb hml hown hts hK hend hS hl
  have hl : lv_has ls 3 [(0, .ref o), (1, .int x)] := hl
  refine lv_bipush (v := (nI 24)) hx hb dX0_typed_0 (by decide) ?_
  refine lv_istore_n (lv' := [(2, .int (nI 24)), (0, .ref o), (1, .int x)]) hx hb dX0_typed_2 rfl hl (by decide) rfl (fun ls hl => ?_)
  refine lv_iload_n hx hb dX0_typed_3 rfl (lv_at hl 0 rfl) ?_
  refine n_if_lt (tgt := 45) hx hb dX0_typed_4 (by decide) (by decide) ?_
  refine lv_aload_n hx hb dX0_typed_7 rfl (lv_at hl 1 rfl) ?_
  refine g_get hx hb hts hown hK hG 0 rfl rfl ok_X0 1 (by decide) q523 rfl rfl dX0_typed_8 ?_
  refine g_get hx hb hts hown hK hG 2 rfl rfl ok_X2 1 (by decide) q259 rfl rfl dX0_typed_11 ?_
  refine lv_aload_n hx hb dX0_typed_14 rfl (lv_at hl 1 rfl) ?_
  refine g_get hx hb hts hown hK hG 0 rfl rfl ok_X0 1 (by decide) q523 rfl rfl dX0_typed_15 ?_
  refine g_get (v := .int (nI tp.length)) hx hb hts hown hK hG 2 rfl rfl ok_X2 2 (by decide) q261 rfl (congrArg Value.int htp.2.1) dX0_typed_18 ?_
  refine lv_iload_n hx hb dX0_typed_21 rfl (lv_at hl 2 rfl) ?_
  refine lv_iload_n hx hb dX0_typed_22 rfl (lv_at hl 0 rfl) ?_
  refine lv_ishr hx hb dX0_typed_23 ?_
  refine lv_i2b (v := (x >>> ((nI 24) &&& 31)).toInt8.toInt32) hx hb dX0_typed_24 rfl ?_
  refine n_bast (x2 := (x >>> ((nI 24) &&& 31)).toInt8.toInt32) hx hb hK hG hS 4 (AS_in 4 (by decide)) rfl (by omega) (by decide) (pk_vb _) dX0_typed_25 (fun H locs hG hO hS => ?_)
  refine lv_aload_n hx hb dX0_typed_26 rfl (lv_at hl 1 rfl) ?_
  refine g_get hx hb hts hown hK hG 0 rfl rfl ok_X0 1 (by decide) q523 rfl rfl dX0_typed_27 ?_
  refine lv_dup hx hb dX0_typed_30 rfl ?_
  refine g_get (v := .int (nI tp.length)) hx hb hts hown hK hG 2 rfl rfl ok_X2 2 (by decide) q261 rfl (congrArg Value.int htp.2.1) dX0_typed_31 ?_
  refine lv_iconst (v := (nI 1)) hx hb dX0_typed_34 (by decide) ?_
  refine n_iadd hx hb dX0_typed_35 ?_
  refine g_put hx hb hts hown hK hG hS 2 (AS_in 2 (by decide)) rfl rfl ok_X2 2 (by decide) q261 rfl rfl rfl rfl dX0_typed_36 (fun H locs hG hO hS => ?_)
  obtain ⟨VT1, hET1, hTPT1, hG⟩ : ∃ X, Eqx PTc V X ∧ tpP X (tp ++ [byF x 24]) ∧ gP D dA o dS X L Rf H := ⟨_, ((Eqx.rf.up rfl).up rfl), tpP_app htp (by omega), hG⟩
  have hlnT1 : (tp ++ [byF x 24]).length = tp.length + 1 := by simp
  refine lv_iinc (v := (nI 16)) (lv' := [(2, .int (nI 16)), (0, .ref o), (1, .int x)]) hx hb dX0_typed_39 hl (k := 0) rfl (by decide) (by decide) rfl (fun ls hl => ?_)
  refine lv_goto (tgt := 3) hx hb dX0_typed_42 (by decide) ?_
  refine lv_iload_n hx hb dX0_typed_3 rfl (lv_at hl 0 rfl) ?_
  refine n_if_lt (tgt := 45) hx hb dX0_typed_4 (by decide) (by decide) ?_
  refine lv_aload_n hx hb dX0_typed_7 rfl (lv_at hl 1 rfl) ?_
  refine g_get hx hb hts hown hK hG 0 rfl rfl ok_X0 1 (by decide) q523 rfl rfl dX0_typed_8 ?_
  refine g_get hx hb hts hown hK hG 2 rfl rfl ok_X2 1 (by decide) q259 rfl rfl dX0_typed_11 ?_
  refine lv_aload_n hx hb dX0_typed_14 rfl (lv_at hl 1 rfl) ?_
  refine g_get hx hb hts hown hK hG 0 rfl rfl ok_X0 1 (by decide) q523 rfl rfl dX0_typed_15 ?_
  refine g_get (v := .int (nI ((tp ++ [byF x 24]).length))) hx hb hts hown hK hG 2 rfl rfl ok_X2 2 (by decide) q261 rfl (congrArg Value.int hTPT1.2.1) dX0_typed_18 ?_
  refine lv_iload_n hx hb dX0_typed_21 rfl (lv_at hl 2 rfl) ?_
  refine lv_iload_n hx hb dX0_typed_22 rfl (lv_at hl 0 rfl) ?_
  refine lv_ishr hx hb dX0_typed_23 ?_
  refine lv_i2b (v := (x >>> ((nI 16) &&& 31)).toInt8.toInt32) hx hb dX0_typed_24 rfl ?_
  refine n_bast (x2 := (x >>> ((nI 16) &&& 31)).toInt8.toInt32) hx hb hK hG hS 4 (AS_in 4 (by decide)) rfl (by omega) (by decide) (pk_vb _) dX0_typed_25 (fun H locs hG hO hS => ?_)
  refine lv_aload_n hx hb dX0_typed_26 rfl (lv_at hl 1 rfl) ?_
  refine g_get hx hb hts hown hK hG 0 rfl rfl ok_X0 1 (by decide) q523 rfl rfl dX0_typed_27 ?_
  refine lv_dup hx hb dX0_typed_30 rfl ?_
  refine g_get (v := .int (nI ((tp ++ [byF x 24]).length))) hx hb hts hown hK hG 2 rfl rfl ok_X2 2 (by decide) q261 rfl (congrArg Value.int hTPT1.2.1) dX0_typed_31 ?_
  refine lv_iconst (v := (nI 1)) hx hb dX0_typed_34 (by decide) ?_
  refine n_iadd hx hb dX0_typed_35 ?_
  refine g_put hx hb hts hown hK hG hS 2 (AS_in 2 (by decide)) rfl rfl ok_X2 2 (by decide) q261 rfl rfl rfl rfl dX0_typed_36 (fun H locs hG hO hS => ?_)
  obtain ⟨VT2, hET2, hTPT2, hG⟩ : ∃ X, Eqx PTc V X ∧ tpP X ((tp ++ [byF x 24]) ++ [byF x 16]) ∧ gP D dA o dS X L Rf H := ⟨_, ((hET1.up rfl).up rfl), tpP_app hTPT1 (by omega), hG⟩
  have hlnT2 : ((tp ++ [byF x 24]) ++ [byF x 16]).length = tp.length + 2 := by simp
  refine lv_iinc (v := (nI 8)) (lv' := [(2, .int (nI 8)), (0, .ref o), (1, .int x)]) hx hb dX0_typed_39 hl (k := 0) rfl (by decide) (by decide) rfl (fun ls hl => ?_)
  refine lv_goto (tgt := 3) hx hb dX0_typed_42 (by decide) ?_
  refine lv_iload_n hx hb dX0_typed_3 rfl (lv_at hl 0 rfl) ?_
  refine n_if_lt (tgt := 45) hx hb dX0_typed_4 (by decide) (by decide) ?_
  refine lv_aload_n hx hb dX0_typed_7 rfl (lv_at hl 1 rfl) ?_
  refine g_get hx hb hts hown hK hG 0 rfl rfl ok_X0 1 (by decide) q523 rfl rfl dX0_typed_8 ?_
  refine g_get hx hb hts hown hK hG 2 rfl rfl ok_X2 1 (by decide) q259 rfl rfl dX0_typed_11 ?_
  refine lv_aload_n hx hb dX0_typed_14 rfl (lv_at hl 1 rfl) ?_
  refine g_get hx hb hts hown hK hG 0 rfl rfl ok_X0 1 (by decide) q523 rfl rfl dX0_typed_15 ?_
  refine g_get (v := .int (nI (((tp ++ [byF x 24]) ++ [byF x 16]).length))) hx hb hts hown hK hG 2 rfl rfl ok_X2 2 (by decide) q261 rfl (congrArg Value.int hTPT2.2.1) dX0_typed_18 ?_
  refine lv_iload_n hx hb dX0_typed_21 rfl (lv_at hl 2 rfl) ?_
  refine lv_iload_n hx hb dX0_typed_22 rfl (lv_at hl 0 rfl) ?_
  refine lv_ishr hx hb dX0_typed_23 ?_
  refine lv_i2b (v := (x >>> ((nI 8) &&& 31)).toInt8.toInt32) hx hb dX0_typed_24 rfl ?_
  refine n_bast (x2 := (x >>> ((nI 8) &&& 31)).toInt8.toInt32) hx hb hK hG hS 4 (AS_in 4 (by decide)) rfl (by omega) (by decide) (pk_vb _) dX0_typed_25 (fun H locs hG hO hS => ?_)
  refine lv_aload_n hx hb dX0_typed_26 rfl (lv_at hl 1 rfl) ?_
  refine g_get hx hb hts hown hK hG 0 rfl rfl ok_X0 1 (by decide) q523 rfl rfl dX0_typed_27 ?_
  refine lv_dup hx hb dX0_typed_30 rfl ?_
  refine g_get (v := .int (nI (((tp ++ [byF x 24]) ++ [byF x 16]).length))) hx hb hts hown hK hG 2 rfl rfl ok_X2 2 (by decide) q261 rfl (congrArg Value.int hTPT2.2.1) dX0_typed_31 ?_
  refine lv_iconst (v := (nI 1)) hx hb dX0_typed_34 (by decide) ?_
  refine n_iadd hx hb dX0_typed_35 ?_
  refine g_put hx hb hts hown hK hG hS 2 (AS_in 2 (by decide)) rfl rfl ok_X2 2 (by decide) q261 rfl rfl rfl rfl dX0_typed_36 (fun H locs hG hO hS => ?_)
  obtain ⟨VT3, hET3, hTPT3, hG⟩ : ∃ X, Eqx PTc V X ∧ tpP X (((tp ++ [byF x 24]) ++ [byF x 16]) ++ [byF x 8]) ∧ gP D dA o dS X L Rf H := ⟨_, ((hET2.up rfl).up rfl), tpP_app hTPT2 (by omega), hG⟩
  have hlnT3 : (((tp ++ [byF x 24]) ++ [byF x 16]) ++ [byF x 8]).length = tp.length + 3 := by simp
  refine lv_iinc (v := (nI 0)) (lv' := [(2, .int (nI 0)), (0, .ref o), (1, .int x)]) hx hb dX0_typed_39 hl (k := 0) rfl (by decide) (by decide) rfl (fun ls hl => ?_)
  refine lv_goto (tgt := 3) hx hb dX0_typed_42 (by decide) ?_
  refine lv_iload_n hx hb dX0_typed_3 rfl (lv_at hl 0 rfl) ?_
  refine n_if_lt (tgt := 45) hx hb dX0_typed_4 (by decide) (by decide) ?_
  refine lv_aload_n hx hb dX0_typed_7 rfl (lv_at hl 1 rfl) ?_
  refine g_get hx hb hts hown hK hG 0 rfl rfl ok_X0 1 (by decide) q523 rfl rfl dX0_typed_8 ?_
  refine g_get hx hb hts hown hK hG 2 rfl rfl ok_X2 1 (by decide) q259 rfl rfl dX0_typed_11 ?_
  refine lv_aload_n hx hb dX0_typed_14 rfl (lv_at hl 1 rfl) ?_
  refine g_get hx hb hts hown hK hG 0 rfl rfl ok_X0 1 (by decide) q523 rfl rfl dX0_typed_15 ?_
  refine g_get (v := .int (nI ((((tp ++ [byF x 24]) ++ [byF x 16]) ++ [byF x 8]).length))) hx hb hts hown hK hG 2 rfl rfl ok_X2 2 (by decide) q261 rfl (congrArg Value.int hTPT3.2.1) dX0_typed_18 ?_
  refine lv_iload_n hx hb dX0_typed_21 rfl (lv_at hl 2 rfl) ?_
  refine lv_iload_n hx hb dX0_typed_22 rfl (lv_at hl 0 rfl) ?_
  refine lv_ishr hx hb dX0_typed_23 ?_
  refine lv_i2b (v := (x >>> ((nI 0) &&& 31)).toInt8.toInt32) hx hb dX0_typed_24 rfl ?_
  refine n_bast (x2 := (x >>> ((nI 0) &&& 31)).toInt8.toInt32) hx hb hK hG hS 4 (AS_in 4 (by decide)) rfl (by omega) (by decide) (pk_vb _) dX0_typed_25 (fun H locs hG hO hS => ?_)
  refine lv_aload_n hx hb dX0_typed_26 rfl (lv_at hl 1 rfl) ?_
  refine g_get hx hb hts hown hK hG 0 rfl rfl ok_X0 1 (by decide) q523 rfl rfl dX0_typed_27 ?_
  refine lv_dup hx hb dX0_typed_30 rfl ?_
  refine g_get (v := .int (nI ((((tp ++ [byF x 24]) ++ [byF x 16]) ++ [byF x 8]).length))) hx hb hts hown hK hG 2 rfl rfl ok_X2 2 (by decide) q261 rfl (congrArg Value.int hTPT3.2.1) dX0_typed_31 ?_
  refine lv_iconst (v := (nI 1)) hx hb dX0_typed_34 (by decide) ?_
  refine n_iadd hx hb dX0_typed_35 ?_
  refine g_put hx hb hts hown hK hG hS 2 (AS_in 2 (by decide)) rfl rfl ok_X2 2 (by decide) q261 rfl rfl rfl rfl dX0_typed_36 (fun H locs hG hO hS => ?_)
  obtain ⟨VT4, hET4, hTPT4, hG⟩ : ∃ X, Eqx PTc V X ∧ tpP X ((((tp ++ [byF x 24]) ++ [byF x 16]) ++ [byF x 8]) ++ [byF x 0]) ∧ gP D dA o dS X L Rf H := ⟨_, ((hET3.up rfl).up rfl), tpP_app hTPT3 (by omega), hG⟩
  have hlnT4 : ((((tp ++ [byF x 24]) ++ [byF x 16]) ++ [byF x 8]) ++ [byF x 0]).length = tp.length + 4 := by simp
  refine lv_iinc (v := (-8)) (lv' := [(2, .int (-8)), (0, .ref o), (1, .int x)]) hx hb dX0_typed_39 hl (k := 0) rfl (by decide) (by decide) rfl (fun ls hl => ?_)
  refine lv_goto (tgt := 3) hx hb dX0_typed_42 (by decide) ?_
  refine lv_iload_n hx hb dX0_typed_3 rfl (lv_at hl 0 rfl) ?_
  refine lv_if_lt (tgt := 45) hx hb dX0_typed_4 (by decide) (fun _ => ?_) (fun z => absurd (by decide) z)
  refine hend _ _ _ _ hS dX0_typed_45 ?_
  exact ⟨rfl, _, hG, hET4, by simpa [by4] using hTPT4⟩
theorem cw_X0_119 {R : Room} {s : State} {args : Array Value} (hts : ∀ w ∈ lw_all, w.before args s = true) {f w k j : Nat} (hR : f + 1 ≤ R.frames ∧ 8 + (3 + 11) + w ≤ R.locals) : CallW R s args RX0 RX0 119 yX0_typed cX0_typed 3 none (ws_ yX0_typed cX0_typed 3 none) (mkRmC f w k j) k j 1 := cwV 1 hts (lw_V q606 q608 qs1 q108 q609) rfl rfl rfl (by decide +kernel) hR
set_option maxHeartbeats 4000000 in
theorem met_X0_feed (l : Launch) (D : va_G) (dA : Nat → ClassId) {o : Nat} {V : GI} {L : GL} {Rf : GR} {H0 : Heap} (hG : gP D dA o dS V L Rf H0) (tp : List Int32) (htp : tpP V tp) (v1 v2 v3 v4 v5 : Int32) : Ctr l D dA yX0_feed cX0_feed 6 (some .int) (mkRm 1 30) [.ref o, .int v1, .int v2, .int v3, .int v4, .int v5] H0 (AS o) (QI (fun r H1 => ∃ V1, gP D dA o dS V1 L Rf H1 ∧ Eqx PTc V V1 ∧ r = (feedS tp v1 v2 v3 v4 v5).1 ∧ tpP V1 (feedS tp v1 v2 v3 v4 v5).2)) := by
  have ht2 := htp.1
  refine ctr_I (by decide) (Nat.le_of_ble_eq_true rfl) ?_
  intro p e s m args below meth c ls QQ locs hx hb hml hown hts hK hend hS hl
  have hl : lv_has ls 6 [(0, .ref o), (1, .int v1), (2, .int v2), (3, .int v3), (4, .int v4), (5, .int v5)] := hl
  refine lv_aload_n hx hb dX0_feed_0 rfl (lv_at hl 0 rfl) ?_
  refine g_get hx hb hts hown hK hG 0 rfl rfl ok_X0 1 (by decide) q523 rfl rfl dX0_feed_1 ?_
  refine g_get (v := .int (nI tp.length)) hx hb hts hown hK hG 2 rfl rfl ok_X2 2 (by decide) q261 rfl (congrArg Value.int htp.2.1) dX0_feed_4 ?_
  refine lv_bipush (v := (nI 20)) hx hb dX0_feed_7 (by decide) ?_
  refine n_iadd hx hb dX0_feed_9 ?_
  refine lv_sipush (v := (nI 2000)) hx hb dX0_feed_10 (by decide) ?_
  refine n_icmp_le (tgt := 18) hx hb dX0_feed_13 (by decide) (by omega) (by omega) (fun c13 => ?_) (fun c13 => ?_)
  · refine lv_aload_n hx hb dX0_feed_18 rfl (lv_at hl 0 rfl) ?_
    refine lv_iload_n hx hb dX0_feed_19 rfl (lv_at hl 1 rfl) ?_
    refine c_VV hx hb hml hts hown hK hl.1 hS ⟨Nat.le_refl _, Nat.le_refl _⟩ (met_X0_typed l D dA hG (tp) htp (by omega) v1) (cw_X0_119 hts ⟨Nat.le_of_ble_eq_true rfl, Nat.le_of_ble_eq_true rfl⟩) (hG 0 _ rfl) rfl rfl rfl rfl (Nat.le_of_ble_eq_true rfl) dX0_feed_20 (fun _ h => h) (fun H1 locs hq hF hS => ?_)
    obtain ⟨V1, hG, hE1, ht1⟩ := hq
    generalize hHe1 : H1 = H at hG hS ⊢
    clear hHe1 hF
    have hlq1 : (tp ++ by4 v1).length = tp.length + 4 := by simp [by4]
    refine lv_aload_n hx hb dX0_feed_23 rfl (lv_at hl 0 rfl) ?_
    refine lv_iload_n hx hb dX0_feed_24 rfl (lv_at hl 2 rfl) ?_
    refine c_VV hx hb hml hts hown hK hl.1 hS ⟨Nat.le_refl _, Nat.le_refl _⟩ (met_X0_typed l D dA hG (tp ++ by4 v1) ht1 (by omega) v2) (cw_X0_119 hts ⟨Nat.le_of_ble_eq_true rfl, Nat.le_of_ble_eq_true rfl⟩) (hG 0 _ rfl) rfl rfl rfl rfl (Nat.le_of_ble_eq_true rfl) dX0_feed_25 (fun _ h => h) (fun H1 locs hq hF hS => ?_)
    obtain ⟨V2, hG, hE2, ht2⟩ := hq
    generalize hHe2 : H1 = H at hG hS ⊢
    clear hHe2 hF
    have hlq2 : (tp ++ by4 v1 ++ by4 v2).length = tp.length + 8 := by simp [by4]
    refine lv_aload_n hx hb dX0_feed_28 rfl (lv_at hl 0 rfl) ?_
    refine lv_iload_n hx hb dX0_feed_29 rfl (lv_at hl 3 rfl) ?_
    refine c_VV hx hb hml hts hown hK hl.1 hS ⟨Nat.le_refl _, Nat.le_refl _⟩ (met_X0_typed l D dA hG (tp ++ by4 v1 ++ by4 v2) ht2 (by omega) v3) (cw_X0_119 hts ⟨Nat.le_of_ble_eq_true rfl, Nat.le_of_ble_eq_true rfl⟩) (hG 0 _ rfl) rfl rfl rfl rfl (Nat.le_of_ble_eq_true rfl) dX0_feed_30 (fun _ h => h) (fun H1 locs hq hF hS => ?_)
    obtain ⟨V3, hG, hE3, ht3⟩ := hq
    generalize hHe3 : H1 = H at hG hS ⊢
    clear hHe3 hF
    have hlq3 : (tp ++ by4 v1 ++ by4 v2 ++ by4 v3).length = tp.length + 12 := by simp [by4]
    refine lv_aload_n hx hb dX0_feed_33 rfl (lv_at hl 0 rfl) ?_
    refine lv_iload hx hb dX0_feed_34 (lv_at hl 4 rfl) ?_
    refine c_VV hx hb hml hts hown hK hl.1 hS ⟨Nat.le_refl _, Nat.le_refl _⟩ (met_X0_typed l D dA hG (tp ++ by4 v1 ++ by4 v2 ++ by4 v3) ht3 (by omega) v4) (cw_X0_119 hts ⟨Nat.le_of_ble_eq_true rfl, Nat.le_of_ble_eq_true rfl⟩) (hG 0 _ rfl) rfl rfl rfl rfl (Nat.le_of_ble_eq_true rfl) dX0_feed_36 (fun _ h => h) (fun H1 locs hq hF hS => ?_)
    obtain ⟨V4, hG, hE4, ht4⟩ := hq
    generalize hHe4 : H1 = H at hG hS ⊢
    clear hHe4 hF
    have hlq4 : (tp ++ by4 v1 ++ by4 v2 ++ by4 v3 ++ by4 v4).length = tp.length + 16 := by simp [by4]
    refine lv_aload_n hx hb dX0_feed_39 rfl (lv_at hl 0 rfl) ?_
    refine lv_iload hx hb dX0_feed_40 (lv_at hl 5 rfl) ?_
    refine c_VV hx hb hml hts hown hK hl.1 hS ⟨Nat.le_refl _, Nat.le_refl _⟩ (met_X0_typed l D dA hG (tp ++ by4 v1 ++ by4 v2 ++ by4 v3 ++ by4 v4) ht4 (by omega) v5) (cw_X0_119 hts ⟨Nat.le_of_ble_eq_true rfl, Nat.le_of_ble_eq_true rfl⟩) (hG 0 _ rfl) rfl rfl rfl rfl (Nat.le_of_ble_eq_true rfl) dX0_feed_42 (fun _ h => h) (fun H1 locs hq hF hS => ?_)
    obtain ⟨V5, hG, hE5, ht5⟩ := hq
    generalize hHe5 : H1 = H at hG hS ⊢
    clear hHe5 hF
    have hlq5 : (tp ++ by4 v1 ++ by4 v2 ++ by4 v3 ++ by4 v4 ++ by4 v5).length = tp.length + 20 := by simp [by4]
    refine lv_aload_n hx hb dX0_feed_45 rfl (lv_at hl 0 rfl) ?_
    refine g_get hx hb hts hown hK hG 0 rfl rfl ok_X0 1 (by decide) q523 rfl rfl dX0_feed_46 ?_
    refine g_get (v := .int (nI ((tp ++ by4 v1 ++ by4 v2 ++ by4 v3 ++ by4 v4 ++ by4 v5).length))) hx hb hts hown hK hG 2 rfl rfl ok_X2 2 (by decide) q261 rfl (congrArg Value.int ht5.2.1) dX0_feed_49 ?_
    refine hend _ _ _ _ _ hS dX0_feed_52 ?_
    have hR : feedS tp v1 v2 v3 v4 v5 = (nI (tp.length + 20), tp ++ by4 v1 ++ by4 v2 ++ by4 v3 ++ by4 v4 ++ by4 v5) := if_neg (by omega)
    exact ⟨_, rfl, _, hG, ((((hE1.trans hE2).trans hE3).trans hE4).trans hE5), by rw [hR]; exact congrArg nI (by omega), by rw [hR]; exact ht5⟩
  refine lv_iconst (v := (-1)) hx hb dX0_feed_16 (by decide) ?_
  refine hend _ _ _ _ _ hS dX0_feed_17 ?_
  have hR : feedS tp v1 v2 v3 v4 v5 = (-1, tp) := if_pos (by omega)
  exact ⟨_, rfl, _, hG, Eqx.rf, by rw [hR], by rw [hR]; exact htp⟩
set_option maxHeartbeats 4000000 in
theorem met_X0_back (l : Launch) (D : va_G) (dA : Nat → ClassId) {o : Nat} {V : GI} {L : GL} {Rf : GR} {H0 : Heap} (hG : gP D dA o dS V L Rf H0) (tp : List Int32) (htp : tpP V tp) (v1 : Int32) : Ctr l D dA yX0_back cX0_back 2 (some .int) (mkRm 0 0) [.ref o, .int v1] H0 (AS o) (QI (fun r H1 => ∃ V1, gP D dA o dS V1 L Rf H1 ∧ Eqx PTc V V1 ∧ r = (backS tp v1).1 ∧ tpP V1 (backS tp v1).2)) := by
  have ht2 := htp.1
  refine ctr_I (by decide) (Nat.le_of_ble_eq_true rfl) ?_
  intro p e s m args below meth c ls QQ locs hx hb hml hown hts hK hend hS hl
  have hl : lv_has ls 2 [(0, .ref o), (1, .int v1)] := hl
  refine lv_iload_n hx hb dX0_back_0 rfl (lv_at hl 1 rfl) ?_
  refine lv_if_lt (tgt := 15) hx hb dX0_back_1 (by decide) (fun c1 => ?_) (fun c1 => ?_)
  · refine lv_iconst (v := (-1)) hx hb dX0_back_15 (by decide) ?_
    refine hend _ _ _ _ _ hS dX0_back_16 ?_
    have hR : backS tp v1 = (-1, tp) := (rgO_of (by have e0 : (0 : Int32).toInt = 0 := rfl; rw [Int32.lt_iff_toInt_lt] at c1; omega)).2 _ _ _
    exact ⟨_, rfl, _, hG, Eqx.rf, by rw [hR], by rw [hR]; exact htp⟩
  obtain ⟨x1, hx1, rfl⟩ := nI_of c1
  have hl : lv_has ls 2 [(0, .ref o), (1, .int (nI x1))] := hl
  refine lv_iload_n hx hb dX0_back_4 rfl (lv_at hl 1 rfl) ?_
  refine lv_aload_n hx hb dX0_back_5 rfl (lv_at hl 0 rfl) ?_
  refine g_get hx hb hts hown hK hG 0 rfl rfl ok_X0 1 (by decide) q523 rfl rfl dX0_back_6 ?_
  refine g_get (v := .int (nI tp.length)) hx hb hts hown hK hG 2 rfl rfl ok_X2 2 (by decide) q261 rfl (congrArg Value.int htp.2.1) dX0_back_9 ?_
  refine n_icmp_le (tgt := 17) hx hb dX0_back_12 (by decide) (by omega) (by omega) (fun c12 => ?_) (fun c12 => ?_)
  · refine lv_aload_n hx hb dX0_back_17 rfl (lv_at hl 0 rfl) ?_
    refine g_get hx hb hts hown hK hG 0 rfl rfl ok_X0 1 (by decide) q523 rfl rfl dX0_back_18 ?_
    refine lv_dup hx hb dX0_back_21 rfl ?_
    refine g_get (v := .int (nI tp.length)) hx hb hts hown hK hG 2 rfl rfl ok_X2 2 (by decide) q261 rfl (congrArg Value.int htp.2.1) dX0_back_22 ?_
    refine lv_iload_n hx hb dX0_back_25 rfl (lv_at hl 1 rfl) ?_
    refine n_isub hx hb dX0_back_26 (by omega) ?_
    refine g_put hx hb hts hown hK hG hS 2 (AS_in 2 (by decide)) rfl rfl ok_X2 2 (by decide) q261 rfl rfl rfl rfl dX0_back_27 (fun H locs hG hO hS => ?_)
    refine lv_aload_n hx hb dX0_back_30 rfl (lv_at hl 0 rfl) ?_
    refine g_get hx hb hts hown hK hG 0 rfl rfl ok_X0 1 (by decide) q523 rfl rfl dX0_back_31 ?_
    refine g_get (v := .int (nI (tp.length - x1))) hx hb hts hown hK hG 2 rfl rfl ok_X2 2 (by decide) q261 rfl rfl dX0_back_34 ?_
    refine hend _ _ _ _ _ hS dX0_back_37 ?_
    have hR : backS tp (nI x1) = (nI (tp.length - x1), tp.take (tp.length - x1)) := rnp_in (Nat.zero_le _) (by omega) (by omega)
    exact ⟨_, rfl, _, hG, (Eqx.rf.up rfl), by rw [hR], by rw [hR]; exact ⟨by simp; omega, by rw [List.length_take]; rw [Nat.min_eq_left (by omega)]; exact up2_s, fun i y hi => by rw [List.getElem?_take] at hi; split at hi; exact htp.2.2 i y hi; cases hi⟩⟩
  refine lv_iconst (v := (-1)) hx hb dX0_back_15 (by decide) ?_
  refine hend _ _ _ _ _ hS dX0_back_16 ?_
  have hR : backS tp (nI x1) = (-1, tp) := (rgO_of (by rw [nI_toInt hx1]; omega)).2 _ _ _
  exact ⟨_, rfl, _, hG, Eqx.rf, by rw [hR], by rw [hR]; exact htp⟩
set_option maxHeartbeats 4000000 in
theorem met_X0_place (l : Launch) (D : va_G) (dA : Nat → ClassId) {o : Nat} {V : GI} {L : GL} {Rf : GR} {H0 : Heap} (hG : gP D dA o dS V L Rf H0) : Ctr l D dA yX0_place cX0_place 1 (some .int) (mkRm 0 0) [.ref o] H0 A0 (QI (fun r H1 => H0 = H1 ∧ r = V 0 4)) := by
  refine ctr_I (by decide) (Nat.le_of_ble_eq_true rfl) ?_
  intro p e s m args below meth c ls QQ locs hx hb hml hown hts hK hend hS hl
  have hl : lv_has ls 1 [(0, .ref o)] := hl
  refine lv_aload_n hx hb dX0_place_0 rfl (lv_at hl 0 rfl) ?_
  refine g_get (v := .int (V 0 4)) hx hb hts hown hK hG 0 rfl rfl ok_X0 4 (by decide) q526 rfl rfl dX0_place_1 ?_
  refine hend _ _ _ _ _ hS dX0_place_4 ?_
  exact ⟨_, rfl, rfl, rfl⟩
set_option maxHeartbeats 4000000 in
theorem met_X0_forget (l : Launch) (D : va_G) (dA : Nat → ClassId) {o : Nat} {V : GI} {L : GL} {Rf : GR} {H0 : Heap} (hG : gP D dA o dS V L Rf H0) (tl : List Tl) (htl : tlP V tl) : Ctr l D dA yX0_forget cX0_forget 2 (some .int) (mkRm 0 0) [.ref o] H0 (AS o) (QI (fun r H1 => ∃ V1, gP D dA o dS V1 L Rf H1 ∧ Eqx PTt V V1 ∧ r = nI tl.length ∧ tlP V1 [])) := by
  refine ctr_I (by decide) (Nat.le_of_ble_eq_true rfl) ?_
  intro p e s m args below meth c ls QQ locs hx hb hml hown hts hK hend hS hl
  have hl : lv_has ls 2 [(0, .ref o)] := hl
  refine lv_aload_n hx hb dX0_forget_0 rfl (lv_at hl 0 rfl) ?_
  refine g_get (v := .int (nI tl.length)) hx hb hts hown hK hG 0 rfl rfl ok_X0 15 (by decide) q537 rfl (congrArg Value.int htl.2.1) dX0_forget_1 ?_
  refine lv_istore_n (lv' := [(1, .int (nI tl.length)), (0, .ref o)]) hx hb dX0_forget_4 rfl hl (by decide) rfl (fun ls hl => ?_)
  refine lv_aload_n hx hb dX0_forget_5 rfl (lv_at hl 1 rfl) ?_
  refine lv_iconst (v := (nI 0)) hx hb dX0_forget_6 (by decide) ?_
  refine g_put hx hb hts hown hK hG hS 0 (AS_in 0 (by decide)) rfl rfl ok_X0 15 (by decide) q537 rfl rfl rfl rfl dX0_forget_7 (fun H locs hG hO hS => ?_)
  refine lv_iload_n hx hb dX0_forget_10 rfl (lv_at hl 0 rfl) ?_
  refine hend _ _ _ _ _ hS dX0_forget_11 ?_
  exact ⟨_, rfl, _, hG, (Eqx.rf.up rfl), rfl, ⟨by simp, up2_s, fun i q hi => by simp at hi⟩⟩
set_option maxHeartbeats 4000000 in
theorem met_X0_tell (l : Launch) (D : va_G) (dA : Nat → ClassId) {o : Nat} {V : GI} {L : GL} {Rf : GR} {H0 : Heap} (hG : gP D dA o dS V L Rf H0) {O : Nat → Prop} {tx : Nat} {T : Txt} {f : Rw} (hC : clS D dA H0 O o V Rf tx T f) (hOA : ∀ z, O z → ¬ AS o z) (tl : List Tl) (htl : tlP V tl) (v1 v2 : Int32) (y : Nat) (hy : y < 2) : Ctr l D dA yX0_tell cX0_tell 4 (some .int) (mkRm 6 120) [.ref o, .int v1, .int v2, .int (nI y)] H0 (AS o) (QI (fun r H1 => ∃ V1, gP D dA o dS V1 L Rf H1 ∧ Eqx PTt V V1 ∧ r = (tellS T tl v1 v2 (nI y)).1 ∧ tlP V1 (tellS T tl v1 v2 (nI y)).2)) := by
  have hC0 := hC
  obtain ⟨hX, htx, hB, hrv, hsd1, hsd2⟩ := hC
  have hX0 := hX
  have hn9 := txA_n hX
  have hp2 := two9 hn9
  have hpp := Nat.two_pow_pos (xN T)
  obtain ⟨fsx, hatx⟩ := txA_at hX
  have hotx := txA_o hX
  have ht20 := htl.1
  refine ctr_I (by decide) (Nat.le_of_ble_eq_true rfl) ?_
  intro p e s m args below meth c ls QQ locs hx hb hml hown hts hK hend hS hl
  have hl : lv_has ls 4 [(0, .ref o), (1, .int v1), (2, .int v2), (3, .int (nI y))] := hl
  refine lv_aload_n hx hb dX0_tell_0 rfl (lv_at hl 0 rfl) ?_
  refine lv_iload_n hx hb dX0_tell_1 rfl (lv_at hl 1 rfl) ?_
  refine c_VI hx hb hml hts hown hK hl.1 hS ⟨Nat.le_refl _, Nat.le_refl _⟩ (met_X0_isBed l D dA hG (txA_S hX0 hS hOA) htx v1) (cw_X0_150 hts ⟨Nat.le_of_ble_eq_true rfl, Nat.le_of_ble_eq_true rfl⟩) (hG 0 _ rfl) rfl rfl rfl rfl (Nat.le_of_ble_eq_true rfl) dX0_tell_2 (fun _ h => h.elim) (fun r H1 locs hq hF hS => ?_)
  obtain ⟨rfl, rfl⟩ := hq
  rcases (bedN_cases hn9 v1).symm with ⟨hz2, ho2⟩ | ⟨x1, hlo_x1, hhi_x1, rfl, hz2⟩
  · refine iv (y := nI 0) hz2 ?_
    refine n_if_eq (tgt := 24) hx hb dX0_tell_5 (by decide) (by decide) (fun _ => ?_) (fun z => absurd z (by decide))
    refine lv_iconst (v := (-1)) hx hb dX0_tell_24 (by decide) ?_
    refine hend _ _ _ _ _ hS dX0_tell_25 ?_
    have hR : tellS T tl v1 v2 (nI y) = (-1, tl) := by
      by_cases h20 : tl.length = 20
      · exact if_pos h20
      · exact (if_neg h20).trans ((ho2.2 _ _ _))
    exact ⟨_, rfl, _, hG, Eqx.rf, by rw [hR], by rw [hR]; exact htl⟩
  refine iv (y := nI 1) hz2 ?_
  have hl : lv_has ls 4 [(0, .ref o), (1, .int (nI x1)), (2, .int v2), (3, .int (nI y))] := hl
  refine n_if_eq (tgt := 24) hx hb dX0_tell_5 (by decide) (by decide) (fun z => absurd z (by decide)) (fun _ => ?_)
  refine lv_iload_n hx hb dX0_tell_8 rfl (lv_at hl 2 rfl) ?_
  refine c_SI hx hb hml hts hown hK hl.1 hS ⟨Nat.le_refl _, Nat.le_refl _⟩ (met_X0_isPlan l D dA v2) (cw_X0_231 hts ⟨Nat.le_of_ble_eq_true rfl, Nat.le_of_ble_eq_true rfl⟩) rfl rfl (Nat.le_of_ble_eq_true rfl) dX0_tell_9 (fun _ h => h.elim) (fun r H1 locs hq hF hS => ?_)
  obtain ⟨rfl, rfl⟩ := hq
  rcases (inZ_cases v2 0 24 (by decide) (by decide)).symm with ⟨hz9, ho9⟩ | ⟨x2, hlo_x2, hhi_x2, rfl, hz9⟩
  · refine iv (y := nI 0) hz9 ?_
    refine n_if_eq (tgt := 24) hx hb dX0_tell_12 (by decide) (by decide) (fun _ => ?_) (fun z => absurd z (by decide))
    refine lv_iconst (v := (-1)) hx hb dX0_tell_24 (by decide) ?_
    refine hend _ _ _ _ _ hS dX0_tell_25 ?_
    have hR : tellS T tl (nI x1) v2 (nI y) = (-1, tl) := by
      by_cases h20 : tl.length = 20
      · exact if_pos h20
      · exact (if_neg h20).trans ((rnp_in hlo_x1 hhi_x1 (by omega)).trans ((ho9.2 _ _ _)))
    exact ⟨_, rfl, _, hG, Eqx.rf, by rw [hR], by rw [hR]; exact htl⟩
  refine iv (y := nI 1) hz9 ?_
  have hl : lv_has ls 4 [(0, .ref o), (1, .int (nI x1)), (2, .int (nI x2)), (3, .int (nI y))] := hl
  refine n_if_eq (tgt := 24) hx hb dX0_tell_12 (by decide) (by decide) (fun z => absurd z (by decide)) (fun _ => ?_)
  refine lv_aload_n hx hb dX0_tell_15 rfl (lv_at hl 0 rfl) ?_
  refine g_get (v := .int (nI tl.length)) hx hb hts hown hK hG 0 rfl rfl ok_X0 15 (by decide) q537 rfl (congrArg Value.int htl.2.1) dX0_tell_16 ?_
  refine lv_bipush (v := (nI 20)) hx hb dX0_tell_19 (by decide) ?_
  refine n_icmp_ne (tgt := 26) hx hb dX0_tell_21 (by decide) (by omega) (by omega) (fun c21 => ?_) (fun c21 => ?_)
  · refine lv_aload_n hx hb dX0_tell_26 rfl (lv_at hl 0 rfl) ?_
    refine g_get hx hb hts hown hK hG 0 rfl rfl ok_X0 20 (by decide) q542 rfl rfl dX0_tell_27 ?_
    refine lv_aload_n hx hb dX0_tell_30 rfl (lv_at hl 0 rfl) ?_
    refine g_get (v := .int (nI tl.length)) hx hb hts hown hK hG 0 rfl rfl ok_X0 15 (by decide) q537 rfl (congrArg Value.int htl.2.1) dX0_tell_31 ?_
    refine lv_iload_n hx hb dX0_tell_34 rfl (lv_at hl 1 rfl) ?_
    refine n_iast hx hb hK hG hS 76 (AS_in 76 (by decide)) rfl (by omega) (by decide) dX0_tell_35 (fun H locs hG hO hS => ?_)
    refine lv_aload_n hx hb dX0_tell_36 rfl (lv_at hl 0 rfl) ?_
    refine g_get hx hb hts hown hK hG 0 rfl rfl ok_X0 21 (by decide) q543 rfl rfl dX0_tell_37 ?_
    refine lv_aload_n hx hb dX0_tell_40 rfl (lv_at hl 0 rfl) ?_
    refine g_get (v := .int (nI tl.length)) hx hb hts hown hK hG 0 rfl rfl ok_X0 15 (by decide) q537 rfl (congrArg Value.int htl.2.1) dX0_tell_41 ?_
    refine lv_iload_n hx hb dX0_tell_44 rfl (lv_at hl 2 rfl) ?_
    refine n_iast hx hb hK hG hS 77 (AS_in 77 (by decide)) rfl (by omega) (by decide) dX0_tell_45 (fun H locs hG hO hS => ?_)
    refine lv_aload_n hx hb dX0_tell_46 rfl (lv_at hl 0 rfl) ?_
    refine g_get hx hb hts hown hK hG 0 rfl rfl ok_X0 23 (by decide) q545 rfl rfl dX0_tell_47 ?_
    refine lv_aload_n hx hb dX0_tell_50 rfl (lv_at hl 0 rfl) ?_
    refine g_get (v := .int (nI tl.length)) hx hb hts hown hK hG 0 rfl rfl ok_X0 15 (by decide) q537 rfl (congrArg Value.int htl.2.1) dX0_tell_51 ?_
    refine lv_iload_n hx hb dX0_tell_54 rfl (lv_at hl 3 rfl) ?_
    refine n_zast (x2 := (nI y)) hx hb hK hG hS 79 (AS_in 79 (by decide)) rfl (by omega) (by decide) (narY hy) dX0_tell_55 (fun H locs hG hO hS => ?_)
    refine lv_aload_n hx hb dX0_tell_56 rfl (lv_at hl 0 rfl) ?_
    refine lv_dup hx hb dX0_tell_57 rfl ?_
    refine g_get (v := .int (nI tl.length)) hx hb hts hown hK hG 0 rfl rfl ok_X0 15 (by decide) q537 rfl (congrArg Value.int htl.2.1) dX0_tell_58 ?_
    refine lv_iconst (v := (nI 1)) hx hb dX0_tell_61 (by decide) ?_
    refine n_iadd hx hb dX0_tell_62 ?_
    refine g_put hx hb hts hown hK hG hS 0 (AS_in 0 (by decide)) rfl rfl ok_X0 15 (by decide) q537 rfl rfl rfl rfl dX0_tell_63 (fun H locs hG hO hS => ?_)
    refine lv_aload_n hx hb dX0_tell_66 rfl (lv_at hl 0 rfl) ?_
    refine g_get (v := .int (nI (tl.length + 1))) hx hb hts hown hK hG 0 rfl rfl ok_X0 15 (by decide) q537 rfl rfl dX0_tell_67 ?_
    refine lv_iconst (v := (nI 1)) hx hb dX0_tell_70 (by decide) ?_
    refine n_isub hx hb dX0_tell_71 (by omega) ?_
    refine hend _ _ _ _ _ hS dX0_tell_72 ?_
    have hy2 : (if nI y = 0 then 0 else 1) = y := by
      obtain rfl | rfl : y = 0 ∨ y = 1 := by omega
      · rfl
      · exact if_neg (by decide)
    have hR : tellS T tl (nI x1) (nI x2) (nI y) = (nI tl.length, tl ++ [(x1, x2, y)]) := (if_neg (by omega)).trans ((rnp_in hlo_x1 hhi_x1 (by omega)).trans ((rnp_in hlo_x2 hhi_x2 (by omega)).trans ((by rw [hy2]))))
    exact ⟨_, rfl, _, hG, ((((Eqx.rf.up rfl).up rfl).up rfl).up rfl), by rw [hR]; exact congrArg nI (by omega), by rw [hR]; exact tlP_app htl (by omega) (by omega) (by omega) (by omega) rfl (fun _ => rfl) (fun _ => rfl) (fun _ => rfl)⟩
  refine lv_iconst (v := (-1)) hx hb dX0_tell_24 (by decide) ?_
  refine hend _ _ _ _ _ hS dX0_tell_25 ?_
  have hR : tellS T tl (nI x1) (nI x2) (nI y) = (-1, tl) := by
    by_cases h20 : tl.length = 20
    · exact if_pos h20
    · exact (if_neg h20).trans (absurd (by omega) h20)
  exact ⟨_, rfl, _, hG, Eqx.rf, by rw [hR], by rw [hR]; exact htl⟩
