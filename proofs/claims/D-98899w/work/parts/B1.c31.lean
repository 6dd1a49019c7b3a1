theorem lw_O {own C owner : String} {idx : Nat} {x y : MethodName} {b : ByteArray} {L : Nat} {r : Option FieldType} (h1 : Cond.methodLink own idx x ∈ lw_all) (h2 : Cond.sameMethod x.cls owner x.name x.desc ∈ lw_all) (h0 : Cond.instanceMethod ⟨owner, x.name, x.desc⟩ ∈ lw_all) (h3 : Cond.selects C x y ∈ lw_all) (h4 : Cond.instanceMethod y ∈ lw_all) (h5 : Cond.initialized y.cls ∈ lw_all) (h6 : Cond.code y b L r ∈ lw_all) : GoodIn lw_all (va_wsO own idx C owner x y (ws_ y b L r)) := by
  unfold va_wsO
  refine lw_app ?_ (lw_meth h6)
  intro w hw
  simp only [List.mem_cons, List.not_mem_nil, or_false] at hw
  rcases hw with e | e | e | e | e | e
  · rw [e]; exact h1
  · rw [e]; exact h2
  · rw [e]; exact h0
  · rw [e]; exact h3
  · rw [e]; exact h4
  · rw [e]; exact h5
theorem lw_SU {own : String} {idx : Nat} {y : MethodName} {b : ByteArray} {L : Nat} {r : Option FieldType} (h1 : Cond.methodLink own idx y ∈ lw_all) (h2 : Cond.sameMethod y.cls y.cls y.name y.desc ∈ lw_all) (h3 : Cond.superclass own y.cls ∈ lw_all) (h4 : Cond.instanceMethod y ∈ lw_all) (h5 : Cond.initialized y.cls ∈ lw_all) (h6 : Cond.code y b L r ∈ lw_all) : GoodIn lw_all (va_wsSU own idx y (ws_ y b L r)) := by
  unfold va_wsSU
  refine lw_app ?_ (lw_meth h6)
  intro w hw
  simp only [List.mem_cons, List.not_mem_nil, or_false] at hw
  rcases hw with e | e | e | e | e
  · rw [e]; exact h1
  · rw [e]; exact h2
  · rw [e]; exact h3
  · rw [e]; exact h4
  · rw [e]; exact h5
theorem le16 {q : Nat} (h : q ≤ 16) : nI q - nI 16 ≤ 0 := (by decide +kernel : ∀ y : Fin 17, nI y.val - nI 16 ≤ 0) ⟨q, by omega⟩
theorem fit_b : ∀ x : Fin 128, fits .byte (.int (nI x.val)) = true := by decide +kernel
theorem sb_add {lt : List Nat} {g : Nat → Int32} {x : Nat} (hg : ∀ j, j < lt.length → g j = nI (lt.getD j 0)) : ∀ j, j < (lt ++ [x]).length → va_up g lt.length (nI x) j = nI ((lt ++ [x]).getD j 0) := fun j hj => by
  rw [List.length_append] at hj
  have hj2 : j < lt.length + 1 := hj
  rw [List.getD_eq_getElem?_getD]
  by_cases e : j = lt.length
  · subst e
    rw [List.getElem?_append_right (Nat.le_refl _), Nat.sub_self]
    simp [va_up]
  · rw [List.getElem?_append_left (by omega)]
    have := hg j (by omega)
    rw [List.getD_eq_getElem?_getD] at this
    simp [va_up, e, this]
theorem at_cg {D : va_G} {dA : Nat → ClassId} {a t n : Nat} {g g2 : Nat → Int32} {H : Heap} (h : va_at D CL (a, .inl (dA t, n, .inl g)) H) (hg : ∀ j, j < n → g j = g2 j) : va_at D CL (a, .inl (dA t, n, .inl g2)) H := by
  have h2 : H[a]? = some (vp_cell (dA t) (n, .inl g)) := h
  show H[a]? = some (vp_cell (dA t) (n, .inl g2))
  rw [h2]
  have := gA_congr (V := fun _ => g) (V' := fun _ => g2) (L := fun _ _ => 0) (L' := fun _ _ => 0) (Rf := fun _ _ => none) (Rf' := fun _ _ => none) (k := 0) (t := 0) (n := n) hg (fun _ _ => rfl) (fun _ _ => rfl) (dA t)
  exact congrArg some this
set_option maxHeartbeats 4000000 in
theorem met_J11_isLatin1 (l : Launch) (D : va_G) (dA : Nat → ClassId) {H0 : Heap} {b vb : Nat} {mb : Int32} {n : Nat} (hs : va_at D CL (b, .inr (19, [.ref vb, .int (nI 0), .int mb, .int (nI n)])) H0) (hc : stH D H0 0 (.int (nI 1))) : Ctr l D dA yJ11_isLatin1 cJ11_isLatin1 1 (some .boolean) (mkRm 0 0) [.ref b] H0 A0 (QI (fun r H1 => H0 = H1 ∧ r = nI 1)) := by
  refine ctr_Z (by decide) (Nat.le_of_ble_eq_true rfl) ?_
  intro p e s m args below meth c ls QQ locs hx hb hml hown hts hK hend hS hl
  have hl : lv_has ls 1 [(0, .ref b)] := hl
  refine x_gets (v := .int (nI 1)) hx hb hts hown hK 0 rfl hc q850 dJ11_isLatin1_0 ?_
  refine n_if_eq (tgt := 17) hx hb dJ11_isLatin1_3 (by decide) (by decide) (fun z => absurd z (by decide)) (fun _ => ?_)
  refine lv_aload_n hx hb dJ11_isLatin1_6 rfl (lv_at hl 0 rfl) ?_
  refine x_get hx hb hts hown hK hs rfl ok_J12 1 (by decide) q859 rfl dJ11_isLatin1_7 ?_
  refine n_if_ne (tgt := 17) hx hb dJ11_isLatin1_10 (by decide) (by decide) (fun z => absurd z (by decide)) (fun _ => ?_)
  refine lv_iconst (v := (nI 1)) hx hb dJ11_isLatin1_13 (by decide) ?_
  refine lv_goto (tgt := 18) hx hb dJ11_isLatin1_14 (by decide) ?_
  refine hend _ _ _ _ _ hS dJ11_isLatin1_18 (rfl) ?_
  exact ⟨_, rfl, rfl, rfl⟩
set_option maxHeartbeats 4000000 in
theorem met_J11_getValue (l : Launch) (D : va_G) (dA : Nat → ClassId) {H0 : Heap} {b vb : Nat} {mb : Int32} {n : Nat} (hs : va_at D CL (b, .inr (19, [.ref vb, .int (nI 0), .int mb, .int (nI n)])) H0) : Ctr l D dA yJ11_getValue cJ11_getValue 1 (some (.array .byte)) (mkRm 0 0) [.ref b] H0 A0 (QR (fun r H1 => H0 = H1 ∧ r = some vb)) := by
  refine ctr_R (by decide) (Nat.le_of_ble_eq_true rfl) (Or.inr ⟨_, rfl⟩) ?_
  intro p e s m args below meth c ls QQ locs hx hb hml hown hts hK hend hS hl
  have hl : lv_has ls 1 [(0, .ref b)] := hl
  refine lv_aload_n hx hb dJ11_getValue_0 rfl (lv_at hl 0 rfl) ?_
  refine x_get hx hb hts hown hK hs rfl ok_J12 0 (by decide) q858 rfl dJ11_getValue_1 ?_
  refine hend _ _ _ _ _ hS dJ11_getValue_4 (Or.inr ⟨_, rfl⟩) ?_
  exact ⟨some vb, rfl, rfl, rfl⟩
set_option maxHeartbeats 4000000 in
theorem met_J11_length (l : Launch) (D : va_G) (dA : Nat → ClassId) {H0 : Heap} {b vb : Nat} {mb : Int32} {n : Nat} (hs : va_at D CL (b, .inr (19, [.ref vb, .int (nI 0), .int mb, .int (nI n)])) H0) : Ctr l D dA yJ11_length cJ11_length 1 (some .int) (mkRm 0 0) [.ref b] H0 A0 (QI (fun r H1 => H0 = H1 ∧ r = nI n)) := by
  refine ctr_I (by decide) (Nat.le_of_ble_eq_true rfl) ?_
  intro p e s m args below meth c ls QQ locs hx hb hml hown hts hK hend hS hl
  have hl : lv_has ls 1 [(0, .ref b)] := hl
  refine lv_aload_n hx hb dJ11_length_0 rfl (lv_at hl 0 rfl) ?_
  refine x_get hx hb hts hown hK hs rfl ok_J12 3 (by decide) q861 rfl dJ11_length_1 ?_
  refine hend _ _ _ _ _ hS dJ11_length_4 ?_
  exact ⟨_, rfl, rfl, rfl⟩
set_option maxHeartbeats 4000000 in
theorem met_J12_length (l : Launch) (D : va_G) (dA : Nat → ClassId) {H0 : Heap} {b vb : Nat} {mb : Int32} {n : Nat} (hs : va_at D CL (b, .inr (19, [.ref vb, .int (nI 0), .int mb, .int (nI n)])) H0) : Ctr l D dA yJ12_length cJ12_length 1 (some .int) (mkRm 1 20) [.ref b] H0 A0 (QI (fun r H1 => H0 = H1 ∧ r = nI n)) := by
  refine ctr_I (by decide) (Nat.le_of_ble_eq_true rfl) ?_
  intro p e s m args below meth c ls QQ locs hx hb hml hown hts hK hend hS hl
  have hl : lv_has ls 1 [(0, .ref b)] := hl
  refine lv_aload_n hx hb dJ12_length_0 rfl (lv_at hl 0 rfl) ?_
  refine c_SUI hx hb hml hts hown hK hl.1 hS ⟨Nat.le_refl _, Nat.le_refl _⟩ (met_J11_length l D dA hs) (va_cwSU 0 hts (lw_SU q970 q966 q870 q965 q139 q971) rfl rfl rfl (by decide +kernel) ⟨Nat.le_of_ble_eq_true rfl, Nat.le_of_ble_eq_true rfl⟩) hs rfl rfl rfl (Nat.le_of_ble_eq_true rfl) dJ12_length_1 (fun _ h => h.elim) (fun r H1 locs hq hF hS => ?_)
  obtain ⟨rfl, rfl⟩ := hq
  refine hend _ _ _ _ _ hS dJ12_length_4 ?_
  exact ⟨_, rfl, rfl, rfl⟩
set_option maxHeartbeats 4000000 in
theorem met_J11_ensureCapacityInternal (l : Launch) (D : va_G) (dA : Nat → ClassId) {H0 : Heap} {b vb : Nat} {mb : Int32} {n : Nat} (hs : va_at D CL (b, .inr (19, [.ref vb, .int (nI 0), .int mb, .int (nI n)])) H0) {g : Nat → Int32} (hv : va_at D CL (vb, .inl (dA 1, 16, .inl g)) H0) {q : Nat} (hq9 : q ≤ 16) : Ctr l D dA yJ11_ensureCapacityInternal cJ11_ensureCapacityInternal 3 none (mkRm 0 0) [.ref b, .int (nI q)] H0 A0 (QV (fun H1 => H0 = H1)) := by
  refine ctr_V (by decide) (Nat.le_of_ble_eq_true rfl) ?_
  intro p e s m args below meth c ls QQ locs hx hb hml hown hts hK hend hS hl
  have hl : lv_has ls 3 [(0, .ref b), (1, .int (nI q))] := hl
  refine lv_aload_n hx hb dJ11_ensureCapacityInternal_0 rfl (lv_at hl 0 rfl) ?_
  refine x_get hx hb hts hown hK hs rfl ok_J12 0 (by decide) q858 rfl dJ11_ensureCapacityInternal_1 ?_
  refine x_alen hx hb hK 1 hv rfl (v := nI 16) rfl dJ11_ensureCapacityInternal_4 ?_
  refine lv_aload_n hx hb dJ11_ensureCapacityInternal_5 rfl (lv_at hl 0 rfl) ?_
  refine x_get hx hb hts hown hK hs rfl ok_J12 1 (by decide) q859 rfl dJ11_ensureCapacityInternal_6 ?_
  refine lv_ishr hx hb dJ11_ensureCapacityInternal_9 ?_
  refine iv (y := (nI 16)) (by decide) ?_
  refine lv_istore_n (lv' := [(2, .int (nI 16)), (0, .ref b), (1, .int (nI q))]) hx hb dJ11_ensureCapacityInternal_10 rfl hl (by decide) rfl (fun ls hl => ?_)
  refine lv_iload_n hx hb dJ11_ensureCapacityInternal_11 rfl (lv_at hl 2 rfl) ?_
  refine lv_iload_n hx hb dJ11_ensureCapacityInternal_12 rfl (lv_at hl 0 rfl) ?_
  refine lv_isub hx hb dJ11_ensureCapacityInternal_13 ?_
  refine lv_if_le (tgt := 38) hx hb dJ11_ensureCapacityInternal_14 (by decide) (fun c14 => ?_) (fun c14 => ?_)
  · refine hend _ _ _ _ hS dJ11_ensureCapacityInternal_38 ?_
    exact ⟨rfl, rfl⟩
  exact absurd (le16 hq9) c14
set_option maxHeartbeats 4000000 in
theorem met_J9_canEncode (l : Launch) (D : va_G) (dA : Nat → ClassId) {H0 : Heap} {x : Nat} (hx5 : x < 128) : Ctr l D dA yJ9_canEncode cJ9_canEncode 1 (some .boolean) (mkRm 0 0) [.int (nI x)] H0 A0 (QI (fun r H1 => H0 = H1 ∧ r = nI 1)) := by
  refine ctr_Z (by decide) (Nat.le_of_ble_eq_true rfl) ?_
  intro p e s m args below meth c ls QQ locs hx hb hml hown hts hK hend hS hl
  have hl : lv_has ls 1 [(0, .int (nI x))] := hl
  refine lv_iload_n hx hb dJ9_canEncode_0 rfl (lv_at hl 0 rfl) ?_
  refine lv_sipush (v := (nI 255)) hx hb dJ9_canEncode_1 (by decide) ?_
  refine n_icmp_gt (tgt := 11) hx hb dJ9_canEncode_4 (by decide) (by omega) (by omega) (fun c4 => ?_) (fun c4 => ?_)
  · exact absurd c4 (by omega)
  refine lv_iconst (v := (nI 1)) hx hb dJ9_canEncode_7 (by decide) ?_
  refine lv_goto (tgt := 12) hx hb dJ9_canEncode_8 (by decide) ?_
  refine hend _ _ _ _ _ hS dJ9_canEncode_12 (rfl) ?_
  exact ⟨_, rfl, rfl, rfl⟩
theorem cw_J11_191 {R : Room} {s : State} {args : Array Value} (hts : ∀ w ∈ lw_all, w.before args s = true) {f w k j : Nat} (hR : f + 1 ≤ R.frames ∧ 8 + (1 + 11) + w ≤ R.locals) : CallB R s args RJ11 191 yJ9_canEncode cJ9_canEncode 1 (some .boolean) (ws_ yJ9_canEncode cJ9_canEncode 1 (some .boolean)) (mkRmC f w k j) k j 1 ∧ (Cond.static yJ9_canEncode).before args s = true := va_cwS 1 hts (lw_S q918 q919 q131 q920) rfl rfl rfl (by decide +kernel) hR
set_option maxHeartbeats 4000000 in
theorem met_J11_append (l : Launch) (D : va_G) (dA : Nat → ClassId) {H0 : Heap} {b vb : Nat} {lt : List Nat} (hsb : sbS D dA H0 b vb lt) {x : Nat} (hx5 : x < 128) (hl16 : lt.length < 16) (hc : stH D H0 0 (.int (nI 1))) : Ctr l D dA yJ11_append cJ11_append 2 (some (.object "java/lang/AbstractStringBuilder")) (mkRm 1 40) [.ref b, .int (nI x)] H0 (fun z => z = b ∨ z = vb) (QR (fun r H1 => r = some b ∧ sbS D dA H1 b vb (lt ++ [x]))) := by
  obtain ⟨hbv, hlx, mb, g, hs, hv, hg⟩ := hsb
  refine ctr_R (by decide) (Nat.le_of_ble_eq_true rfl) (Or.inl ⟨_, rfl⟩) ?_
  intro p e s m args below meth c ls QQ locs hx hb hml hown hts hK hend hS hl
  have hl : lv_has ls 2 [(0, .ref b), (1, .int (nI x))] := hl
  refine lv_aload_n hx hb dJ11_append_0 rfl (lv_at hl 0 rfl) ?_
  refine lv_aload_n hx hb dJ11_append_1 rfl (lv_at hl 0 rfl) ?_
  refine x_get hx hb hts hown hK hs rfl ok_J12 3 (by decide) q861 rfl dJ11_append_2 ?_
  refine lv_iconst (v := (nI 1)) hx hb dJ11_append_5 (by decide) ?_
  refine n_iadd hx hb dJ11_append_6 ?_
  refine c_UV (x := yJ11_ensureCapacityInternal) (owner := "java/lang/AbstractStringBuilder") hx hb hml hts hown hK hl.1 hS ⟨Nat.le_refl _, Nat.le_refl _⟩ (met_J11_ensureCapacityInternal l D dA hs hv (q := lt.length + 1) (by omega)) (cwUP 1 hts (lw_meth q881) rfl rfl q139 q878 q2080 q880 (va_Nw.use rfl hK.2.2.2.2.2) rfl (by decide +kernel) ⟨Nat.le_of_ble_eq_true rfl, Nat.le_of_ble_eq_true rfl⟩) hs rfl rfl rfl rfl (Nat.le_of_ble_eq_true rfl) dJ11_append_7 (fun _ h => h.elim) (fun H1 locs hq hF hS => ?_)
  subst hq
  refine lv_aload_n hx hb dJ11_append_10 rfl (lv_at hl 0 rfl) ?_
  refine c_UI (x := yJ11_isLatin1) (owner := "java/lang/AbstractStringBuilder") hx hb hml hts hown hK hl.1 hS ⟨Nat.le_refl _, Nat.le_refl _⟩ (met_J11_isLatin1 l D dA hs hc) (va_cwU 0 hts (lw_U q913 q915 q916 q914 q139 q917) rfl rfl rfl rfl (by decide +kernel) ⟨Nat.le_of_ble_eq_true rfl, Nat.le_of_ble_eq_true rfl⟩) hs rfl rfl rfl rfl (Nat.le_of_ble_eq_true rfl) dJ11_append_11 (fun _ h => h.elim) (fun r H1 locs hq hF hS => ?_)
  obtain ⟨rfl, rfl⟩ := hq
  refine n_if_eq (tgt := 45) hx hb dJ11_append_14 (by decide) (by decide) (fun z => absurd z (by decide)) (fun _ => ?_)
  refine lv_iload_n hx hb dJ11_append_17 rfl (lv_at hl 1 rfl) ?_
  refine c_SI hx hb hml hts hown hK hl.1 hS ⟨Nat.le_refl _, Nat.le_refl _⟩ (met_J9_canEncode l D dA (x := x) hx5) (cw_J11_191 hts ⟨Nat.le_of_ble_eq_true rfl, Nat.le_of_ble_eq_true rfl⟩) rfl rfl (Nat.le_of_ble_eq_true rfl) dJ11_append_18 (fun _ h => h.elim) (fun r H1 locs hq hF hS => ?_)
  obtain ⟨rfl, rfl⟩ := hq
  refine n_if_eq (tgt := 45) hx hb dJ11_append_21 (by decide) (by decide) (fun z => absurd z (by decide)) (fun _ => ?_)
  refine lv_aload_n hx hb dJ11_append_24 rfl (lv_at hl 0 rfl) ?_
  refine x_get hx hb hts hown hK hs rfl ok_J12 0 (by decide) q858 rfl dJ11_append_25 ?_
  refine lv_aload_n hx hb dJ11_append_28 rfl (lv_at hl 0 rfl) ?_
  refine lv_dup hx hb dJ11_append_29 rfl ?_
  refine x_get hx hb hts hown hK hs rfl ok_J12 3 (by decide) q861 rfl dJ11_append_30 ?_
  refine lv_dup_x1 hx hb dJ11_append_33 rfl rfl ?_
  refine lv_iconst (v := (nI 1)) hx hb dJ11_append_34 (by decide) ?_
  refine n_iadd hx hb dJ11_append_35 ?_
  refine x_put hx hb hts hown hK hs rfl ok_J12 3 (by decide) q861 (Or.inl rfl) rfl rfl (Nat.le_of_ble_eq_true rfl) dJ11_append_36 (fun H i hat1 hO => ?_)
  have hS := hO.S (k := i) hS (Or.inl rfl)
  have hv := hv.kept (hO.2 _ (fun z => hbv z.symm))
  refine lv_iload_n hx hb dJ11_append_39 rfl (lv_at hl 1 rfl) ?_
  refine lv_i2b (v := (nI x).toInt8.toInt32) hx hb dJ11_append_40 rfl ?_
  refine iv (y := (nI x)) (i2b_n ⟨x, hx5⟩) ?_
  refine xn_bast hx hb hK hv (i := lt.length) (v2 := nI x) (by omega) (by decide) (i2b_n ⟨x, hx5⟩) dJ11_append_41 (fun H k hat2 hO => ?_)
  have hS := hO.S (k := k) hS (Or.inr rfl)
  have hat1 := hat1.kept (hO.2 _ hbv)
  refine lv_goto (tgt := 75) hx hb dJ11_append_42 (by decide) ?_
  refine lv_aload_n hx hb dJ11_append_75 rfl (lv_at hl 0 rfl) ?_
  refine hend _ _ _ _ _ hS dJ11_append_76 (Or.inr ⟨_, rfl⟩) ?_
  exact ⟨some b, rfl, rfl, hbv, (fun y hy => by rcases List.mem_append.mp hy with h | h; exact hlx y h; rw [List.mem_singleton.mp h]; exact hx5), mb, _, (by rw [List.length_append]; exact hat1), hat2, sb_add hg⟩
set_option maxHeartbeats 4000000 in
theorem met_J12_append (l : Launch) (D : va_G) (dA : Nat → ClassId) {H0 : Heap} {b vb : Nat} {lt : List Nat} (hsb : sbS D dA H0 b vb lt) {x : Nat} (hx5 : x < 128) (hl16 : lt.length < 16) (hc : stH D H0 0 (.int (nI 1))) : Ctr l D dA yJ12_append cJ12_append 2 (some (.object "java/lang/StringBuilder")) (mkRm 2 70) [.ref b, .int (nI x)] H0 (fun z => z = b ∨ z = vb) (QR (fun r H1 => r = some b ∧ sbS D dA H1 b vb (lt ++ [x]))) := by
  have hsb0 := hsb
  obtain ⟨hbv, hlx, mb, g, hs, hv, hg⟩ := hsb0
  refine ctr_R (by decide) (Nat.le_of_ble_eq_true rfl) (Or.inl ⟨_, rfl⟩) ?_
  intro p e s m args below meth c ls QQ locs hx hb hml hown hts hK hend hS hl
  have hl : lv_has ls 2 [(0, .ref b), (1, .int (nI x))] := hl
  refine lv_aload_n hx hb dJ12_append_0 rfl (lv_at hl 0 rfl) ?_
  refine lv_iload_n hx hb dJ12_append_1 rfl (lv_at hl 1 rfl) ?_
  refine c_SUR hx hb hml hts hown hK hl.1 hS ⟨Nat.le_refl _, Nat.le_refl _⟩ (met_J11_append l D dA hsb hx5 hl16 hc) (va_cwSU 1 hts (lw_SU q875 q2079 q870 q876 q139 q877) rfl rfl rfl (by decide +kernel) ⟨Nat.le_of_ble_eq_true rfl, Nat.le_of_ble_eq_true rfl⟩) hs rfl rfl rfl (Nat.le_of_ble_eq_true rfl) dJ12_append_2 (fun _ h => h) (fun r H1 locs hq hF hS => ?_)
  obtain ⟨rfl, hsb⟩ := hq
  refine lv_pop hx hb dJ12_append_5 rfl ?_
  refine lv_aload_n hx hb dJ12_append_6 rfl (lv_at hl 0 rfl) ?_
  refine hend _ _ _ _ _ hS dJ12_append_7 (Or.inr ⟨_, rfl⟩) ?_
  exact ⟨some b, rfl, rfl, hsb⟩
set_option maxHeartbeats 4000000 in
theorem met_J11_init (l : Launch) (D : va_G) (dA : Nat → ClassId) {H0 : Heap} {b : Nat} (hat : va_at D CL (b, .inr (19, [.null, .int 0, .int 0, .int 0])) H0) (hz : H0.size = b + 1) (hc : stH D H0 0 (.int (nI 1))) : Ctr l D dA yJ11_init cJ11_init 2 none (mkRmC 1 30 1 16) [.ref b, .int (nI 16)] H0 (fun z => z = b) (QV (fun H1 => va_at D CL (b, .inr (19, [.ref (b + 1), .int (nI 0), .int 0, .int 0])) H1 ∧ va_at D CL (b + 1, .inl (dA 1, 16, .inl (fun _ => 0))) H1 ∧ H1.size = b + 2)) := by
  refine ctr_V (by decide) (Nat.le_of_ble_eq_true rfl) ?_
  intro p e s m args below meth c ls QQ locs hx hb hml hown hts hK hend hS hl
  have hl : lv_has ls 2 [(0, .ref b), (1, .int (nI 16))] := hl
  refine lv_aload_n hx hb dJ11_init_0 rfl (lv_at hl 0 rfl) ?_
  refine x_obj hx hb hml hts hown hl.1 q849 q152 q153 (Nat.le_of_ble_eq_true rfl) ⟨by show _ ≤ 1; omega, by show _ ≤ 30; omega⟩ dJ11_init_1 ?_
  refine x_gets (v := .int (nI 1)) hx hb hts hown hK 0 rfl hc q850 dJ11_init_4 ?_
  refine n_if_eq (tgt := 25) hx hb dJ11_init_7 (by decide) (by decide) (fun z => absurd z (by decide)) (fun _ => ?_)
  refine lv_aload_n hx hb dJ11_init_10 rfl (lv_at hl 0 rfl) ?_
  refine lv_iload_n hx hb dJ11_init_11 rfl (lv_at hl 1 rfl) ?_
  refine x_newa hx hb hts hK 1 (ty := .byte) rfl rfl q227 (n := 16) (by decide) (by decide) hS (by show 0 + 1 ≤ 1; omega) (by show 0 + 16 ≤ 16; omega) (a0 := (16, .inl (fun _ => 0))) rfl dJ11_init_12 hz (fun H hat1 hz1 hF hS => ?_)
  have hat := hat.kept (hF.2 _ hat.lt (fun z => z))
  have hz1 : H.size = b + 2 := hz1
  refine x_put hx hb hts hown hK hat rfl ok_J12 0 (by decide) q858 (Or.inl rfl) rfl rfl (Nat.le_of_ble_eq_true rfl) dJ11_init_14 (fun H i hat2 hO => ?_)
  have hS := hO.S (k := i) hS rfl
  have hat1 := hat1.kept (hO.2 _ (by show ((b + 1) : Nat) ≠ b; omega))
  have hz1 := hO.1.trans hz1
  refine lv_aload_n hx hb dJ11_init_17 rfl (lv_at hl 0 rfl) ?_
  refine lv_iconst (v := (nI 0)) hx hb dJ11_init_18 (by decide) ?_
  refine x_put hx hb hts hown hK hat2 rfl ok_J12 1 (by decide) q859 (Or.inl rfl) rfl rfl (Nat.le_of_ble_eq_true rfl) dJ11_init_19 (fun H i hat3 hO => ?_)
  have hS := hO.S (k := i) hS rfl
  have hat1 := hat1.kept (hO.2 _ (by show ((b + 1) : Nat) ≠ b; omega))
  have hz1 := hO.1.trans hz1
  refine lv_goto (tgt := 38) hx hb dJ11_init_22 (by decide) ?_
  refine W.widen (k := 1) (n := 16) (by show 0 + 1 ≤ 1; omega) (by show 0 + 16 ≤ 16; omega) ?_
  refine hend _ _ _ _ hS dJ11_init_38 ?_
  exact ⟨rfl, hat3, hat1, hz1⟩
set_option maxHeartbeats 4000000 in
theorem met_J12_init (l : Launch) (D : va_G) (dA : Nat → ClassId) {H0 : Heap} {b : Nat} (hat : va_at D CL (b, .inr (19, [.null, .int 0, .int 0, .int 0])) H0) (hz : H0.size = b + 1) (hc : stH D H0 0 (.int (nI 1))) : Ctr l D dA yJ12_init cJ12_init 1 none (mkRmC 2 60 1 16) [.ref b] H0 (fun z => z = b) (QV (fun H1 => sbS D dA H1 b (b + 1) [] ∧ H1.size = b + 2)) := by
  refine ctr_V (by decide) (Nat.le_of_ble_eq_true rfl) ?_
  intro p e s m args below meth c ls QQ locs hx hb hml hown hts hK hend hS hl
  have hl : lv_has ls 1 [(0, .ref b)] := hl
  refine lv_aload_n hx hb dJ12_init_0 rfl (lv_at hl 0 rfl) ?_
  refine lv_bipush (v := (nI 16)) hx hb dJ12_init_1 (by decide) ?_
  refine c_IV (rm := (mkRmC 1 30 1 16)) hx hb hml hts hown hK hl.1 hS (met_J11_init l D dA hat hz hc) (cwI 1 hts (lw_meth q848) rfl rfl rfl (hts _ q139) (hts _ q846) (hts _ q847) rfl (by decide +kernel) ⟨by show 1 + 1 ≤ 2; omega, by show 8 + (2 + 11) + 30 ≤ 60; omega⟩) rfl rfl (Nat.le_of_ble_eq_true rfl) dJ12_init_3 (fun _ h => h) ⟨by show 0 + 1 ≤ 1; omega, by show 0 + 16 ≤ 16; omega⟩ (fun H locs hq hF hS => ?_)
  obtain ⟨hs, hv, hz2⟩ := hq
  refine W.widen (k := 1) (n := 16) (by show 0 + 1 ≤ 1; omega) (by show 0 + 16 ≤ 16; omega) ?_
  refine hend _ _ _ _ hS dJ12_init_6 ?_
  exact ⟨rfl, ⟨by omega, (fun x hx => by simp at hx), 0, _, hs, hv, (fun j hj => absurd hj (Nat.not_lt_zero _))⟩, hz2⟩
set_option maxHeartbeats 4000000 in
theorem met_J15_checkLength (l : Launch) (D : va_G) (dA : Nat → ClassId) {H0 : Heap} {x y : Nat} (hxy : x ≤ y) (hy9 : y < 2 ^ 31) : Ctr l D dA yJ15_checkLength cJ15_checkLength 2 none (mkRm 0 0) [.int (nI x), .int (nI y)] H0 A0 (QV (fun H1 => H0 = H1)) := by
  refine ctr_V (by decide) (Nat.le_of_ble_eq_true rfl) ?_
  intro p e s m args below meth c ls QQ locs hx hb hml hown hts hK hend hS hl
  have hl : lv_has ls 2 [(0, .int (nI x)), (1, .int (nI y))] := hl
  refine lv_iload_n hx hb dJ15_checkLength_0 rfl (lv_at hl 1 rfl) ?_
  refine lv_iload_n hx hb dJ15_checkLength_1 rfl (lv_at hl 0 rfl) ?_
  refine n_icmp_ge (tgt := 37) hx hb dJ15_checkLength_2 (by decide) (by omega) (by omega) (fun c2 => ?_) (fun c2 => ?_)
  · refine hend _ _ _ _ hS dJ15_checkLength_37 ?_
    exact ⟨rfl, rfl⟩
  exact absurd hxy (by omega)
theorem cw_J15_343 {R : Room} {s : State} {args : Array Value} (hts : ∀ w ∈ lw_all, w.before args s = true) {f w k j : Nat} (hR : f + 1 ≤ R.frames ∧ 8 + (2 + 11) + w ≤ R.locals) : CallB R s args RJ15 343 yJ15_checkLength cJ15_checkLength 2 none (ws_ yJ15_checkLength cJ15_checkLength 2 none) (mkRmC f w k j) k j 2 ∧ (Cond.static yJ15_checkLength).before args s = true := va_cwS 2 hts (lw_S q979 q980 q143 q981) rfl rfl rfl (by decide +kernel) hR
set_option maxHeartbeats 4000000 in
theorem met_J15_copyOfRangeByte (l : Launch) (D : va_G) (dA : Nat → ClassId) {H0 : Heap} {v zz : Nat} {lt : List Nat} {g : Nat → Int32} (hv : va_at D CL (v, .inl (dA 1, 16, .inl g)) H0) (hg : ∀ j, j < lt.length → g j = nI (lt.getD j 0)) (hlx : ∀ x, x ∈ lt → x < 128) (hl16 : lt.length < 16) (hz : H0.size = zz) : Ctr l D dA yJ15_copyOfRangeByte cJ15_copyOfRangeByte 5 (some (.array .byte)) (mkRmC 4 200 1 16) [.ref v, .int (nI 0), .int (nI lt.length)] H0 (fun q => q = v ∨ H0.size ≤ q) (QR (fun r H1 => r = some zz ∧ va_at D CL (v, .inl (dA 1, 16, .inl g)) H1 ∧ va_at D CL (zz, .inl (dA 1, lt.length, .inl (fun j => nI (lt.getD j 0)))) H1 )) := by
  refine ctr_R (by decide) (Nat.le_of_ble_eq_true rfl) (Or.inr ⟨_, rfl⟩) ?_
  intro p e s m args below meth c ls QQ locs hx hb hml hown hts hK hend hS hl
  have hl : lv_has ls 5 [(0, .ref v), (1, .int (nI 0)), (2, .int (nI lt.length))] := hl
  have hv0 := hv
  refine lv_iload_n hx hb dJ15_copyOfRangeByte_0 rfl (lv_at hl 1 rfl) ?_
  refine lv_iload_n hx hb dJ15_copyOfRangeByte_1 rfl (lv_at hl 2 rfl) ?_
  refine c_SV hx hb hml hts hown hK hl.1 hS ⟨by show 0 ≤ 1; omega, by show 0 ≤ 16; omega⟩ (met_J15_checkLength l D dA (x := 0) (y := lt.length) (by omega) (by omega)) (cw_J15_343 hts ⟨by show _ ≤ 4; omega, by show _ ≤ 200; omega⟩) rfl rfl (Nat.le_of_ble_eq_true rfl) dJ15_copyOfRangeByte_2 (fun _ h => h.elim) (fun H1 locs hq hF hS => ?_)
  subst hq
  refine lv_iload_n hx hb dJ15_copyOfRangeByte_5 rfl (lv_at hl 2 rfl) ?_
  refine lv_iload_n hx hb dJ15_copyOfRangeByte_6 rfl (lv_at hl 1 rfl) ?_
  refine lv_isub hx hb dJ15_copyOfRangeByte_7 ?_
  refine iv (y := (nI lt.length)) ((pk_sub (Nat.zero_le _))) ?_
  refine lv_istore_n (lv' := [(3, .int (nI lt.length)), (0, .ref v), (1, .int (nI 0)), (2, .int (nI lt.length))]) hx hb dJ15_copyOfRangeByte_8 rfl hl (by decide) rfl (fun ls hl => ?_)
  refine lv_iload_n hx hb dJ15_copyOfRangeByte_9 rfl (lv_at hl 0 rfl) ?_
  refine x_newa hx hb hts hK 1 (ty := .byte) rfl rfl q227 (n := lt.length) (by omega) (by show lt.length * 1 ≤ _; omega) hS (by show 0 + 1 ≤ 1; omega) (by show 0 + lt.length ≤ 16; omega) (a0 := (lt.length, .inl (fun _ => 0))) rfl dJ15_copyOfRangeByte_10 hz (fun H hat1 hz1 hF hS => ?_)
  have hv := hv.kept (hF.2 _ hv.lt (fun z => z))
  refine lv_astore (lv' := [(4, .ref zz), (3, .int (nI lt.length)), (0, .ref v), (1, .int (nI 0)), (2, .int (nI lt.length))]) hx hb dJ15_copyOfRangeByte_12 hl (by decide) rfl (fun ls hl => ?_)
  refine lv_aload_n hx hb dJ15_copyOfRangeByte_14 rfl (lv_at hl 2 rfl) ?_
  refine lv_iload_n hx hb dJ15_copyOfRangeByte_15 rfl (lv_at hl 3 rfl) ?_
  refine lv_aload hx hb dJ15_copyOfRangeByte_16 (lv_at hl 0 rfl) ?_
  refine lv_iconst (v := (nI 0)) hx hb dJ15_copyOfRangeByte_18 (by decide) ?_
  refine lv_aload_n hx hb dJ15_copyOfRangeByte_19 rfl (lv_at hl 2 rfl) ?_
  refine x_alen hx hb hK 1 hv rfl (v := nI 16) rfl dJ15_copyOfRangeByte_20 ?_
  refine lv_iload_n hx hb dJ15_copyOfRangeByte_21 rfl (lv_at hl 3 rfl) ?_
  refine n_isub hx hb dJ15_copyOfRangeByte_22 (by omega) ?_
  refine lv_iload_n hx hb dJ15_copyOfRangeByte_23 rfl (lv_at hl 1 rfl) ?_
  refine va_mmin hx hb (hml.trans hl.1.symm) hown (hts _ q907) (hts _ q908) (hts _ q142) (hts _ q909) (by decide) (Nat.le_of_ble_eq_true rfl) (by show 0 + 1 ≤ 1; omega) (by show 0 + lt.length ≤ 16; omega) dJ15_copyOfRangeByte_24 ?_
  refine iv (y := (nI lt.length)) (if_pos (nI_lt (by omega) (by omega))) ?_
  have hvz : v < zz := by have := hv0.lt; dsimp only at this; omega
  have hP : va_P D CL [(v, .inl (dA 1, 16, .inl g)), (zz, .inl (dA 1, lt.length, .inl (fun _ => 0)))] H := fun i q hi => by
    rcases i with _ | _ | i
    · cases hi; exact hv
    · cases hi; exact hat1
    · cases hi
  have hD1 : ∀ (i j : Nat) (p q : Nat × va_E), ([(v, .inl (dA 1, 16, .inl g)), (zz, .inl (dA 1, lt.length, .inl (fun _ => 0)))] : va_W)[i]? = some p → ([(v, .inl (dA 1, 16, .inl g)), (zz, .inl (dA 1, lt.length, .inl (fun _ => 0)))] : va_W)[j]? = some q → p.1 = q.1 → i = j := by
    intro i j p q hi hj e
    rcases i with _ | _ | i <;> rcases j with _ | _ | j
    · rfl
    · cases hi; cases hj; dsimp only at e; omega
    · cases hj
    · cases hi; cases hj; dsimp only at e; omega
    · rfl
    · cases hj
    · cases hi
    · cases hi
    · cases hi
  have hD2 : ∀ (i : Nat) (q : Nat × va_E), ([(v, .inl (dA 1, 16, .inl g)), (zz, .inl (dA 1, lt.length, .inl (fun _ => 0)))] : va_W)[i]? = some q → (fun q => q = v ∨ H0.size ≤ q) q.1 := by
    intro i q hi
    rcases i with _ | _ | i
    · cases hi; exact Or.inl rfl
    · cases hi; exact Or.inr (by dsimp only; omega)
    · cases hi
  have hD : va_D (fun q => q = v ∨ H0.size ≤ q) [(v, .inl (dA 1, 16, .inl g)), (zz, .inl (dA 1, lt.length, .inl (fun _ => 0)))] := ⟨hD1, hD2⟩
  have hnc : (nI lt.length).toNatClampNeg = lt.length := nI_clamp (by omega)
  refine va_copyi hx hb (hml.trans hl.1.symm) hown (hts _ q910) (hts _ q912) (hts _ q911) (hts _ q144) hK.1 hP hD hS 0 1 1 1 rfl rfl rfl rfl rfl (by decide) (by decide) (nI_pos (by omega)) (by rw [hnc]; show 0 + lt.length ≤ 16; omega) (by rw [hnc]; show 0 + lt.length ≤ lt.length; omega) (fun i hi => by rw [hnc] at hi; show fits .byte (.int (g (0 + i))) = true; rw [Nat.zero_add, hg i hi]; exact fit_b ⟨_, getD_lt hlx i⟩) (by show _ ≤ 4; omega) (by show _ ≤ 200; decide) dJ15_copyOfRangeByte_27 (fun H locs hP2 hD2 hS => ?_)
  refine lv_aload hx hb dJ15_copyOfRangeByte_30 (lv_at hl 0 rfl) ?_
  refine W.widen (k := 1) (n := 16) (by show 0 + 1 ≤ 1; omega) (by show 0 + lt.length ≤ 16; omega) ?_
  refine hend _ _ _ _ _ hS dJ15_copyOfRangeByte_32 (Or.inr ⟨_, rfl⟩) ?_
  exact ⟨some zz, rfl, rfl, hP2 0 _ rfl, at_cg (hP2 1 _ rfl) (fun j hj => by rw [hnc]; unfold va_cpy; rw [if_pos ⟨Nat.zero_le _, by omega⟩]; show g (0 + (j - 0)) = _; rw [Nat.sub_zero, Nat.zero_add]; exact hg j hj)⟩
