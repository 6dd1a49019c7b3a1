theorem sbS_F {D : va_G} {dA : Nat → ClassId} {A : Nat → Prop} {H H1 : Heap} {b vb : Nat} {lt : List Nat} (h : sbS D dA H b vb lt) (hF : Fr A H H1) (hb : ¬ A b) (hv : ¬ A vb) : sbS D dA H1 b vb lt := by
  obtain ⟨h1, h2, mb, g, h3, h4, h5⟩ := h
  exact ⟨h1, h2, mb, g, h3.kept (hF.2 _ h3.lt hb), h4.kept (hF.2 _ h4.lt hv), h5⟩
theorem stH_F {D : va_G} {A : Nat → Prop} {H H1 : Heap} {i : Nat} {v : Value} (h : stH D H i v) (hF : Fr A H H1) (hA : ∀ q, q < H.size → q = D.2 100 i → ¬ A q) : stH D H1 i v := by
  obtain ⟨cell, c1, c2, c3⟩ := h
  have hl := (Array.getElem?_eq_some_iff.mp c1).1
  exact ⟨cell, by rw [hF.2 _ hl (hA _ hl rfl)]; exact c1, c2, c3⟩
theorem stH_lt {D : va_G} {H : Heap} {i : Nat} {v : Value} (h : stH D H i v) : D.2 100 i < H.size := by
  obtain ⟨cell, c1, c2, c3⟩ := h
  exact (Array.getElem?_eq_some_iff.mp c1).1
/-- letters of the tape -/
def ltT (tp : List Int32) (i n : Nat) : List Nat := (List.range n).map (fun j => chT tp (i + j))
theorem ltT_len {tp : List Int32} {i n : Nat} : (ltT tp i n).length = n := by simp [ltT]
theorem ltT_s {tp : List Int32} {i n : Nat} : ltT tp i (n + 1) = ltT tp i n ++ [chT tp (i + n)] := by simp [ltT, List.range_succ]
theorem ltT_m {tp : List Int32} {i n x : Nat} (h : x ∈ ltT tp i n) : ∃ j, j < n ∧ x = chT tp (i + j) := by
  simp only [ltT, List.mem_map, List.mem_range] at h
  obtain ⟨j, h1, h2⟩ := h
  exact ⟨j, h1, h2.symm⟩
theorem sbS_at {D : va_G} {dA : Nat → ClassId} {H : Heap} {b vb : Nat} {lt : List Nat} (h : sbS D dA H b vb lt) : va_at D CL (b, .inr (19, h.2.2.choose_spec.choose_spec.1 |> fun _ => [.ref vb, .int (nI 0), .int h.2.2.choose, .int (nI lt.length)])) H := h.2.2.choose_spec.choose_spec.1
theorem cw_J15_339 {R : Room} {s : State} {args : Array Value} (hts : ∀ w ∈ lw_all, w.before args s = true) {f w k j : Nat} (hR : f + 1 ≤ R.frames ∧ 8 + (5 + 11) + w ≤ R.locals) : CallB R s args RJ15 339 yJ15_copyOfRangeByte cJ15_copyOfRangeByte 5 (some (.array .byte)) (ws_ yJ15_copyOfRangeByte cJ15_copyOfRangeByte 5 (some (.array .byte))) (mkRmC f w k j) k j 3 ∧ (Cond.static yJ15_copyOfRangeByte).before args s = true := va_cwS 3 hts (lw_S q976 q977 q143 q978) rfl rfl rfl (by decide +kernel) hR
set_option maxHeartbeats 4000000 in
theorem met_J15_copyOfRange (l : Launch) (D : va_G) (dA : Nat → ClassId) {H0 : Heap} {v zz : Nat} {lt : List Nat} {g : Nat → Int32} (hv : va_at D CL (v, .inl (dA 1, 16, .inl g)) H0) (hg : ∀ j, j < lt.length → g j = nI (lt.getD j 0)) (hlx : ∀ x, x ∈ lt → x < 128) (hl16 : lt.length < 16) (hz : H0.size = zz) : Ctr l D dA yJ15_copyOfRange cJ15_copyOfRange 3 (some (.array .byte)) (mkRmC 5 240 1 16) [.ref v, .int (nI 0), .int (nI lt.length)] H0 (fun q => q = v ∨ H0.size ≤ q) (QR (fun r H1 => r = some zz ∧ va_at D CL (v, .inl (dA 1, 16, .inl g)) H1 ∧ va_at D CL (zz, .inl (dA 1, lt.length, .inl (fun j => nI (lt.getD j 0)))) H1 )) := by
  refine ctr_R (by decide) (Nat.le_of_ble_eq_true rfl) (Or.inr ⟨_, rfl⟩) ?_
  intro p e s m args below meth c ls QQ locs hx hb hml hown hts hK hend hS hl
  have hl : lv_has ls 3 [(0, .ref v), (1, .int (nI 0)), (2, .int (nI lt.length))] := hl
  refine lv_iload_n hx hb dJ15_copyOfRange_0 rfl (lv_at hl 1 rfl) ?_
  refine n_if_ne (tgt := 10) hx hb dJ15_copyOfRange_1 (by decide) (by decide) (fun z => absurd z (by decide)) (fun _ => ?_)
  refine lv_iload_n hx hb dJ15_copyOfRange_4 rfl (lv_at hl 2 rfl) ?_
  refine lv_aload_n hx hb dJ15_copyOfRange_5 rfl (lv_at hl 0 rfl) ?_
  refine x_alen hx hb hK 1 hv rfl (v := nI 16) rfl dJ15_copyOfRange_6 ?_
  refine n_icmp_eq (tgt := 17) hx hb dJ15_copyOfRange_7 (by decide) (by omega) (by omega) (fun c7 => ?_) (fun c7 => ?_)
  · exact absurd c7 (by omega)
  refine lv_aload_n hx hb dJ15_copyOfRange_10 rfl (lv_at hl 0 rfl) ?_
  refine lv_iload_n hx hb dJ15_copyOfRange_11 rfl (lv_at hl 1 rfl) ?_
  refine lv_iload_n hx hb dJ15_copyOfRange_12 rfl (lv_at hl 2 rfl) ?_
  refine c_SRA (rm := mkRmC 4 200 1 16) hx hb hml hts hown hK hl.1 hS (met_J15_copyOfRangeByte l D dA hv hg hlx hl16 hz) (cw_J15_339 hts ⟨by show _ ≤ 5; omega, by show _ ≤ 240; omega⟩) rfl rfl (Nat.le_of_ble_eq_true rfl) dJ15_copyOfRange_13 (fun _ h => h) ⟨by show 0 + 1 ≤ 1; omega, by show 0 + 16 ≤ 16; omega⟩ (fun r H locs hq hF hS => ?_)
  obtain ⟨rfl, hv1, hz1⟩ := hq
  refine W.widen (k := 1) (n := 16) (by show 0 + 1 ≤ 1; omega) (by show 0 + 16 ≤ 16; omega) ?_
  refine hend _ _ _ _ _ hS dJ15_copyOfRange_16 (Or.inr ⟨_, rfl⟩) ?_
  exact ⟨some zz, rfl, rfl, hv1, hz1⟩
theorem cw_J8_54 {R : Room} {s : State} {args : Array Value} (hts : ∀ w ∈ lw_all, w.before args s = true) {f w k j : Nat} (hR : f + 1 ≤ R.frames ∧ 8 + (3 + 11) + w ≤ R.locals) : CallB R s args RJ8 54 yJ15_copyOfRange cJ15_copyOfRange 3 (some (.array .byte)) (ws_ yJ15_copyOfRange cJ15_copyOfRange 3 (some (.array .byte))) (mkRmC f w k j) k j 3 ∧ (Cond.static yJ15_copyOfRange).before args s = true := va_cwS 3 hts (lw_S q973 q974 q143 q975) rfl rfl rfl (by decide +kernel) hR
set_option maxHeartbeats 4000000 in
theorem met_J8_init_2 (l : Launch) (D : va_G) (dA : Nat → ClassId) {H0 : Heap} {a b vb zz : Nat} {lt : List Nat} (hat : va_at D CL (a, .inr (18, [.null, .int 0, .int 0, .int 0])) H0) (hsb : sbS D dA H0 b vb lt) (hl16 : lt.length < 16) (hz : H0.size = zz) (hab : a ≠ b) (hav : a ≠ vb) (hc : stH D H0 0 (.int (nI 1))) : Ctr l D dA yJ8_init_2 cJ8_init_2 5 none (mkRmC 6 300 1 16) [.ref a, .ref b, .null] H0 (fun q => q = a ∨ q = vb ∨ H0.size ≤ q) (QV (fun H1 => strA D dA H1 (fun q => q = a ∨ zz ≤ q) a lt)) := by
  obtain ⟨hbv, hlx, mb, g, hs, hv, hg⟩ := hsb
  refine ctr_K (by decide) (Nat.le_of_ble_eq_true rfl) ?_
  intro p e s m args below meth c ls QQ locs hx hb hml hown hts hK hnm hend hS hl
  have hl : lv_has ls 5 [(0, .ref a), (1, .ref b), (2, .null)] := hl
  refine lv_aload_n hx hb dJ8_init_2_0 rfl (lv_at hl 0 rfl) ?_
  refine x_obj hx hb hml hts hown hl.1 q958 q152 q153 (Nat.le_of_ble_eq_true rfl) ⟨by show _ ≤ 6; omega, by show _ ≤ 300; omega⟩ dJ8_init_2_1 ?_
  refine lv_aload_n hx hb dJ8_init_2_4 rfl (lv_at hl 1 rfl) ?_
  refine c_UR (x := yJ11_getValue) (owner := "java/lang/AbstractStringBuilder") hx hb hml hts hown hK hl.1 hS ⟨by show 0 ≤ 1; omega, by show 0 ≤ 16; omega⟩ (met_J11_getValue l D dA hs) (va_cwU 0 hts (lw_U q959 q961 q962 q960 q139 q963) rfl rfl rfl rfl (by decide +kernel) ⟨by show 0 + 1 ≤ 6; omega, by show 8 + (1 + 11) + 0 ≤ 300; omega⟩) hs rfl rfl rfl rfl (Nat.le_of_ble_eq_true rfl) dJ8_init_2_5 (fun _ h => h.elim) (fun r H1 locs hq hF hS => ?_)
  obtain ⟨rfl, rfl⟩ := hq
  refine lv_astore_n (lv' := [(3, .ref vb), (0, .ref a), (1, .ref b), (2, .null)]) hx hb dJ8_init_2_8 rfl hl (by decide) rfl (fun ls hl => ?_)
  refine lv_aload_n hx hb dJ8_init_2_9 rfl (lv_at hl 2 rfl) ?_
  refine c_UI (x := yJ11_length) (owner := "java/lang/AbstractStringBuilder") hx hb hml hts hown hK hl.1 hS ⟨by show 0 ≤ 1; omega, by show 0 ≤ 16; omega⟩ (met_J12_length l D dA hs) (va_cwO 0 hts (lw_O q964 q966 q965 q967 q968 q140 q969) rfl rfl rfl q971 (by decide +kernel) ⟨by show 1 + 1 ≤ 6; omega, by show 8 + (1 + 11) + 20 ≤ 300; omega⟩) hs rfl rfl rfl rfl (Nat.le_of_ble_eq_true rfl) dJ8_init_2_10 (fun _ h => h.elim) (fun r H1 locs hq hF hS => ?_)
  obtain ⟨rfl, rfl⟩ := hq
  refine lv_istore (lv' := [(4, .int (nI lt.length)), (3, .ref vb), (0, .ref a), (1, .ref b), (2, .null)]) hx hb dJ8_init_2_13 hl (by decide) rfl (fun ls hl => ?_)
  refine lv_aload_n hx hb dJ8_init_2_15 rfl (lv_at hl 3 rfl) ?_
  refine c_UI (x := yJ11_isLatin1) (owner := "java/lang/AbstractStringBuilder") hx hb hml hts hown hK hl.1 hS ⟨by show 0 ≤ 1; omega, by show 0 ≤ 16; omega⟩ (met_J11_isLatin1 l D dA hs hc) (va_cwU 0 hts (lw_U q972 q915 q916 q914 q139 q917) rfl rfl rfl rfl (by decide +kernel) ⟨by show 0 + 1 ≤ 6; omega, by show 8 + (1 + 11) + 0 ≤ 300; omega⟩) hs rfl rfl rfl rfl (Nat.le_of_ble_eq_true rfl) dJ8_init_2_16 (fun _ h => h.elim) (fun r H1 locs hq hF hS => ?_)
  obtain ⟨rfl, rfl⟩ := hq
  refine n_if_eq (tgt := 41) hx hb dJ8_init_2_19 (by decide) (by decide) (fun z => absurd z (by decide)) (fun _ => ?_)
  refine lv_aload_n hx hb dJ8_init_2_22 rfl (lv_at hl 2 rfl) ?_
  refine lv_iconst (v := (nI 0)) hx hb dJ8_init_2_23 (by decide) ?_
  refine x_put hx hb hts hown hK hat rfl ok_J8 1 (by decide) q993 (Or.inr ⟨rfl, hnm, rfl⟩) rfl rfl (Nat.le_of_ble_eq_true rfl) dJ8_init_2_24 (fun H i hat1 hO => ?_)
  have hS := hO.S (k := i) hS (Or.inl rfl)
  have hs := hs.kept (hO.2 _ (fun z => hab z.symm))
  have hv := hv.kept (hO.2 _ (fun z => hav z.symm))
  refine lv_aload_n hx hb dJ8_init_2_27 rfl (lv_at hl 2 rfl) ?_
  refine lv_aload_n hx hb dJ8_init_2_28 rfl (lv_at hl 1 rfl) ?_
  refine lv_iconst (v := (nI 0)) hx hb dJ8_init_2_29 (by decide) ?_
  refine lv_iload hx hb dJ8_init_2_30 (lv_at hl 0 rfl) ?_
  refine c_SRA (rm := mkRmC 5 240 1 16) hx hb hml hts hown hK hl.1 hS (met_J15_copyOfRange l D dA hv hg hlx hl16 (hO.1.trans hz)) (cw_J8_54 hts ⟨by show _ ≤ 6; omega, by show _ ≤ 300; omega⟩) rfl rfl (Nat.le_of_ble_eq_true rfl) dJ8_init_2_32 (fun q hq => by rcases hq with h | h; exact Or.inr (Or.inl h); exact Or.inr (Or.inr (by have := hO.1; omega))) ⟨by show 0 + 1 ≤ 1; omega, by show 0 + 16 ≤ 16; omega⟩ (fun r H locs hq hF hS => ?_)
  obtain ⟨rfl, hv1, hz1⟩ := hq
  have hat1 := hat1.kept (hF.2 _ hat1.lt (fun z => by rcases z with z | z; exact hav z; have := hat1.lt; dsimp only at this z; omega))
  refine x_put hx hb hts hown hK hat1 rfl ok_J8 0 (by decide) q992 (Or.inr ⟨rfl, hnm, rfl⟩) rfl rfl (Nat.le_of_ble_eq_true rfl) dJ8_init_2_35 (fun H i hat2 hO => ?_)
  have hS := hO.S (k := i) hS (Or.inl rfl)
  have hz1 := hz1.kept (hO.2 _ (fun z => by have := hat.lt; dsimp only at this z; omega))
  refine lv_goto (tgt := 97) hx hb dJ8_init_2_38 (by decide) ?_
  refine W.widen (k := 1) (n := 16) (by show 0 + 1 ≤ 1; omega) (by show 0 + 16 ≤ 16; omega) ?_
  refine hend _ _ _ _ hS dJ8_init_2_97 ?_
  exact ⟨rfl, ⟨zz, 0, 0, Or.inl rfl, Or.inr (Nat.le_refl _), hat2, hz1, by omega, hlx⟩⟩
set_option maxHeartbeats 4000000 in
theorem met_J8_init (l : Launch) (D : va_G) (dA : Nat → ClassId) {H0 : Heap} {a b vb zz : Nat} {lt : List Nat} (hat : va_at D CL (a, .inr (18, [.null, .int 0, .int 0, .int 0])) H0) (hsb : sbS D dA H0 b vb lt) (hl16 : lt.length < 16) (hz : H0.size = zz) (hab : a ≠ b) (hav : a ≠ vb) (hc : stH D H0 0 (.int (nI 1))) : Ctr l D dA yJ8_init cJ8_init 2 none (mkRmC 7 340 1 16) [.ref a, .ref b] H0 (fun q => q = a ∨ q = vb ∨ H0.size ≤ q) (QV (fun H1 => strA D dA H1 (fun q => q = a ∨ zz ≤ q) a lt)) := by
  refine ctr_V (by decide) (Nat.le_of_ble_eq_true rfl) ?_
  intro p e s m args below meth c ls QQ locs hx hb hml hown hts hK hend hS hl
  have hl : lv_has ls 2 [(0, .ref a), (1, .ref b)] := hl
  refine lv_aload_n hx hb dJ8_init_0 rfl (lv_at hl 0 rfl) ?_
  refine lv_aload_n hx hb dJ8_init_1 rfl (lv_at hl 1 rfl) ?_
  refine lv_null hx hb dJ8_init_2 ?_
  refine c_IV (rm := (mkRmC 6 300 1 16)) hx hb hml hts hown hK hl.1 hS (met_J8_init_2 l D dA hat hsb hl16 hz hab hav hc) (cwI 2 hts (lw_meth q957) rfl rfl rfl (hts _ q130) (hts _ q955) (hts _ q956) rfl (by decide +kernel) ⟨by show 6 + 1 ≤ 7; omega, by show 8 + (5 + 11) + 300 ≤ 340; omega⟩) rfl rfl (Nat.le_of_ble_eq_true rfl) dJ8_init_3 (fun _ h => h) ⟨by show 0 + 1 ≤ 1; omega, by show 0 + 16 ≤ 16; omega⟩ (fun H locs hq hF hS => ?_)
  refine W.widen (k := 1) (n := 16) (by show 0 + 1 ≤ 1; omega) (by show 0 + 16 ≤ 16; omega) ?_
  refine hend _ _ _ _ hS dJ8_init_6 ?_
  exact ⟨rfl, hq⟩
set_option maxHeartbeats 4000000 in
theorem met_J12_toString (l : Launch) (D : va_G) (dA : Nat → ClassId) {H0 : Heap} {b vb zz : Nat} {lt : List Nat} (hsb : sbS D dA H0 b vb lt) (hl16 : lt.length < 16) (hz : H0.size = zz) (hc : stH D H0 0 (.int (nI 1))) : Ctr l D dA yJ12_toString cJ12_toString 1 (some (.object "java/lang/String")) (mkRmC 8 380 2 20) [.ref b] H0 (fun q => q = vb ∨ H0.size ≤ q) (QR (fun r H1 => r = some zz ∧ strA D dA H1 (fun q => zz ≤ q) zz lt)) := by
  have hsb0 := hsb
  obtain ⟨hbv, hlx, mb, g, hs, hv, hg⟩ := hsb0
  refine ctr_R (by decide) (Nat.le_of_ble_eq_true rfl) (Or.inl ⟨_, rfl⟩) ?_
  intro p e s m args below meth c ls QQ locs hx hb hml hown hts hK hend hS hl
  have hl : lv_has ls 1 [(0, .ref b)] := hl
  refine x_new hx hb hts hown hK (ci := 18) (fs := [.null, .int 0, .int 0, .int 0]) rfl ok_J8 q950 q951 q130 (by intro j hj; match j, hj with | 0, _ => rfl | 1, _ => rfl | 2, _ => rfl | 3, _ => rfl) hS (by show 0 + 1 ≤ 2; omega) (by show 0 + 4 ≤ 20; omega) dJ12_toString_0 hz (fun H hat hz1 hF hS => ?_)
  have hbl := hs.lt
  have hvl := hv.lt
  dsimp only at hbl hvl
  have hsb := sbS_F hsb hF (fun z => z) (fun z => z)
  have hc := stH_F hc hF (fun _ _ _ z => z)
  refine lv_dup hx hb dJ12_toString_3 rfl ?_
  refine lv_aload_n hx hb dJ12_toString_4 rfl (lv_at hl 0 rfl) ?_
  refine c_IV (rm := (mkRmC 7 340 1 16)) hx hb hml hts hown hK hl.1 hS (met_J8_init l D dA hat hsb hl16 hz1 (by omega) (by omega) hc) (cwI 1 hts (lw_meth q954) rfl rfl rfl (hts _ q130) (hts _ q952) (hts _ q953) rfl (by decide +kernel) ⟨by show 7 + 1 ≤ 8; omega, by show 8 + (2 + 11) + 340 ≤ 380; omega⟩) rfl rfl (Nat.le_of_ble_eq_true rfl) dJ12_toString_5 (fun q hq => by rcases hq with h | h | h; exact Or.inr (by omega); exact Or.inl h; exact Or.inr (by omega)) ⟨by show 0 + 1 + 1 ≤ 2; omega, by show 0 + 4 + 16 ≤ 20; omega⟩ (fun H locs hq hF hS => ?_)
  refine W.widen (k := 2) (n := 20) (by show 0 + 1 + 1 ≤ 2; omega) (by show 0 + 4 + 16 ≤ 20; omega) ?_
  refine hend _ _ _ _ _ hS dJ12_toString_8 (Or.inr ⟨_, rfl⟩) ?_
  exact ⟨some zz, rfl, rfl, strA_m hq (fun q _ h => by rcases h with h | h <;> omega)⟩
theorem cw_X2_119 {R : Room} {s : State} {args : Array Value} (hts : ∀ w ∈ lw_all, w.before args s = true) {f w k j : Nat} (hR : f + 1 ≤ R.frames ∧ 8 + (1 + 11) + w ≤ R.locals) : CallW R s args RX2 RJ12 119 yJ12_toString cJ12_toString 1 (some (.object "java/lang/String")) (ws_ yJ12_toString cJ12_toString 1 (some (.object "java/lang/String"))) (mkRmC f w k j) k j 0 := cwV 0 hts (lw_V q946 q947 q948 q140 q949) rfl rfl rfl (by decide +kernel) hR
theorem cw_X2_115 {R : Room} {s : State} {args : Array Value} (hts : ∀ w ∈ lw_all, w.before args s = true) {f w k j : Nat} (hR : f + 1 ≤ R.frames ∧ 8 + (2 + 11) + w ≤ R.locals) : CallW R s args RX2 RJ12 115 yJ12_append cJ12_append 2 (some (.object "java/lang/StringBuilder")) (ws_ yJ12_append cJ12_append 2 (some (.object "java/lang/StringBuilder"))) (mkRmC f w k j) k j 1 := cwV 1 hts (lw_V q871 q872 q873 q140 q874) rfl rfl rfl (by decide +kernel) hR
set_option maxHeartbeats 4000000 in
theorem met_X2_text (l : Launch) (D : va_G) (dA : Nat → ClassId) {o : Nat} {V : GI} {L : GL} {Rf : GR} {H0 : Heap} (hG : gP D dA o dS V L Rf H0) {tp : List Int32} (htp : tpP V tp) (hby : byT tp) {F : Nat → Nat × Nat × Nat × Nat} {m0 : Nat} (hm : tcM V F m0) {q i n : Nat} (hq9 : q < m0) (hm9 : m0 ≤ 2001) (hi : (F q).2.1 = i) (he : (F q).2.2.1 = i + n) (hn8 : n ≤ 8) (hle : i + n ≤ tp.length) (hlt : ∀ j, j < n → chT tp (i + j) < 128) (hc : stH D H0 0 (.int (nI 1))) : Ctr l D dA yX2_text cX2_text 4 (some (.object "java/lang/String")) (mkRmC 9 420 4 40) [.ref (o + 2), .int (nI q)] H0 (fun q => H0.size ≤ q) (QR (fun r H1 => ∃ sa, r = some sa ∧ H0.size ≤ sa ∧ gP D dA o dS V L Rf H1 ∧ strA D dA H1 (fun q => H0.size ≤ q) sa (ltT tp i n))) := by
  have ht2 := htp.1
  have hlo := gP_sz hG
  refine ctr_R (by decide) (Nat.le_of_ble_eq_true rfl) (Or.inl ⟨_, rfl⟩) ?_
  intro p e s m args below meth c ls QQ locs hx hb hml hown hts hK hend hS hl
  have hl : lv_has ls 4 [(0, .ref (o + 2)), (1, .int (nI q))] := hl
  obtain ⟨b, hz⟩ : ∃ x, H0.size = x := ⟨_, rfl⟩
  have hcl := stH_lt hc
  refine x_new hx hb hts hown hK (ci := 19) (fs := [.null, .int 0, .int 0, .int 0]) rfl ok_J12 q841 q842 q140 (by intro j hj; match j, hj with | 0, _ => rfl | 1, _ => rfl | 2, _ => rfl | 3, _ => rfl) hS (by show 0 + 1 ≤ 4; omega) (by show 0 + 4 ≤ 40; omega) dX2_text_0 hz (fun H hat hz1 hF hS => ?_)
  have hG := hG.fr hF (fun _ _ z => z)
  have hc := stH_F hc hF (fun _ _ _ z => z)
  refine lv_dup hx hb dX2_text_3 rfl ?_
  refine c_IV (rm := (mkRmC 2 60 1 16)) hx hb hml hts hown hK hl.1 hS (met_J12_init l D dA hat hz1 hc) (cwI 0 hts (lw_meth q845) rfl rfl rfl (hts _ q140) (hts _ q843) (hts _ q844) rfl (by decide +kernel) ⟨by show 2 + 1 ≤ 9; omega, by show 8 + (1 + 11) + 60 ≤ 420; omega⟩) rfl rfl (Nat.le_of_ble_eq_true rfl) dX2_text_4 (fun q hq => by have z : q = b := hq; show H0.size ≤ q; omega) ⟨by show 0 + 1 + 1 ≤ 4; omega, by show 0 + 4 + 16 ≤ 40; omega⟩ (fun H locs hq hF hS => ?_)
  obtain ⟨hsb, hz2⟩ := hq
  have hG := hG.fr hF (fun k hk z => by rw [dS_len] at hk; have z : o + k = b := z; omega)
  have hc := stH_F hc hF (fun q h1 h2 z => by have z : q = b := z; omega)
  refine lv_astore_n (lv' := [(2, .ref b), (0, .ref (o + 2)), (1, .int (nI q))]) hx hb dX2_text_7 rfl hl (by decide) rfl (fun ls hl => ?_)
  refine lv_aload_n hx hb dX2_text_8 rfl (lv_at hl 1 rfl) ?_
  refine g_get hx hb hts hown hK hG 2 rfl rfl ok_X2 4 (by decide) q264 rfl rfl dX2_text_9 ?_
  refine lv_iload_n hx hb dX2_text_12 rfl (lv_at hl 2 rfl) ?_
  refine n_sald hx hb hK hG 6 rfl (by omega) (by decide) dX2_text_13 ?_
  refine iv (y := (nI i)) ((hm.2 q hq9).2.1.trans (congrArg nI hi)) ?_
  refine lv_istore_n (lv' := [(3, .int (nI i)), (2, .ref b), (0, .ref (o + 2)), (1, .int (nI q))]) hx hb dX2_text_14 rfl hl (by decide) rfl (fun ls hl => ?_)
  have loop1 : ∀ (fu1 : Nat) (k : Nat) (H : Heap) (locs : List Loc) (ls : Array Slot), n - k < fu1 → (k ≤ n) → (sbS D dA H b (b + 1) (ltT tp i k)) → (gP D dA o dS V L Rf H) → (stH D H 0 (.int (nI 1))) → va_S (fun q => H0.size ≤ q) H0 H locs → lv_has ls 4 [(3, .int (nI (i + k))), (2, .ref b), (0, .ref (o + 2)), (1, .int (nI q))] → W p l e (mkRmC 9 420 4 40) s m args below meth c H locs 2 20 QQ (F0 m 15 ls []) := by
    intro fu1
    induction fu1 with
    | zero => intro k H locs ls hfu; exact absurd hfu (Nat.not_lt_zero _)
    | succ fu1 ih1 =>
      intro k H locs ls hfu hkn hsb hG hc hS hl
      have hlk : k < n → chT tp (i + k) < 128 := fun h => hlt k h
      refine lv_iload_n hx hb dX2_text_15 rfl (lv_at hl 0 rfl) ?_
      refine lv_aload_n hx hb dX2_text_16 rfl (lv_at hl 2 rfl) ?_
      refine g_get hx hb hts hown hK hG 2 rfl rfl ok_X2 5 (by decide) q266 rfl rfl dX2_text_17 ?_
      refine lv_iload_n hx hb dX2_text_20 rfl (lv_at hl 3 rfl) ?_
      refine n_sald hx hb hK hG 7 rfl (by omega) (by decide) dX2_text_21 ?_
      refine iv (y := (nI (i + n))) ((hm.2 q hq9).2.2.1.trans (congrArg nI he)) ?_
      refine n_icmp_ge (tgt := 43) hx hb dX2_text_22 (by decide) (by omega) (by omega) (fun c22 => ?_) (fun c22 => ?_)
      · obtain rfl : k = n := by omega
        refine lv_aload_n hx hb dX2_text_43 rfl (lv_at hl 1 rfl) ?_
        obtain ⟨sa, hza⟩ : ∃ x, H.size = x := ⟨_, rfl⟩
        have hsl := hS.1
        refine c_VRA (rm := mkRmC 8 380 2 20) hx hb hml hts hown hK hl.1 hS (met_J12_toString l D dA hsb (by rw [ltT_len]; omega) hza hc) (cw_X2_119 hts ⟨by show _ ≤ 9; omega, by show _ ≤ 420; omega⟩) (sbS_at hsb) rfl rfl rfl rfl (Nat.le_of_ble_eq_true rfl) dX2_text_44 (fun q hq => by show H0.size ≤ q; rcases hq with h | h <;> omega) ⟨by show 2 + 2 ≤ 4; omega, by show 20 + 20 ≤ 40; omega⟩ (fun r H locs hq hF hS => ?_)
        obtain ⟨rfl, hst⟩ := hq
        have hG := hG.fr hF (fun k hk z => by rw [dS_len] at hk; rcases z with z | z <;> omega)
        refine W.widen (k := 4) (n := 40) (by show 2 + 2 ≤ 4; omega) (by show 20 + 20 ≤ 40; omega) ?_
        refine hend _ _ _ _ _ hS dX2_text_47 (Or.inr ⟨_, rfl⟩) ?_
        exact ⟨some sa, rfl, sa, rfl, by omega, hG, strA_m hst (fun q _ h => by omega)⟩
      refine lv_aload_n hx hb dX2_text_25 rfl (lv_at hl 1 rfl) ?_
      refine lv_aload_n hx hb dX2_text_26 rfl (lv_at hl 2 rfl) ?_
      refine g_get hx hb hts hown hK hG 2 rfl rfl ok_X2 1 (by decide) q258 rfl rfl dX2_text_27 ?_
      refine lv_iload_n hx hb dX2_text_30 rfl (lv_at hl 0 rfl) ?_
      refine n_bald hx hb hK hG 4 rfl (by omega) (by decide) dX2_text_31 ?_
      refine iv (y := (nI (chT tp (i + k)))) ((tp_at htp (by omega)).trans (at_n hby (hlt k (by omega)))) ?_
      refine lv_i2c (v := nI (chT tp (i + k))) hx hb dX2_text_32 (i2c_n ⟨chT tp (i + k), Nat.lt_of_lt_of_le (hlt k (by omega)) (by decide)⟩) ?_
      have hx5 : chT tp (i + k) < 128 := hlt k (by omega)
      refine c_VR hx hb hml hts hown hK hl.1 hS ⟨by show 2 ≤ 4; omega, by show 20 ≤ 40; omega⟩ (met_J12_append l D dA hsb (x := chT tp (i + k)) hx5 (by rw [ltT_len]; omega) hc) (cw_X2_115 hts ⟨by show _ ≤ 9; omega, by show _ ≤ 420; omega⟩) (sbS_at hsb) rfl rfl rfl rfl (Nat.le_of_ble_eq_true rfl) dX2_text_33 (fun q hq => by show H0.size ≤ q; rcases hq with h | h <;> omega) (fun r H locs hq hF hS => ?_)
      obtain ⟨rfl, hsb⟩ := hq
      rw [← ltT_s] at hsb
      have hG := hG.fr hF (fun k hk z => by rw [dS_len] at hk; rcases z with z | z <;> omega)
      have hc := stH_F hc hF (fun q h1 h2 z => by rcases z with z | z <;> omega)
      refine lv_pop hx hb dX2_text_36 rfl ?_
      refine lv_iinc (v := (nI ((i + k) + 1))) (lv' := [(3, .int (nI ((i + k) + 1))), (2, .ref b), (0, .ref (o + 2)), (1, .int (nI q))]) hx hb dX2_text_37 hl (k := 0) rfl (nI_add _ _) (by decide) rfl (fun ls hl => ?_)
      refine lv_goto (tgt := 15) hx hb dX2_text_40 (by decide) ?_
      exact ih1 (k + 1) _ _ _ (by omega) (by omega) hsb hG hc hS (lv_sub hl [0, 1, 2, 3] rfl)
  exact loop1 ((n - 0) + 1) 0 _ _ _ (Nat.lt_succ_self _) (Nat.zero_le _) hsb hG hc hS (lv_sub hl [0, 1, 2, 3] rfl)
