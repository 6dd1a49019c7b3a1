def PUn (k j : Nat) : Bool := k == 25 || k == 26 || (k == 0 && (j == 11 || j == 13 || j == 14 || j == 39))
theorem PFl_PUn : ∀ k j, PUn k j = false → PFl k j = false := by intro k j h; simp only [PFl, PUn, Bool.or_eq_false_iff, Bool.and_eq_false_iff, beq_eq_false_iff_ne, ne_eq] at *; omega
theorem PGo_PUn : ∀ k j, PUn k j = false → PGo k j = false := by intro k j h; simp only [PGo, PUn, Bool.or_eq_false_iff, Bool.and_eq_false_iff, beq_eq_false_iff_ne, ne_eq] at *; omega
/-- a tale of one int: value, place and fault, worst -/
def tiP (kd pl : Nat → Nat) (t : Nat) : Nat × Fo := muP kd pl 4 (bdP kd pl (goP pl t none).1 (goP pl t none).2).1 (bdP kd pl (goP pl t none).1 (goP pl t none).2).2
def tiV (kd pl vl : Nat → Nat) (lo t : Nat) : Nat := bdV kd vl lo (goP pl t none).1 (goP pl t none).2
def tiW (kd pl vl : Nat → Nat) (lo hi t : Nat) (wo : Fo) : Fo := bdW kd pl vl lo hi (goP pl t none).1 (goP pl t none).2 wo
/-- a unit: an int or a variable comes out -/
def unK (kd : Nat → Nat) (t : Nat) (fo : Fo) : Bool := isP fo (kd t) 2 || (fo.isNone && decide (32 ≤ kd t) && decide (kd t ≤ 40))
def unP (kd pl : Nat → Nat) (t : Nat) (fo : Fo) : Nat × Fo := if unK kd t fo = true then goP pl t fo else (t, flP fo 1 (pl t))
def unE (kd vl : Nat → Nat) (t : Nat) (fo : Fo) (em : List Sg) : List Sg := if isP fo (kd t) 2 = true then em ++ [(0, nI (vl t))] else if unK kd t fo = true then em ++ [(1, nI (kd t - 32))] else em
/-- what has come out since c0 -/
def emM (V : GI) (c0 : Nat) (em : List Sg) : Prop := V 0 39 = nI (c0 + em.length) ∧ c0 + em.length ≤ 840 ∧ ∀ (i k : Nat) (v : Int32), em[i]? = some (k, v) → V 25 (c0 + i) = nI k ∧ V 26 (c0 + i) = v
def loF (V V1 : GI) (c0 : Nat) : Prop := ∀ j, (j < c0 ∨ (c0 < 420 ∧ 420 ≤ j)) → V1 25 j = V 25 j ∧ V1 26 j = V 26 j
theorem loF.rf {V : GI} {c0 : Nat} : loF V V c0 := fun _ _ => ⟨rfl, rfl⟩
theorem loF.trans {V V1 V2 : GI} {c0 : Nat} (h : loF V V1 c0) (h2 : loF V1 V2 c0) : loF V V2 c0 := fun j hj => ⟨(h2 j hj).1.trans (h j hj).1, (h2 j hj).2.trans (h j hj).2⟩
theorem loF_e {P : Nat → Nat → Bool} {V V1 : GI} {c0 : Nat} (h : Eqx P V V1) (h1 : ∀ j, P 25 j = false) (h2 : ∀ j, P 26 j = false) : loF V V1 c0 := fun j _ => ⟨h 25 j (h1 j), h 26 j (h2 j)⟩
theorem loF_up {V : GI} {c0 cc : Nat} {a v x : Int32} (h : c0 ≤ cc) (h2 : c0 < 420 → cc < 420) : loF V (up2 (up2 (up2 V 25 cc a) 26 cc v) 0 39 x) c0 := fun j hj => by
  constructor
  · show up2 V 25 cc a 25 j = _
    exact up2_n (fun z => by have := z.2; omega)
  · show up2 (up2 V 25 cc a) 26 cc v 26 j = _
    exact up2_n (fun z => by have := z.2; omega)
theorem emM_to {V V1 : GI} {c0 : Nat} {em : List Sg} (h : V1 0 39 = V 0 39) (h1 : ∀ j, V1 25 j = V 25 j) (h2 : ∀ j, V1 26 j = V 26 j) (hm : emM V c0 em) : emM V1 c0 em :=
  ⟨h.trans hm.1, hm.2.1, fun i k v hi => by rw [h1, h2]; exact hm.2.2 i k v hi⟩
theorem emM_add {V : GI} {c0 : Nat} {em : List Sg} {k : Nat} {v : Int32} (h : c0 + em.length < 840) (hm : emM V c0 em) : emM (up2 (up2 (up2 V 25 (c0 + em.length) (nI k)) 26 (c0 + em.length) v) 0 39 (nI (c0 + em.length + 1))) c0 (em ++ [(k, v)]) := by
  refine ⟨?_, ?_, fun i k' v' hi => ?_⟩
  · rw [List.length_append]; exact rfl
  · rw [List.length_append]; exact h
  · by_cases hl : i < em.length
    · rw [List.getElem?_append_left hl] at hi
      obtain ⟨h1, h2⟩ := hm.2.2 i k' v' hi
      constructor
      · show up2 V 25 (c0 + em.length) (nI k) 25 (c0 + i) = _
        rw [up2_n (fun z => by have := z.2; omega)]; exact h1
      · show up2 (up2 V 25 (c0 + em.length) (nI k)) 26 (c0 + em.length) v 26 (c0 + i) = _
        rw [up2_n (fun z => by have := z.2; omega)]; exact h2
    · rw [List.getElem?_append_right (by omega)] at hi
      have h0 : i - em.length = 0 := by
        apply Classical.byContradiction
        intro hz
        rw [List.getElem?_eq_none (by simp; omega)] at hi; cases hi
      obtain rfl : i = em.length := by omega
      rw [h0] at hi
      injection hi with hi
      injection hi with e1 e2
      subst e1 e2
      exact ⟨(show up2 V 25 (c0 + em.length) (nI k) 25 (c0 + em.length) = _ from up2_s), (show up2 (up2 V 25 (c0 + em.length) (nI k)) 26 (c0 + em.length) v 26 (c0 + em.length) = _ from up2_s)⟩
theorem cw_X13_252 {R : Room} {s : State} {args : Array Value} (hts : ∀ w ∈ lw_all, w.before args s = true) {f w k j : Nat} (hR : f + 1 ≤ R.frames ∧ 8 + (4 + 11) + w ≤ R.locals) : CallW R s args RX13 RX13 252 yX13_wrong cX13_wrong 4 none (ws_ yX13_wrong cX13_wrong 4 none) (mkRmC f w k j) k j 2 := cwV 2 hts (lw_V q1734 q1736 qs63 q129 q1737) rfl rfl rfl (by decide +kernel) hR
set_option maxHeartbeats 4000000 in
theorem met_X13_bounded (l : Launch) (D : va_G) (dA : Nat → ClassId) {o : Nat} {V : GI} {L : GL} {Rf : GR} {H0 : Heap} (hG : gP D dA o dM V L Rf H0) {ch : Nat → Nat} {sz m0 : Nat} (hT : tkOK V L ch sz m0) {t : Nat} {fo : Fo} (hps : psM V m0 t fo) {wo : Fo} (hwo : woM V wo) (lo hi : Nat) (hlo : lo < 100000) (hhi : hi < 100000) : Ctr l D dA yX13_bounded cX13_bounded 4 (some .int) (mkRm 2 41) [.ref o, .int (nI lo), .int (nI hi)] H0 (AM o) (QI (fun r H1 => r = nI (bdV (kdF ch sz) (vlF ch sz) lo t fo) ∧ ∃ V1, gP D dA o dM V1 L Rf H1 ∧ Eqx PBd V V1 ∧ psM V1 m0 (bdP (kdF ch sz) (plF ch sz) t fo).1 (bdP (kdF ch sz) (plF ch sz) t fo).2 ∧ woM V1 (bdW (kdF ch sz) (plF ch sz) (vlF ch sz) lo hi t fo wo))) := by
  have hm9 := hT.2.2.1
  refine ctr_I (by decide) (Nat.le_of_ble_eq_true rfl) ?_
  intro p e s m args below meth c ls QQ locs hx hb hml hown hts hK hend hS hl
  have hl : lv_has ls 4 [(0, .ref o), (1, .int (nI lo)), (2, .int (nI hi))] := hl
  obtain ⟨ft, hft9, hft, hfz⟩ := fo_z hps.2.2
  have htm := hps.1
  obtain ⟨hk3, hk4, hk5, hk6⟩ := hT.1 t htm
  have hkd9 := kd_lt ch sz t
  have hb3 := (hT.2.2.2.2.2 t htm).1
  have hb5 := (hT.2.2.2.2.2 t htm).2.1
  refine lv_aload_n hx hb dX13_bounded_0 rfl (lv_at hl 0 rfl) ?_
  refine g_get (v := .int (nI ft)) hx hb hts hown hK hG 0 rfl rfl ok_X13 13 (by decide) q1484 rfl (congrArg Value.int hft) dX13_bounded_1 ?_
  refine n_if_gt (tgt := 15) hx hb dX13_bounded_4 (by decide) (by omega) (fun c4 => ?_) (fun c4 => ?_)
  · refine lv_aload_n hx hb dX13_bounded_15 rfl (lv_at hl 0 rfl) ?_
    refine lv_iconst (v := (nI 1)) hx hb dX13_bounded_16 (by decide) ?_
    refine c_VV hx hb hml hts hown hK hl.1 hS ⟨Nat.le_refl _, Nat.le_refl _⟩ (met_X13_fail l D dA hG hT hps 1 (by omega) (by omega)) (cw_X13_215 hts ⟨by decide, by decide⟩) (hG 0 _ rfl) rfl rfl rfl rfl (Nat.le_of_ble_eq_true rfl) dX13_bounded_17 (fun _ h => h) (fun H1 locs hq hF hS => ?_)
    obtain ⟨V1, hG, hE1, hps1⟩ := hq
    generalize hHe1 : H1 = H at hG hS ⊢
    clear hHe1
    obtain ⟨fo1, he1⟩ : ∃ a, flP fo 1 (plF ch sz t) = a := ⟨_, rfl⟩
    replace hps1 : psM V1 m0 t fo1 := by rw [he1] at hps1; exact hps1
    obtain ⟨ft1, hft91, hft1, hfz1⟩ := fo_z hps1.2.2
    have htm1 := hps1.1
    obtain ⟨hk31, hk41, hk51, hk61⟩ := hT.1 t htm1
    have hkd91 := kd_lt ch sz t
    have hb31 := (hT.2.2.2.2.2 t htm1).1
    have hb51 := (hT.2.2.2.2.2 t htm1).2.1
    refine lv_iload_n hx hb dX13_bounded_20 rfl (lv_at hl 1 rfl) ?_
    refine hend _ _ _ _ _ hS dX13_bounded_21 ?_
    have hI : ¬ isP fo (kdF ch sz t) 2 = true := (fun z => by have := (isP_1 hfz z).2.2; omega)
    have h1 : bdP (kdF ch sz) (plF ch sz) t fo = (t, fo1) := by unfold bdP; rw [if_neg hI, he1]
    exact ⟨_, rfl, congrArg nI (show bdV (kdF ch sz) (vlF ch sz) lo t fo = lo from if_neg hI).symm, _, hG, (hE1.mono PFl_PBd), by rw [h1]; exact hps1, by unfold bdW; rw [if_neg (fun z => hI z.1)]; exact (woM_to (V := V) (hE1 0 15 rfl) (hE1 0 16 rfl) hwo)⟩
  refine lv_aload_n hx hb dX13_bounded_7 rfl (lv_at hl 0 rfl) ?_
  refine lv_iconst (v := (nI 2)) hx hb dX13_bounded_8 (by decide) ?_
  refine c_VI hx hb hml hts hown hK hl.1 hS ⟨Nat.le_refl _, Nat.le_refl _⟩ (met_X13_is l D dA hG hT hps 2 (by omega)) (cw_X13_218 hts ⟨by decide, by decide⟩) (hG 0 _ rfl) rfl rfl rfl rfl (Nat.le_of_ble_eq_true rfl) dX13_bounded_9 (fun _ h => h.elim) (fun r H1 locs hq hF hS => ?_)
  obtain ⟨rfl, rfl⟩ := hq
  have hbb9 := bN_lt (isP fo (kdF ch sz t) 2)
  refine n_if_ne (tgt := 22) hx hb dX13_bounded_12 (by decide) (by omega) (fun c12 => ?_) (fun c12 => ?_)
  · have hI := bN1 (show ¬ bN (isP fo (kdF ch sz t) 2) = 0 by omega)
    have hI2 := (isP_1 hfz hI).2.1
    refine lv_aload_n hx hb dX13_bounded_22 rfl (lv_at hl 0 rfl) ?_
    refine g_get hx hb hts hown hK hG 0 rfl rfl ok_X13 7 (by decide) q1478 rfl rfl dX13_bounded_23 ?_
    refine lv_aload_n hx hb dX13_bounded_26 rfl (lv_at hl 0 rfl) ?_
    refine g_get (v := .int (nI t)) hx hb hts hown hK hG 0 rfl rfl ok_X13 11 (by decide) q1482 rfl (congrArg Value.int hps.2.1) dX13_bounded_27 ?_
    refine n_iald hx hb hK hG 5 rfl (by omega) (by decide) dX13_bounded_30 ?_
    refine iv (y := (nI (vlF ch sz t))) hk5 ?_
    refine lv_istore_n (lv' := [(3, .int (nI (vlF ch sz t))), (0, .ref o), (1, .int (nI lo)), (2, .int (nI hi))]) hx hb dX13_bounded_31 rfl hl (by decide) rfl (fun ls hl => ?_)
    refine lv_iload_n hx hb dX13_bounded_32 rfl (lv_at hl 0 rfl) ?_
    refine lv_iload_n hx hb dX13_bounded_33 rfl (lv_at hl 2 rfl) ?_
    refine n_icmp_lt (tgt := 42) hx hb dX13_bounded_34 (by decide) (by omega) (by omega) (fun c34 => ?_) (fun c34 => ?_)
    · refine lv_aload_n hx hb dX13_bounded_42 rfl (lv_at hl 1 rfl) ?_
      refine lv_iconst (v := (nI 5)) hx hb dX13_bounded_43 (by decide) ?_
      refine lv_aload_n hx hb dX13_bounded_44 rfl (lv_at hl 1 rfl) ?_
      refine g_get (v := .int (nI t)) hx hb hts hown hK hG 0 rfl rfl ok_X13 11 (by decide) q1482 rfl (congrArg Value.int hps.2.1) dX13_bounded_45 ?_
      refine c_VV hx hb hml hts hown hK hl.1 hS ⟨Nat.le_refl _, Nat.le_refl _⟩ (met_X13_wrong l D dA hG hT hps hwo 5 t (by omega) (by omega) (by omega)) (cw_X13_252 hts ⟨by decide, by decide⟩) (hG 0 _ rfl) rfl rfl rfl rfl (Nat.le_of_ble_eq_true rfl) dX13_bounded_48 (fun _ h => h) (fun H1 locs hq hF hS => ?_)
      obtain ⟨V2, hG, hE2, hwo2⟩ := hq
      generalize hHe2 : H1 = H at hG hS ⊢
      clear hHe2
      refine lv_aload_n hx hb dX13_bounded_51 rfl (lv_at hl 1 rfl) ?_
      refine c_VV hx hb hml hts hown hK hl.1 hS ⟨Nat.le_refl _, Nat.le_refl _⟩ (met_X13_goesOn l D dA hG (tkOK_to (V := V) (fun j => (hE2 3 j rfl)) (fun j => (hE2 4 j rfl)) (fun j => (hE2 5 j rfl)) hT) (psM_to (V := V) (hE2 0 11 rfl) (hE2 0 13 rfl) (hE2 0 14 rfl) hps) (by omega)) (cw_X13_221 hts ⟨by decide, by decide⟩) (hG 0 _ rfl) rfl rfl rfl rfl (Nat.le_of_ble_eq_true rfl) dX13_bounded_52 (fun _ h => h) (fun H1 locs hq hF hS => ?_)
      obtain ⟨V3, hG, hE3, hps3⟩ := hq
      generalize hHe3 : H1 = H at hG hS ⊢
      clear hHe3
      obtain ⟨t3, fo3, he3⟩ : ∃ a b, goP (plF ch sz) t fo = (a, b) := ⟨_, _, rfl⟩
      replace hps3 : psM V3 m0 t3 fo3 := by rw [he3] at hps3; exact hps3
      obtain ⟨ft3, hft93, hft3, hfz3⟩ := fo_z hps3.2.2
      have htm3 := hps3.1
      obtain ⟨hk33, hk43, hk53, hk63⟩ := hT.1 t3 htm3
      have hkd93 := kd_lt ch sz t3
      have hb33 := (hT.2.2.2.2.2 t3 htm3).1
      have hb53 := (hT.2.2.2.2.2 t3 htm3).2.1
      refine lv_iload_n hx hb dX13_bounded_55 rfl (lv_at hl 0 rfl) ?_
      refine hend _ _ _ _ _ hS dX13_bounded_56 ?_
      have h1 : bdP (kdF ch sz) (plF ch sz) t fo = (t3, fo3) := by unfold bdP; rw [if_pos hI]; exact he3
      exact ⟨_, rfl, congrArg nI (show bdV (kdF ch sz) (vlF ch sz) lo t fo = vlF ch sz t from if_pos hI).symm, _, hG, ((hE2.mono PWo_PBd).trans (hE3.mono PGo_PBd)), by rw [h1]; exact hps3, by unfold bdW; rw [if_pos ⟨hI, by omega⟩]; exact (woM_to (V := V2) (hE3 0 15 rfl) (hE3 0 16 rfl) hwo2)⟩
    refine lv_iload_n hx hb dX13_bounded_37 rfl (lv_at hl 0 rfl) ?_
    refine lv_iload_n hx hb dX13_bounded_38 rfl (lv_at hl 3 rfl) ?_
    refine n_icmp_le (tgt := 51) hx hb dX13_bounded_39 (by decide) (by omega) (by omega) (fun c39 => ?_) (fun c39 => ?_)
    · refine lv_aload_n hx hb dX13_bounded_51 rfl (lv_at hl 1 rfl) ?_
      refine c_VV hx hb hml hts hown hK hl.1 hS ⟨Nat.le_refl _, Nat.le_refl _⟩ (met_X13_goesOn l D dA hG hT hps (by omega)) (cw_X13_221 hts ⟨by decide, by decide⟩) (hG 0 _ rfl) rfl rfl rfl rfl (Nat.le_of_ble_eq_true rfl) dX13_bounded_52 (fun _ h => h) (fun H1 locs hq hF hS => ?_)
      obtain ⟨V4, hG, hE4, hps4⟩ := hq
      generalize hHe4 : H1 = H at hG hS ⊢
      clear hHe4
      obtain ⟨t4, fo4, he4⟩ : ∃ a b, goP (plF ch sz) t fo = (a, b) := ⟨_, _, rfl⟩
      replace hps4 : psM V4 m0 t4 fo4 := by rw [he4] at hps4; exact hps4
      obtain ⟨ft4, hft94, hft4, hfz4⟩ := fo_z hps4.2.2
      have htm4 := hps4.1
      obtain ⟨hk34, hk44, hk54, hk64⟩ := hT.1 t4 htm4
      have hkd94 := kd_lt ch sz t4
      have hb34 := (hT.2.2.2.2.2 t4 htm4).1
      have hb54 := (hT.2.2.2.2.2 t4 htm4).2.1
      refine lv_iload_n hx hb dX13_bounded_55 rfl (lv_at hl 0 rfl) ?_
      refine hend _ _ _ _ _ hS dX13_bounded_56 ?_
      have h1 : bdP (kdF ch sz) (plF ch sz) t fo = (t4, fo4) := by unfold bdP; rw [if_pos hI]; exact he4
      exact ⟨_, rfl, congrArg nI (show bdV (kdF ch sz) (vlF ch sz) lo t fo = vlF ch sz t from if_pos hI).symm, _, hG, (hE4.mono PGo_PBd), by rw [h1]; exact hps4, by unfold bdW; rw [if_neg (fun z => by have := z.2; omega)]; exact (woM_to (V := V) (hE4 0 15 rfl) (hE4 0 16 rfl) hwo)⟩
    refine lv_aload_n hx hb dX13_bounded_42 rfl (lv_at hl 1 rfl) ?_
    refine lv_iconst (v := (nI 5)) hx hb dX13_bounded_43 (by decide) ?_
    refine lv_aload_n hx hb dX13_bounded_44 rfl (lv_at hl 1 rfl) ?_
    refine g_get (v := .int (nI t)) hx hb hts hown hK hG 0 rfl rfl ok_X13 11 (by decide) q1482 rfl (congrArg Value.int hps.2.1) dX13_bounded_45 ?_
    refine c_VV hx hb hml hts hown hK hl.1 hS ⟨Nat.le_refl _, Nat.le_refl _⟩ (met_X13_wrong l D dA hG hT hps hwo 5 t (by omega) (by omega) (by omega)) (cw_X13_252 hts ⟨by decide, by decide⟩) (hG 0 _ rfl) rfl rfl rfl rfl (Nat.le_of_ble_eq_true rfl) dX13_bounded_48 (fun _ h => h) (fun H1 locs hq hF hS => ?_)
    obtain ⟨V5, hG, hE5, hwo5⟩ := hq
    generalize hHe5 : H1 = H at hG hS ⊢
    clear hHe5
    refine lv_aload_n hx hb dX13_bounded_51 rfl (lv_at hl 1 rfl) ?_
    refine c_VV hx hb hml hts hown hK hl.1 hS ⟨Nat.le_refl _, Nat.le_refl _⟩ (met_X13_goesOn l D dA hG (tkOK_to (V := V) (fun j => (hE5 3 j rfl)) (fun j => (hE5 4 j rfl)) (fun j => (hE5 5 j rfl)) hT) (psM_to (V := V) (hE5 0 11 rfl) (hE5 0 13 rfl) (hE5 0 14 rfl) hps) (by omega)) (cw_X13_221 hts ⟨by decide, by decide⟩) (hG 0 _ rfl) rfl rfl rfl rfl (Nat.le_of_ble_eq_true rfl) dX13_bounded_52 (fun _ h => h) (fun H1 locs hq hF hS => ?_)
    obtain ⟨V6, hG, hE6, hps6⟩ := hq
    generalize hHe6 : H1 = H at hG hS ⊢
    clear hHe6
    obtain ⟨t6, fo6, he6⟩ : ∃ a b, goP (plF ch sz) t fo = (a, b) := ⟨_, _, rfl⟩
    replace hps6 : psM V6 m0 t6 fo6 := by rw [he6] at hps6; exact hps6
    obtain ⟨ft6, hft96, hft6, hfz6⟩ := fo_z hps6.2.2
    have htm6 := hps6.1
    obtain ⟨hk36, hk46, hk56, hk66⟩ := hT.1 t6 htm6
    have hkd96 := kd_lt ch sz t6
    have hb36 := (hT.2.2.2.2.2 t6 htm6).1
    have hb56 := (hT.2.2.2.2.2 t6 htm6).2.1
    refine lv_iload_n hx hb dX13_bounded_55 rfl (lv_at hl 0 rfl) ?_
    refine hend _ _ _ _ _ hS dX13_bounded_56 ?_
    have h1 : bdP (kdF ch sz) (plF ch sz) t fo = (t6, fo6) := by unfold bdP; rw [if_pos hI]; exact he6
    exact ⟨_, rfl, congrArg nI (show bdV (kdF ch sz) (vlF ch sz) lo t fo = vlF ch sz t from if_pos hI).symm, _, hG, ((hE5.mono PWo_PBd).trans (hE6.mono PGo_PBd)), by rw [h1]; exact hps6, by unfold bdW; rw [if_pos ⟨hI, by omega⟩]; exact (woM_to (V := V5) (hE6 0 15 rfl) (hE6 0 16 rfl) hwo5)⟩
  refine lv_aload_n hx hb dX13_bounded_15 rfl (lv_at hl 0 rfl) ?_
  refine lv_iconst (v := (nI 1)) hx hb dX13_bounded_16 (by decide) ?_
  refine c_VV hx hb hml hts hown hK hl.1 hS ⟨Nat.le_refl _, Nat.le_refl _⟩ (met_X13_fail l D dA hG hT hps 1 (by omega) (by omega)) (cw_X13_215 hts ⟨by decide, by decide⟩) (hG 0 _ rfl) rfl rfl rfl rfl (Nat.le_of_ble_eq_true rfl) dX13_bounded_17 (fun _ h => h) (fun H1 locs hq hF hS => ?_)
  obtain ⟨V7, hG, hE7, hps7⟩ := hq
  generalize hHe7 : H1 = H at hG hS ⊢
  clear hHe7
  obtain ⟨fo7, he7⟩ : ∃ a, flP fo 1 (plF ch sz t) = a := ⟨_, rfl⟩
  replace hps7 : psM V7 m0 t fo7 := by rw [he7] at hps7; exact hps7
  obtain ⟨ft7, hft97, hft7, hfz7⟩ := fo_z hps7.2.2
  have htm7 := hps7.1
  obtain ⟨hk37, hk47, hk57, hk67⟩ := hT.1 t htm7
  have hkd97 := kd_lt ch sz t
  have hb37 := (hT.2.2.2.2.2 t htm7).1
  have hb57 := (hT.2.2.2.2.2 t htm7).2.1
  refine lv_iload_n hx hb dX13_bounded_20 rfl (lv_at hl 1 rfl) ?_
  refine hend _ _ _ _ _ hS dX13_bounded_21 ?_
  have hI : ¬ isP fo (kdF ch sz t) 2 = true := bN0 (by omega)
  have h1 : bdP (kdF ch sz) (plF ch sz) t fo = (t, fo7) := by unfold bdP; rw [if_neg hI, he7]
  exact ⟨_, rfl, congrArg nI (show bdV (kdF ch sz) (vlF ch sz) lo t fo = lo from if_neg hI).symm, _, hG, (hE7.mono PFl_PBd), by rw [h1]; exact hps7, by unfold bdW; rw [if_neg (fun z => hI z.1)]; exact (woM_to (V := V) (hE7 0 15 rfl) (hE7 0 16 rfl) hwo)⟩
theorem cw_X13_262 {R : Room} {s : State} {args : Array Value} (hts : ∀ w ∈ lw_all, w.before args s = true) {f w k j : Nat} (hR : f + 1 ≤ R.frames ∧ 8 + (4 + 11) + w ≤ R.locals) : CallW R s args RX13 RX13 262 yX13_bounded cX13_bounded 4 (some .int) (ws_ yX13_bounded cX13_bounded 4 (some .int)) (mkRmC f w k j) k j 2 := cwV 2 hts (lw_V q1738 q1740 qs64 q129 q1741) rfl rfl rfl (by decide +kernel) hR
theorem cw_X13_266 {R : Room} {s : State} {args : Array Value} (hts : ∀ w ∈ lw_all, w.before args s = true) {f w k j : Nat} (hR : f + 1 ≤ R.frames ∧ 8 + (2 + 11) + w ≤ R.locals) : CallW R s args RX13 RX13 266 yX13_must cX13_must 2 none (ws_ yX13_must cX13_must 2 none) (mkRmC f w k j) k j 1 := cwV 1 hts (lw_V q1730 q1732 qs62 q129 q1733) rfl rfl rfl (by decide +kernel) hR
set_option maxHeartbeats 4000000 in
theorem met_X13_toldInt (l : Launch) (D : va_G) (dA : Nat → ClassId) {o : Nat} {V : GI} {L : GL} {Rf : GR} {H0 : Heap} (hG : gP D dA o dM V L Rf H0) {ch : Nat → Nat} {sz m0 : Nat} (hT : tkOK V L ch sz m0) {t : Nat} (hps : psM V m0 t none) {wo : Fo} (hwo : woM V wo) (hnz : kdF ch sz t ≠ 0) (lo hi : Nat) (hlo : lo < 100000) (hhi : hi < 100000) : Ctr l D dA yX13_toldInt cX13_toldInt 4 (some .int) (mkRm 3 64) [.ref o, .int (nI lo), .int (nI hi)] H0 (AM o) (QI (fun r H1 => r = nI (tiV (kdF ch sz) (plF ch sz) (vlF ch sz) lo t) ∧ ∃ V1, gP D dA o dM V1 L Rf H1 ∧ Eqx PBd V V1 ∧ psM V1 m0 (tiP (kdF ch sz) (plF ch sz) t).1 (tiP (kdF ch sz) (plF ch sz) t).2 ∧ woM V1 (tiW (kdF ch sz) (plF ch sz) (vlF ch sz) lo hi t wo))) := by
  have hm9 := hT.2.2.1
  refine ctr_I (by decide) (Nat.le_of_ble_eq_true rfl) ?_
  intro p e s m args below meth c ls QQ locs hx hb hml hown hts hK hend hS hl
  have hl : lv_has ls 4 [(0, .ref o), (1, .int (nI lo)), (2, .int (nI hi))] := hl
  obtain ⟨ft, hft9, hft, hfz⟩ := fo_z hps.2.2
  have htm := hps.1
  obtain ⟨hk3, hk4, hk5, hk6⟩ := hT.1 t htm
  have hkd9 := kd_lt ch sz t
  have hb3 := (hT.2.2.2.2.2 t htm).1
  have hb5 := (hT.2.2.2.2.2 t htm).2.1
  refine lv_aload_n hx hb dX13_toldInt_0 rfl (lv_at hl 0 rfl) ?_
  refine c_VV hx hb hml hts hown hK hl.1 hS ⟨Nat.le_refl _, Nat.le_refl _⟩ (met_X13_goesOn l D dA hG hT hps (by omega)) (cw_X13_221 hts ⟨by decide, by decide⟩) (hG 0 _ rfl) rfl rfl rfl rfl (Nat.le_of_ble_eq_true rfl) dX13_toldInt_1 (fun _ h => h) (fun H1 locs hq hF hS => ?_)
  obtain ⟨V1, hG, hE1, hps1⟩ := hq
  generalize hHe1 : H1 = H at hG hS ⊢
  clear hHe1
  obtain ⟨t1, fo1, he1⟩ : ∃ a b, goP (plF ch sz) t none = (a, b) := ⟨_, _, rfl⟩
  replace hps1 : psM V1 m0 t1 fo1 := by rw [he1] at hps1; exact hps1
  obtain ⟨ft1, hft91, hft1, hfz1⟩ := fo_z hps1.2.2
  have htm1 := hps1.1
  obtain ⟨hk31, hk41, hk51, hk61⟩ := hT.1 t1 htm1
  have hkd91 := kd_lt ch sz t1
  have hb31 := (hT.2.2.2.2.2 t1 htm1).1
  have hb51 := (hT.2.2.2.2.2 t1 htm1).2.1
  refine lv_aload_n hx hb dX13_toldInt_4 rfl (lv_at hl 0 rfl) ?_
  refine lv_iload_n hx hb dX13_toldInt_5 rfl (lv_at hl 1 rfl) ?_
  refine lv_iload_n hx hb dX13_toldInt_6 rfl (lv_at hl 2 rfl) ?_
  refine c_VI hx hb hml hts hown hK hl.1 hS ⟨Nat.le_refl _, Nat.le_refl _⟩ (met_X13_bounded l D dA hG (tkOK_to (V := V) (fun j => (hE1 3 j rfl)) (fun j => (hE1 4 j rfl)) (fun j => (hE1 5 j rfl)) hT) hps1 (woM_to (V := V) (hE1 0 15 rfl) (hE1 0 16 rfl) hwo) lo hi (by omega) (by omega)) (cw_X13_262 hts ⟨by decide, by decide⟩) (hG 0 _ rfl) rfl rfl rfl rfl (Nat.le_of_ble_eq_true rfl) dX13_toldInt_7 (fun _ h => h) (fun r H1 locs hq hF hS => ?_)
  obtain ⟨rfl, hq⟩ := hq
  obtain ⟨V2, hG, hE2, hps2, hwo2⟩ := hq
  generalize hHe2 : H1 = H at hG hS ⊢
  clear hHe2
  obtain ⟨wo2, hew2⟩ : ∃ a, bdW (kdF ch sz) (plF ch sz) (vlF ch sz) lo hi t1 fo1 wo = a := ⟨_, rfl⟩
  rw [hew2] at hwo2
  obtain ⟨t2, fo2, he2⟩ : ∃ a b, bdP (kdF ch sz) (plF ch sz) t1 fo1 = (a, b) := ⟨_, _, rfl⟩
  replace hps2 : psM V2 m0 t2 fo2 := by rw [he2] at hps2; exact hps2
  obtain ⟨ft2, hft92, hft2, hfz2⟩ := fo_z hps2.2.2
  have htm2 := hps2.1
  obtain ⟨hk32, hk42, hk52, hk62⟩ := hT.1 t2 htm2
  have hkd92 := kd_lt ch sz t2
  have hb32 := (hT.2.2.2.2.2 t2 htm2).1
  have hb52 := (hT.2.2.2.2.2 t2 htm2).2.1
  refine lv_istore_n (lv' := [(3, .int (nI (bdV (kdF ch sz) (vlF ch sz) lo t1 fo1))), (0, .ref o), (1, .int (nI lo)), (2, .int (nI hi))]) hx hb dX13_toldInt_10 rfl hl (by decide) rfl (fun ls hl => ?_)
  refine lv_aload_n hx hb dX13_toldInt_11 rfl (lv_at hl 1 rfl) ?_
  refine lv_iconst (v := (nI 4)) hx hb dX13_toldInt_12 (by decide) ?_
  refine c_VV hx hb hml hts hown hK hl.1 hS ⟨Nat.le_refl _, Nat.le_refl _⟩ (met_X13_must l D dA hG (tkOK_to (V := V) (fun j => (Eq.trans (hE2 3 j rfl) (hE1 3 j rfl))) (fun j => (Eq.trans (hE2 4 j rfl) (hE1 4 j rfl))) (fun j => (Eq.trans (hE2 5 j rfl) (hE1 5 j rfl))) hT) hps2 4 (by omega) (by omega)) (cw_X13_266 hts ⟨by decide, by decide⟩) (hG 0 _ rfl) rfl rfl rfl rfl (Nat.le_of_ble_eq_true rfl) dX13_toldInt_13 (fun _ h => h) (fun H1 locs hq hF hS => ?_)
  obtain ⟨V3, hG, hE3, hps3⟩ := hq
  generalize hHe3 : H1 = H at hG hS ⊢
  clear hHe3
  obtain ⟨t3, fo3, he3⟩ : ∃ a b, muP (kdF ch sz) (plF ch sz) 4 t2 fo2 = (a, b) := ⟨_, _, rfl⟩
  replace hps3 : psM V3 m0 t3 fo3 := by rw [he3] at hps3; exact hps3
  obtain ⟨ft3, hft93, hft3, hfz3⟩ := fo_z hps3.2.2
  have htm3 := hps3.1
  obtain ⟨hk33, hk43, hk53, hk63⟩ := hT.1 t3 htm3
  have hkd93 := kd_lt ch sz t3
  have hb33 := (hT.2.2.2.2.2 t3 htm3).1
  have hb53 := (hT.2.2.2.2.2 t3 htm3).2.1
  refine lv_iload_n hx hb dX13_toldInt_16 rfl (lv_at hl 0 rfl) ?_
  refine hend _ _ _ _ _ hS dX13_toldInt_17 ?_
  have h1 : tiP (kdF ch sz) (plF ch sz) t = (t3, fo3) := by unfold tiP; rw [he1]; show muP _ _ 4 (bdP _ _ t1 fo1).1 (bdP _ _ t1 fo1).2 = _; rw [he2]; exact he3
  have h2 : tiW (kdF ch sz) (plF ch sz) (vlF ch sz) lo hi t wo = wo2 := by unfold tiW; rw [he1]; exact hew2
  have h3 : tiV (kdF ch sz) (plF ch sz) (vlF ch sz) lo t = bdV (kdF ch sz) (vlF ch sz) lo t1 fo1 := by unfold tiV; rw [he1]
  exact ⟨_, rfl, congrArg nI h3.symm, _, hG, (((hE1.mono PGo_PBd).trans hE2).trans (hE3.mono PGo_PBd)), by rw [h1]; exact hps3, by rw [h2]; exact (woM_to (V := V2) (hE3 0 15 rfl) (hE3 0 16 rfl) hwo2)⟩
theorem cw_X13_290 {R : Room} {s : State} {args : Array Value} (hts : ∀ w ∈ lw_all, w.before args s = true) {f w k j : Nat} (hR : f + 1 ≤ R.frames ∧ 8 + (3 + 11) + w ≤ R.locals) : CallW R s args RX13 RX13 290 yX13_emit cX13_emit 3 none (ws_ yX13_emit cX13_emit 3 none) (mkRmC f w k j) k j 2 := cwV 2 hts (lw_V q1758 q1760 qs69 q129 q1761) rfl rfl rfl (by decide +kernel) hR
set_option maxHeartbeats 4000000 in
theorem met_X13_unit (l : Launch) (D : va_G) (dA : Nat → ClassId) {o : Nat} {V : GI} {L : GL} {Rf : GR} {H0 : Heap} (hG : gP D dA o dM V L Rf H0) {ch : Nat → Nat} {sz m0 : Nat} (hT : tkOK V L ch sz m0) {t : Nat} {fo : Fo} (hps : psM V m0 t fo) {c0 : Nat} {em : List Sg} (hem : emM V c0 em) {cm : Nat} (hcm : cm ≤ 840 ∧ (c0 < 420 → cm ≤ 420)) (hc9 : c0 + em.length < cm) : Ctr l D dA yX13_unit cX13_unit 1 none (mkRm 2 41) [.ref o] H0 (AM o) (QV (fun H1 => ∃ V1, gP D dA o dM V1 L Rf H1 ∧ Eqx PUn V V1 ∧ psM V1 m0 (unP (kdF ch sz) (plF ch sz) t fo).1 (unP (kdF ch sz) (plF ch sz) t fo).2 ∧ emM V1 c0 (unE (kdF ch sz) (vlF ch sz) t fo em) ∧ loF V V1 c0)) := by
  have hm9 := hT.2.2.1
  refine ctr_V (by decide) (Nat.le_of_ble_eq_true rfl) ?_
  intro p e s m args below meth c ls QQ locs hx hb hml hown hts hK hend hS hl
  have hl : lv_has ls 1 [(0, .ref o)] := hl
  obtain ⟨ft, hft9, hft, hfz⟩ := fo_z hps.2.2
  have htm := hps.1
  obtain ⟨hk3, hk4, hk5, hk6⟩ := hT.1 t htm
  have hkd9 := kd_lt ch sz t
  have hb3 := (hT.2.2.2.2.2 t htm).1
  have hb5 := (hT.2.2.2.2.2 t htm).2.1
  refine lv_aload_n hx hb dX13_unit_0 rfl (lv_at hl 0 rfl) ?_
  refine lv_iconst (v := (nI 2)) hx hb dX13_unit_1 (by decide) ?_
  refine c_VI hx hb hml hts hown hK hl.1 hS ⟨Nat.le_refl _, Nat.le_refl _⟩ (met_X13_is l D dA hG hT hps 2 (by omega)) (cw_X13_218 hts ⟨by decide, by decide⟩) (hG 0 _ rfl) rfl rfl rfl rfl (Nat.le_of_ble_eq_true rfl) dX13_unit_2 (fun _ h => h.elim) (fun r H1 locs hq hF hS => ?_)
  obtain ⟨rfl, rfl⟩ := hq
  have hbb2 := bN_lt (isP fo (kdF ch sz t) 2)
  refine n_if_eq (tgt := 29) hx hb dX13_unit_5 (by decide) (by omega) (fun c5 => ?_) (fun c5 => ?_)
  · refine lv_aload_n hx hb dX13_unit_29 rfl (lv_at hl 0 rfl) ?_
    refine g_get (v := .int (nI ft)) hx hb hts hown hK hG 0 rfl rfl ok_X13 13 (by decide) q1484 rfl (congrArg Value.int hft) dX13_unit_30 ?_
    refine n_if_ne (tgt := 88) hx hb dX13_unit_33 (by decide) (by omega) (fun c33 => ?_) (fun c33 => ?_)
    · refine lv_aload_n hx hb dX13_unit_88 rfl (lv_at hl 0 rfl) ?_
      refine lv_iconst (v := (nI 1)) hx hb dX13_unit_89 (by decide) ?_
      refine c_VV hx hb hml hts hown hK hl.1 hS ⟨Nat.le_refl _, Nat.le_refl _⟩ (met_X13_fail l D dA hG hT hps 1 (by omega) (by omega)) (cw_X13_215 hts ⟨by decide, by decide⟩) (hG 0 _ rfl) rfl rfl rfl rfl (Nat.le_of_ble_eq_true rfl) dX13_unit_90 (fun _ h => h) (fun H1 locs hq hF hS => ?_)
      obtain ⟨V1, hG, hE1, hps1⟩ := hq
      generalize hHe1 : H1 = H at hG hS ⊢
      clear hHe1
      obtain ⟨fo1, he1⟩ : ∃ a, flP fo 1 (plF ch sz t) = a := ⟨_, rfl⟩
      replace hps1 : psM V1 m0 t fo1 := by rw [he1] at hps1; exact hps1
      obtain ⟨ft1, hft91, hft1, hfz1⟩ := fo_z hps1.2.2
      have htm1 := hps1.1
      obtain ⟨hk31, hk41, hk51, hk61⟩ := hT.1 t htm1
      have hkd91 := kd_lt ch sz t
      have hb31 := (hT.2.2.2.2.2 t htm1).1
      have hb51 := (hT.2.2.2.2.2 t htm1).2.1
      refine hend _ _ _ _ hS dX13_unit_93 ?_
      have hUK : ¬ unK (kdF ch sz) t fo = true := by
        intro z
        unfold unK at z
        simp only [Bool.or_eq_true, Bool.and_eq_true, decide_eq_true_eq, Option.isNone_iff_eq_none] at z
        rcases z with z | z
        · exact bN0 c5 z
        · have := hfz.mpr z.1.1; omega
      have h1 : unP (kdF ch sz) (plF ch sz) t fo = (t, fo1) := by unfold unP; rw [if_neg hUK, he1]
      exact ⟨rfl, _, hG, (hE1.mono PFl_PUn), by rw [h1]; exact hps1, by unfold unE; rw [if_neg (bN0 c5), if_neg hUK]; exact (emM_to (V := V) (hE1 0 39 rfl) (fun j => (hE1 25 j rfl)) (fun j => (hE1 26 j rfl)) hem), loF_e hE1 (fun _ => rfl) (fun _ => rfl)⟩
    refine lv_aload_n hx hb dX13_unit_36 rfl (lv_at hl 0 rfl) ?_
    refine g_get hx hb hts hown hK hG 0 rfl rfl ok_X13 5 (by decide) q1476 rfl rfl dX13_unit_37 ?_
    refine lv_aload_n hx hb dX13_unit_40 rfl (lv_at hl 0 rfl) ?_
    refine g_get (v := .int (nI t)) hx hb hts hown hK hG 0 rfl rfl ok_X13 11 (by decide) q1482 rfl (congrArg Value.int hps.2.1) dX13_unit_41 ?_
    refine n_iald hx hb hK hG 3 rfl (by omega) (by decide) dX13_unit_44 ?_
    refine iv (y := (nI (kdF ch sz t))) hk3 ?_
    refine lv_bipush (v := (nI 32)) hx hb dX13_unit_45 (by decide) ?_
    refine n_icmp_lt (tgt := 88) hx hb dX13_unit_47 (by decide) (by omega) (by omega) (fun c47 => ?_) (fun c47 => ?_)
    · refine lv_aload_n hx hb dX13_unit_88 rfl (lv_at hl 0 rfl) ?_
      refine lv_iconst (v := (nI 1)) hx hb dX13_unit_89 (by decide) ?_
      refine c_VV hx hb hml hts hown hK hl.1 hS ⟨Nat.le_refl _, Nat.le_refl _⟩ (met_X13_fail l D dA hG hT hps 1 (by omega) (by omega)) (cw_X13_215 hts ⟨by decide, by decide⟩) (hG 0 _ rfl) rfl rfl rfl rfl (Nat.le_of_ble_eq_true rfl) dX13_unit_90 (fun _ h => h) (fun H1 locs hq hF hS => ?_)
      obtain ⟨V2, hG, hE2, hps2⟩ := hq
      generalize hHe2 : H1 = H at hG hS ⊢
      clear hHe2
      obtain ⟨fo2, he2⟩ : ∃ a, flP fo 1 (plF ch sz t) = a := ⟨_, rfl⟩
      replace hps2 : psM V2 m0 t fo2 := by rw [he2] at hps2; exact hps2
      obtain ⟨ft2, hft92, hft2, hfz2⟩ := fo_z hps2.2.2
      have htm2 := hps2.1
      obtain ⟨hk32, hk42, hk52, hk62⟩ := hT.1 t htm2
      have hkd92 := kd_lt ch sz t
      have hb32 := (hT.2.2.2.2.2 t htm2).1
      have hb52 := (hT.2.2.2.2.2 t htm2).2.1
      refine hend _ _ _ _ hS dX13_unit_93 ?_
      have hUK : ¬ unK (kdF ch sz) t fo = true := by
        intro z
        unfold unK at z
        simp only [Bool.or_eq_true, Bool.and_eq_true, decide_eq_true_eq, Option.isNone_iff_eq_none] at z
        rcases z with z | z
        · exact bN0 c5 z
        · have := hfz.mpr z.1.1; omega
      have h1 : unP (kdF ch sz) (plF ch sz) t fo = (t, fo2) := by unfold unP; rw [if_neg hUK, he2]
      exact ⟨rfl, _, hG, (hE2.mono PFl_PUn), by rw [h1]; exact hps2, by unfold unE; rw [if_neg (bN0 c5), if_neg hUK]; exact (emM_to (V := V) (hE2 0 39 rfl) (fun j => (hE2 25 j rfl)) (fun j => (hE2 26 j rfl)) hem), loF_e hE2 (fun _ => rfl) (fun _ => rfl)⟩
    refine lv_aload_n hx hb dX13_unit_50 rfl (lv_at hl 0 rfl) ?_
    refine g_get hx hb hts hown hK hG 0 rfl rfl ok_X13 5 (by decide) q1476 rfl rfl dX13_unit_51 ?_
    refine lv_aload_n hx hb dX13_unit_54 rfl (lv_at hl 0 rfl) ?_
    refine g_get (v := .int (nI t)) hx hb hts hown hK hG 0 rfl rfl ok_X13 11 (by decide) q1482 rfl (congrArg Value.int hps.2.1) dX13_unit_55 ?_
    refine n_iald hx hb hK hG 3 rfl (by omega) (by decide) dX13_unit_58 ?_
    refine iv (y := (nI (kdF ch sz t))) hk3 ?_
    refine lv_bipush (v := (nI 40)) hx hb dX13_unit_59 (by decide) ?_
    refine n_icmp_gt (tgt := 88) hx hb dX13_unit_61 (by decide) (by omega) (by omega) (fun c61 => ?_) (fun c61 => ?_)
    · refine lv_aload_n hx hb dX13_unit_88 rfl (lv_at hl 0 rfl) ?_
      refine lv_iconst (v := (nI 1)) hx hb dX13_unit_89 (by decide) ?_
      refine c_VV hx hb hml hts hown hK hl.1 hS ⟨Nat.le_refl _, Nat.le_refl _⟩ (met_X13_fail l D dA hG hT hps 1 (by omega) (by omega)) (cw_X13_215 hts ⟨by decide, by decide⟩) (hG 0 _ rfl) rfl rfl rfl rfl (Nat.le_of_ble_eq_true rfl) dX13_unit_90 (fun _ h => h) (fun H1 locs hq hF hS => ?_)
      obtain ⟨V3, hG, hE3, hps3⟩ := hq
      generalize hHe3 : H1 = H at hG hS ⊢
      clear hHe3
      obtain ⟨fo3, he3⟩ : ∃ a, flP fo 1 (plF ch sz t) = a := ⟨_, rfl⟩
      replace hps3 : psM V3 m0 t fo3 := by rw [he3] at hps3; exact hps3
      obtain ⟨ft3, hft93, hft3, hfz3⟩ := fo_z hps3.2.2
      have htm3 := hps3.1
      obtain ⟨hk33, hk43, hk53, hk63⟩ := hT.1 t htm3
      have hkd93 := kd_lt ch sz t
      have hb33 := (hT.2.2.2.2.2 t htm3).1
      have hb53 := (hT.2.2.2.2.2 t htm3).2.1
      refine hend _ _ _ _ hS dX13_unit_93 ?_
      have hUK : ¬ unK (kdF ch sz) t fo = true := by
        intro z
        unfold unK at z
        simp only [Bool.or_eq_true, Bool.and_eq_true, decide_eq_true_eq, Option.isNone_iff_eq_none] at z
        rcases z with z | z
        · exact bN0 c5 z
        · have := hfz.mpr z.1.1; omega
      have h1 : unP (kdF ch sz) (plF ch sz) t fo = (t, fo3) := by unfold unP; rw [if_neg hUK, he3]
      exact ⟨rfl, _, hG, (hE3.mono PFl_PUn), by rw [h1]; exact hps3, by unfold unE; rw [if_neg (bN0 c5), if_neg hUK]; exact (emM_to (V := V) (hE3 0 39 rfl) (fun j => (hE3 25 j rfl)) (fun j => (hE3 26 j rfl)) hem), loF_e hE3 (fun _ => rfl) (fun _ => rfl)⟩
    have hUK : unK (kdF ch sz) t fo = true := by
      unfold unK
      rw [hfz.mp (by omega)]
      simp only [Bool.or_eq_true, Bool.and_eq_true, decide_eq_true_eq, Option.isNone_none]
      exact Or.inr ⟨⟨trivial, by omega⟩, by omega⟩
    refine lv_aload_n hx hb dX13_unit_64 rfl (lv_at hl 0 rfl) ?_
    refine lv_iconst (v := (nI 1)) hx hb dX13_unit_65 (by decide) ?_
    refine lv_aload_n hx hb dX13_unit_66 rfl (lv_at hl 0 rfl) ?_
    refine g_get hx hb hts hown hK hG 0 rfl rfl ok_X13 5 (by decide) q1476 rfl rfl dX13_unit_67 ?_
    refine lv_aload_n hx hb dX13_unit_70 rfl (lv_at hl 0 rfl) ?_
    refine g_get (v := .int (nI t)) hx hb hts hown hK hG 0 rfl rfl ok_X13 11 (by decide) q1482 rfl (congrArg Value.int hps.2.1) dX13_unit_71 ?_
    refine n_iald hx hb hK hG 3 rfl (by omega) (by decide) dX13_unit_74 ?_
    refine iv (y := (nI (kdF ch sz t))) hk3 ?_
    refine lv_bipush (v := (nI 32)) hx hb dX13_unit_75 (by decide) ?_
    refine n_isub hx hb dX13_unit_77 (by omega) ?_
    refine c_VV hx hb hml hts hown hK hl.1 hS ⟨Nat.le_refl _, Nat.le_refl _⟩ (met_X13_emit l D dA hG (c0 + em.length) (by omega) (hem.1) 1 (nI ((kdF ch sz t) - 32))) (cw_X13_290 hts ⟨by decide, by decide⟩) (hG 0 _ rfl) rfl rfl rfl rfl (Nat.le_of_ble_eq_true rfl) dX13_unit_78 (fun _ h => h) (fun H1 locs hq hF hS => ?_)
    have hG := hq
    generalize hHe4 : H1 = H at hG hS ⊢
    clear hHe4 hq
    refine lv_aload_n hx hb dX13_unit_81 rfl (lv_at hl 0 rfl) ?_
    refine c_VV hx hb hml hts hown hK hl.1 hS ⟨Nat.le_refl _, Nat.le_refl _⟩ (met_X13_goesOn l D dA hG (tkOK_to (V := V) (fun j => rfl) (fun j => rfl) (fun j => rfl) hT) (psM_to (V := V) rfl rfl rfl hps) (by omega)) (cw_X13_221 hts ⟨by decide, by decide⟩) (hG 0 _ rfl) rfl rfl rfl rfl (Nat.le_of_ble_eq_true rfl) dX13_unit_82 (fun _ h => h) (fun H1 locs hq hF hS => ?_)
    obtain ⟨V5, hG, hE5, hps5⟩ := hq
    generalize hHe5 : H1 = H at hG hS ⊢
    clear hHe5
    obtain ⟨t5, fo5, he5⟩ : ∃ a b, goP (plF ch sz) t fo = (a, b) := ⟨_, _, rfl⟩
    replace hps5 : psM V5 m0 t5 fo5 := by rw [he5] at hps5; exact hps5
    obtain ⟨ft5, hft95, hft5, hfz5⟩ := fo_z hps5.2.2
    have htm5 := hps5.1
    obtain ⟨hk35, hk45, hk55, hk65⟩ := hT.1 t5 htm5
    have hkd95 := kd_lt ch sz t5
    have hb35 := (hT.2.2.2.2.2 t5 htm5).1
    have hb55 := (hT.2.2.2.2.2 t5 htm5).2.1
    refine lv_goto (tgt := 93) hx hb dX13_unit_85 (by decide) ?_
    refine hend _ _ _ _ hS dX13_unit_93 ?_
    have h1 : unP (kdF ch sz) (plF ch sz) t fo = (t5, fo5) := by unfold unP; rw [if_pos hUK]; exact he5
    exact ⟨rfl, _, hG, ((((Eqx.rf.up rfl).up rfl).up rfl).trans (hE5.mono PGo_PUn)), by rw [h1]; exact hps5, by unfold unE; rw [if_neg (bN0 c5), if_pos hUK]; exact emM_to (hE5 0 39 rfl) (fun j => hE5 25 j rfl) (fun j => hE5 26 j rfl) (emM_add (by omega) hem), loF.trans (loF_up (by omega) (by omega)) (loF_e hE5 (fun _ => rfl) (fun _ => rfl))⟩
  have hI := bN1 (show ¬ bN (isP fo (kdF ch sz t) 2) = 0 by omega)
  have hI2 := (isP_1 hfz hI).2.1
  have hUK : unK (kdF ch sz) t fo = true := by unfold unK; rw [hI]; rfl
  refine lv_aload_n hx hb dX13_unit_8 rfl (lv_at hl 0 rfl) ?_
  refine lv_iconst (v := (nI 0)) hx hb dX13_unit_9 (by decide) ?_
  refine lv_aload_n hx hb dX13_unit_10 rfl (lv_at hl 0 rfl) ?_
  refine g_get hx hb hts hown hK hG 0 rfl rfl ok_X13 7 (by decide) q1478 rfl rfl dX13_unit_11 ?_
  refine lv_aload_n hx hb dX13_unit_14 rfl (lv_at hl 0 rfl) ?_
  refine g_get (v := .int (nI t)) hx hb hts hown hK hG 0 rfl rfl ok_X13 11 (by decide) q1482 rfl (congrArg Value.int hps.2.1) dX13_unit_15 ?_
  refine n_iald hx hb hK hG 5 rfl (by omega) (by decide) dX13_unit_18 ?_
  refine iv (y := (nI (vlF ch sz t))) hk5 ?_
  refine c_VV hx hb hml hts hown hK hl.1 hS ⟨Nat.le_refl _, Nat.le_refl _⟩ (met_X13_emit l D dA hG (c0 + em.length) (by omega) (hem.1) 0 (nI (vlF ch sz t))) (cw_X13_290 hts ⟨by decide, by decide⟩) (hG 0 _ rfl) rfl rfl rfl rfl (Nat.le_of_ble_eq_true rfl) dX13_unit_19 (fun _ h => h) (fun H1 locs hq hF hS => ?_)
  have hG := hq
  generalize hHe6 : H1 = H at hG hS ⊢
  clear hHe6 hq
  refine lv_aload_n hx hb dX13_unit_22 rfl (lv_at hl 0 rfl) ?_
  refine c_VV hx hb hml hts hown hK hl.1 hS ⟨Nat.le_refl _, Nat.le_refl _⟩ (met_X13_goesOn l D dA hG (tkOK_to (V := V) (fun j => rfl) (fun j => rfl) (fun j => rfl) hT) (psM_to (V := V) rfl rfl rfl hps) (by omega)) (cw_X13_221 hts ⟨by decide, by decide⟩) (hG 0 _ rfl) rfl rfl rfl rfl (Nat.le_of_ble_eq_true rfl) dX13_unit_23 (fun _ h => h) (fun H1 locs hq hF hS => ?_)
  obtain ⟨V7, hG, hE7, hps7⟩ := hq
  generalize hHe7 : H1 = H at hG hS ⊢
  clear hHe7
  obtain ⟨t7, fo7, he7⟩ : ∃ a b, goP (plF ch sz) t fo = (a, b) := ⟨_, _, rfl⟩
  replace hps7 : psM V7 m0 t7 fo7 := by rw [he7] at hps7; exact hps7
  obtain ⟨ft7, hft97, hft7, hfz7⟩ := fo_z hps7.2.2
  have htm7 := hps7.1
  obtain ⟨hk37, hk47, hk57, hk67⟩ := hT.1 t7 htm7
  have hkd97 := kd_lt ch sz t7
  have hb37 := (hT.2.2.2.2.2 t7 htm7).1
  have hb57 := (hT.2.2.2.2.2 t7 htm7).2.1
  refine lv_goto (tgt := 93) hx hb dX13_unit_26 (by decide) ?_
  refine hend _ _ _ _ hS dX13_unit_93 ?_
  have h1 : unP (kdF ch sz) (plF ch sz) t fo = (t7, fo7) := by unfold unP; rw [if_pos hUK]; exact he7
  exact ⟨rfl, _, hG, ((((Eqx.rf.up rfl).up rfl).up rfl).trans (hE7.mono PGo_PUn)), by rw [h1]; exact hps7, by unfold unE; rw [if_pos hI]; exact emM_to (hE7 0 39 rfl) (fun j => hE7 25 j rfl) (fun j => hE7 26 j rfl) (emM_add (by omega) hem), loF.trans (loF_up (by omega) (by omega)) (loF_e hE7 (fun _ => rfl) (fun _ => rfl))⟩
