theorem tsw_cases (v : Int32) (n : Nat) (hn : n ≤ 100) : ((v.toInt < 0 ∨ (n : Int) - 1 < v.toInt) ∧ rgO v 0 n) ∨ (∃ k, k < n ∧ v = nI k) := by
  have e0 : (0 : Int32).toInt = 0 := rfl
  by_cases h1 : 0 ≤ v.toInt
  · by_cases h2 : v.toInt < n
    · right
      obtain ⟨k, hk, rfl⟩ := nI_of (x := v) (by rw [Int32.lt_iff_toInt_lt]; omega)
      rw [nI_toInt hk] at h2
      exact ⟨k, by omega, rfl⟩
    · exact Or.inl ⟨Or.inr (by omega), rgO_of (by omega)⟩
  · exact Or.inl ⟨Or.inl (by omega), rgO_of (by omega)⟩
def slT (t : Txt) (f : Rw) (b : Nat) : Nat → Int32
  | 0 => f b
  | 1 => f (9 + b)
  | 2 => f (27 + b)
  | 3 => xC t b
  | 4 => f (18 + b)
  | 5 => lieF t f b
  | 6 => parF t f b
  | 7 => chiF t f b
  | 8 => cosF t f b
  | _ => f (36 + b)
def sleeperA (t : Txt) (f : Rw) (v w : Int32) : Int32 := rng v 0 (xN t) (fun b => rng w 0 10 (slT t f b) (-100000)) (-100000)
def sumI (f : Rw) (a : Nat) : Nat → Int32
  | 0 => nI 0
  | k + 1 => sumI f a k + f (a + k)
/-- what lies not left costs -/
def ncF (t : Txt) (f : Rw) : Nat → Nat
  | 0 => 0
  | b + 1 => if f b = nI 0 then ncF t f b + coN t f b else ncF t f b
theorem nc_t {t : Txt} {f : Rw} {b : Nat} (h : f b = nI 0) : ncF t f (b + 1) = ncF t f b + coN t f b := by simp only [ncF]; rw [if_pos h]
theorem nc_f {t : Txt} {f : Rw} {b : Nat} (h : ¬ f b = nI 0) : ncF t f (b + 1) = ncF t f b := by simp only [ncF]; rw [if_neg h]
theorem ncF_le (t : Txt) (f : Rw) : ∀ b, ncF t f b ≤ 99 * b
  | 0 => Nat.le_refl _
  | b + 1 => by have := ncF_le t f b; have := (cos_n t f b).2; simp only [ncF]; split <;> omega
def liB (t : Txt) (f : Rw) (b : Nat) : Bool := decide (0 < lwO (vrF t f b) (f b) (xL t 0))
theorem lie_b (t : Txt) (f : Rw) (b : Nat) : lieF t f b = nI (bN (liB t f b)) := by
  unfold lieF liB bN
  by_cases h : 0 < lwO (vrF t f b) (f b) (xL t 0)
  · rw [if_pos h, if_pos (decide_eq_true h)]; rfl
  · rw [if_neg h, if_neg (fun z => h (of_decide_eq_true z))]; rfl
theorem ob_step {hit : Nat → Bool} {k y : Nat} (h : obF hit k = y) : obF hit (k + 1) = y ||| bN (hit k) * 2 ^ k := by
  simp only [obF]
  rw [h]
  cases hit k
  · simp [bN]
  · simp [bN]
def heN (hd : Nat → Option Rw) : Nat := bN (hd 0).isSome + bN (hd 1).isSome + bN (hd 2).isSome
def cuT (t : Txt) (f : Rw) (tp hs tl : Nat) (hd : Nat → Option Rw) : Nat → Int32
  | 0 => nI (xN t)
  | 1 => f 45
  | 2 => f 45 - f 45 / nI 24 * nI 24
  | 3 => nI (rbF f (xN t))
  | 4 => nI (bc (rbF f (xN t)))
  | 5 => nI (obF (shB f) (xN t))
  | 6 => nI (obF (liB t f) (xN t))
  | 7 => nI tp
  | 8 => nI hs
  | 9 => nI tl
  | 10 => nI (heN hd)
  | 11 => f 46
  | 12 => nI (ncF t f (xN t))
  | 13 => xR t
  | 14 => sumI f 36 9
  | 15 => f 47
  | _ => sumI f 9 9
def countA (t : Txt) (f : Rw) (tp hs tl : Nat) (hd : Nat → Option Rw) (v : Int32) : Int32 := rng v 0 17 (cuT t f tp hs tl hd) (-1)
theorem bI_N (b : Bool) : bI b = nI (bN b) := by cases b <;> rfl
theorem cw_X13_166 {R : Room} {s : State} {args : Array Value} (hts : ∀ w ∈ lw_all, w.before args s = true) {f w k j : Nat} (hR : f + 1 ≤ R.frames ∧ 8 + (3 + 11) + w ≤ R.locals) : CallW R s args RX13 RX13 166 yX13_put cX13_put 3 none (ws_ yX13_put cX13_put 3 none) (mkRmC f w k j) k j 1 := cwV 1 hts (lw_V q1672 q1674 qs51 q129 q1675) rfl rfl rfl (by decide +kernel) hR
set_option maxHeartbeats 4000000 in
theorem met_X13_feed (l : Launch) (D : va_G) (dA : Nat → ClassId) {o : Nat} {V : GI} {L : GL} {Rf : GR} {H0 : Heap} (hG : gP D dA o dM V L Rf H0) (tp : List Int32) (htp : tpM V tp) (v1 v2 v3 v4 v5 : Int32) : Ctr l D dA yX13_feed cX13_feed 6 (some .int) (mkRm 1 22) [.ref o, .int v1, .int v2, .int v3, .int v4, .int v5] H0 (AM o) (QI (fun r H1 => ∃ V1, gP D dA o dM V1 L Rf H1 ∧ Eqx PTp V V1 ∧ r = (feedS tp v1 v2 v3 v4 v5).1 ∧ tpM V1 (feedS tp v1 v2 v3 v4 v5).2)) := by
  have ht2 := htp.1
  refine ctr_I (by decide) (Nat.le_of_ble_eq_true rfl) ?_
  intro p e s m args below meth c ls QQ locs hx hb hml hown hts hK hend hS hl
  have hl : lv_has ls 6 [(0, .ref o), (1, .int v1), (2, .int v2), (3, .int v3), (4, .int v4), (5, .int v5)] := hl
  refine lv_aload_n hx hb dX13_feed_0 rfl (lv_at hl 0 rfl) ?_
  refine g_get (v := .int (nI tp.length)) hx hb hts hown hK hG 0 rfl rfl ok_X13 2 (by decide) q1473 rfl (congrArg Value.int htp.2.1) dX13_feed_1 ?_
  refine lv_bipush (v := (nI 20)) hx hb dX13_feed_4 (by decide) ?_
  refine n_iadd hx hb dX13_feed_6 ?_
  refine lv_sipush (v := (nI 2000)) hx hb dX13_feed_7 (by decide) ?_
  refine n_icmp_le (tgt := 15) hx hb dX13_feed_10 (by decide) (by omega) (by omega) (fun c10 => ?_) (fun c10 => ?_)
  · refine lv_aload_n hx hb dX13_feed_15 rfl (lv_at hl 0 rfl) ?_
    refine lv_iload_n hx hb dX13_feed_16 rfl (lv_at hl 1 rfl) ?_
    refine c_VV hx hb hml hts hown hK hl.1 hS ⟨Nat.le_refl _, Nat.le_refl _⟩ (met_X13_put l D dA hG (tp) htp (by omega) v1) (cw_X13_166 hts ⟨by decide, by decide⟩) (hG 0 _ rfl) rfl rfl rfl rfl (Nat.le_of_ble_eq_true rfl) dX13_feed_17 (fun _ h => h) (fun H1 locs hq hF hS => ?_)
    obtain ⟨V1, hG, hE1, ht1⟩ := hq
    generalize hHe1 : H1 = H at hG hS ⊢
    clear hHe1
    have hlq1 : (tp ++ by4 v1).length = tp.length + 4 := by simp [by4]
    refine lv_aload_n hx hb dX13_feed_20 rfl (lv_at hl 0 rfl) ?_
    refine lv_iload_n hx hb dX13_feed_21 rfl (lv_at hl 2 rfl) ?_
    refine c_VV hx hb hml hts hown hK hl.1 hS ⟨Nat.le_refl _, Nat.le_refl _⟩ (met_X13_put l D dA hG (tp ++ by4 v1) ht1 (by omega) v2) (cw_X13_166 hts ⟨by decide, by decide⟩) (hG 0 _ rfl) rfl rfl rfl rfl (Nat.le_of_ble_eq_true rfl) dX13_feed_22 (fun _ h => h) (fun H1 locs hq hF hS => ?_)
    obtain ⟨V2, hG, hE2, ht2⟩ := hq
    generalize hHe2 : H1 = H at hG hS ⊢
    clear hHe2
    have hlq2 : (tp ++ by4 v1 ++ by4 v2).length = tp.length + 8 := by simp [by4]
    refine lv_aload_n hx hb dX13_feed_25 rfl (lv_at hl 0 rfl) ?_
    refine lv_iload_n hx hb dX13_feed_26 rfl (lv_at hl 3 rfl) ?_
    refine c_VV hx hb hml hts hown hK hl.1 hS ⟨Nat.le_refl _, Nat.le_refl _⟩ (met_X13_put l D dA hG (tp ++ by4 v1 ++ by4 v2) ht2 (by omega) v3) (cw_X13_166 hts ⟨by decide, by decide⟩) (hG 0 _ rfl) rfl rfl rfl rfl (Nat.le_of_ble_eq_true rfl) dX13_feed_27 (fun _ h => h) (fun H1 locs hq hF hS => ?_)
    obtain ⟨V3, hG, hE3, ht3⟩ := hq
    generalize hHe3 : H1 = H at hG hS ⊢
    clear hHe3
    have hlq3 : (tp ++ by4 v1 ++ by4 v2 ++ by4 v3).length = tp.length + 12 := by simp [by4]
    refine lv_aload_n hx hb dX13_feed_30 rfl (lv_at hl 0 rfl) ?_
    refine lv_iload hx hb dX13_feed_31 (lv_at hl 4 rfl) ?_
    refine c_VV hx hb hml hts hown hK hl.1 hS ⟨Nat.le_refl _, Nat.le_refl _⟩ (met_X13_put l D dA hG (tp ++ by4 v1 ++ by4 v2 ++ by4 v3) ht3 (by omega) v4) (cw_X13_166 hts ⟨by decide, by decide⟩) (hG 0 _ rfl) rfl rfl rfl rfl (Nat.le_of_ble_eq_true rfl) dX13_feed_33 (fun _ h => h) (fun H1 locs hq hF hS => ?_)
    obtain ⟨V4, hG, hE4, ht4⟩ := hq
    generalize hHe4 : H1 = H at hG hS ⊢
    clear hHe4
    have hlq4 : (tp ++ by4 v1 ++ by4 v2 ++ by4 v3 ++ by4 v4).length = tp.length + 16 := by simp [by4]
    refine lv_aload_n hx hb dX13_feed_36 rfl (lv_at hl 0 rfl) ?_
    refine lv_iload hx hb dX13_feed_37 (lv_at hl 5 rfl) ?_
    refine c_VV hx hb hml hts hown hK hl.1 hS ⟨Nat.le_refl _, Nat.le_refl _⟩ (met_X13_put l D dA hG (tp ++ by4 v1 ++ by4 v2 ++ by4 v3 ++ by4 v4) ht4 (by omega) v5) (cw_X13_166 hts ⟨by decide, by decide⟩) (hG 0 _ rfl) rfl rfl rfl rfl (Nat.le_of_ble_eq_true rfl) dX13_feed_39 (fun _ h => h) (fun H1 locs hq hF hS => ?_)
    obtain ⟨V5, hG, hE5, ht5⟩ := hq
    generalize hHe5 : H1 = H at hG hS ⊢
    clear hHe5
    have hlq5 : (tp ++ by4 v1 ++ by4 v2 ++ by4 v3 ++ by4 v4 ++ by4 v5).length = tp.length + 20 := by simp [by4]
    refine lv_aload_n hx hb dX13_feed_42 rfl (lv_at hl 0 rfl) ?_
    refine g_get (v := .int (nI ((tp ++ by4 v1 ++ by4 v2 ++ by4 v3 ++ by4 v4 ++ by4 v5).length))) hx hb hts hown hK hG 0 rfl rfl ok_X13 2 (by decide) q1473 rfl (congrArg Value.int ht5.2.1) dX13_feed_43 ?_
    refine hend _ _ _ _ _ hS dX13_feed_46 ?_
    have hR : feedS tp v1 v2 v3 v4 v5 = (nI (tp.length + 20), tp ++ by4 v1 ++ by4 v2 ++ by4 v3 ++ by4 v4 ++ by4 v5) := if_neg (by omega)
    exact ⟨_, rfl, _, hG, ((((hE1.trans hE2).trans hE3).trans hE4).trans hE5), by rw [hR]; exact congrArg nI (by omega), by rw [hR]; exact ht5⟩
  refine lv_iconst (v := (-1)) hx hb dX13_feed_13 (by decide) ?_
  refine hend _ _ _ _ _ hS dX13_feed_14 ?_
  have hR : feedS tp v1 v2 v3 v4 v5 = (-1, tp) := if_pos (by omega)
  exact ⟨_, rfl, _, hG, Eqx.rf, by rw [hR], by rw [hR]; exact htp⟩
set_option maxHeartbeats 4000000 in
theorem met_X13_back (l : Launch) (D : va_G) (dA : Nat → ClassId) {o : Nat} {V : GI} {L : GL} {Rf : GR} {H0 : Heap} (hG : gP D dA o dM V L Rf H0) (tp : List Int32) (htp : tpM V tp) (v1 : Int32) : Ctr l D dA yX13_back cX13_back 2 (some .int) (mkRm 0 0) [.ref o, .int v1] H0 (AM o) (QI (fun r H1 => ∃ V1, gP D dA o dM V1 L Rf H1 ∧ Eqx PTp V V1 ∧ r = (backS tp v1).1 ∧ tpM V1 (backS tp v1).2)) := by
  have ht2 := htp.1
  refine ctr_I (by decide) (Nat.le_of_ble_eq_true rfl) ?_
  intro p e s m args below meth c ls QQ locs hx hb hml hown hts hK hend hS hl
  have hl : lv_has ls 2 [(0, .ref o), (1, .int v1)] := hl
  refine lv_iload_n hx hb dX13_back_0 rfl (lv_at hl 1 rfl) ?_
  refine lv_if_lt (tgt := 12) hx hb dX13_back_1 (by decide) (fun c1 => ?_) (fun c1 => ?_)
  · refine lv_iconst (v := (-1)) hx hb dX13_back_12 (by decide) ?_
    refine hend _ _ _ _ _ hS dX13_back_13 ?_
    have hR : backS tp v1 = (-1, tp) := (rgO_of (by have e0 : (0 : Int32).toInt = 0 := rfl; rw [Int32.lt_iff_toInt_lt] at c1; omega)).2 _ _ _
    exact ⟨_, rfl, _, hG, Eqx.rf, by rw [hR], by rw [hR]; exact htp⟩
  obtain ⟨x1, hx1, rfl⟩ := nI_of c1
  have hl : lv_has ls 2 [(0, .ref o), (1, .int (nI x1))] := hl
  refine lv_iload_n hx hb dX13_back_4 rfl (lv_at hl 1 rfl) ?_
  refine lv_aload_n hx hb dX13_back_5 rfl (lv_at hl 0 rfl) ?_
  refine g_get (v := .int (nI tp.length)) hx hb hts hown hK hG 0 rfl rfl ok_X13 2 (by decide) q1473 rfl (congrArg Value.int htp.2.1) dX13_back_6 ?_
  refine n_icmp_le (tgt := 14) hx hb dX13_back_9 (by decide) (by omega) (by omega) (fun c9 => ?_) (fun c9 => ?_)
  · refine lv_aload_n hx hb dX13_back_14 rfl (lv_at hl 0 rfl) ?_
    refine lv_dup hx hb dX13_back_15 rfl ?_
    refine g_get (v := .int (nI tp.length)) hx hb hts hown hK hG 0 rfl rfl ok_X13 2 (by decide) q1473 rfl (congrArg Value.int htp.2.1) dX13_back_16 ?_
    refine lv_iload_n hx hb dX13_back_19 rfl (lv_at hl 1 rfl) ?_
    refine n_isub hx hb dX13_back_20 (by omega) ?_
    refine g_put hx hb hts hown hK hG hS 0 (AM_in 0 (by decide)) rfl rfl ok_X13 2 (by decide) q1473 rfl rfl rfl rfl dX13_back_21 (fun H locs hG hO hS => ?_)
    refine lv_aload_n hx hb dX13_back_24 rfl (lv_at hl 0 rfl) ?_
    refine g_get (v := .int (nI (tp.length - x1))) hx hb hts hown hK hG 0 rfl rfl ok_X13 2 (by decide) q1473 rfl rfl dX13_back_25 ?_
    refine hend _ _ _ _ _ hS dX13_back_28 ?_
    have hR : backS tp (nI x1) = (nI (tp.length - x1), tp.take (tp.length - x1)) := rnp_in (Nat.zero_le _) (by omega) (by omega)
    exact ⟨_, rfl, _, hG, (Eqx.rf.up rfl), by rw [hR], by rw [hR]; exact ⟨by simp; omega, by rw [List.length_take]; rw [Nat.min_eq_left (by omega)]; exact up2_s, fun i y hi => by rw [List.getElem?_take] at hi; split at hi; exact htp.2.2 i y hi; cases hi⟩⟩
  refine lv_iconst (v := (-1)) hx hb dX13_back_12 (by decide) ?_
  refine hend _ _ _ _ _ hS dX13_back_13 ?_
  have hR : backS tp (nI x1) = (-1, tp) := (rgO_of (by rw [nI_toInt hx1]; omega)).2 _ _ _
  exact ⟨_, rfl, _, hG, Eqx.rf, by rw [hR], by rw [hR]; exact htp⟩
set_option maxHeartbeats 4000000 in
theorem met_X13_forget (l : Launch) (D : va_G) (dA : Nat → ClassId) {o : Nat} {V : GI} {L : GL} {Rf : GR} {H0 : Heap} (hG : gP D dA o dM V L Rf H0) (tl : List Tl) (htl : tlM V tl) : Ctr l D dA yX13_forget cX13_forget 2 (some .int) (mkRm 0 0) [.ref o] H0 (AM o) (QI (fun r H1 => ∃ V1, gP D dA o dM V1 L Rf H1 ∧ Eqx PTl V V1 ∧ r = nI tl.length ∧ tlM V1 [])) := by
  refine ctr_I (by decide) (Nat.le_of_ble_eq_true rfl) ?_
  intro p e s m args below meth c ls QQ locs hx hb hml hown hts hK hend hS hl
  have hl : lv_has ls 2 [(0, .ref o)] := hl
  refine lv_aload_n hx hb dX13_forget_0 rfl (lv_at hl 0 rfl) ?_
  refine g_get (v := .int (nI tl.length)) hx hb hts hown hK hG 0 rfl rfl ok_X13 58 (by decide) q1529 rfl (congrArg Value.int htl.2.1) dX13_forget_1 ?_
  refine lv_istore_n (lv' := [(1, .int (nI tl.length)), (0, .ref o)]) hx hb dX13_forget_4 rfl hl (by decide) rfl (fun ls hl => ?_)
  refine lv_aload_n hx hb dX13_forget_5 rfl (lv_at hl 1 rfl) ?_
  refine lv_iconst (v := (nI 0)) hx hb dX13_forget_6 (by decide) ?_
  refine g_put hx hb hts hown hK hG hS 0 (AM_in 0 (by decide)) rfl rfl ok_X13 58 (by decide) q1529 rfl rfl rfl rfl dX13_forget_7 (fun H locs hG hO hS => ?_)
  refine lv_iload_n hx hb dX13_forget_10 rfl (lv_at hl 0 rfl) ?_
  refine hend _ _ _ _ _ hS dX13_forget_11 ?_
  exact ⟨_, rfl, _, hG, (Eqx.rf.up rfl), rfl, ⟨by simp, up2_s, fun i q hi => by simp at hi⟩⟩
set_option maxHeartbeats 4000000 in
theorem met_X13_tell (l : Launch) (D : va_G) (dA : Nat → ClassId) {o : Nat} {V : GI} {L : GL} {Rf : GR} {H0 : Heap} (hG : gP D dA o dM V L Rf H0) {lv : Nat} {t : Txt} (hX : txM V lv t) (tl : List Tl) (htl : tlM V tl) (v1 v2 v3 : Int32) : Ctr l D dA yX13_tell cX13_tell 4 (some .int) (mkRm 2 43) [.ref o, .int v1, .int v2, .int v3] H0 (AM o) (QI (fun r H1 => ∃ V1, gP D dA o dM V1 L Rf H1 ∧ Eqx PTl V V1 ∧ r = (tellS t tl v1 v2 v3).1 ∧ tlM V1 (tellS t tl v1 v2 v3).2)) := by
  have hT := hX.1
  have hT1 := hT.1
  have hT2 := hT.2.1
  have ht20 := htl.1
  refine ctr_I (by decide) (Nat.le_of_ble_eq_true rfl) ?_
  intro p e s m args below meth c ls QQ locs hx hb hml hown hts hK hend hS hl
  have hl : lv_has ls 4 [(0, .ref o), (1, .int v1), (2, .int v2), (3, .int v3)] := hl
  refine lv_aload_n hx hb dX13_tell_0 rfl (lv_at hl 0 rfl) ?_
  refine g_get (v := .int (nI tl.length)) hx hb hts hown hK hG 0 rfl rfl ok_X13 58 (by decide) q1529 rfl (congrArg Value.int htl.2.1) dX13_tell_1 ?_
  refine lv_bipush (v := (nI 20)) hx hb dX13_tell_4 (by decide) ?_
  refine n_icmp_eq (tgt := 24) hx hb dX13_tell_6 (by decide) (by omega) (by omega) (fun c6 => ?_) (fun c6 => ?_)
  · refine lv_iconst (v := (-1)) hx hb dX13_tell_24 (by decide) ?_
    refine hend _ _ _ _ _ hS dX13_tell_25 ?_
    have hR : tellS t tl v1 v2 v3 = (-1, tl) := if_pos (by omega)
    exact ⟨_, rfl, _, hG, Eqx.rf, by rw [hR], by rw [hR]; exact htl⟩
  refine lv_aload_n hx hb dX13_tell_9 rfl (lv_at hl 0 rfl) ?_
  refine lv_iload_n hx hb dX13_tell_10 rfl (lv_at hl 1 rfl) ?_
  refine c_VI hx hb hml hts hown hK hl.1 hS ⟨Nat.le_refl _, Nat.le_refl _⟩ (met_X13_isBed l D dA hG hT v1) (cw_X13_328 hts ⟨by decide, by decide⟩) (hG 0 _ rfl) rfl rfl rfl rfl (Nat.le_of_ble_eq_true rfl) dX13_tell_11 (fun _ h => h.elim) (fun r H1 locs hq hF hS => ?_)
  obtain ⟨rfl, rfl⟩ := hq
  rcases (bedN_cases hT2 v1).symm with ⟨hz11, ho11⟩ | ⟨x1, hlo_x1, hhi_x1, rfl, hz11⟩
  · refine iv (y := nI 0) hz11 ?_
    refine n_if_eq (tgt := 24) hx hb dX13_tell_14 (by decide) (by decide) (fun _ => ?_) (fun z => absurd z (by decide))
    refine lv_iconst (v := (-1)) hx hb dX13_tell_24 (by decide) ?_
    refine hend _ _ _ _ _ hS dX13_tell_25 ?_
    have hR : tellS t tl v1 v2 v3 = (-1, tl) := (if_neg c6).trans ((ho11.2 _ _ _))
    exact ⟨_, rfl, _, hG, Eqx.rf, by rw [hR], by rw [hR]; exact htl⟩
  refine iv (y := nI 1) hz11 ?_
  have hl : lv_has ls 4 [(0, .ref o), (1, .int (nI x1)), (2, .int v2), (3, .int v3)] := hl
  refine n_if_eq (tgt := 24) hx hb dX13_tell_14 (by decide) (by decide) (fun z => absurd z (by decide)) (fun _ => ?_)
  refine lv_iload_n hx hb dX13_tell_17 rfl (lv_at hl 2 rfl) ?_
  refine c_SI hx hb hml hts hown hK hl.1 hS ⟨Nat.le_refl _, Nat.le_refl _⟩ (met_X13_isShort l D dA v2) (cw_X13_404 hts ⟨by decide, by decide⟩) rfl rfl (Nat.le_of_ble_eq_true rfl) dX13_tell_18 (fun _ h => h.elim) (fun r H1 locs hq hF hS => ?_)
  obtain ⟨rfl, rfl⟩ := hq
  rcases (inZ_cases v2 0 24 (by decide) (by decide)).symm with ⟨hz18, ho18⟩ | ⟨x2, hlo_x2, hhi_x2, rfl, hz18⟩
  · refine iv (y := nI 0) hz18 ?_
    refine n_if_ne (tgt := 26) hx hb dX13_tell_21 (by decide) (by decide) (fun z => absurd z (by decide)) (fun _ => ?_)
    refine lv_iconst (v := (-1)) hx hb dX13_tell_24 (by decide) ?_
    refine hend _ _ _ _ _ hS dX13_tell_25 ?_
    have hR : tellS t tl (nI x1) v2 v3 = (-1, tl) := (if_neg c6).trans ((rnp_in hlo_x1 hhi_x1 (by omega)).trans ((ho18.2 _ _ _)))
    exact ⟨_, rfl, _, hG, Eqx.rf, by rw [hR], by rw [hR]; exact htl⟩
  refine iv (y := nI 1) hz18 ?_
  have hl : lv_has ls 4 [(0, .ref o), (1, .int (nI x1)), (2, .int (nI x2)), (3, .int v3)] := hl
  refine n_if_ne (tgt := 26) hx hb dX13_tell_21 (by decide) (by decide) (fun _ => ?_) (fun z => absurd z (by decide))
  refine lv_aload_n hx hb dX13_tell_26 rfl (lv_at hl 0 rfl) ?_
  refine g_get hx hb hts hown hK hG 0 rfl rfl ok_X13 59 (by decide) q1530 rfl rfl dX13_tell_27 ?_
  refine lv_aload_n hx hb dX13_tell_30 rfl (lv_at hl 0 rfl) ?_
  refine g_get (v := .int (nI tl.length)) hx hb hts hown hK hG 0 rfl rfl ok_X13 58 (by decide) q1529 rfl (congrArg Value.int htl.2.1) dX13_tell_31 ?_
  refine lv_iload_n hx hb dX13_tell_34 rfl (lv_at hl 1 rfl) ?_
  refine n_iast hx hb hK hG hS 38 (AM_in 38 (by decide)) rfl (by omega) (by decide) dX13_tell_35 (fun H locs hG hO hS => ?_)
  refine lv_aload_n hx hb dX13_tell_36 rfl (lv_at hl 0 rfl) ?_
  refine g_get hx hb hts hown hK hG 0 rfl rfl ok_X13 60 (by decide) q1531 rfl rfl dX13_tell_37 ?_
  refine lv_aload_n hx hb dX13_tell_40 rfl (lv_at hl 0 rfl) ?_
  refine g_get (v := .int (nI tl.length)) hx hb hts hown hK hG 0 rfl rfl ok_X13 58 (by decide) q1529 rfl (congrArg Value.int htl.2.1) dX13_tell_41 ?_
  refine lv_iload_n hx hb dX13_tell_44 rfl (lv_at hl 2 rfl) ?_
  refine n_iast hx hb hK hG hS 39 (AM_in 39 (by decide)) rfl (by omega) (by decide) dX13_tell_45 (fun H locs hG hO hS => ?_)
  refine lv_aload_n hx hb dX13_tell_46 rfl (lv_at hl 0 rfl) ?_
  refine g_get hx hb hts hown hK hG 0 rfl rfl ok_X13 61 (by decide) q1532 rfl rfl dX13_tell_47 ?_
  refine lv_aload_n hx hb dX13_tell_50 rfl (lv_at hl 0 rfl) ?_
  refine g_get (v := .int (nI tl.length)) hx hb hts hown hK hG 0 rfl rfl ok_X13 58 (by decide) q1529 rfl (congrArg Value.int htl.2.1) dX13_tell_51 ?_
  refine lv_iload_n hx hb dX13_tell_54 rfl (lv_at hl 3 rfl) ?_
  refine lv_if_eq (tgt := 62) hx hb dX13_tell_55 (by decide) (fun c55 => ?_) (fun c55 => ?_)
  · refine lv_iconst (v := (nI 0)) hx hb dX13_tell_62 (by decide) ?_
    refine n_iast hx hb hK hG hS 40 (AM_in 40 (by decide)) rfl (by omega) (by decide) dX13_tell_63 (fun H locs hG hO hS => ?_)
    refine lv_aload_n hx hb dX13_tell_64 rfl (lv_at hl 0 rfl) ?_
    refine lv_dup hx hb dX13_tell_65 rfl ?_
    refine g_get (v := .int (nI tl.length)) hx hb hts hown hK hG 0 rfl rfl ok_X13 58 (by decide) q1529 rfl (congrArg Value.int htl.2.1) dX13_tell_66 ?_
    refine lv_iconst (v := (nI 1)) hx hb dX13_tell_69 (by decide) ?_
    refine n_iadd hx hb dX13_tell_70 ?_
    refine g_put hx hb hts hown hK hG hS 0 (AM_in 0 (by decide)) rfl rfl ok_X13 58 (by decide) q1529 rfl rfl rfl rfl dX13_tell_71 (fun H locs hG hO hS => ?_)
    refine lv_aload_n hx hb dX13_tell_74 rfl (lv_at hl 0 rfl) ?_
    refine g_get (v := .int (nI (tl.length + 1))) hx hb hts hown hK hG 0 rfl rfl ok_X13 58 (by decide) q1529 rfl rfl dX13_tell_75 ?_
    refine lv_iconst (v := (nI 1)) hx hb dX13_tell_78 (by decide) ?_
    refine n_isub hx hb dX13_tell_79 (by omega) ?_
    refine hend _ _ _ _ _ hS dX13_tell_80 ?_
    have h38_1 : (up2 V 38 tl.length (nI x1)) 38 = va_up (V 38) tl.length (nI x1) := rfl
    have h38 : (up2 (up2 (up2 (up2 V 38 tl.length (nI x1)) 39 tl.length (nI x2)) 40 tl.length (nI 0)) 0 58 (nI (tl.length + 1))) 38 = va_up (V 38) tl.length (nI x1) := h38_1
    have h39_1 : (up2 (up2 V 38 tl.length (nI x1)) 39 tl.length (nI x2)) 39 = va_up (V 39) tl.length (nI x2) := rfl
    have h39 : (up2 (up2 (up2 (up2 V 38 tl.length (nI x1)) 39 tl.length (nI x2)) 40 tl.length (nI 0)) 0 58 (nI (tl.length + 1))) 39 = va_up (V 39) tl.length (nI x2) := h39_1
    have h40_1 : (up2 (up2 (up2 V 38 tl.length (nI x1)) 39 tl.length (nI x2)) 40 tl.length (nI 0)) 40 = va_up (V 40) tl.length (nI 0) := rfl
    have h40 : (up2 (up2 (up2 (up2 V 38 tl.length (nI x1)) 39 tl.length (nI x2)) 40 tl.length (nI 0)) 0 58 (nI (tl.length + 1))) 40 = va_up (V 40) tl.length (nI 0) := h40_1
    have hx : (if v3 = 0 then 0 else 1) = 0 := if_pos c55
    have hR : tellS t tl (nI x1) (nI x2) v3 = (nI tl.length, tl ++ [(x1, x2, 0)]) := (if_neg c6).trans ((rnp_in hlo_x1 hhi_x1 (by omega)).trans ((rnp_in hlo_x2 hhi_x2 (by omega)).trans ((by rw [hx]))))
    exact ⟨_, rfl, _, hG, ((((Eqx.rf.up rfl).up rfl).up rfl).up rfl), by rw [hR]; exact congrArg nI (by omega), by rw [hR]; exact tlM_app htl (by omega) (by omega) (by omega) (by decide) up2_s h38 h39 h40⟩
  refine lv_iconst (v := (nI 1)) hx hb dX13_tell_58 (by decide) ?_
  refine lv_goto (tgt := 63) hx hb dX13_tell_59 (by decide) ?_
  refine n_iast hx hb hK hG hS 40 (AM_in 40 (by decide)) rfl (by omega) (by decide) dX13_tell_63 (fun H locs hG hO hS => ?_)
  refine lv_aload_n hx hb dX13_tell_64 rfl (lv_at hl 0 rfl) ?_
  refine lv_dup hx hb dX13_tell_65 rfl ?_
  refine g_get (v := .int (nI tl.length)) hx hb hts hown hK hG 0 rfl rfl ok_X13 58 (by decide) q1529 rfl (congrArg Value.int htl.2.1) dX13_tell_66 ?_
  refine lv_iconst (v := (nI 1)) hx hb dX13_tell_69 (by decide) ?_
  refine n_iadd hx hb dX13_tell_70 ?_
  refine g_put hx hb hts hown hK hG hS 0 (AM_in 0 (by decide)) rfl rfl ok_X13 58 (by decide) q1529 rfl rfl rfl rfl dX13_tell_71 (fun H locs hG hO hS => ?_)
  refine lv_aload_n hx hb dX13_tell_74 rfl (lv_at hl 0 rfl) ?_
  refine g_get (v := .int (nI (tl.length + 1))) hx hb hts hown hK hG 0 rfl rfl ok_X13 58 (by decide) q1529 rfl rfl dX13_tell_75 ?_
  refine lv_iconst (v := (nI 1)) hx hb dX13_tell_78 (by decide) ?_
  refine n_isub hx hb dX13_tell_79 (by omega) ?_
  refine hend _ _ _ _ _ hS dX13_tell_80 ?_
  have h38_1 : (up2 V 38 tl.length (nI x1)) 38 = va_up (V 38) tl.length (nI x1) := rfl
  have h38 : (up2 (up2 (up2 (up2 V 38 tl.length (nI x1)) 39 tl.length (nI x2)) 40 tl.length (nI 1)) 0 58 (nI (tl.length + 1))) 38 = va_up (V 38) tl.length (nI x1) := h38_1
  have h39_1 : (up2 (up2 V 38 tl.length (nI x1)) 39 tl.length (nI x2)) 39 = va_up (V 39) tl.length (nI x2) := rfl
  have h39 : (up2 (up2 (up2 (up2 V 38 tl.length (nI x1)) 39 tl.length (nI x2)) 40 tl.length (nI 1)) 0 58 (nI (tl.length + 1))) 39 = va_up (V 39) tl.length (nI x2) := h39_1
  have h40_1 : (up2 (up2 (up2 V 38 tl.length (nI x1)) 39 tl.length (nI x2)) 40 tl.length (nI 1)) 40 = va_up (V 40) tl.length (nI 1) := rfl
  have h40 : (up2 (up2 (up2 (up2 V 38 tl.length (nI x1)) 39 tl.length (nI x2)) 40 tl.length (nI 1)) 0 58 (nI (tl.length + 1))) 40 = va_up (V 40) tl.length (nI 1) := h40_1
  have hx : (if v3 = 0 then 0 else 1) = 1 := if_neg c55
  have hR : tellS t tl (nI x1) (nI x2) v3 = (nI tl.length, tl ++ [(x1, x2, 1)]) := (if_neg c6).trans ((rnp_in hlo_x1 hhi_x1 (by omega)).trans ((rnp_in hlo_x2 hhi_x2 (by omega)).trans ((by rw [hx]))))
  exact ⟨_, rfl, _, hG, ((((Eqx.rf.up rfl).up rfl).up rfl).up rfl), by rw [hR]; exact congrArg nI (by omega), by rw [hR]; exact tlM_app htl (by omega) (by omega) (by omega) (by decide) up2_s h38 h39 h40⟩
set_option maxHeartbeats 4000000 in
theorem met_X13_sumNow (l : Launch) (D : va_G) (dA : Nat → ClassId) {o : Nat} {V : GI} {L : GL} {Rf : GR} {H0 : Heap} (hG : gP D dA o dM V L Rf H0) (a : Nat) (ha9 : a ≤ 39) : Ctr l D dA yX13_sumNow cX13_sumNow 4 (some .int) (mkRm 0 0) [.ref o, .int (nI a)] H0 A0 (QI (fun r H1 => H0 = H1 ∧ r = sumI (V 30) a 9)) := by
  refine ctr_I (by decide) (Nat.le_of_ble_eq_true rfl) ?_
  intro p e s m args below meth c ls QQ locs hx hb hml hown hts hK hend hS hl
  have hl : lv_has ls 4 [(0, .ref o), (1, .int (nI a))] := hl
  refine lv_iconst (v := (nI 0)) hx hb dX13_sumNow_0 (by decide) ?_
  refine lv_istore_n (lv' := [(2, .int (nI 0)), (0, .ref o), (1, .int (nI a))]) hx hb dX13_sumNow_1 rfl hl (by decide) rfl (fun ls hl => ?_)
  refine lv_iload_n hx hb dX13_sumNow_2 rfl (lv_at hl 2 rfl) ?_
  refine lv_istore_n (lv' := [(3, .int (nI a)), (2, .int (nI 0)), (0, .ref o), (1, .int (nI a))]) hx hb dX13_sumNow_3 rfl hl (by decide) rfl (fun ls hl => ?_)
  have loop1 : ∀ (fu1 : Nat) (k : Nat) (locs : List Loc) (ls : Array Slot), 9 - k < fu1 → (k ≤ 9) → va_S A0 H0 H0 locs → lv_has ls 4 [(3, .int (nI (a + k))), (2, .int (sumI (V 30) a k)), (0, .ref o), (1, .int (nI a))] → W p l e (mkRm 0 0) s m args below meth c H0 locs 0 0 QQ (F0 m 4 ls []) := by
    intro fu1
    induction fu1 with
    | zero => intro k locs ls hfu; exact absurd hfu (Nat.not_lt_zero _)
    | succ fu1 ih1 =>
      intro k locs ls hfu hk hS hl
      refine lv_iload_n hx hb dX13_sumNow_4 rfl (lv_at hl 0 rfl) ?_
      refine lv_iload_n hx hb dX13_sumNow_5 rfl (lv_at hl 3 rfl) ?_
      refine lv_bipush (v := (nI 9)) hx hb dX13_sumNow_6 (by decide) ?_
      refine n_iadd hx hb dX13_sumNow_8 ?_
      refine n_icmp_ge (tgt := 27) hx hb dX13_sumNow_9 (by decide) (by omega) (by omega) (fun c9 => ?_) (fun c9 => ?_)
      · refine lv_iload_n hx hb dX13_sumNow_27 rfl (lv_at hl 1 rfl) ?_
        refine hend _ _ _ _ _ hS dX13_sumNow_28 ?_
        exact ⟨_, rfl, rfl, by rw [show k = 9 by omega]⟩
      refine lv_iload_n hx hb dX13_sumNow_12 rfl (lv_at hl 1 rfl) ?_
      refine lv_aload_n hx hb dX13_sumNow_13 rfl (lv_at hl 2 rfl) ?_
      refine g_get hx hb hts hown hK hG 0 rfl rfl ok_X13 47 (by decide) q1518 rfl rfl dX13_sumNow_14 ?_
      refine lv_iload_n hx hb dX13_sumNow_17 rfl (lv_at hl 0 rfl) ?_
      refine n_iald hx hb hK hG 30 rfl (by omega) (by decide) dX13_sumNow_18 ?_
      refine lv_iadd hx hb dX13_sumNow_19 ?_
      refine lv_istore_n (lv' := [(2, .int ((sumI (V 30) a k) + (V 30 (a + k)))), (3, .int (nI (a + k))), (0, .ref o), (1, .int (nI a))]) hx hb dX13_sumNow_20 rfl hl (by decide) rfl (fun ls hl => ?_)
      refine lv_iinc (v := (nI ((a + k) + 1))) (lv' := [(3, .int (nI ((a + k) + 1))), (2, .int ((sumI (V 30) a k) + (V 30 (a + k)))), (0, .ref o), (1, .int (nI a))]) hx hb dX13_sumNow_21 hl (k := 1) rfl (nI_add _ _) (by decide) rfl (fun ls hl => ?_)
      refine lv_goto (tgt := 4) hx hb dX13_sumNow_24 (by decide) ?_
      exact ih1 (k + 1) _ _ (by omega) (by omega) hS (lv_sub hl [0, 1, 2, 3] rfl)
  exact loop1 ((9 - 0) + 1) 0 _ _ (Nat.lt_succ_self _) (by omega) hS (lv_sub hl [0, 1, 2, 3] rfl)
