theorem cbJ_t {G : Nat → Nat → Nat} {a b : Nat} {s s1 : Option Nat × Nat} (h : a < b) (hs : cbJ G a b s = s1) : cbJ G a (b + 1) s = cbU s1 a b (G a b) := by simp only [cbJ]; rw [if_pos h, hs]
theorem cbU_t {s : Option Nat × Nat} {a b v : Nat} (h : s.2 < v) : cbU s a b v = (some (10 * a + b), v) := if_pos h
theorem cbU_f {s : Option Nat × Nat} {a b v : Nat} (h : ¬ s.2 < v) : cbU s a b v = s := if_neg h
/-- one after another, five swaps -/
def swK (a b : Nat) (f : Nat → Int32) (k : Nat) : Nat → Int32 := fun j => if j < k then swF a b f j else f j
theorem sw_step {a b i : Nat} {f g : Nat → Int32} (ha : a < 9) (hb : b < 9) (hi : i < 5) (h : ∀ j, j < 48 → g j = swK a b f (i * 9) j) : ∀ j, j < 48 → va_up (va_up g (i * 9 + a) (f (i * 9 + b))) (i * 9 + b) (f (i * 9 + a)) j = swK a b f ((i + 1) * 9) j := fun j hj => by
  unfold swK at *
  by_cases e1 : j = i * 9 + b
  · subst e1
    rw [va_up_s2, if_pos (by omega)]
    unfold swF
    rw [if_pos (by omega)]
    by_cases e2 : (i * 9 + b) % 9 = a
    · rw [if_pos e2, show (i * 9 + b) / 9 * 9 + b = i * 9 + a by omega]
    · rw [if_neg e2, if_pos (by omega), show (i * 9 + b) / 9 * 9 + a = i * 9 + a by omega]
  · rw [va_up_n e1]
    by_cases e2 : j = i * 9 + a
    · subst e2
      rw [va_up_s2, if_pos (by omega)]
      unfold swF
      rw [if_pos (by omega), if_pos (by omega), show (i * 9 + a) / 9 * 9 + b = i * 9 + b by omega]
    · rw [va_up_n e2, h j hj]
      by_cases e3 : j < i * 9
      · rw [if_pos e3, if_pos (by omega)]
      · rw [if_neg e3]
        by_cases e4 : j < (i + 1) * 9
        · rw [if_pos e4]
          unfold swF
          rw [if_pos (by omega), if_neg (by omega), if_neg (by omega)]
        · rw [if_neg e4]
theorem sw_RV {a b n : Nat} {f : Nat → Int32} (ha : a < n) (hb : b < n) (hn : n ≤ 9) (h : RV n f) : RV n (swF a b f) := fun j hj => by
  have e : swF a b f j = f (if j = a then b else if j = b then a else j) := by
    unfold swF
    rw [if_pos (by omega), show j % 9 = j by omega, show j / 9 * 9 = 0 by omega]
    split
    · rw [Nat.zero_add]
    · split
      · rw [Nat.zero_add]
      · rfl
  rw [e]
  split
  · exact h b hb
  · split
    · exact h a ha
    · exact h j hj
theorem lv_t {f : Nat → Int32} {b : Nat} (h : ¬ f (27 + b) ≤ 0) : shB f b = true := dcT (Int32.not_le.mp h)
theorem lv_f {f : Nat → Int32} {b : Nat} (h : f (27 + b) ≤ 0) : shB f b = false := decide_eq_false (Int32.not_lt.mpr h)
theorem bI_n (b : Bool) : bI b = nI (if b = true then 1 else 0) := by unfold bI; split <;> rfl
def bN (b : Bool) : Nat := if b = true then 1 else 0
theorem bN_t {b : Bool} (h : b = true) : bN b = 1 := if_pos h
theorem bN_f {b : Bool} (h : b = false) : bN b = 0 := by subst h; rfl
theorem bN_lt (b : Bool) : bN b < 2 := by unfold bN; split <;> decide
theorem bN_eq {a b : Bool} : bN a = bN b ↔ a = b := by cases a <;> cases b <;> decide
set_option maxHeartbeats 4000000 in
theorem met_X13_parting (l : Launch) (D : va_G) (dA : Nat → ClassId) {o : Nat} {V : GI} {L : GL} {Rf : GR} {H0 : Heap} (hG : gP D dA o dM V L Rf H0) {lv : Nat} {t : Txt} (hX : txM V lv t) (hrv : RV (xN t) (V 30)) (v1 : Int32) : Ctr l D dA yX13_parting cX13_parting 4 (some .int) (mkRm 1 22) [.ref o, .int v1] H0 A0 (QI (fun r H1 => H0 = H1 ∧ r = partingA t (V 30) v1)) := by
  have hT := hX.1
  have hT1 := hT.1
  have hT2 := hT.2.1
  have hp2 := two9 hT2
  have hpp := Nat.two_pow_pos (xN t)
  refine ctr_I (by decide) (Nat.le_of_ble_eq_true rfl) ?_
  intro p e s m args below meth c ls QQ locs hx hb hml hown hts hK hend hS hl
  have hl : lv_has ls 4 [(0, .ref o), (1, .int v1)] := hl
  refine lv_iload_n hx hb dX13_parting_0 rfl (lv_at hl 1 rfl) ?_
  refine lv_iconst (v := (nI 0)) hx hb dX13_parting_1 (by decide) ?_
  refine lv_iconst (v := (nI 1)) hx hb dX13_parting_2 (by decide) ?_
  refine c_SI hx hb hml hts hown hK hl.1 hS ⟨Nat.le_refl _, Nat.le_refl _⟩ (met_X13_in l D dA v1 (nI 0) (nI 1)) (cw_X13_308 hts ⟨by decide, by decide⟩) rfl rfl (Nat.le_of_ble_eq_true rfl) dX13_parting_3 (fun _ h => h.elim) (fun r H1 locs hq hF hS => ?_)
  obtain ⟨rfl, rfl⟩ := hq
  rcases (inZ_cases v1 0 1 (by decide) (by decide)).symm with ⟨hz3, ho3⟩ | ⟨x1, hlo_x1, hhi_x1, rfl, hz3⟩
  · refine iv (y := nI 0) hz3 ?_
    refine n_if_eq (tgt := 16) hx hb dX13_parting_6 (by decide) (by decide) (fun _ => ?_) (fun z => absurd z (by decide))
    refine lv_ldcw (v := (-100000)) hx hb hown (hts _ q1789) dX13_parting_16 ?_
    refine hend _ _ _ _ _ hS dX13_parting_19 ?_
    exact ⟨_, rfl, rfl, ((ho3.1 _ _)).symm⟩
  refine iv (y := nI 1) hz3 ?_
  have hl : lv_has ls 4 [(0, .ref o), (1, .int (nI x1))] := hl
  refine n_if_eq (tgt := 16) hx hb dX13_parting_6 (by decide) (by decide) (fun z => absurd z (by decide)) (fun _ => ?_)
  refine lv_aload_n hx hb dX13_parting_9 rfl (lv_at hl 0 rfl) ?_
  refine c_VI hx hb hml hts hown hK hl.1 hS ⟨Nat.le_refl _, Nat.le_refl _⟩ (met_X13_many l D dA hG hT) (cw_X13_304 hts ⟨by decide, by decide⟩) (hG 0 _ rfl) rfl rfl rfl rfl (Nat.le_of_ble_eq_true rfl) dX13_parting_10 (fun _ h => h.elim) (fun r H1 locs hq hF hS => ?_)
  obtain ⟨rfl, rfl⟩ := hq
  refine n_if_ne (tgt := 20) hx hb dX13_parting_13 (by decide) (by omega) (fun c13 => ?_) (fun c13 => ?_)
  · refine lv_iconst (v := (nI 0)) hx hb dX13_parting_20 (by decide) ?_
    refine lv_istore_n (lv' := [(2, .int (nI 0)), (0, .ref o), (1, .int (nI x1))]) hx hb dX13_parting_21 rfl hl (by decide) rfl (fun ls hl => ?_)
    refine lv_iconst (v := (nI 1)) hx hb dX13_parting_22 (by decide) ?_
    refine lv_istore_n (lv' := [(3, .int (nI 1)), (2, .int (nI 0)), (0, .ref o), (1, .int (nI x1))]) hx hb dX13_parting_23 rfl hl (by decide) rfl (fun ls hl => ?_)
    have loop1 : ∀ (fu1 : Nat) (b : Nat) (i : Nat) (locs : List Loc) (ls : Array Slot), xN t - b < fu1 → (b ≤ xN t) → (0 < b) → (pgF (V 30) b = i) → (i < b) → va_S A0 H0 H0 locs → lv_has ls 4 [(3, .int (nI b)), (2, .int (nI i)), (0, .ref o), (1, .int (nI x1))] → W p l e (mkRm 1 22) s m args below meth c H0 locs 0 0 QQ (F0 m 24 ls []) := by
      intro fu1
      induction fu1 with
      | zero => intro b i locs ls hfu; exact absurd hfu (Nat.not_lt_zero _)
      | succ fu1 ih1 =>
        intro b i locs ls hfu hbn hb1 hi hi9 hS hl
        refine lv_iload_n hx hb dX13_parting_24 rfl (lv_at hl 0 rfl) ?_
        refine lv_aload_n hx hb dX13_parting_25 rfl (lv_at hl 2 rfl) ?_
        refine c_VI hx hb hml hts hown hK hl.1 hS ⟨Nat.le_refl _, Nat.le_refl _⟩ (met_X13_many l D dA hG hT) (cw_X13_304 hts ⟨by decide, by decide⟩) (hG 0 _ rfl) rfl rfl rfl rfl (Nat.le_of_ble_eq_true rfl) dX13_parting_26 (fun _ h => h.elim) (fun r H1 locs hq hF hS => ?_)
        obtain ⟨rfl, rfl⟩ := hq
        refine n_icmp_ge (tgt := 61) hx hb dX13_parting_29 (by decide) (by omega) (by omega) (fun c29 => ?_) (fun c29 => ?_)
        · obtain rfl : b = xN t := by omega
          refine lv_iload_n hx hb dX13_parting_61 rfl (lv_at hl 3 rfl) ?_
          refine n_if_ne (tgt := 69) hx hb dX13_parting_62 (by decide) (by omega) (fun c62 => ?_) (fun c62 => ?_)
          · refine lv_aload_n hx hb dX13_parting_69 rfl (lv_at hl 2 rfl) ?_
            refine g_get hx hb hts hown hK hG 0 rfl rfl ok_X13 47 (by decide) q1518 rfl rfl dX13_parting_70 ?_
            refine lv_bipush (v := (nI 27)) hx hb dX13_parting_73 (by decide) ?_
            refine lv_iload_n hx hb dX13_parting_75 rfl (lv_at hl 1 rfl) ?_
            refine n_iadd hx hb dX13_parting_76 ?_
            refine n_iald hx hb hK hG 30 rfl (by omega) (by decide) dX13_parting_77 ?_
            refine hend _ _ _ _ _ hS dX13_parting_78 ?_
            exact ⟨_, rfl, rfl, ((rng_in hlo_x1 hhi_x1 (by omega)).trans (((if_neg (by omega)).trans ((if_neg (by omega)).trans (by rw [hi]))))).symm⟩
          refine lv_iload_n hx hb dX13_parting_65 rfl (lv_at hl 1 rfl) ?_
          refine lv_goto (tgt := 78) hx hb dX13_parting_66 (by decide) ?_
          refine hend _ _ _ _ _ hS dX13_parting_78 ?_
          exact ⟨_, rfl, rfl, ((rng_in hlo_x1 hhi_x1 (by omega)).trans (((if_neg (by omega)).trans ((if_pos c62).trans (congrArg nI hi))))).symm⟩
        refine lv_aload_n hx hb dX13_parting_32 rfl (lv_at hl 2 rfl) ?_
        refine g_get hx hb hts hown hK hG 0 rfl rfl ok_X13 47 (by decide) q1518 rfl rfl dX13_parting_33 ?_
        refine lv_bipush (v := (nI 27)) hx hb dX13_parting_36 (by decide) ?_
        refine lv_iload_n hx hb dX13_parting_38 rfl (lv_at hl 0 rfl) ?_
        refine n_iadd hx hb dX13_parting_39 ?_
        refine n_iald hx hb hK hG 30 rfl (by omega) (by decide) dX13_parting_40 ?_
        refine lv_aload_n hx hb dX13_parting_41 rfl (lv_at hl 2 rfl) ?_
        refine g_get hx hb hts hown hK hG 0 rfl rfl ok_X13 47 (by decide) q1518 rfl rfl dX13_parting_42 ?_
        refine lv_bipush (v := (nI 27)) hx hb dX13_parting_45 (by decide) ?_
        refine lv_iload_n hx hb dX13_parting_47 rfl (lv_at hl 1 rfl) ?_
        refine n_iadd hx hb dX13_parting_48 ?_
        refine n_iald hx hb hK hG 30 rfl (by omega) (by decide) dX13_parting_49 ?_
        refine lv_icmp_le (tgt := 55) hx hb dX13_parting_50 (by decide) (fun c50 => ?_) (fun c50 => ?_)
        · refine lv_iinc (v := (nI (b + 1))) (lv' := [(3, .int (nI (b + 1))), (2, .int (nI i)), (0, .ref o), (1, .int (nI x1))]) hx hb dX13_parting_55 hl (k := 0) rfl (nI_add _ _) (by decide) rfl (fun ls hl => ?_)
          refine lv_goto (tgt := 24) hx hb dX13_parting_58 (by decide) ?_
          exact ih1 (b + 1) i _ _ (by omega) (by omega) (by omega) (pgF_f hi (Int32.not_lt.mpr c50)) (by omega) hS (lv_sub hl [0, 1, 2, 3] rfl)
        refine lv_iload_n hx hb dX13_parting_53 rfl (lv_at hl 0 rfl) ?_
        refine lv_istore_n (lv' := [(2, .int (nI b)), (3, .int (nI b)), (0, .ref o), (1, .int (nI x1))]) hx hb dX13_parting_54 rfl hl (by decide) rfl (fun ls hl => ?_)
        refine lv_iinc (v := (nI (b + 1))) (lv' := [(3, .int (nI (b + 1))), (2, .int (nI b)), (0, .ref o), (1, .int (nI x1))]) hx hb dX13_parting_55 hl (k := 1) rfl (nI_add _ _) (by decide) rfl (fun ls hl => ?_)
        refine lv_goto (tgt := 24) hx hb dX13_parting_58 (by decide) ?_
        exact ih1 (b + 1) b _ _ (by omega) (by omega) (by omega) (pgF_t hi (Int32.not_le.mp c50)) (by omega) hS (lv_sub hl [0, 1, 2, 3] rfl)
    exact loop1 ((xN t - 1) + 1) 1 0 _ _ (Nat.lt_succ_self _) (by omega) (by omega) (pgF_1 _) (by omega) hS (lv_sub hl [0, 1, 2, 3] rfl)
  refine lv_ldcw (v := (-100000)) hx hb hown (hts _ q1789) dX13_parting_16 ?_
  refine hend _ _ _ _ _ hS dX13_parting_19 ?_
  exact ⟨_, rfl, rfl, ((rng_in hlo_x1 hhi_x1 (by omega)).trans ((if_pos c13))).symm⟩
set_option maxHeartbeats 4000000 in
theorem met_X13_showBits (l : Launch) (D : va_G) (dA : Nat → ClassId) {o : Nat} {V : GI} {L : GL} {Rf : GR} {H0 : Heap} (hG : gP D dA o dM V L Rf H0) {lv : Nat} {t : Txt} (hX : txM V lv t) : Ctr l D dA yX13_showBits cX13_showBits 3 (some .int) (mkRm 1 20) [.ref o] H0 A0 (QI (fun r H1 => H0 = H1 ∧ r = nI (obF (shB (V 31)) (xN t)))) := by
  have hT := hX.1
  have hT1 := hT.1
  have hT2 := hT.2.1
  refine ctr_I (by decide) (Nat.le_of_ble_eq_true rfl) ?_
  intro p e s m args below meth c ls QQ locs hx hb hml hown hts hK hend hS hl
  have hl : lv_has ls 3 [(0, .ref o)] := hl
  refine lv_iconst (v := (nI 0)) hx hb dX13_showBits_0 (by decide) ?_
  refine lv_istore_n (lv' := [(1, .int (nI 0)), (0, .ref o)]) hx hb dX13_showBits_1 rfl hl (by decide) rfl (fun ls hl => ?_)
  refine lv_iconst (v := (nI 0)) hx hb dX13_showBits_2 (by decide) ?_
  refine lv_istore_n (lv' := [(2, .int (nI 0)), (1, .int (nI 0)), (0, .ref o)]) hx hb dX13_showBits_3 rfl hl (by decide) rfl (fun ls hl => ?_)
  have loop1 : ∀ (fu1 : Nat) (b : Nat) (y : Nat) (locs : List Loc) (ls : Array Slot), xN t - b < fu1 → (b ≤ xN t) → (obF (shB (V 31)) b = y) → va_S A0 H0 H0 locs → lv_has ls 3 [(2, .int (nI b)), (1, .int (nI y)), (0, .ref o)] → W p l e (mkRm 1 20) s m args below meth c H0 locs 0 0 QQ (F0 m 4 ls []) := by
    intro fu1
    induction fu1 with
    | zero => intro b y locs ls hfu; exact absurd hfu (Nat.not_lt_zero _)
    | succ fu1 ih1 =>
      intro b y locs ls hfu hbn hy hS hl
      refine lv_iload_n hx hb dX13_showBits_4 rfl (lv_at hl 0 rfl) ?_
      refine lv_aload_n hx hb dX13_showBits_5 rfl (lv_at hl 2 rfl) ?_
      refine c_VI hx hb hml hts hown hK hl.1 hS ⟨Nat.le_refl _, Nat.le_refl _⟩ (met_X13_many l D dA hG hT) (cw_X13_304 hts ⟨by decide, by decide⟩) (hG 0 _ rfl) rfl rfl rfl rfl (Nat.le_of_ble_eq_true rfl) dX13_showBits_6 (fun _ h => h.elim) (fun r H1 locs hq hF hS => ?_)
      obtain ⟨rfl, rfl⟩ := hq
      refine n_icmp_ge (tgt := 36) hx hb dX13_showBits_9 (by decide) (by omega) (by omega) (fun c9 => ?_) (fun c9 => ?_)
      · obtain rfl : b = xN t := by omega
        refine lv_iload_n hx hb dX13_showBits_36 rfl (lv_at hl 1 rfl) ?_
        refine hend _ _ _ _ _ hS dX13_showBits_37 ?_
        exact ⟨_, rfl, rfl, by rw [hy]⟩
      refine lv_aload_n hx hb dX13_showBits_12 rfl (lv_at hl 2 rfl) ?_
      refine g_get hx hb hts hown hK hG 0 rfl rfl ok_X13 48 (by decide) q1519 rfl rfl dX13_showBits_13 ?_
      refine lv_bipush (v := (nI 27)) hx hb dX13_showBits_16 (by decide) ?_
      refine lv_iload_n hx hb dX13_showBits_18 rfl (lv_at hl 0 rfl) ?_
      refine n_iadd hx hb dX13_showBits_19 ?_
      refine n_iald hx hb hK hG 31 rfl (by omega) (by decide) dX13_showBits_20 ?_
      refine lv_if_le (tgt := 30) hx hb dX13_showBits_21 (by decide) (fun c21 => ?_) (fun c21 => ?_)
      · refine lv_iinc (v := (nI (b + 1))) (lv' := [(2, .int (nI (b + 1))), (1, .int (nI y)), (0, .ref o)]) hx hb dX13_showBits_30 hl (k := 0) rfl (nI_add _ _) (by decide) rfl (fun ls hl => ?_)
        refine lv_goto (tgt := 4) hx hb dX13_showBits_33 (by decide) ?_
        exact ih1 (b + 1) y _ _ (by omega) (by omega) ((obF_f (hit := shB (V 31)) (dcF (Int32.not_lt.mpr c21))).trans hy) hS (lv_sub hl [0, 1, 2] rfl)
      refine lv_iload_n hx hb dX13_showBits_24 rfl (lv_at hl 1 rfl) ?_
      refine lv_iconst (v := (nI 1)) hx hb dX13_showBits_25 (by decide) ?_
      refine lv_iload_n hx hb dX13_showBits_26 rfl (lv_at hl 0 rfl) ?_
      refine n_ishl hx hb dX13_showBits_27 (by omega) ?_
      refine n_ior hx hb dX13_showBits_28 ?_
      refine lv_istore_n (lv' := [(1, .int (nI (y ||| (1 * 2 ^ b)))), (2, .int (nI b)), (0, .ref o)]) hx hb dX13_showBits_29 rfl hl (by decide) rfl (fun ls hl => ?_)
      refine lv_iinc (v := (nI (b + 1))) (lv' := [(2, .int (nI (b + 1))), (1, .int (nI (y ||| (1 * 2 ^ b)))), (0, .ref o)]) hx hb dX13_showBits_30 hl (k := 1) rfl (nI_add _ _) (by decide) rfl (fun ls hl => ?_)
      refine lv_goto (tgt := 4) hx hb dX13_showBits_33 (by decide) ?_
      exact ih1 (b + 1) (y ||| (1 * 2 ^ b)) _ _ (by omega) (by omega) ((obF_t (hit := shB (V 31)) (dcT (Int32.not_le.mp c21))).trans (by rw [hy])) hS (lv_sub hl [0, 1, 2] rfl)
  exact loop1 ((xN t - 0) + 1) 0 0 _ _ (Nat.lt_succ_self _) (by omega) rfl hS (lv_sub hl [0, 1, 2] rfl)
theorem cw_X13_425 {R : Room} {s : State} {args : Array Value} (hts : ∀ w ∈ lw_all, w.before args s = true) {f w k j : Nat} (hR : f + 1 ≤ R.frames ∧ 8 + (3 + 11) + w ≤ R.locals) : CallW R s args RX13 RX13 425 yX13_showBits cX13_showBits 3 (some .int) (ws_ yX13_showBits cX13_showBits 3 (some .int)) (mkRmC f w k j) k j 0 := cwV 0 hts (lw_V q2010 q2012 qs103 q129 q2013) rfl rfl rfl (by decide +kernel) hR
set_option maxHeartbeats 4000000 in
theorem met_X13_shows (l : Launch) (D : va_G) (dA : Nat → ClassId) {o : Nat} {V : GI} {L : GL} {Rf : GR} {H0 : Heap} (hG : gP D dA o dM V L Rf H0) {lv : Nat} {t : Txt} (hX : txM V lv t) (hrv : RV (xN t) (V 30)) (v1 : Int32) : Ctr l D dA yX13_shows cX13_shows 2 (some .int) (mkRm 7 150) [.ref o, .int v1] H0 (AM o) (QI (fun r H1 => ∃ V1, gP D dA o dM V1 L Rf H1 ∧ Eqx PW V V1 ∧ r = showsA t (V 30) v1)) := by
  have hT := hX.1
  have hT1 := hT.1
  have hT2 := hT.2.1
  have hp2 := two9 hT2
  have hpp := Nat.two_pow_pos (xN t)
  refine ctr_I (by decide) (Nat.le_of_ble_eq_true rfl) ?_
  intro p e s m args below meth c ls QQ locs hx hb hml hown hts hK hend hS hl
  have hl : lv_has ls 2 [(0, .ref o), (1, .int v1)] := hl
  refine lv_iload_n hx hb dX13_shows_0 rfl (lv_at hl 1 rfl) ?_
  refine c_SI hx hb hml hts hown hK hl.1 hS ⟨Nat.le_refl _, Nat.le_refl _⟩ (met_X13_isLong l D dA v1) (cw_X13_383 hts ⟨by decide, by decide⟩) rfl rfl (Nat.le_of_ble_eq_true rfl) dX13_shows_1 (fun _ h => h.elim) (fun r H1 locs hq hF hS => ?_)
  obtain ⟨rfl, rfl⟩ := hq
  rcases (inZ_cases v1 0 48 (by decide) (by decide)).symm with ⟨hz1, ho1⟩ | ⟨x1, hlo_x1, hhi_x1, rfl, hz1⟩
  · refine iv (y := nI 0) hz1 ?_
    refine n_if_ne (tgt := 9) hx hb dX13_shows_4 (by decide) (by decide) (fun z => absurd z (by decide)) (fun _ => ?_)
    refine lv_iconst (v := (-1)) hx hb dX13_shows_7 (by decide) ?_
    refine hend _ _ _ _ _ hS dX13_shows_8 ?_
    exact ⟨_, rfl, _, hG, Eqx.rf, ((ho1.1 _ _)).symm⟩
  refine iv (y := nI 1) hz1 ?_
  have hl : lv_has ls 2 [(0, .ref o), (1, .int (nI x1))] := hl
  refine n_if_ne (tgt := 9) hx hb dX13_shows_4 (by decide) (by decide) (fun _ => ?_) (fun z => absurd z (by decide))
  refine lv_aload_n hx hb dX13_shows_9 rfl (lv_at hl 0 rfl) ?_
  refine c_VV hx hb hml hts hown hK hl.1 hS ⟨Nat.le_refl _, Nat.le_refl _⟩ (met_X13_copiesStill l D dA hG hX) (cw_X13_361 hts ⟨by decide, by decide⟩) (hG 0 _ rfl) rfl rfl rfl rfl (Nat.le_of_ble_eq_true rfl) dX13_shows_10 (fun _ h => h) (fun H1 locs hq hF hS => ?_)
  obtain ⟨V1, hG, hE1, hr1, hl1, hs1⟩ := hq
  generalize hHe1 : H1 = H at hG hS ⊢
  clear hHe1
  refine lv_aload_n hx hb dX13_shows_13 rfl (lv_at hl 0 rfl) ?_
  refine lv_iload_n hx hb dX13_shows_14 rfl (lv_at hl 1 rfl) ?_
  refine c_VV hx hb hml hts hown hK hl.1 hS ⟨Nat.le_refl _, Nat.le_refl _⟩ (met_X13_goes l D dA hG (txM_PW (hE1.mono PC_PW) hX) x1 (by omega)) (cw_X13_367 hts ⟨by decide, by decide⟩) (hG 0 _ rfl) rfl rfl rfl rfl (Nat.le_of_ble_eq_true rfl) dX13_shows_15 (fun _ h => h) (fun H1 locs hq hF hS => ?_)
  obtain ⟨V2, hG, hE2, hr2⟩ := hq
  generalize hHe2 : H1 = H at hG hS ⊢
  clear hHe2
  have hr2 : V2 31 = goF t (nI 1) (xS t) x1 (V 30) := hr2.trans (go_cg hs1 hl1 hr1)
  refine lv_aload_n hx hb dX13_shows_18 rfl (lv_at hl 0 rfl) ?_
  refine c_VI hx hb hml hts hown hK hl.1 hS ⟨Nat.le_refl _, Nat.le_refl _⟩ (met_X13_showBits l D dA hG (txM_PW ((hE1.mono PC_PW).trans (hE2.mono PH_PW)) hX)) (cw_X13_425 hts ⟨by decide, by decide⟩) (hG 0 _ rfl) rfl rfl rfl rfl (Nat.le_of_ble_eq_true rfl) dX13_shows_19 (fun _ h => h.elim) (fun r H1 locs hq hF hS => ?_)
  obtain ⟨rfl, rfl⟩ := hq
  refine iv (y := nI (obF (shB (goF t (nI 1) (xS t) x1 (V 30))) (xN t))) (congrArg (fun z => nI (obF (shB z) (xN t))) (hr2)) ?_
  refine c_SI hx hb hml hts hown hK hl.1 hS ⟨Nat.le_refl _, Nat.le_refl _⟩ (met_X13_bits l D dA (obF (shB (goF t (nI 1) (xS t) x1 (V 30))) (xN t)) (ob9 hT2)) (cw_X13_398 hts ⟨by decide, by decide⟩) rfl rfl (Nat.le_of_ble_eq_true rfl) dX13_shows_22 (fun _ h => h.elim) (fun r H1 locs hq hF hS => ?_)
  obtain ⟨rfl, rfl⟩ := hq
  have hbc22 := bc9 (obF (shB (goF t (nI 1) (xS t) x1 (V 30))) (xN t))
  refine hend _ _ _ _ _ hS dX13_shows_25 ?_
  exact ⟨_, rfl, _, hG, ((hE1.mono PC_PW).trans (hE2.mono PH_PW)), ((rng_in hlo_x1 hhi_x1 (by omega)).trans ((show _ = nI (bc (obF (shB (goF t (nI 1) (xS t) x1 (V 30))) (xN t))) from rfl))).symm⟩
set_option maxHeartbeats 4000000 in
theorem met_X13_again (l : Launch) (D : va_G) (dA : Nat → ClassId) {o : Nat} {V : GI} {L : GL} {Rf : GR} {H0 : Heap} (hG : gP D dA o dM V L Rf H0) {lv : Nat} {t : Txt} (hX : txM V lv t) (hrv : RV (xN t) (V 30))  : Ctr l D dA yX13_again cX13_again 2 (some .int) (mkRm 6 128) [.ref o] H0 (AM o) (QI (fun r H1 => ∃ V1, gP D dA o dM V1 L Rf H1 ∧ Eqx PW V V1 ∧ r = againA t (V 30))) := by
  have hT := hX.1
  have hT1 := hT.1
  have hT2 := hT.2.1
  have hp2 := two9 hT2
  have hpp := Nat.two_pow_pos (xN t)
  refine ctr_I (by decide) (Nat.le_of_ble_eq_true rfl) ?_
  intro p e s m args below meth c ls QQ locs hx hb hml hown hts hK hend hS hl
  have hl : lv_has ls 2 [(0, .ref o)] := hl
  refine lv_aload_n hx hb dX13_again_0 rfl (lv_at hl 0 rfl) ?_
  refine c_VV hx hb hml hts hown hK hl.1 hS ⟨Nat.le_refl _, Nat.le_refl _⟩ (met_X13_copiesStill l D dA hG hX) (cw_X13_361 hts ⟨by decide, by decide⟩) (hG 0 _ rfl) rfl rfl rfl rfl (Nat.le_of_ble_eq_true rfl) dX13_again_1 (fun _ h => h) (fun H1 locs hq hF hS => ?_)
  obtain ⟨V1, hG, hE1, hr1, hl1, hs1⟩ := hq
  generalize hHe1 : H1 = H at hG hS ⊢
  clear hHe1
  refine lv_iconst (v := (nI 1)) hx hb dX13_again_4 (by decide) ?_
  refine lv_istore_n (lv' := [(1, .int (nI 1)), (0, .ref o)]) hx hb dX13_again_5 rfl hl (by decide) rfl (fun ls hl => ?_)
  have loop2 : ∀ (fu2 : Nat) (k : Nat) (u : Nat) (V2 : GI) (H : Heap) (locs : List Loc) (ls : Array Slot), u < fu2 → (k + u = 240) → (fsF (agP t (V 30)) u (k + 1) = fsF (agP t (V 30)) 240 1) → (Eqx PH V1 V2) → (V2 31 = goF t (nI 1) (xS t) k (V 30)) → gP D dA o dM V2 L Rf H → va_S (AM o) H0 H locs → lv_has ls 2 [(1, .int (nI (k + 1))), (0, .ref o)] → W p l e (mkRm 6 128) s m args below meth c H locs 0 0 QQ (F0 m 6 ls []) := by
    intro fu2
    induction fu2 with
    | zero => intro k u V2 H locs ls hfu; exact absurd hfu (Nat.not_lt_zero _)
    | succ fu2 ih2 =>
      intro k u V2 H locs ls hfu hk hR hE2 hrw hG hS hl
      refine lv_iload_n hx hb dX13_again_6 rfl (lv_at hl 0 rfl) ?_
      refine lv_sipush (v := (nI 240)) hx hb dX13_again_7 (by decide) ?_
      refine n_icmp_gt (tgt := 36) hx hb dX13_again_10 (by decide) (by omega) (by omega) (fun c10 => ?_) (fun c10 => ?_)
      · refine lv_bipush (v := (-2)) hx hb dX13_again_36 (by decide) ?_
        refine hend _ _ _ _ _ hS dX13_again_38 ?_
        exact ⟨_, rfl, _, hG, ((hE1.mono PC_PW).trans (hE2.mono PH_PW)), ((hR.symm.trans (by obtain rfl : u = 0 := (by omega); rfl))).symm⟩
      obtain ⟨u, rfl⟩ : ∃ u1, u = u1 + 1 := ⟨u - 1, by omega⟩
      refine lv_aload_n hx hb dX13_again_13 rfl (lv_at hl 1 rfl) ?_
      refine c_VV hx hb hml hts hown hK hl.1 hS ⟨Nat.le_refl _, Nat.le_refl _⟩ (met_X13_hourGoes l D dA hG (txM_PW ((hE1.mono PC_PW).trans (hE2.mono PH_PW)) hX)) (cw_X13_358 hts ⟨by decide, by decide⟩) (hG 0 _ rfl) rfl rfl rfl rfl (Nat.le_of_ble_eq_true rfl) dX13_again_14 (fun _ h => h) (fun H1 locs hq hF hS => ?_)
      obtain ⟨V3, hG, hE3, hr3⟩ := hq
      generalize hHe3 : H1 = H at hG hS ⊢
      clear hHe3
      have hr3 : V3 31 = hourF t (nI 1) (xS t) (goF t (nI 1) (xS t) k (V 30)) := hr3.trans (hour_cg ((hE2 0 50 rfl).trans hs1) ((hE2 0 49 rfl).trans hl1) hrw)
      refine lv_aload_n hx hb dX13_again_17 rfl (lv_at hl 1 rfl) ?_
      refine c_VI hx hb hml hts hown hK hl.1 hS ⟨Nat.le_refl _, Nat.le_refl _⟩ (met_X13_rowBits l D dA hG (txM_PW (((hE1.mono PC_PW).trans (hE2.mono PH_PW)).trans (hE3.mono PH_PW)) hX) (by rw [hr3]; exact (hour_RV _ _ _ _))) (cw_X13_370 hts ⟨by decide, by decide⟩) (hG 0 _ rfl) rfl rfl rfl rfl (Nat.le_of_ble_eq_true rfl) dX13_again_18 (fun _ h => h.elim) (fun r H1 locs hq hF hS => ?_)
      obtain ⟨rfl, rfl⟩ := hq
      refine iv (y := nI (rbF (hourF t (nI 1) (xS t) (goF t (nI 1) (xS t) k (V 30))) (xN t))) (congrArg (fun z => nI (rbF z (xN t))) (hr3)) ?_
      have hrb18 : rbF (hourF t (nI 1) (xS t) (goF t (nI 1) (xS t) k (V 30))) (xN t) < 512 := rb9 hT2
      refine lv_aload_n hx hb dX13_again_21 rfl (lv_at hl 1 rfl) ?_
      refine c_VI hx hb hml hts hown hK hl.1 hS ⟨Nat.le_refl _, Nat.le_refl _⟩ (met_X13_rowNow l D dA hG (txM_PW (((hE1.mono PC_PW).trans (hE2.mono PH_PW)).trans (hE3.mono PH_PW)) hX) (by rw [((funext (fun j => hE3 30 j rfl)).trans ((funext (fun j => hE2 30 j rfl)).trans (funext (fun j => hE1 30 j rfl))))]; exact hrv)) (cw_X13_401 hts ⟨by decide, by decide⟩) (hG 0 _ rfl) rfl rfl rfl rfl (Nat.le_of_ble_eq_true rfl) dX13_again_22 (fun _ h => h.elim) (fun r H1 locs hq hF hS => ?_)
      obtain ⟨rfl, rfl⟩ := hq
      refine iv (y := nI (rbF (V 30) (xN t))) (by rw [((funext (fun j => hE3 30 j rfl)).trans ((funext (fun j => hE2 30 j rfl)).trans (funext (fun j => hE1 30 j rfl))))]) ?_
      have hrn22 : rbF (V 30) (xN t) < 512 := rb9 hT2
      refine n_icmp_ne (tgt := 30) hx hb dX13_again_25 (by decide) (by omega) (by omega) (fun c25 => ?_) (fun c25 => ?_)
      · refine lv_iinc (v := (nI ((k + 1) + 1))) (lv' := [(1, .int (nI ((k + 1) + 1))), (0, .ref o)]) hx hb dX13_again_30 hl (k := 0) rfl (nI_add _ _) (by decide) rfl (fun ls hl => ?_)
        refine lv_goto (tgt := 6) hx hb dX13_again_33 (by decide) ?_
        have hrz4 : V3 31 = goF t (nI 1) (xS t) (k + 1) (V 30) := hr3
        exact ih2 (k + 1) u V3 _ _ _ (by omega) (by omega) ((fsF_f (P := agP t (V 30)) (k := k + 1) (dcF c25)).symm.trans hR) (Eqx.trans hE2 hE3) hrz4 hG hS (lv_sub hl [0, 1] rfl)
      refine lv_iload_n hx hb dX13_again_28 rfl (lv_at hl 0 rfl) ?_
      refine hend _ _ _ _ _ hS dX13_again_29 ?_
      exact ⟨_, rfl, _, hG, (((hE1.mono PC_PW).trans (hE2.mono PH_PW)).trans (hE3.mono PH_PW)), ((hR.symm.trans (fsF_t (P := agP t (V 30)) (k := k + 1) (dcT c25)))).symm⟩
  exact loop2 (240 + 1) 0 240 V1 _ _ _ (Nat.lt_succ_self _) (by omega) rfl Eqx.rf hr1 hG hS (lv_sub hl [0, 1] rfl)
set_option maxHeartbeats 4000000 in
theorem met_X13_leave (l : Launch) (D : va_G) (dA : Nat → ClassId) {o : Nat} {V : GI} {L : GL} {Rf : GR} {H0 : Heap} (hG : gP D dA o dM V L Rf H0) {lv : Nat} {t : Txt} (hX : txM V lv t) (hrv : RV (xN t) (V 30)) (v1 : Int32) : Ctr l D dA yX13_leave cX13_leave 4 (some .int) (mkRm 6 128) [.ref o, .int v1] H0 (AM o) (QI (fun r H1 => ∃ V1, gP D dA o dM V1 L Rf H1 ∧ Eqx PW V V1 ∧ r = leaveA t (V 30) v1)) := by
  have hT := hX.1
  have hT1 := hT.1
  have hT2 := hT.2.1
  have hp2 := two9 hT2
  have hpp := Nat.two_pow_pos (xN t)
  refine ctr_I (by decide) (Nat.le_of_ble_eq_true rfl) ?_
  intro p e s m args below meth c ls QQ locs hx hb hml hown hts hK hend hS hl
  have hl : lv_has ls 4 [(0, .ref o), (1, .int v1)] := hl
  refine lv_aload_n hx hb dX13_leave_0 rfl (lv_at hl 0 rfl) ?_
  refine lv_iload_n hx hb dX13_leave_1 rfl (lv_at hl 1 rfl) ?_
  refine c_VI hx hb hml hts hown hK hl.1 hS ⟨Nat.le_refl _, Nat.le_refl _⟩ (met_X13_isBed l D dA hG hT v1) (cw_X13_328 hts ⟨by decide, by decide⟩) (hG 0 _ rfl) rfl rfl rfl rfl (Nat.le_of_ble_eq_true rfl) dX13_leave_2 (fun _ h => h.elim) (fun r H1 locs hq hF hS => ?_)
  obtain ⟨rfl, rfl⟩ := hq
  rcases (bedN_cases hT2 v1).symm with ⟨hz2, ho2⟩ | ⟨x1, hlo_x1, hhi_x1, rfl, hz2⟩
  · refine iv (y := nI 0) hz2 ?_
    refine n_if_ne (tgt := 10) hx hb dX13_leave_5 (by decide) (by decide) (fun z => absurd z (by decide)) (fun _ => ?_)
    refine lv_iconst (v := (-1)) hx hb dX13_leave_8 (by decide) ?_
    refine hend _ _ _ _ _ hS dX13_leave_9 ?_
    exact ⟨_, rfl, _, hG, Eqx.rf, ((ho2.1 _ _)).symm⟩
  refine iv (y := nI 1) hz2 ?_
  have hl : lv_has ls 4 [(0, .ref o), (1, .int (nI x1))] := hl
  refine n_if_ne (tgt := 10) hx hb dX13_leave_5 (by decide) (by decide) (fun _ => ?_) (fun z => absurd z (by decide))
  refine lv_aload_n hx hb dX13_leave_10 rfl (lv_at hl 0 rfl) ?_
  refine c_VV hx hb hml hts hown hK hl.1 hS ⟨Nat.le_refl _, Nat.le_refl _⟩ (met_X13_copiesStill l D dA hG hX) (cw_X13_361 hts ⟨by decide, by decide⟩) (hG 0 _ rfl) rfl rfl rfl rfl (Nat.le_of_ble_eq_true rfl) dX13_leave_11 (fun _ h => h) (fun H1 locs hq hF hS => ?_)
  obtain ⟨V1, hG, hE1, hr1, hl1, hs1⟩ := hq
  generalize hHe1 : H1 = H at hG hS ⊢
  clear hHe1
  refine lv_aload_n hx hb dX13_leave_14 rfl (lv_at hl 0 rfl) ?_
  refine g_get hx hb hts hown hK hG 0 rfl rfl ok_X13 48 (by decide) q1519 rfl rfl dX13_leave_15 ?_
  refine lv_bipush (v := (nI 27)) hx hb dX13_leave_18 (by decide) ?_
  refine lv_iload_n hx hb dX13_leave_20 rfl (lv_at hl 1 rfl) ?_
  refine n_iadd hx hb dX13_leave_21 ?_
  refine n_iald hx hb hK hG 31 rfl (by omega) (by decide) dX13_leave_22 ?_
  refine iv (y := (V 30 (27 + x1))) (congrFun hr1 (27 + x1)) ?_
  refine lv_if_le (tgt := 30) hx hb dX13_leave_23 (by decide) (fun c23 => ?_) (fun c23 => ?_)
  · refine lv_iconst (v := (nI 0)) hx hb dX13_leave_30 (by decide) ?_
    refine iv (y := nI (bN (shB (V 30) x1))) (congrArg nI (bN_f (lv_f c23)).symm) ?_
    refine lv_istore_n (lv' := [(2, .int (nI (bN (shB (V 30) x1)))), (0, .ref o), (1, .int (nI x1))]) hx hb dX13_leave_31 rfl hl (by decide) rfl (fun ls hl => ?_)
    refine lv_iconst (v := (nI 1)) hx hb dX13_leave_32 (by decide) ?_
    refine lv_istore_n (lv' := [(3, .int (nI 1)), (2, .int (nI (bN (shB (V 30) x1)))), (0, .ref o), (1, .int (nI x1))]) hx hb dX13_leave_33 rfl hl (by decide) rfl (fun ls hl => ?_)
    have loop2 : ∀ (fu2 : Nat) (k : Nat) (u : Nat) (V2 : GI) (H : Heap) (locs : List Loc) (ls : Array Slot), u < fu2 → (k + u = 240) → (fsF (lvP t (V 30) x1) u (k + 1) = fsF (lvP t (V 30) x1) 240 1) → (Eqx PH V1 V2) → (V2 31 = goF t (nI 1) (xS t) k (V 30)) → gP D dA o dM V2 L Rf H → va_S (AM o) H0 H locs → lv_has ls 4 [(3, .int (nI (k + 1))), (2, .int (nI (bN (shB (V 30) x1)))), (0, .ref o), (1, .int (nI x1))] → W p l e (mkRm 6 128) s m args below meth c H locs 0 0 QQ (F0 m 34 ls []) := by
      intro fu2
      induction fu2 with
      | zero => intro k u V2 H locs ls hfu; exact absurd hfu (Nat.not_lt_zero _)
      | succ fu2 ih2 =>
        intro k u V2 H locs ls hfu hk hR hE2 hrw hG hS hl
        refine lv_iload_n hx hb dX13_leave_34 rfl (lv_at hl 0 rfl) ?_
        refine lv_sipush (v := (nI 240)) hx hb dX13_leave_35 (by decide) ?_
        refine n_icmp_gt (tgt := 74) hx hb dX13_leave_38 (by decide) (by omega) (by omega) (fun c38 => ?_) (fun c38 => ?_)
        · refine lv_bipush (v := (-2)) hx hb dX13_leave_74 (by decide) ?_
          refine hend _ _ _ _ _ hS dX13_leave_76 ?_
          exact ⟨_, rfl, _, hG, ((hE1.mono PC_PW).trans (hE2.mono PH_PW)), ((rng_in hlo_x1 hhi_x1 (by omega)).trans ((hR.symm.trans (by obtain rfl : u = 0 := (by omega); rfl)))).symm⟩
        obtain ⟨u, rfl⟩ : ∃ u1, u = u1 + 1 := ⟨u - 1, by omega⟩
        refine lv_aload_n hx hb dX13_leave_41 rfl (lv_at hl 2 rfl) ?_
        refine c_VV hx hb hml hts hown hK hl.1 hS ⟨Nat.le_refl _, Nat.le_refl _⟩ (met_X13_hourGoes l D dA hG (txM_PW ((hE1.mono PC_PW).trans (hE2.mono PH_PW)) hX)) (cw_X13_358 hts ⟨by decide, by decide⟩) (hG 0 _ rfl) rfl rfl rfl rfl (Nat.le_of_ble_eq_true rfl) dX13_leave_42 (fun _ h => h) (fun H1 locs hq hF hS => ?_)
        obtain ⟨V3, hG, hE3, hr3⟩ := hq
        generalize hHe3 : H1 = H at hG hS ⊢
        clear hHe3
        have hr3 : V3 31 = hourF t (nI 1) (xS t) (goF t (nI 1) (xS t) k (V 30)) := hr3.trans (hour_cg ((hE2 0 50 rfl).trans hs1) ((hE2 0 49 rfl).trans hl1) hrw)
        refine lv_aload_n hx hb dX13_leave_45 rfl (lv_at hl 2 rfl) ?_
        refine g_get hx hb hts hown hK hG 0 rfl rfl ok_X13 48 (by decide) q1519 rfl rfl dX13_leave_46 ?_
        refine lv_bipush (v := (nI 27)) hx hb dX13_leave_49 (by decide) ?_
        refine lv_iload_n hx hb dX13_leave_51 rfl (lv_at hl 3 rfl) ?_
        refine n_iadd hx hb dX13_leave_52 ?_
        refine n_iald hx hb hK hG 31 rfl (by omega) (by decide) dX13_leave_53 ?_
        refine iv (y := ((goF t (nI 1) (xS t) (k + 1) (V 30)) (27 + x1))) (congrFun hr3 (27 + x1)) ?_
        refine lv_if_le (tgt := 61) hx hb dX13_leave_54 (by decide) (fun c54 => ?_) (fun c54 => ?_)
        · refine lv_iconst (v := (nI 0)) hx hb dX13_leave_61 (by decide) ?_
          refine iv (y := nI (bN (shB (goF t (nI 1) (xS t) (k + 1) (V 30)) x1))) (congrArg nI (bN_f (lv_f c54)).symm) ?_
          have hbn1 := bN_lt (shB (V 30) x1)
          have hbn2 := bN_lt (shB (goF t (nI 1) (xS t) (k + 1) (V 30)) x1)
          refine lv_iload_n hx hb dX13_leave_62 rfl (lv_at hl 1 rfl) ?_
          refine n_icmp_eq (tgt := 68) hx hb dX13_leave_63 (by decide) (by omega) (by omega) (fun c63 => ?_) (fun c63 => ?_)
          · refine lv_iinc (v := (nI ((k + 1) + 1))) (lv' := [(3, .int (nI ((k + 1) + 1))), (2, .int (nI (bN (shB (V 30) x1)))), (0, .ref o), (1, .int (nI x1))]) hx hb dX13_leave_68 hl (k := 0) rfl (nI_add _ _) (by decide) rfl (fun ls hl => ?_)
            refine lv_goto (tgt := 34) hx hb dX13_leave_71 (by decide) ?_
            have hrz4 : V3 31 = goF t (nI 1) (xS t) (k + 1) (V 30) := hr3
            exact ih2 (k + 1) u V3 _ _ _ (by omega) (by omega) ((fsF_f (P := lvP t (V 30) x1) (k := k + 1) (dcF (fun z => z (bN_eq.mp c63)))).symm.trans hR) (Eqx.trans hE2 hE3) hrz4 hG hS (lv_sub hl [0, 1, 2, 3] rfl)
          refine lv_iload_n hx hb dX13_leave_66 rfl (lv_at hl 0 rfl) ?_
          refine hend _ _ _ _ _ hS dX13_leave_67 ?_
          exact ⟨_, rfl, _, hG, (((hE1.mono PC_PW).trans (hE2.mono PH_PW)).trans (hE3.mono PH_PW)), ((rng_in hlo_x1 hhi_x1 (by omega)).trans ((hR.symm.trans (fsF_t (P := lvP t (V 30) x1) (k := k + 1) (dcT (fun z => c63 (bN_eq.mpr z))))))).symm⟩
        refine lv_iconst (v := (nI 1)) hx hb dX13_leave_57 (by decide) ?_
        refine lv_goto (tgt := 62) hx hb dX13_leave_58 (by decide) ?_
        refine iv (y := nI (bN (shB (goF t (nI 1) (xS t) (k + 1) (V 30)) x1))) (congrArg nI (bN_t (lv_t c54)).symm) ?_
        have hbn1 := bN_lt (shB (V 30) x1)
        have hbn2 := bN_lt (shB (goF t (nI 1) (xS t) (k + 1) (V 30)) x1)
        refine lv_iload_n hx hb dX13_leave_62 rfl (lv_at hl 1 rfl) ?_
        refine n_icmp_eq (tgt := 68) hx hb dX13_leave_63 (by decide) (by omega) (by omega) (fun c63 => ?_) (fun c63 => ?_)
        · refine lv_iinc (v := (nI ((k + 1) + 1))) (lv' := [(3, .int (nI ((k + 1) + 1))), (2, .int (nI (bN (shB (V 30) x1)))), (0, .ref o), (1, .int (nI x1))]) hx hb dX13_leave_68 hl (k := 0) rfl (nI_add _ _) (by decide) rfl (fun ls hl => ?_)
          refine lv_goto (tgt := 34) hx hb dX13_leave_71 (by decide) ?_
          have hrz5 : V3 31 = goF t (nI 1) (xS t) (k + 1) (V 30) := hr3
          exact ih2 (k + 1) u V3 _ _ _ (by omega) (by omega) ((fsF_f (P := lvP t (V 30) x1) (k := k + 1) (dcF (fun z => z (bN_eq.mp c63)))).symm.trans hR) (Eqx.trans hE2 hE3) hrz5 hG hS (lv_sub hl [0, 1, 2, 3] rfl)
        refine lv_iload_n hx hb dX13_leave_66 rfl (lv_at hl 0 rfl) ?_
        refine hend _ _ _ _ _ hS dX13_leave_67 ?_
        exact ⟨_, rfl, _, hG, (((hE1.mono PC_PW).trans (hE2.mono PH_PW)).trans (hE3.mono PH_PW)), ((rng_in hlo_x1 hhi_x1 (by omega)).trans ((hR.symm.trans (fsF_t (P := lvP t (V 30) x1) (k := k + 1) (dcT (fun z => c63 (bN_eq.mpr z))))))).symm⟩
    exact loop2 (240 + 1) 0 240 V1 _ _ _ (Nat.lt_succ_self _) (by omega) rfl Eqx.rf hr1 hG hS (lv_sub hl [0, 1, 2, 3] rfl)
  refine lv_iconst (v := (nI 1)) hx hb dX13_leave_26 (by decide) ?_
  refine lv_goto (tgt := 31) hx hb dX13_leave_27 (by decide) ?_
  refine iv (y := nI (bN (shB (V 30) x1))) (congrArg nI (bN_t (lv_t c23)).symm) ?_
  refine lv_istore_n (lv' := [(2, .int (nI (bN (shB (V 30) x1)))), (0, .ref o), (1, .int (nI x1))]) hx hb dX13_leave_31 rfl hl (by decide) rfl (fun ls hl => ?_)
  refine lv_iconst (v := (nI 1)) hx hb dX13_leave_32 (by decide) ?_
  refine lv_istore_n (lv' := [(3, .int (nI 1)), (2, .int (nI (bN (shB (V 30) x1)))), (0, .ref o), (1, .int (nI x1))]) hx hb dX13_leave_33 rfl hl (by decide) rfl (fun ls hl => ?_)
  have loop6 : ∀ (fu6 : Nat) (k : Nat) (u : Nat) (V6 : GI) (H : Heap) (locs : List Loc) (ls : Array Slot), u < fu6 → (k + u = 240) → (fsF (lvP t (V 30) x1) u (k + 1) = fsF (lvP t (V 30) x1) 240 1) → (Eqx PH V1 V6) → (V6 31 = goF t (nI 1) (xS t) k (V 30)) → gP D dA o dM V6 L Rf H → va_S (AM o) H0 H locs → lv_has ls 4 [(3, .int (nI (k + 1))), (2, .int (nI (bN (shB (V 30) x1)))), (0, .ref o), (1, .int (nI x1))] → W p l e (mkRm 6 128) s m args below meth c H locs 0 0 QQ (F0 m 34 ls []) := by
    intro fu6
    induction fu6 with
    | zero => intro k u V6 H locs ls hfu; exact absurd hfu (Nat.not_lt_zero _)
    | succ fu6 ih6 =>
      intro k u V6 H locs ls hfu hk hR hE6 hrw hG hS hl
      refine lv_iload_n hx hb dX13_leave_34 rfl (lv_at hl 0 rfl) ?_
      refine lv_sipush (v := (nI 240)) hx hb dX13_leave_35 (by decide) ?_
      refine n_icmp_gt (tgt := 74) hx hb dX13_leave_38 (by decide) (by omega) (by omega) (fun c38 => ?_) (fun c38 => ?_)
      · refine lv_bipush (v := (-2)) hx hb dX13_leave_74 (by decide) ?_
        refine hend _ _ _ _ _ hS dX13_leave_76 ?_
        exact ⟨_, rfl, _, hG, ((hE1.mono PC_PW).trans (hE6.mono PH_PW)), ((rng_in hlo_x1 hhi_x1 (by omega)).trans ((hR.symm.trans (by obtain rfl : u = 0 := (by omega); rfl)))).symm⟩
      obtain ⟨u, rfl⟩ : ∃ u1, u = u1 + 1 := ⟨u - 1, by omega⟩
      refine lv_aload_n hx hb dX13_leave_41 rfl (lv_at hl 2 rfl) ?_
      refine c_VV hx hb hml hts hown hK hl.1 hS ⟨Nat.le_refl _, Nat.le_refl _⟩ (met_X13_hourGoes l D dA hG (txM_PW ((hE1.mono PC_PW).trans (hE6.mono PH_PW)) hX)) (cw_X13_358 hts ⟨by decide, by decide⟩) (hG 0 _ rfl) rfl rfl rfl rfl (Nat.le_of_ble_eq_true rfl) dX13_leave_42 (fun _ h => h) (fun H1 locs hq hF hS => ?_)
      obtain ⟨V7, hG, hE7, hr7⟩ := hq
      generalize hHe7 : H1 = H at hG hS ⊢
      clear hHe7
      have hr7 : V7 31 = hourF t (nI 1) (xS t) (goF t (nI 1) (xS t) k (V 30)) := hr7.trans (hour_cg ((hE6 0 50 rfl).trans hs1) ((hE6 0 49 rfl).trans hl1) hrw)
      refine lv_aload_n hx hb dX13_leave_45 rfl (lv_at hl 2 rfl) ?_
      refine g_get hx hb hts hown hK hG 0 rfl rfl ok_X13 48 (by decide) q1519 rfl rfl dX13_leave_46 ?_
      refine lv_bipush (v := (nI 27)) hx hb dX13_leave_49 (by decide) ?_
      refine lv_iload_n hx hb dX13_leave_51 rfl (lv_at hl 3 rfl) ?_
      refine n_iadd hx hb dX13_leave_52 ?_
      refine n_iald hx hb hK hG 31 rfl (by omega) (by decide) dX13_leave_53 ?_
      refine iv (y := ((goF t (nI 1) (xS t) (k + 1) (V 30)) (27 + x1))) (congrFun hr7 (27 + x1)) ?_
      refine lv_if_le (tgt := 61) hx hb dX13_leave_54 (by decide) (fun c54 => ?_) (fun c54 => ?_)
      · refine lv_iconst (v := (nI 0)) hx hb dX13_leave_61 (by decide) ?_
        refine iv (y := nI (bN (shB (goF t (nI 1) (xS t) (k + 1) (V 30)) x1))) (congrArg nI (bN_f (lv_f c54)).symm) ?_
        have hbn1 := bN_lt (shB (V 30) x1)
        have hbn2 := bN_lt (shB (goF t (nI 1) (xS t) (k + 1) (V 30)) x1)
        refine lv_iload_n hx hb dX13_leave_62 rfl (lv_at hl 1 rfl) ?_
        refine n_icmp_eq (tgt := 68) hx hb dX13_leave_63 (by decide) (by omega) (by omega) (fun c63 => ?_) (fun c63 => ?_)
        · refine lv_iinc (v := (nI ((k + 1) + 1))) (lv' := [(3, .int (nI ((k + 1) + 1))), (2, .int (nI (bN (shB (V 30) x1)))), (0, .ref o), (1, .int (nI x1))]) hx hb dX13_leave_68 hl (k := 0) rfl (nI_add _ _) (by decide) rfl (fun ls hl => ?_)
          refine lv_goto (tgt := 34) hx hb dX13_leave_71 (by decide) ?_
          have hrz8 : V7 31 = goF t (nI 1) (xS t) (k + 1) (V 30) := hr7
          exact ih6 (k + 1) u V7 _ _ _ (by omega) (by omega) ((fsF_f (P := lvP t (V 30) x1) (k := k + 1) (dcF (fun z => z (bN_eq.mp c63)))).symm.trans hR) (Eqx.trans hE6 hE7) hrz8 hG hS (lv_sub hl [0, 1, 2, 3] rfl)
        refine lv_iload_n hx hb dX13_leave_66 rfl (lv_at hl 0 rfl) ?_
        refine hend _ _ _ _ _ hS dX13_leave_67 ?_
        exact ⟨_, rfl, _, hG, (((hE1.mono PC_PW).trans (hE6.mono PH_PW)).trans (hE7.mono PH_PW)), ((rng_in hlo_x1 hhi_x1 (by omega)).trans ((hR.symm.trans (fsF_t (P := lvP t (V 30) x1) (k := k + 1) (dcT (fun z => c63 (bN_eq.mpr z))))))).symm⟩
      refine lv_iconst (v := (nI 1)) hx hb dX13_leave_57 (by decide) ?_
      refine lv_goto (tgt := 62) hx hb dX13_leave_58 (by decide) ?_
      refine iv (y := nI (bN (shB (goF t (nI 1) (xS t) (k + 1) (V 30)) x1))) (congrArg nI (bN_t (lv_t c54)).symm) ?_
      have hbn1 := bN_lt (shB (V 30) x1)
      have hbn2 := bN_lt (shB (goF t (nI 1) (xS t) (k + 1) (V 30)) x1)
      refine lv_iload_n hx hb dX13_leave_62 rfl (lv_at hl 1 rfl) ?_
      refine n_icmp_eq (tgt := 68) hx hb dX13_leave_63 (by decide) (by omega) (by omega) (fun c63 => ?_) (fun c63 => ?_)
      · refine lv_iinc (v := (nI ((k + 1) + 1))) (lv' := [(3, .int (nI ((k + 1) + 1))), (2, .int (nI (bN (shB (V 30) x1)))), (0, .ref o), (1, .int (nI x1))]) hx hb dX13_leave_68 hl (k := 0) rfl (nI_add _ _) (by decide) rfl (fun ls hl => ?_)
        refine lv_goto (tgt := 34) hx hb dX13_leave_71 (by decide) ?_
        have hrz9 : V7 31 = goF t (nI 1) (xS t) (k + 1) (V 30) := hr7
        exact ih6 (k + 1) u V7 _ _ _ (by omega) (by omega) ((fsF_f (P := lvP t (V 30) x1) (k := k + 1) (dcF (fun z => z (bN_eq.mp c63)))).symm.trans hR) (Eqx.trans hE6 hE7) hrz9 hG hS (lv_sub hl [0, 1, 2, 3] rfl)
      refine lv_iload_n hx hb dX13_leave_66 rfl (lv_at hl 0 rfl) ?_
      refine hend _ _ _ _ _ hS dX13_leave_67 ?_
      exact ⟨_, rfl, _, hG, (((hE1.mono PC_PW).trans (hE6.mono PH_PW)).trans (hE7.mono PH_PW)), ((rng_in hlo_x1 hhi_x1 (by omega)).trans ((hR.symm.trans (fsF_t (P := lvP t (V 30) x1) (k := k + 1) (dcT (fun z => c63 (bN_eq.mpr z))))))).symm⟩
  exact loop6 (240 + 1) 0 240 V1 _ _ _ (Nat.lt_succ_self _) (by omega) rfl Eqx.rf hr1 hG hS (lv_sub hl [0, 1, 2, 3] rfl)
