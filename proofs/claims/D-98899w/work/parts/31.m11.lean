def PI (k _ : Nat) : Bool := k == 36
def PX (k j : Nat) : Bool := k == 28 || k == 29 || k == 31 || k == 32 || k == 33 || k == 36 || (k == 0 && (j == 46 || j == 49 || j == 50))
theorem PL_PX : ∀ k j, PX k j = false → PL k j = false := by intro k j h; simp only [PL, PX, Bool.or_eq_false_iff, Bool.and_eq_false_iff, beq_eq_false_iff_ne, ne_eq] at *; omega
theorem PT_PX : ∀ k j, PX k j = false → PT k j = false := by intro k j h; simp only [PT, PX, Bool.or_eq_false_iff, Bool.and_eq_false_iff, beq_eq_false_iff_ne, ne_eq] at *; omega
theorem PE_PX : ∀ k j, PX k j = false → PE k j = false := by intro k j h; simp only [PE, PX, Bool.or_eq_false_iff, Bool.and_eq_false_iff, beq_eq_false_iff_ne, ne_eq] at *; omega
theorem PR_PX : ∀ k j, PX k j = false → PR k j = false := by intro k j h; simp only [PR, PX, Bool.or_eq_false_iff, Bool.and_eq_false_iff, beq_eq_false_iff_ne, ne_eq] at *; omega
theorem PC_PX : ∀ k j, PX k j = false → PC k j = false := by intro k j h; simp only [PC, PX, Bool.or_eq_false_iff, Bool.and_eq_false_iff, beq_eq_false_iff_ne, ne_eq] at *; omega
theorem PH_PX : ∀ k j, PX k j = false → PH k j = false := by intro k j h; simp only [PH, PX, Bool.or_eq_false_iff, Bool.and_eq_false_iff, beq_eq_false_iff_ne, ne_eq] at *; omega
theorem PW_PX : ∀ k j, PX k j = false → PW k j = false := by intro k j h; simp only [PW, PX, Bool.or_eq_false_iff, Bool.and_eq_false_iff, beq_eq_false_iff_ne, ne_eq] at *; omega
theorem PI_PX : ∀ k j, PX k j = false → PI k j = false := by intro k j h; simp only [PI, PX, Bool.or_eq_false_iff, Bool.and_eq_false_iff, beq_eq_false_iff_ne, ne_eq] at *; omega
theorem isT_PI : ∀ k j, isT k j = true → PI k j = false := by
  intro k j h
  simp only [isT, PI, Bool.or_eq_true, Bool.and_eq_true, decide_eq_true_eq, beq_iff_eq, Bool.or_eq_false_iff, Bool.and_eq_false_iff, beq_eq_false_iff_ne, ne_eq] at *
  omega
theorem txM_PI {V V1 : GI} {lv : Nat} {t : Txt} (h : Eqx PI V V1) (hX : txM V lv t) : txM V1 lv t := txM_to (fun k j q => h k j (isT_PI k j q)) hX
theorem isT_PX : ∀ k j, isT k j = true → PX k j = false := by
  intro k j h
  simp only [isT, PX, Bool.or_eq_true, Bool.and_eq_true, decide_eq_true_eq, beq_iff_eq, Bool.or_eq_false_iff, Bool.and_eq_false_iff, beq_eq_false_iff_ne, ne_eq] at *
  omega
theorem txM_PX {V V1 : GI} {lv : Nat} {t : Txt} (h : Eqx PX V V1) (hX : txM V lv t) : txM V1 lv t := txM_to (fun k j q => h k j (isT_PX k j q)) hX
theorem fdR_0 {P : Nat → Bool} (N : Nat) : fdR P 0 N = fdF P N := by
  have h := fdR_eq P N 0
  rw [Nat.zero_add] at h
  rw [h]; rfl
theorem cnR_0 {P : Nat → Bool} (N : Nat) : cnR P 0 N = cnF P N := by
  have h := cnR_eq P N 0
  rw [Nat.zero_add] at h
  rw [h]; simp [cnF]
theorem fdR_t {P : Nat → Bool} {k m : Nat} (h : P k = true) : fdR P k (m + 1) = some k := by simp only [fdR]; rw [if_pos h]
theorem fdR_f {P : Nat → Bool} {k m : Nat} (h : ¬ P k = true) : fdR P k (m + 1) = fdR P (k + 1) m := by simp only [fdR]; rw [if_neg h]
theorem cnR_t {P : Nat → Bool} {k m : Nat} (h : P k = true) : cnR P k (m + 1) = cnR P (k + 1) m + 1 := by simp only [cnR]; rw [if_pos h]; omega
theorem cnR_f {P : Nat → Bool} {k m : Nat} (h : ¬ P k = true) : cnR P k (m + 1) = cnR P (k + 1) m := by simp only [cnR]; rw [if_neg h]; omega
theorem cnR_le (P : Nat → Bool) : ∀ m k, cnR P k m ≤ m := by
  intro m
  induction m with
  | zero => intro k; exact Nat.le_refl _
  | succ m ih => intro k; have := ih (k + 1); simp only [cnR]; split <;> omega
theorem cnF_t {P : Nat → Bool} {k : Nat} (h : P k = true) : cnF P (k + 1) = cnF P k + 1 := by simp only [cnF]; rw [if_pos h]
theorem cnF_f {P : Nat → Bool} {k : Nat} (h : ¬ P k = true) : cnF P (k + 1) = cnF P k := by simp only [cnF]; rw [if_neg h]; omega
theorem dcT {p : Prop} [Decidable p] (h : p) : decide p = true := decide_eq_true h
theorem dcF {p : Prop} [Decidable p] (h : ¬ p) : ¬ decide p = true := fun z => h (of_decide_eq_true z)
theorem bI_step {g : Nat → Int32} {b : Nat → Bool} {k : Nat} {x : Int32} (h : ∀ j, j < k → g j = if b j = true then 1 else 0) (hx : x = if b k = true then 1 else 0) : ∀ j, j < k + 1 → va_up g k x j = if b j = true then 1 else 0 := va_step (f := fun j => if b j = true then 1 else 0) h hx
def bI (b : Bool) : Int32 := if b = true then nI 1 else nI 0
theorem led_step {g : Nat → Int32} {G : Nat → Nat} {k : Nat} (h : ∀ x, x < 512 → g x = bI (anF G x k)) (hk : G k < 512) : ∀ x, x < 512 → va_up g (G k) (nI 1) x = bI (anF G x (k + 1)) := fun x hx => by
  by_cases e : x = G k
  · subst e
    rw [va_up_s2]
    simp [anF, bI]
  · rw [va_up_n e, h x hx]
    simp only [anF]
    rw [show decide (G k = x) = false from decide_eq_false (fun z => e z.symm), Bool.or_false]
theorem bI_t {b : Bool} (h : b = true) : bI b = nI 1 := if_pos h
theorem bI_f {b : Bool} (h : ¬ b = true) : bI b = nI 0 := if_neg h
set_option maxHeartbeats 4000000 in
theorem met_X13_leads (l : Launch) (D : va_G) (dA : Nat → ClassId) {o : Nat} {V : GI} {L : GL} {Rf : GR} {H0 : Heap} (hG : gP D dA o dM V L Rf H0) {lv : Nat} {t : Txt} (hX : txM V lv t) (hrv : RV (xN t) (V 30)) (v1 v2 v3 : Int32) : Ctr l D dA yX13_leads cX13_leads 7 (some .int) (mkRm 8 172) [.ref o, .int v1, .int v2, .int v3] H0 (AM o) (QI (fun r H1 => ∃ V1, gP D dA o dM V1 L Rf H1 ∧ Eqx PW V V1 ∧ r = leadsA t (V 30) v1 v2 v3)) := by
  have hT := hX.1
  have hT1 := hT.1
  have hT2 := hT.2.1
  have hp2 := two9 hT2
  have hpp := Nat.two_pow_pos (xN t)
  refine ctr_I (by decide) (Nat.le_of_ble_eq_true rfl) ?_
  intro p e s m args below meth c ls QQ locs hx hb hml hown hts hK hend hS hl
  have hl : lv_has ls 7 [(0, .ref o), (1, .int v1), (2, .int v2), (3, .int v3)] := hl
  refine lv_aload_n hx hb dX13_leads_0 rfl (lv_at hl 0 rfl) ?_
  refine lv_iload_n hx hb dX13_leads_1 rfl (lv_at hl 1 rfl) ?_
  refine c_VI hx hb hml hts hown hK hl.1 hS ⟨Nat.le_refl _, Nat.le_refl _⟩ (met_X13_isRow l D dA hG hT v1) (cw_X13_386 hts ⟨by decide, by decide⟩) (hG 0 _ rfl) rfl rfl rfl rfl (Nat.le_of_ble_eq_true rfl) dX13_leads_2 (fun _ h => h.elim) (fun r H1 locs hq hF hS => ?_)
  obtain ⟨rfl, rfl⟩ := hq
  rcases (rowN_cases hT2 v1).symm with ⟨hz2, ho2⟩ | ⟨x1, hlo_x1, hhi_x1, rfl, hz2⟩
  · refine iv (y := nI 0) hz2 ?_
    refine n_if_eq (tgt := 24) hx hb dX13_leads_5 (by decide) (by decide) (fun _ => ?_) (fun z => absurd z (by decide))
    refine lv_iconst (v := (-1)) hx hb dX13_leads_24 (by decide) ?_
    refine hend _ _ _ _ _ hS dX13_leads_25 ?_
    exact ⟨_, rfl, _, hG, Eqx.rf, ((ho2.1 _ _)).symm⟩
  refine iv (y := nI 1) hz2 ?_
  have hl : lv_has ls 7 [(0, .ref o), (1, .int (nI x1)), (2, .int v2), (3, .int v3)] := hl
  refine n_if_eq (tgt := 24) hx hb dX13_leads_5 (by decide) (by decide) (fun z => absurd z (by decide)) (fun _ => ?_)
  refine lv_iload_n hx hb dX13_leads_8 rfl (lv_at hl 2 rfl) ?_
  refine c_SI hx hb hml hts hown hK hl.1 hS ⟨Nat.le_refl _, Nat.le_refl _⟩ (met_X13_isShort l D dA v2) (cw_X13_404 hts ⟨by decide, by decide⟩) rfl rfl (Nat.le_of_ble_eq_true rfl) dX13_leads_9 (fun _ h => h.elim) (fun r H1 locs hq hF hS => ?_)
  obtain ⟨rfl, rfl⟩ := hq
  rcases (inZ_cases v2 0 24 (by decide) (by decide)).symm with ⟨hz9, ho9⟩ | ⟨x2, hlo_x2, hhi_x2, rfl, hz9⟩
  · refine iv (y := nI 0) hz9 ?_
    refine n_if_eq (tgt := 24) hx hb dX13_leads_12 (by decide) (by decide) (fun _ => ?_) (fun z => absurd z (by decide))
    refine lv_iconst (v := (-1)) hx hb dX13_leads_24 (by decide) ?_
    refine hend _ _ _ _ _ hS dX13_leads_25 ?_
    exact ⟨_, rfl, _, hG, Eqx.rf, ((rng_in hlo_x1 hhi_x1 (by omega)).trans ((ho9.1 _ _))).symm⟩
  refine iv (y := nI 1) hz9 ?_
  have hl : lv_has ls 7 [(0, .ref o), (1, .int (nI x1)), (2, .int (nI x2)), (3, .int v3)] := hl
  refine n_if_eq (tgt := 24) hx hb dX13_leads_12 (by decide) (by decide) (fun z => absurd z (by decide)) (fun _ => ?_)
  refine lv_iload_n hx hb dX13_leads_15 rfl (lv_at hl 3 rfl) ?_
  refine lv_iconst (v := (nI 0)) hx hb dX13_leads_16 (by decide) ?_
  refine lv_iconst (v := (nI 1)) hx hb dX13_leads_17 (by decide) ?_
  refine c_SI hx hb hml hts hown hK hl.1 hS ⟨Nat.le_refl _, Nat.le_refl _⟩ (met_X13_in l D dA v3 (nI 0) (nI 1)) (cw_X13_308 hts ⟨by decide, by decide⟩) rfl rfl (Nat.le_of_ble_eq_true rfl) dX13_leads_18 (fun _ h => h.elim) (fun r H1 locs hq hF hS => ?_)
  obtain ⟨rfl, rfl⟩ := hq
  rcases (inZ_cases v3 0 1 (by decide) (by decide)).symm with ⟨hz18, ho18⟩ | ⟨x3, hlo_x3, hhi_x3, rfl, hz18⟩
  · refine iv (y := nI 0) hz18 ?_
    refine n_if_ne (tgt := 26) hx hb dX13_leads_21 (by decide) (by decide) (fun z => absurd z (by decide)) (fun _ => ?_)
    refine lv_iconst (v := (-1)) hx hb dX13_leads_24 (by decide) ?_
    refine hend _ _ _ _ _ hS dX13_leads_25 ?_
    exact ⟨_, rfl, _, hG, Eqx.rf, ((rng_in hlo_x1 hhi_x1 (by omega)).trans ((rng_in hlo_x2 hhi_x2 (by omega)).trans ((ho18.1 _ _)))).symm⟩
  refine iv (y := nI 1) hz18 ?_
  have hl : lv_has ls 7 [(0, .ref o), (1, .int (nI x1)), (2, .int (nI x2)), (3, .int (nI x3))] := hl
  refine n_if_ne (tgt := 26) hx hb dX13_leads_21 (by decide) (by decide) (fun _ => ?_) (fun z => absurd z (by decide))
  refine lv_iconst (v := (nI 0)) hx hb dX13_leads_26 (by decide) ?_
  refine lv_istore (lv' := [(4, .int (nI 0)), (0, .ref o), (1, .int (nI x1)), (2, .int (nI x2)), (3, .int (nI x3))]) hx hb dX13_leads_27 hl (by decide) rfl (fun ls hl => ?_)
  refine lv_bipush (v := (-2)) hx hb dX13_leads_29 (by decide) ?_
  refine lv_istore (lv' := [(5, .int (-2)), (4, .int (nI 0)), (0, .ref o), (1, .int (nI x1)), (2, .int (nI x2)), (3, .int (nI x3))]) hx hb dX13_leads_31 hl (by decide) rfl (fun ls hl => ?_)
  refine lv_aload_n hx hb dX13_leads_33 rfl (lv_at hl 2 rfl) ?_
  refine c_VI hx hb hml hts hown hK hl.1 hS ⟨Nat.le_refl _, Nat.le_refl _⟩ (met_X13_allBits l D dA hG hT) (cw_X13_312 hts ⟨by decide, by decide⟩) (hG 0 _ rfl) rfl rfl rfl rfl (Nat.le_of_ble_eq_true rfl) dX13_leads_34 (fun _ h => h.elim) (fun r H1 locs hq hF hS => ?_)
  obtain ⟨rfl, rfl⟩ := hq
  refine iv (y := dI (2 ^ xN t)) (by rw [show 2 ^ xN t = (2 ^ xN t - 1) + 1 by omega]; rfl) ?_
  refine lv_istore (lv' := [(6, .int (dI (2 ^ xN t))), (5, .int (-2)), (4, .int (nI 0)), (0, .ref o), (1, .int (nI x1)), (2, .int (nI x2)), (3, .int (nI x3))]) hx hb dX13_leads_37 hl (by decide) rfl (fun ls hl => ?_)
  have loop1 : ∀ (fu1 : Nat) (k : Nat) (c0 : Nat) (op : Option Nat) (V1 : GI) (H : Heap) (locs : List Loc) (ls : Array Slot), k < fu1 → (k ≤ 2 ^ xN t) → (cnR (leadP t (V 30) x1 x2) k (2 ^ xN t - k) = c0) → (fdR (leadP t (V 30) x1 x2) k (2 ^ xN t - k) = op) → (Eqx PW V V1) → gP D dA o dM V1 L Rf H → va_S (AM o) H0 H locs → lv_has ls 7 [(6, .int (dI k)), (5, .int (o1 (-2) op)), (4, .int (nI c0)), (0, .ref o), (1, .int (nI x1)), (2, .int (nI x2)), (3, .int (nI x3))] → W p l e (mkRm 8 172) s m args below meth c H locs 0 0 QQ (F0 m 39 ls []) := by
    intro fu1
    induction fu1 with
    | zero => intro k c0 op V1 H locs ls hfu; exact absurd hfu (Nat.not_lt_zero _)
    | succ fu1 ih1 =>
      intro k c0 op V1 H locs ls hfu hk hcn hp hE1 hG hS hl
      rcases k with _ | k
      · have hl : lv_has ls 7 [(6, .int (-1)), (5, .int (o1 (-2) op)), (4, .int (nI c0)), (0, .ref o), (1, .int (nI x1)), (2, .int (nI x2)), (3, .int (nI x3))] := hl
        refine lv_iload hx hb dX13_leads_39 (lv_at hl 0 rfl) ?_
        refine lv_if_lt (tgt := 71) hx hb dX13_leads_41 (by decide) (fun _ => ?_) (fun z => absurd (by decide) z)
        refine lv_iload_n hx hb dX13_leads_71 rfl (lv_at hl 6 rfl) ?_
        refine n_if_ne (tgt := 80) hx hb dX13_leads_72 (by decide) (by omega) (fun c72 => ?_) (fun c72 => ?_)
        · refine lv_iload hx hb dX13_leads_80 (lv_at hl 1 rfl) ?_
          refine hend _ _ _ _ _ hS dX13_leads_82 ?_
          exact ⟨_, rfl, _, hG, hE1, ((rng_in hlo_x1 hhi_x1 (by omega)).trans ((rng_in hlo_x2 hhi_x2 (by omega)).trans ((rng_in hlo_x3 hhi_x3 (by omega)).trans (((if_neg (by omega)).trans (congrArg (o1 (-2)) ((fdR_0 _).symm.trans hp))))))).symm⟩
        refine lv_iload hx hb dX13_leads_75 (lv_at hl 2 rfl) ?_
        refine lv_goto (tgt := 82) hx hb dX13_leads_77 (by decide) ?_
        refine hend _ _ _ _ _ hS dX13_leads_82 ?_
        exact ⟨_, rfl, _, hG, hE1, ((rng_in hlo_x1 hhi_x1 (by omega)).trans ((rng_in hlo_x2 hhi_x2 (by omega)).trans ((rng_in hlo_x3 hhi_x3 (by omega)).trans (((if_pos c72).trans (congrArg nI ((cnR_0 _).symm.trans hcn))))))).symm⟩
      have hl : lv_has ls 7 [(6, .int (nI k)), (5, .int (o1 (-2) op)), (4, .int (nI c0)), (0, .ref o), (1, .int (nI x1)), (2, .int (nI x2)), (3, .int (nI x3))] := hl
      have hcle := cnR_le (leadP t (V 30) x1 x2) (2 ^ xN t - (k + 1)) (k + 1)
      refine lv_iload hx hb dX13_leads_39 (lv_at hl 0 rfl) ?_
      refine n_if_lt (tgt := 71) hx hb dX13_leads_41 (by decide) (by omega) ?_
      refine lv_aload_n hx hb dX13_leads_44 rfl (lv_at hl 3 rfl) ?_
      refine lv_iload hx hb dX13_leads_45 (lv_at hl 0 rfl) ?_
      refine lv_iload_n hx hb dX13_leads_47 rfl (lv_at hl 5 rfl) ?_
      refine c_VI hx hb hml hts hown hK hl.1 hS ⟨Nat.le_refl _, Nat.le_refl _⟩ (met_X13_rowAfter l D dA hG (txM_PW hE1 hX) k x2 (by omega) (by omega)) (cw_X13_389 hts ⟨by decide, by decide⟩) (hG 0 _ rfl) rfl rfl rfl rfl (Nat.le_of_ble_eq_true rfl) dX13_leads_48 (fun _ h => h) (fun r H1 locs hq hF hS => ?_)
      obtain ⟨V2, hG, hE2, hr2⟩ := hq
      generalize hHe2 : H1 = H at hG hS ⊢
      clear hHe2
      have hr2 : r = nI (raF t (V 30) k x2) := hr2.trans (congrArg (fun z => nI (raF t z k x2)) ((funext (fun j => hE1 30 j rfl))))
      subst hr2
      have hra48 := raF_lt t (V 30) k x2
      refine lv_iload_n hx hb dX13_leads_51 rfl (lv_at hl 4 rfl) ?_
      refine n_icmp_eq (tgt := 58) hx hb dX13_leads_52 (by decide) (by omega) (by omega) (fun c52 => ?_) (fun c52 => ?_)
      · refine lv_iinc (v := (nI (c0 + 1))) (lv' := [(4, .int (nI (c0 + 1))), (6, .int (nI k)), (5, .int (o1 (-2) op)), (0, .ref o), (1, .int (nI x1)), (2, .int (nI x2)), (3, .int (nI x3))]) hx hb dX13_leads_58 hl (k := 2) rfl (nI_add _ _) (by decide) rfl (fun ls hl => ?_)
        refine lv_iload hx hb dX13_leads_61 (lv_at hl 1 rfl) ?_
        refine lv_istore (lv' := [(5, .int (nI k)), (4, .int (nI (c0 + 1))), (6, .int (nI k)), (0, .ref o), (1, .int (nI x1)), (2, .int (nI x2)), (3, .int (nI x3))]) hx hb dX13_leads_63 hl (by decide) rfl (fun ls hl => ?_)
        refine lv_iinc (v := (dI k)) (lv' := [(6, .int (dI k)), (5, .int (nI k)), (4, .int (nI (c0 + 1))), (0, .ref o), (1, .int (nI x1)), (2, .int (nI x2)), (3, .int (nI x3))]) hx hb dX13_leads_65 hl (k := 2) rfl (dI_dec k) (by decide) rfl (fun ls hl => ?_)
        refine lv_goto (tgt := 39) hx hb dX13_leads_68 (by decide) ?_
        exact ih1 k (c0 + 1) (some k) V2 _ _ _ (by omega) (by omega) (by rw [show 2 ^ xN t - k = (2 ^ xN t - (k + 1)) + 1 by omega, cnR_t (dcT c52), hcn]) (by rw [show 2 ^ xN t - k = (2 ^ xN t - (k + 1)) + 1 by omega, fdR_t (dcT c52)]) (Eqx.trans hE1 hE2) hG hS (lv_sub hl [0, 1, 2, 3, 4, 5, 6] rfl)
      refine lv_goto (tgt := 65) hx hb dX13_leads_55 (by decide) ?_
      refine lv_iinc (v := (dI k)) (lv' := [(6, .int (dI k)), (5, .int (o1 (-2) op)), (4, .int (nI c0)), (0, .ref o), (1, .int (nI x1)), (2, .int (nI x2)), (3, .int (nI x3))]) hx hb dX13_leads_65 hl (k := 0) rfl (dI_dec k) (by decide) rfl (fun ls hl => ?_)
      refine lv_goto (tgt := 39) hx hb dX13_leads_68 (by decide) ?_
      exact ih1 k c0 op V2 _ _ _ (by omega) (by omega) (by rw [show 2 ^ xN t - k = (2 ^ xN t - (k + 1)) + 1 by omega, cnR_f (dcF c52), hcn]) (by rw [show 2 ^ xN t - k = (2 ^ xN t - (k + 1)) + 1 by omega, fdR_f (dcF c52), hp]) (Eqx.trans hE1 hE2) hG hS (lv_sub hl [0, 1, 2, 3, 4, 5, 6] rfl)
  exact loop1 ((2 ^ xN t) + 1) (2 ^ xN t) 0 none V _ _ _ (Nat.lt_succ_self _) (Nat.le_refl _) (by rw [Nat.sub_self]; rfl) (by rw [Nat.sub_self]; rfl) Eqx.rf hG hS (lv_sub hl [0, 1, 2, 3, 4, 5, 6] rfl)
set_option maxHeartbeats 4000000 in
theorem met_X13_still (l : Launch) (D : va_G) (dA : Nat → ClassId) {o : Nat} {V : GI} {L : GL} {Rf : GR} {H0 : Heap} (hG : gP D dA o dM V L Rf H0) {lv : Nat} {t : Txt} (hX : txM V lv t) (hrv : RV (xN t) (V 30)) (v1 : Int32) : Ctr l D dA yX13_still cX13_still 5 (some .int) (mkRm 8 172) [.ref o, .int v1] H0 (AM o) (QI (fun r H1 => ∃ V1, gP D dA o dM V1 L Rf H1 ∧ Eqx PW V V1 ∧ r = stillA t (V 30) v1)) := by
  have hT := hX.1
  have hT1 := hT.1
  have hT2 := hT.2.1
  have hp2 := two9 hT2
  have hpp := Nat.two_pow_pos (xN t)
  refine ctr_I (by decide) (Nat.le_of_ble_eq_true rfl) ?_
  intro p e s m args below meth c ls QQ locs hx hb hml hown hts hK hend hS hl
  have hl : lv_has ls 5 [(0, .ref o), (1, .int v1)] := hl
  refine lv_iload_n hx hb dX13_still_0 rfl (lv_at hl 1 rfl) ?_
  refine lv_iconst (v := (nI 0)) hx hb dX13_still_1 (by decide) ?_
  refine lv_iconst (v := (nI 1)) hx hb dX13_still_2 (by decide) ?_
  refine c_SI hx hb hml hts hown hK hl.1 hS ⟨Nat.le_refl _, Nat.le_refl _⟩ (met_X13_in l D dA v1 (nI 0) (nI 1)) (cw_X13_308 hts ⟨by decide, by decide⟩) rfl rfl (Nat.le_of_ble_eq_true rfl) dX13_still_3 (fun _ h => h.elim) (fun r H1 locs hq hF hS => ?_)
  obtain ⟨rfl, rfl⟩ := hq
  rcases (inZ_cases v1 0 1 (by decide) (by decide)).symm with ⟨hz3, ho3⟩ | ⟨x1, hlo_x1, hhi_x1, rfl, hz3⟩
  · refine iv (y := nI 0) hz3 ?_
    refine n_if_ne (tgt := 11) hx hb dX13_still_6 (by decide) (by decide) (fun z => absurd z (by decide)) (fun _ => ?_)
    refine lv_iconst (v := (-1)) hx hb dX13_still_9 (by decide) ?_
    refine hend _ _ _ _ _ hS dX13_still_10 ?_
    exact ⟨_, rfl, _, hG, Eqx.rf, ((ho3.1 _ _)).symm⟩
  refine iv (y := nI 1) hz3 ?_
  have hl : lv_has ls 5 [(0, .ref o), (1, .int (nI x1))] := hl
  refine n_if_ne (tgt := 11) hx hb dX13_still_6 (by decide) (by decide) (fun _ => ?_) (fun z => absurd z (by decide))
  refine lv_iconst (v := (nI 0)) hx hb dX13_still_11 (by decide) ?_
  refine lv_istore_n (lv' := [(2, .int (nI 0)), (0, .ref o), (1, .int (nI x1))]) hx hb dX13_still_12 rfl hl (by decide) rfl (fun ls hl => ?_)
  refine lv_bipush (v := (-2)) hx hb dX13_still_13 (by decide) ?_
  refine lv_istore_n (lv' := [(3, .int (-2)), (2, .int (nI 0)), (0, .ref o), (1, .int (nI x1))]) hx hb dX13_still_15 rfl hl (by decide) rfl (fun ls hl => ?_)
  refine lv_iconst (v := (nI 0)) hx hb dX13_still_16 (by decide) ?_
  refine lv_istore (lv' := [(4, .int (nI 0)), (3, .int (-2)), (2, .int (nI 0)), (0, .ref o), (1, .int (nI x1))]) hx hb dX13_still_17 hl (by decide) rfl (fun ls hl => ?_)
  have loop1 : ∀ (fu1 : Nat) (x : Nat) (c0 : Nat) (op : Option Nat) (V1 : GI) (H : Heap) (locs : List Loc) (ls : Array Slot), 2 ^ xN t - x < fu1 → (x ≤ 2 ^ xN t) → (cnF (stillP t (V 30)) x = c0) → (mpF (stillP t (V 30)) (stillG t (V 30)) x = op) → (Eqx PW V V1) → gP D dA o dM V1 L Rf H → va_S (AM o) H0 H locs → lv_has ls 5 [(4, .int (nI x)), (3, .int (o1 (-2) op)), (2, .int (nI c0)), (0, .ref o), (1, .int (nI x1))] → W p l e (mkRm 8 172) s m args below meth c H locs 0 0 QQ (F0 m 19 ls []) := by
    intro fu1
    induction fu1 with
    | zero => intro x c0 op V1 H locs ls hfu; exact absurd hfu (Nat.not_lt_zero _)
    | succ fu1 ih1 =>
      intro x c0 op V1 H locs ls hfu hx2 hcn hp hE1 hG hS hl
      refine lv_iload hx hb dX13_still_19 (lv_at hl 0 rfl) ?_
      refine lv_aload_n hx hb dX13_still_21 rfl (lv_at hl 3 rfl) ?_
      refine c_VI hx hb hml hts hown hK hl.1 hS ⟨Nat.le_refl _, Nat.le_refl _⟩ (met_X13_allBits l D dA hG (tM_to hT (hE1 0 18 rfl) (hE1 9 lv rfl))) (cw_X13_312 hts ⟨by decide, by decide⟩) (hG 0 _ rfl) rfl rfl rfl rfl (Nat.le_of_ble_eq_true rfl) dX13_still_22 (fun _ h => h.elim) (fun r H1 locs hq hF hS => ?_)
      obtain ⟨rfl, rfl⟩ := hq
      refine n_icmp_gt (tgt := 81) hx hb dX13_still_25 (by decide) (by omega) (by omega) (fun c25 => ?_) (fun c25 => ?_)
      · obtain rfl : x = 2 ^ xN t := by omega
        refine lv_iload_n hx hb dX13_still_81 rfl (lv_at hl 4 rfl) ?_
        refine n_if_ne (tgt := 89) hx hb dX13_still_82 (by decide) (by omega) (fun c82 => ?_) (fun c82 => ?_)
        · refine lv_iload_n hx hb dX13_still_89 rfl (lv_at hl 1 rfl) ?_
          refine hend _ _ _ _ _ hS dX13_still_90 ?_
          exact ⟨_, rfl, _, hG, hE1, ((rng_in hlo_x1 hhi_x1 (by omega)).trans (((if_neg (by omega)).trans (congrArg (o1 (-2)) hp)))).symm⟩
        refine lv_iload_n hx hb dX13_still_85 rfl (lv_at hl 2 rfl) ?_
        refine lv_goto (tgt := 90) hx hb dX13_still_86 (by decide) ?_
        refine hend _ _ _ _ _ hS dX13_still_90 ?_
        exact ⟨_, rfl, _, hG, hE1, ((rng_in hlo_x1 hhi_x1 (by omega)).trans (((if_pos c82).trans (congrArg nI hcn)))).symm⟩
      have hcle := cnF_le (stillP t (V 30)) x
      rcases op with _ | i
      · have hl : lv_has ls 5 [(4, .int (nI x)), (3, .int (-2)), (2, .int (nI c0)), (0, .ref o), (1, .int (nI x1))] := hl
        refine lv_aload_n hx hb dX13_still_28 rfl (lv_at hl 3 rfl) ?_
        refine lv_iload hx hb dX13_still_29 (lv_at hl 0 rfl) ?_
        refine lv_iconst (v := (nI 1)) hx hb dX13_still_31 (by decide) ?_
        refine c_VI hx hb hml hts hown hK hl.1 hS ⟨Nat.le_refl _, Nat.le_refl _⟩ (met_X13_rowAfter l D dA hG (txM_PW hE1 hX) x 1 (by omega) (by omega)) (cw_X13_389 hts ⟨by decide, by decide⟩) (hG 0 _ rfl) rfl rfl rfl rfl (Nat.le_of_ble_eq_true rfl) dX13_still_32 (fun _ h => h) (fun r H1 locs hq hF hS => ?_)
        obtain ⟨V2, hG, hE2, hr2⟩ := hq
        generalize hHe2 : H1 = H at hG hS ⊢
        clear hHe2
        have hr2 : r = nI (raF t (V 30) x 1) := hr2.trans (congrArg (fun z => nI (raF t z x 1)) ((funext (fun j => hE1 30 j rfl))))
        subst hr2
        have hra32 := raF_lt t (V 30) x 1
        refine lv_iload hx hb dX13_still_35 (lv_at hl 0 rfl) ?_
        refine n_icmp_eq (tgt := 43) hx hb dX13_still_37 (by decide) (by omega) (by omega) (fun c37 => ?_) (fun c37 => ?_)
        · refine lv_iinc (v := (nI (c0 + 1))) (lv' := [(2, .int (nI (c0 + 1))), (4, .int (nI x)), (3, .int (-2)), (0, .ref o), (1, .int (nI x1))]) hx hb dX13_still_43 hl (k := 2) rfl (nI_add _ _) (by decide) rfl (fun ls hl => ?_)
          refine lv_iload_n hx hb dX13_still_46 rfl (lv_at hl 2 rfl) ?_
          refine lv_if_lt (tgt := 72) hx hb dX13_still_47 (by decide) (fun _ => ?_) (fun z => absurd (by decide) z)
          refine lv_iload hx hb dX13_still_72 (lv_at hl 1 rfl) ?_
          refine lv_istore_n (lv' := [(3, .int (nI x)), (2, .int (nI (c0 + 1))), (4, .int (nI x)), (0, .ref o), (1, .int (nI x1))]) hx hb dX13_still_74 rfl hl (by decide) rfl (fun ls hl => ?_)
          refine lv_iinc (v := (nI (x + 1))) (lv' := [(4, .int (nI (x + 1))), (3, .int (nI x)), (2, .int (nI (c0 + 1))), (0, .ref o), (1, .int (nI x1))]) hx hb dX13_still_75 hl (k := 2) rfl (nI_add _ _) (by decide) rfl (fun ls hl => ?_)
          refine lv_goto (tgt := 19) hx hb dX13_still_78 (by decide) ?_
          exact ih1 (x + 1) (c0 + 1) (some x) V2 _ _ _ (by omega) (by omega) (by rw [cnF_t (dcT c37), hcn]) (mpF_n (dcT c37) hp) (Eqx.trans hE1 hE2) hG hS (lv_sub hl [0, 1, 2, 3, 4] rfl)
        refine lv_goto (tgt := 75) hx hb dX13_still_40 (by decide) ?_
        refine lv_iinc (v := (nI (x + 1))) (lv' := [(4, .int (nI (x + 1))), (3, .int (-2)), (2, .int (nI c0)), (0, .ref o), (1, .int (nI x1))]) hx hb dX13_still_75 hl (k := 0) rfl (nI_add _ _) (by decide) rfl (fun ls hl => ?_)
        refine lv_goto (tgt := 19) hx hb dX13_still_78 (by decide) ?_
        exact ih1 (x + 1) c0 none V2 _ _ _ (by omega) (by omega) (by rw [cnF_f (dcF c37), hcn]) (by rw [mpF_o (dcF c37), hp]) (Eqx.trans hE1 hE2) hG hS (lv_sub hl [0, 1, 2, 3, 4] rfl)
      have hl : lv_has ls 5 [(4, .int (nI x)), (3, .int (nI i)), (2, .int (nI c0)), (0, .ref o), (1, .int (nI x1))] := hl
      have hi9 := mpF_lt hp
      refine lv_aload_n hx hb dX13_still_28 rfl (lv_at hl 3 rfl) ?_
      refine lv_iload hx hb dX13_still_29 (lv_at hl 0 rfl) ?_
      refine lv_iconst (v := (nI 1)) hx hb dX13_still_31 (by decide) ?_
      refine c_VI hx hb hml hts hown hK hl.1 hS ⟨Nat.le_refl _, Nat.le_refl _⟩ (met_X13_rowAfter l D dA hG (txM_PW hE1 hX) x 1 (by omega) (by omega)) (cw_X13_389 hts ⟨by decide, by decide⟩) (hG 0 _ rfl) rfl rfl rfl rfl (Nat.le_of_ble_eq_true rfl) dX13_still_32 (fun _ h => h) (fun r H1 locs hq hF hS => ?_)
      obtain ⟨V3, hG, hE3, hr3⟩ := hq
      generalize hHe3 : H1 = H at hG hS ⊢
      clear hHe3
      have hr3 : r = nI (raF t (V 30) x 1) := hr3.trans (congrArg (fun z => nI (raF t z x 1)) ((funext (fun j => hE1 30 j rfl))))
      subst hr3
      have hra32 := raF_lt t (V 30) x 1
      refine lv_iload hx hb dX13_still_35 (lv_at hl 0 rfl) ?_
      refine n_icmp_eq (tgt := 43) hx hb dX13_still_37 (by decide) (by omega) (by omega) (fun c37 => ?_) (fun c37 => ?_)
      · refine lv_iinc (v := (nI (c0 + 1))) (lv' := [(2, .int (nI (c0 + 1))), (4, .int (nI x)), (3, .int (nI i)), (0, .ref o), (1, .int (nI x1))]) hx hb dX13_still_43 hl (k := 2) rfl (nI_add _ _) (by decide) rfl (fun ls hl => ?_)
        refine lv_iload_n hx hb dX13_still_46 rfl (lv_at hl 2 rfl) ?_
        refine n_if_lt (tgt := 72) hx hb dX13_still_47 (by decide) (by omega) ?_
        refine lv_iload hx hb dX13_still_50 (lv_at hl 1 rfl) ?_
        refine lv_aload_n hx hb dX13_still_52 rfl (lv_at hl 3 rfl) ?_
        refine c_VI hx hb hml hts hown hK hl.1 hS ⟨Nat.le_refl _, Nat.le_refl _⟩ (met_X13_rowNow l D dA hG (txM_PW (hE1.trans hE3) hX) (by rw [((funext (fun j => hE3 30 j rfl)).trans (funext (fun j => hE1 30 j rfl)))]; exact hrv)) (cw_X13_401 hts ⟨by decide, by decide⟩) (hG 0 _ rfl) rfl rfl rfl rfl (Nat.le_of_ble_eq_true rfl) dX13_still_53 (fun _ h => h.elim) (fun r H1 locs hq hF hS => ?_)
        obtain ⟨rfl, rfl⟩ := hq
        refine iv (y := nI (rbF (V 30) (xN t))) (by rw [((funext (fun j => hE3 30 j rfl)).trans (funext (fun j => hE1 30 j rfl)))]) ?_
        refine n_ixor hx hb dX13_still_56 ?_
        refine c_SI hx hb hml hts hown hK hl.1 hS ⟨Nat.le_refl _, Nat.le_refl _⟩ (met_X13_bits l D dA (x ^^^ (rbF (V 30) (xN t))) (x9 (by omega) (rb9 hT2))) (cw_X13_398 hts ⟨by decide, by decide⟩) rfl rfl (Nat.le_of_ble_eq_true rfl) dX13_still_57 (fun _ h => h.elim) (fun r H1 locs hq hF hS => ?_)
        obtain ⟨rfl, rfl⟩ := hq
        have hbc57 := bc9 (x ^^^ (rbF (V 30) (xN t)))
        refine lv_iload_n hx hb dX13_still_60 rfl (lv_at hl 2 rfl) ?_
        refine lv_aload_n hx hb dX13_still_61 rfl (lv_at hl 3 rfl) ?_
        refine c_VI hx hb hml hts hown hK hl.1 hS ⟨Nat.le_refl _, Nat.le_refl _⟩ (met_X13_rowNow l D dA hG (txM_PW (hE1.trans hE3) hX) (by rw [((funext (fun j => hE3 30 j rfl)).trans (funext (fun j => hE1 30 j rfl)))]; exact hrv)) (cw_X13_401 hts ⟨by decide, by decide⟩) (hG 0 _ rfl) rfl rfl rfl rfl (Nat.le_of_ble_eq_true rfl) dX13_still_62 (fun _ h => h.elim) (fun r H1 locs hq hF hS => ?_)
        obtain ⟨rfl, rfl⟩ := hq
        refine iv (y := nI (rbF (V 30) (xN t))) (by rw [((funext (fun j => hE3 30 j rfl)).trans (funext (fun j => hE1 30 j rfl)))]) ?_
        refine n_ixor hx hb dX13_still_65 ?_
        refine c_SI hx hb hml hts hown hK hl.1 hS ⟨Nat.le_refl _, Nat.le_refl _⟩ (met_X13_bits l D dA (i ^^^ (rbF (V 30) (xN t))) (x9 (by omega) (rb9 hT2))) (cw_X13_398 hts ⟨by decide, by decide⟩) rfl rfl (Nat.le_of_ble_eq_true rfl) dX13_still_66 (fun _ h => h.elim) (fun r H1 locs hq hF hS => ?_)
        obtain ⟨rfl, rfl⟩ := hq
        have hbc66 := bc9 (i ^^^ (rbF (V 30) (xN t)))
        refine n_icmp_ge (tgt := 75) hx hb dX13_still_69 (by decide) (by omega) (by omega) (fun c69 => ?_) (fun c69 => ?_)
        · refine lv_iinc (v := (nI (x + 1))) (lv' := [(4, .int (nI (x + 1))), (2, .int (nI (c0 + 1))), (3, .int (nI i)), (0, .ref o), (1, .int (nI x1))]) hx hb dX13_still_75 hl (k := 1) rfl (nI_add _ _) (by decide) rfl (fun ls hl => ?_)
          refine lv_goto (tgt := 19) hx hb dX13_still_78 (by decide) ?_
          exact ih1 (x + 1) (c0 + 1) (some i) V3 _ _ _ (by omega) (by omega) (by rw [cnF_t (dcT c37), hcn]) (mpF_f (dcT c37) hp c69) (Eqx.trans hE1 hE3) hG hS (lv_sub hl [0, 2, 1, 3, 4] rfl)
        refine lv_iload hx hb dX13_still_72 (lv_at hl 1 rfl) ?_
        refine lv_istore_n (lv' := [(3, .int (nI x)), (2, .int (nI (c0 + 1))), (4, .int (nI x)), (0, .ref o), (1, .int (nI x1))]) hx hb dX13_still_74 rfl hl (by decide) rfl (fun ls hl => ?_)
        refine lv_iinc (v := (nI (x + 1))) (lv' := [(4, .int (nI (x + 1))), (3, .int (nI x)), (2, .int (nI (c0 + 1))), (0, .ref o), (1, .int (nI x1))]) hx hb dX13_still_75 hl (k := 2) rfl (nI_add _ _) (by decide) rfl (fun ls hl => ?_)
        refine lv_goto (tgt := 19) hx hb dX13_still_78 (by decide) ?_
        exact ih1 (x + 1) (c0 + 1) (some x) V3 _ _ _ (by omega) (by omega) (by rw [cnF_t (dcT c37), hcn]) (mpF_t (dcT c37) hp c69) (Eqx.trans hE1 hE3) hG hS (lv_sub hl [0, 1, 2, 3, 4] rfl)
      refine lv_goto (tgt := 75) hx hb dX13_still_40 (by decide) ?_
      refine lv_iinc (v := (nI (x + 1))) (lv' := [(4, .int (nI (x + 1))), (3, .int (nI i)), (2, .int (nI c0)), (0, .ref o), (1, .int (nI x1))]) hx hb dX13_still_75 hl (k := 0) rfl (nI_add _ _) (by decide) rfl (fun ls hl => ?_)
      refine lv_goto (tgt := 19) hx hb dX13_still_78 (by decide) ?_
      exact ih1 (x + 1) c0 (some i) V3 _ _ _ (by omega) (by omega) (by rw [cnF_f (dcF c37), hcn]) (by rw [mpF_o (dcF c37), hp]) (Eqx.trans hE1 hE3) hG hS (lv_sub hl [0, 1, 2, 3, 4] rfl)
  exact loop1 ((2 ^ xN t - 0) + 1) 0 0 none V _ _ _ (Nat.lt_succ_self _) (Nat.zero_le _) rfl rfl Eqx.rf hG hS (lv_sub hl [0, 1, 2, 3, 4] rfl)
set_option maxHeartbeats 4000000 in
theorem met_X13_eden (l : Launch) (D : va_G) (dA : Nat → ClassId) {o : Nat} {V : GI} {L : GL} {Rf : GR} {H0 : Heap} (hG : gP D dA o dM V L Rf H0) {lv : Nat} {t : Txt} (hX : txM V lv t) (hrv : RV (xN t) (V 30)) (v1 : Int32) : Ctr l D dA yX13_eden cX13_eden 4 (some .int) (mkRm 8 172) [.ref o, .int v1] H0 (AM o) (QI (fun r H1 => ∃ V1, gP D dA o dM V1 L Rf H1 ∧ Eqx PX V V1 ∧ r = edenA t (V 30) v1)) := by
  have hT := hX.1
  have hT1 := hT.1
  have hT2 := hT.2.1
  have hp2 := two9 hT2
  have hpp := Nat.two_pow_pos (xN t)
  refine ctr_I (by decide) (Nat.le_of_ble_eq_true rfl) ?_
  intro p e s m args below meth c ls QQ locs hx hb hml hown hts hK hend hS hl
  have hl : lv_has ls 4 [(0, .ref o), (1, .int v1)] := hl
  refine lv_iload_n hx hb dX13_eden_0 rfl (lv_at hl 1 rfl) ?_
  refine lv_iconst (v := (nI 1)) hx hb dX13_eden_1 (by decide) ?_
  refine lv_bipush (v := (nI 24)) hx hb dX13_eden_2 (by decide) ?_
  refine c_SI hx hb hml hts hown hK hl.1 hS ⟨Nat.le_refl _, Nat.le_refl _⟩ (met_X13_in l D dA v1 (nI 1) (nI 24)) (cw_X13_308 hts ⟨by decide, by decide⟩) rfl rfl (Nat.le_of_ble_eq_true rfl) dX13_eden_4 (fun _ h => h.elim) (fun r H1 locs hq hF hS => ?_)
  obtain ⟨rfl, rfl⟩ := hq
  rcases (inZ_cases v1 1 24 (by decide) (by decide)).symm with ⟨hz4, ho4⟩ | ⟨x1, hlo_x1, hhi_x1, rfl, hz4⟩
  · refine iv (y := nI 0) hz4 ?_
    refine n_if_ne (tgt := 12) hx hb dX13_eden_7 (by decide) (by decide) (fun z => absurd z (by decide)) (fun _ => ?_)
    refine lv_iconst (v := (-1)) hx hb dX13_eden_10 (by decide) ?_
    refine hend _ _ _ _ _ hS dX13_eden_11 ?_
    exact ⟨_, rfl, _, hG, Eqx.rf, ((ho4.1 _ _)).symm⟩
  refine iv (y := nI 1) hz4 ?_
  have hl : lv_has ls 4 [(0, .ref o), (1, .int (nI x1))] := hl
  refine n_if_ne (tgt := 12) hx hb dX13_eden_7 (by decide) (by decide) (fun _ => ?_) (fun z => absurd z (by decide))
  refine lv_iconst (v := (nI 0)) hx hb dX13_eden_12 (by decide) ?_
  refine lv_istore_n (lv' := [(2, .int (nI 0)), (0, .ref o), (1, .int (nI x1))]) hx hb dX13_eden_13 rfl hl (by decide) rfl (fun ls hl => ?_)
  have loop1 : ∀ (fu1 : Nat) (x : Nat) (V1 : GI) (H : Heap) (locs : List Loc) (ls : Array Slot), 512 - x < fu1 → (x ≤ 512) → (Eqx PI V V1) → (∀ j, j < x → V1 36 j = nI 0) → gP D dA o dM V1 L Rf H → va_S (AM o) H0 H locs → lv_has ls 4 [(2, .int (nI x)), (0, .ref o), (1, .int (nI x1))] → W p l e (mkRm 8 172) s m args below meth c H locs 0 0 QQ (F0 m 14 ls []) := by
    intro fu1
    induction fu1 with
    | zero => intro x V1 H locs ls hfu; exact absurd hfu (Nat.not_lt_zero _)
    | succ fu1 ih1 =>
      intro x V1 H locs ls hfu hx2 hE1 hled hG hS hl
      refine lv_iload_n hx hb dX13_eden_14 rfl (lv_at hl 0 rfl) ?_
      refine lv_sipush (v := (nI 512)) hx hb dX13_eden_15 (by decide) ?_
      refine n_icmp_ge (tgt := 34) hx hb dX13_eden_18 (by decide) (by omega) (by omega) (fun c18 => ?_) (fun c18 => ?_)
      · refine lv_iconst (v := (nI 0)) hx hb dX13_eden_34 (by decide) ?_
        refine lv_istore_n (lv' := [(2, .int (nI 0)), (0, .ref o), (1, .int (nI x1))]) hx hb dX13_eden_35 rfl hl (by decide) rfl (fun ls hl => ?_)
        have loop2 : ∀ (fu2 : Nat) (y : Nat) (V2 : GI) (H : Heap) (locs : List Loc) (ls : Array Slot), 2 ^ xN t - y < fu2 → (y ≤ 2 ^ xN t) → (Eqx PX V1 V2) → (∀ j, j < 512 → V2 36 j = bI (anF (fun y => raF t (V 30) y x1) j y)) → gP D dA o dM V2 L Rf H → va_S (AM o) H0 H locs → lv_has ls 4 [(2, .int (nI y)), (0, .ref o), (1, .int (nI x1))] → W p l e (mkRm 8 172) s m args below meth c H locs 0 0 QQ (F0 m 36 ls []) := by
          intro fu2
          induction fu2 with
          | zero => intro y V2 H locs ls hfu; exact absurd hfu (Nat.not_lt_zero _)
          | succ fu2 ih2 =>
            intro y V2 H locs ls hfu hy2 hE2 hled hG hS hl
            refine lv_iload_n hx hb dX13_eden_36 rfl (lv_at hl 0 rfl) ?_
            refine lv_aload_n hx hb dX13_eden_37 rfl (lv_at hl 1 rfl) ?_
            refine c_VI hx hb hml hts hown hK hl.1 hS ⟨Nat.le_refl _, Nat.le_refl _⟩ (met_X13_allBits l D dA hG (tM_to hT ((hE2 0 18 rfl).trans (hE1 0 18 rfl)) ((hE2 9 lv rfl).trans (hE1 9 lv rfl)))) (cw_X13_312 hts ⟨by decide, by decide⟩) (hG 0 _ rfl) rfl rfl rfl rfl (Nat.le_of_ble_eq_true rfl) dX13_eden_38 (fun _ h => h.elim) (fun r H1 locs hq hF hS => ?_)
            obtain ⟨rfl, rfl⟩ := hq
            refine n_icmp_gt (tgt := 62) hx hb dX13_eden_41 (by decide) (by omega) (by omega) (fun c41 => ?_) (fun c41 => ?_)
            · obtain rfl : y = 2 ^ xN t := by omega
              refine lv_iconst (v := (nI 0)) hx hb dX13_eden_62 (by decide) ?_
              refine lv_istore_n (lv' := [(2, .int (nI 0)), (0, .ref o), (1, .int (nI x1))]) hx hb dX13_eden_63 rfl hl (by decide) rfl (fun ls hl => ?_)
              refine lv_iconst (v := (nI 0)) hx hb dX13_eden_64 (by decide) ?_
              refine lv_istore_n (lv' := [(3, .int (nI 0)), (2, .int (nI 0)), (0, .ref o), (1, .int (nI x1))]) hx hb dX13_eden_65 rfl hl (by decide) rfl (fun ls hl => ?_)
              have loop3 : ∀ (fu3 : Nat) (z : Nat) (c0 : Nat) (locs : List Loc) (ls : Array Slot), 2 ^ xN t - z < fu3 → (z ≤ 2 ^ xN t) → (cnF (fun x => !anF (fun y => raF t (V 30) y x1) x (2 ^ xN t)) z = c0) → va_S (AM o) H0 H locs → lv_has ls 4 [(3, .int (nI z)), (2, .int (nI c0)), (0, .ref o), (1, .int (nI x1))] → W p l e (mkRm 8 172) s m args below meth c H locs 0 0 QQ (F0 m 66 ls []) := by
                intro fu3
                induction fu3 with
                | zero => intro z c0 locs ls hfu; exact absurd hfu (Nat.not_lt_zero _)
                | succ fu3 ih3 =>
                  intro z c0 locs ls hfu hz2 hcn hS hl
                  refine lv_iload_n hx hb dX13_eden_66 rfl (lv_at hl 0 rfl) ?_
                  refine lv_aload_n hx hb dX13_eden_67 rfl (lv_at hl 2 rfl) ?_
                  refine c_VI hx hb hml hts hown hK hl.1 hS ⟨Nat.le_refl _, Nat.le_refl _⟩ (met_X13_allBits l D dA hG (tM_to hT ((hE2 0 18 rfl).trans (hE1 0 18 rfl)) ((hE2 9 lv rfl).trans (hE1 9 lv rfl)))) (cw_X13_312 hts ⟨by decide, by decide⟩) (hG 0 _ rfl) rfl rfl rfl rfl (Nat.le_of_ble_eq_true rfl) dX13_eden_68 (fun _ h => h.elim) (fun r H1 locs hq hF hS => ?_)
                  obtain ⟨rfl, rfl⟩ := hq
                  refine n_icmp_gt (tgt := 92) hx hb dX13_eden_71 (by decide) (by omega) (by omega) (fun c71 => ?_) (fun c71 => ?_)
                  · obtain rfl : z = 2 ^ xN t := by omega
                    refine lv_iload_n hx hb dX13_eden_92 rfl (lv_at hl 1 rfl) ?_
                    refine hend _ _ _ _ _ hS dX13_eden_93 ?_
                    exact ⟨_, rfl, _, hG, ((hE1.mono PI_PX).trans hE2), ((rng_in hlo_x1 hhi_x1 (by omega)).trans ((show nI (cnF _ _) = nI c0 from congrArg nI hcn))).symm⟩
                  have hcle := cnF_le (fun x => !anF (fun y => raF t (V 30) y x1) x (2 ^ xN t)) z
                  have hlz := hled z (by omega)
                  rcases hab : anF (fun y => raF t (V 30) y x1) z (2 ^ xN t) with _ | _
                  · have hlz := hlz.trans (bI_f (by rw [hab]; decide))
                    refine lv_aload_n hx hb dX13_eden_74 rfl (lv_at hl 2 rfl) ?_
                    refine g_get hx hb hts hown hK hG 0 rfl rfl ok_X13 56 (by decide) q1527 rfl rfl dX13_eden_75 ?_
                    refine lv_iload_n hx hb dX13_eden_78 rfl (lv_at hl 0 rfl) ?_
                    refine n_zald hx hb hK hG 36 rfl (by omega) (by decide) dX13_eden_79 ?_
                    refine iv (y := (nI 0)) hlz ?_
                    refine n_if_ne (tgt := 86) hx hb dX13_eden_80 (by decide) (by decide) (fun z => absurd z (by decide)) (fun _ => ?_)
                    refine lv_iinc (v := (nI (c0 + 1))) (lv' := [(2, .int (nI (c0 + 1))), (3, .int (nI z)), (0, .ref o), (1, .int (nI x1))]) hx hb dX13_eden_83 hl (k := 1) rfl (nI_add _ _) (by decide) rfl (fun ls hl => ?_)
                    refine lv_iinc (v := (nI (z + 1))) (lv' := [(3, .int (nI (z + 1))), (2, .int (nI (c0 + 1))), (0, .ref o), (1, .int (nI x1))]) hx hb dX13_eden_86 hl (k := 1) rfl (nI_add _ _) (by decide) rfl (fun ls hl => ?_)
                    refine lv_goto (tgt := 66) hx hb dX13_eden_89 (by decide) ?_
                    exact ih3 (z + 1) (c0 + 1) _ _ (by omega) (by omega) (by rw [cnF_t (by simp only [hab]; rfl), hcn]) hS (lv_sub hl [0, 1, 2, 3] rfl)
                  have hlz := hlz.trans (bI_t hab)
                  refine lv_aload_n hx hb dX13_eden_74 rfl (lv_at hl 2 rfl) ?_
                  refine g_get hx hb hts hown hK hG 0 rfl rfl ok_X13 56 (by decide) q1527 rfl rfl dX13_eden_75 ?_
                  refine lv_iload_n hx hb dX13_eden_78 rfl (lv_at hl 0 rfl) ?_
                  refine n_zald hx hb hK hG 36 rfl (by omega) (by decide) dX13_eden_79 ?_
                  refine iv (y := (nI 1)) hlz ?_
                  refine n_if_ne (tgt := 86) hx hb dX13_eden_80 (by decide) (by decide) (fun _ => ?_) (fun z => absurd z (by decide))
                  refine lv_iinc (v := (nI (z + 1))) (lv' := [(3, .int (nI (z + 1))), (2, .int (nI c0)), (0, .ref o), (1, .int (nI x1))]) hx hb dX13_eden_86 hl (k := 0) rfl (nI_add _ _) (by decide) rfl (fun ls hl => ?_)
                  refine lv_goto (tgt := 66) hx hb dX13_eden_89 (by decide) ?_
                  exact ih3 (z + 1) c0 _ _ (by omega) (by omega) (by rw [cnF_f (by simp only [hab]; decide), hcn]) hS (lv_sub hl [0, 1, 2, 3] rfl)
              exact loop3 ((2 ^ xN t - 0) + 1) 0 0 _ _ (Nat.lt_succ_self _) (Nat.zero_le _) rfl hS (lv_sub hl [0, 1, 2, 3] rfl)
            refine lv_aload_n hx hb dX13_eden_44 rfl (lv_at hl 1 rfl) ?_
            refine g_get hx hb hts hown hK hG 0 rfl rfl ok_X13 56 (by decide) q1527 rfl rfl dX13_eden_45 ?_
            refine lv_aload_n hx hb dX13_eden_48 rfl (lv_at hl 1 rfl) ?_
            refine lv_iload_n hx hb dX13_eden_49 rfl (lv_at hl 0 rfl) ?_
            refine lv_iload_n hx hb dX13_eden_50 rfl (lv_at hl 2 rfl) ?_
            refine c_VI hx hb hml hts hown hK hl.1 hS ⟨Nat.le_refl _, Nat.le_refl _⟩ (met_X13_rowAfter l D dA hG (txM_PX ((hE1.mono PI_PX).trans hE2) hX) y x1 (by omega) (by omega)) (cw_X13_389 hts ⟨by decide, by decide⟩) (hG 0 _ rfl) rfl rfl rfl rfl (Nat.le_of_ble_eq_true rfl) dX13_eden_51 (fun _ h => h) (fun r H1 locs hq hF hS => ?_)
            obtain ⟨V4, hG, hE4, hr4⟩ := hq
            generalize hHe4 : H1 = H at hG hS ⊢
            clear hHe4
            have hr4 : r = nI (raF t (V 30) y x1) := hr4.trans (congrArg (fun z => nI (raF t z y x1)) (((funext (fun j => hE2 30 j rfl)).trans (funext (fun j => hE1 30 j rfl)))))
            subst hr4
            have hra51 := raF_lt t (V 30) y x1
            refine lv_iconst (v := (nI 1)) hx hb dX13_eden_54 (by decide) ?_
            refine n_zast (x2 := (nI 1)) hx hb hK hG hS 36 (AM_in 36 (by decide)) rfl (by omega) (by decide) (by decide) dX13_eden_55 (fun H locs hG hO hS => ?_)
            refine lv_iinc (v := (nI (y + 1))) (lv' := [(2, .int (nI (y + 1))), (0, .ref o), (1, .int (nI x1))]) hx hb dX13_eden_56 hl (k := 0) rfl (nI_add _ _) (by decide) rfl (fun ls hl => ?_)
            refine lv_goto (tgt := 36) hx hb dX13_eden_59 (by decide) ?_
            have hc36_1 : V4 36 = V2 36 := (funext (fun j => hE4 36 j rfl))
            have hc36_2 : (up2 V4 36 (raF t (V 30) y x1) (nI 1)) 36 = va_up (V2 36) (raF t (V 30) y x1) (nI 1) := congrArg (fun g => va_up g (raF t (V 30) y x1) (nI 1)) hc36_1
            have hc36 : (up2 V4 36 (raF t (V 30) y x1) (nI 1)) 36 = va_up (V2 36) (raF t (V 30) y x1) (nI 1) := hc36_2
            exact ih2 (y + 1) (up2 V4 36 (raF t (V 30) y x1) (nI 1)) _ _ _ (by omega) (by omega) (Eqx.up (Eqx.trans hE2 (hE4.mono PW_PX)) rfl) (by rw [hc36]; exact led_step (G := fun y => raF t (V 30) y x1) hled (ra9 hT2)) hG hS (lv_sub hl [0, 1, 2] rfl)
        exact loop2 ((2 ^ xN t - 0) + 1) 0 V1 _ _ _ (Nat.lt_succ_self _) (Nat.zero_le _) Eqx.rf (fun j hj => hled j (by omega)) hG hS (lv_sub hl [0, 1, 2] rfl)
      refine lv_aload_n hx hb dX13_eden_21 rfl (lv_at hl 1 rfl) ?_
      refine g_get hx hb hts hown hK hG 0 rfl rfl ok_X13 56 (by decide) q1527 rfl rfl dX13_eden_22 ?_
      refine lv_iload_n hx hb dX13_eden_25 rfl (lv_at hl 0 rfl) ?_
      refine lv_iconst (v := (nI 0)) hx hb dX13_eden_26 (by decide) ?_
      refine n_zast (x2 := (nI 0)) hx hb hK hG hS 36 (AM_in 36 (by decide)) rfl (by omega) (by decide) (by decide) dX13_eden_27 (fun H locs hG hO hS => ?_)
      refine lv_iinc (v := (nI (x + 1))) (lv' := [(2, .int (nI (x + 1))), (0, .ref o), (1, .int (nI x1))]) hx hb dX13_eden_28 hl (k := 0) rfl (nI_add _ _) (by decide) rfl (fun ls hl => ?_)
      refine lv_goto (tgt := 14) hx hb dX13_eden_31 (by decide) ?_
      have hc36_1 : (up2 V1 36 x (nI 0)) 36 = va_up (V1 36) x (nI 0) := rfl
      have hc36 : (up2 V1 36 x (nI 0)) 36 = va_up (V1 36) x (nI 0) := hc36_1
      exact ih1 (x + 1) (up2 V1 36 x (nI 0)) _ _ _ (by omega) (by omega) (Eqx.up hE1 rfl) (by rw [hc36]; exact va_step (f := fun _ => nI 0) hled rfl) hG hS (lv_sub hl [0, 1, 2] rfl)
  exact loop1 ((512 - 0) + 1) 0 V _ _ _ (Nat.lt_succ_self _) (by omega) Eqx.rf (fun j hj => absurd hj (Nat.not_lt_zero _)) hG hS (lv_sub hl [0, 1, 2] rfl)
