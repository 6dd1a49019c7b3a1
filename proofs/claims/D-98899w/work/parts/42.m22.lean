def PY (k _ : Nat) : Bool := k == 41
def PLy (k j : Nat) : Bool := k == 28 || k == 29 || k == 31 || k == 32 || k == 33 || k == 41 || (k == 0 && (j == 46 || j == 49 || j == 50))
def PLk (k j : Nat) : Bool := k == 28 || k == 29 || k == 31 || k == 32 || k == 33 || k == 37 || k == 41 || (k == 0 && (j == 46 || j == 49 || j == 50))
theorem PL_PLy : ∀ k j, PLy k j = false → PL k j = false := by intro k j h; simp only [PL, PLy, Bool.or_eq_false_iff, Bool.and_eq_false_iff, beq_eq_false_iff_ne, ne_eq] at *; omega
theorem PL_PLk : ∀ k j, PLk k j = false → PL k j = false := by intro k j h; simp only [PL, PLk, Bool.or_eq_false_iff, Bool.and_eq_false_iff, beq_eq_false_iff_ne, ne_eq] at *; omega
theorem PT_PLy : ∀ k j, PLy k j = false → PT k j = false := by intro k j h; simp only [PT, PLy, Bool.or_eq_false_iff, Bool.and_eq_false_iff, beq_eq_false_iff_ne, ne_eq] at *; omega
theorem PT_PLk : ∀ k j, PLk k j = false → PT k j = false := by intro k j h; simp only [PT, PLk, Bool.or_eq_false_iff, Bool.and_eq_false_iff, beq_eq_false_iff_ne, ne_eq] at *; omega
theorem PE_PLy : ∀ k j, PLy k j = false → PE k j = false := by intro k j h; simp only [PE, PLy, Bool.or_eq_false_iff, Bool.and_eq_false_iff, beq_eq_false_iff_ne, ne_eq] at *; omega
theorem PE_PLk : ∀ k j, PLk k j = false → PE k j = false := by intro k j h; simp only [PE, PLk, Bool.or_eq_false_iff, Bool.and_eq_false_iff, beq_eq_false_iff_ne, ne_eq] at *; omega
theorem PR_PLy : ∀ k j, PLy k j = false → PR k j = false := by intro k j h; simp only [PR, PLy, Bool.or_eq_false_iff, Bool.and_eq_false_iff, beq_eq_false_iff_ne, ne_eq] at *; omega
theorem PR_PLk : ∀ k j, PLk k j = false → PR k j = false := by intro k j h; simp only [PR, PLk, Bool.or_eq_false_iff, Bool.and_eq_false_iff, beq_eq_false_iff_ne, ne_eq] at *; omega
theorem PC_PLy : ∀ k j, PLy k j = false → PC k j = false := by intro k j h; simp only [PC, PLy, Bool.or_eq_false_iff, Bool.and_eq_false_iff, beq_eq_false_iff_ne, ne_eq] at *; omega
theorem PC_PLk : ∀ k j, PLk k j = false → PC k j = false := by intro k j h; simp only [PC, PLk, Bool.or_eq_false_iff, Bool.and_eq_false_iff, beq_eq_false_iff_ne, ne_eq] at *; omega
theorem PH_PLy : ∀ k j, PLy k j = false → PH k j = false := by intro k j h; simp only [PH, PLy, Bool.or_eq_false_iff, Bool.and_eq_false_iff, beq_eq_false_iff_ne, ne_eq] at *; omega
theorem PH_PLk : ∀ k j, PLk k j = false → PH k j = false := by intro k j h; simp only [PH, PLk, Bool.or_eq_false_iff, Bool.and_eq_false_iff, beq_eq_false_iff_ne, ne_eq] at *; omega
theorem PW_PLy : ∀ k j, PLy k j = false → PW k j = false := by intro k j h; simp only [PW, PLy, Bool.or_eq_false_iff, Bool.and_eq_false_iff, beq_eq_false_iff_ne, ne_eq] at *; omega
theorem PW_PLk : ∀ k j, PLk k j = false → PW k j = false := by intro k j h; simp only [PW, PLk, Bool.or_eq_false_iff, Bool.and_eq_false_iff, beq_eq_false_iff_ne, ne_eq] at *; omega
theorem PK_PLk : ∀ k j, PLk k j = false → PK k j = false := by intro k j h; simp only [PK, PLk, Bool.or_eq_false_iff, Bool.and_eq_false_iff, beq_eq_false_iff_ne, ne_eq] at *; omega
theorem PB_PLk : ∀ k j, PLk k j = false → PB k j = false := by intro k j h; simp only [PB, PLk, Bool.or_eq_false_iff, Bool.and_eq_false_iff, beq_eq_false_iff_ne, ne_eq] at *; omega
theorem PY_PLy : ∀ k j, PLy k j = false → PY k j = false := by intro k j h; simp only [PY, PLy, Bool.or_eq_false_iff, Bool.and_eq_false_iff, beq_eq_false_iff_ne, ne_eq] at *; omega
theorem PY_PLk : ∀ k j, PLk k j = false → PY k j = false := by intro k j h; simp only [PY, PLk, Bool.or_eq_false_iff, Bool.and_eq_false_iff, beq_eq_false_iff_ne, ne_eq] at *; omega
theorem PLy_PLk : ∀ k j, PLk k j = false → PLy k j = false := by intro k j h; simp only [PLy, PLk, Bool.or_eq_false_iff, Bool.and_eq_false_iff, beq_eq_false_iff_ne, ne_eq] at *; omega
theorem isT_PY : ∀ k j, isT k j = true → PY k j = false := by
  intro k j h
  simp only [isT, PY, Bool.or_eq_true, Bool.and_eq_true, decide_eq_true_eq, beq_iff_eq, Bool.or_eq_false_iff, Bool.and_eq_false_iff, beq_eq_false_iff_ne, ne_eq] at *
  omega
theorem txM_PY {V V1 : GI} {lv : Nat} {t : Txt} (h : Eqx PY V V1) (hX : txM V lv t) : txM V1 lv t := txM_to (fun k j q => h k j (isT_PY k j q)) hX
theorem isT_PLy : ∀ k j, isT k j = true → PLy k j = false := by
  intro k j h
  simp only [isT, PLy, Bool.or_eq_true, Bool.and_eq_true, decide_eq_true_eq, beq_iff_eq, Bool.or_eq_false_iff, Bool.and_eq_false_iff, beq_eq_false_iff_ne, ne_eq] at *
  omega
theorem txM_PLy {V V1 : GI} {lv : Nat} {t : Txt} (h : Eqx PLy V V1) (hX : txM V lv t) : txM V1 lv t := txM_to (fun k j q => h k j (isT_PLy k j q)) hX
theorem isT_PLk : ∀ k j, isT k j = true → PLk k j = false := by
  intro k j h
  simp only [isT, PLk, Bool.or_eq_true, Bool.and_eq_true, decide_eq_true_eq, beq_iff_eq, Bool.or_eq_false_iff, Bool.and_eq_false_iff, beq_eq_false_iff_ne, ne_eq] at *
  omega
theorem txM_PLk {V V1 : GI} {lv : Nat} {t : Txt} (h : Eqx PLk V V1) (hX : txM V lv t) : txM V1 lv t := txM_to (fun k j q => h k j (isT_PLk k j q)) hX
/-! how all lay -/
abbrev tlB (tl : List Tl) (i : Nat) : Tl := tl.getD i (0, 0, 0)
/-- so far as the first k were told a row is one that may have been -/
def soB (t : Txt) (f : Rw) (tl : List Tl) (x : Nat) : Nat → Bool
  | 0 => true
  | i + 1 => soB t f tl x i && decide (raF t f x (tlB tl i).2.1 / 2 ^ (tlB tl i).1 % 2 = (tlB tl i).2.2)
theorem soB_mono {t : Txt} {f : Rw} {tl : List Tl} {x i : Nat} (h : soB t f tl x i = false) : ∀ k, i ≤ k → soB t f tl x k = false := by
  intro k hk
  induction k with
  | zero => obtain rfl : i = 0 := by omega
            exact h
  | succ k ih =>
    by_cases e : i = k + 1
    · subst e; exact h
    · simp only [soB, ih (by omega), Bool.false_and]
def lyB (t : Txt) (f : Rw) (tl : List Tl) (k x : Nat) : Bool := soB t f tl x k
theorem so_t {t : Txt} {f : Rw} {tl : List Tl} {x i : Nat} (h : soB t f tl x i = true) (hd : raF t f x (tlB tl i).2.1 / 2 ^ (tlB tl i).1 % 2 = (tlB tl i).2.2) : soB t f tl x (i + 1) = true := by simp only [soB, h, hd, decide_true, Bool.and_self]
theorem so_f {t : Txt} {f : Rw} {tl : List Tl} {x i : Nat} (hd : ¬ raF t f x (tlB tl i).2.1 / 2 ^ (tlB tl i).1 % 2 = (tlB tl i).2.2) : soB t f tl x (i + 1) = false := by simp only [soB, decide_eq_false hd, Bool.and_false]
theorem tl_at {V : GI} {tl : List Tl} (h : tlM V tl) {i : Nat} (hi : i < tl.length) : V 38 i = nI (tlB tl i).1 ∧ V 39 i = nI (tlB tl i).2.1 ∧ V 40 i = nI (tlB tl i).2.2 ∧ (tlB tl i).1 < 9 ∧ (tlB tl i).2.1 < 25 ∧ (tlB tl i).2.2 < 2 := h.2.2 i _ (by unfold tlB; rw [List.getD_eq_getElem?_getD, List.getElem?_eq_getElem hi]; rfl)
theorem va_up_up {f : Nat → Int32} {k : Nat} {x y : Int32} : va_up (va_up f k x) k y = va_up f k y := by
  funext j
  unfold va_up
  split <;> rfl
theorem ly_step {g : Nat → Int32} {P : Nat → Bool} {k : Nat} {x : Int32} (h : ∀ j, j < k → g j = bI (P j)) (hx : x = bI (P k)) : ∀ j, j < k + 1 → va_up g k x j = bI (P j) := va_step (f := fun j => bI (P j)) h hx
theorem fl_all {g : Nat → Int32} {P : Nat → Bool} {x : Nat} (h : ∀ j, j < x → g j = bI (P j)) (hx : g x = bI (P x)) : ∀ j, j < x + 1 → g j = bI (P j) := fun j hj => by
  by_cases e : j = x
  · subst e; exact hx
  · exact h j (by omega)
set_option maxHeartbeats 4000000 in
theorem met_X13_fillsLay (l : Launch) (D : va_G) (dA : Nat → ClassId) {o : Nat} {V : GI} {L : GL} {Rf : GR} {H0 : Heap} (hG : gP D dA o dM V L Rf H0) {lv : Nat} {t : Txt} (hX : txM V lv t) (tl : List Tl) (htl : tlM V tl) (k0 : Nat) (hk0 : k0 ≤ tl.length) : Ctr l D dA yX13_fillsLay cX13_fillsLay 5 (some .int) (mkRm 8 172) [.ref o, .int (nI k0)] H0 (AM o) (QI (fun r H1 => ∃ V1, gP D dA o dM V1 L Rf H1 ∧ Eqx PLy V V1 ∧ r = nI (cnF (lyB t (V 30) tl k0) (2 ^ xN t)) ∧ ∀ x, x < 2 ^ xN t → V1 41 x = bI (lyB t (V 30) tl k0 x))) := by
  have hT := hX.1
  have hT1 := hT.1
  have hT2 := hT.2.1
  have hp2 := two9 hT2
  have hpp := Nat.two_pow_pos (xN t)
  have ht20 := htl.1
  refine ctr_I (by decide) (Nat.le_of_ble_eq_true rfl) ?_
  intro p e s m args below meth c ls QQ locs hx hb hml hown hts hK hend hS hl
  have hl : lv_has ls 5 [(0, .ref o), (1, .int (nI k0))] := hl
  refine lv_iconst (v := (nI 0)) hx hb dX13_fillsLay_0 (by decide) ?_
  refine lv_istore_n (lv' := [(2, .int (nI 0)), (0, .ref o), (1, .int (nI k0))]) hx hb dX13_fillsLay_1 rfl hl (by decide) rfl (fun ls hl => ?_)
  refine lv_iconst (v := (nI 0)) hx hb dX13_fillsLay_2 (by decide) ?_
  refine lv_istore_n (lv' := [(3, .int (nI 0)), (2, .int (nI 0)), (0, .ref o), (1, .int (nI k0))]) hx hb dX13_fillsLay_3 rfl hl (by decide) rfl (fun ls hl => ?_)
  have loop1 : ∀ (fu1 : Nat) (x : Nat) (c0 : Nat) (V1 : GI) (H : Heap) (locs : List Loc) (ls : Array Slot), 2 ^ xN t - x < fu1 → (x ≤ 2 ^ xN t) → (cnF (lyB t (V 30) tl k0) x = c0) → (Eqx PLy V V1) → (∀ j, j < x → V1 41 j = bI (lyB t (V 30) tl k0 j)) → gP D dA o dM V1 L Rf H → va_S (AM o) H0 H locs → lv_has ls 5 [(3, .int (nI x)), (2, .int (nI c0)), (0, .ref o), (1, .int (nI k0))] → W p l e (mkRm 8 172) s m args below meth c H locs 0 0 QQ (F0 m 4 ls []) := by
    intro fu1
    induction fu1 with
    | zero => intro x c0 V1 H locs ls hfu; exact absurd hfu (Nat.not_lt_zero _)
    | succ fu1 ih1 =>
      intro x c0 V1 H locs ls hfu hx2 hcn hE1 hdn hG hS hl
      have hcl := cnF_le (lyB t (V 30) tl k0) x
      refine lv_iload_n hx hb dX13_fillsLay_4 rfl (lv_at hl 0 rfl) ?_
      refine lv_aload_n hx hb dX13_fillsLay_5 rfl (lv_at hl 2 rfl) ?_
      refine c_VI hx hb hml hts hown hK hl.1 hS ⟨Nat.le_refl _, Nat.le_refl _⟩ (met_X13_allBits l D dA hG (tM_to hT (hE1 0 18 rfl) (hE1 9 lv rfl))) (cw_X13_312 hts ⟨by decide, by decide⟩) (hG 0 _ rfl) rfl rfl rfl rfl (Nat.le_of_ble_eq_true rfl) dX13_fillsLay_6 (fun _ h => h.elim) (fun r H1 locs hq hF hS => ?_)
      obtain ⟨rfl, rfl⟩ := hq
      refine n_icmp_gt (tgt := 104) hx hb dX13_fillsLay_9 (by decide) (by omega) (by omega) (fun c9 => ?_) (fun c9 => ?_)
      · obtain rfl : x = 2 ^ xN t := by omega
        refine lv_iload_n hx hb dX13_fillsLay_104 rfl (lv_at hl 1 rfl) ?_
        refine hend _ _ _ _ _ hS dX13_fillsLay_105 ?_
        exact ⟨_, rfl, _, hG, hE1, by rw [hcn], hdn⟩
      refine lv_aload_n hx hb dX13_fillsLay_12 rfl (lv_at hl 2 rfl) ?_
      refine g_get hx hb hts hown hK hG 0 rfl rfl ok_X13 62 (by decide) q1533 rfl rfl dX13_fillsLay_13 ?_
      refine lv_iload_n hx hb dX13_fillsLay_16 rfl (lv_at hl 0 rfl) ?_
      refine lv_iconst (v := (nI 1)) hx hb dX13_fillsLay_17 (by decide) ?_
      refine n_zast (x2 := (nI 1)) hx hb hK hG hS 41 (AM_in 41 (by decide)) rfl (by omega) (by decide) (by decide) dX13_fillsLay_18 (fun H locs hG hO hS => ?_)
      refine lv_iconst (v := (nI 0)) hx hb dX13_fillsLay_19 (by decide) ?_
      have hc41_1 : (up2 V1 41 x (nI 1)) 41 = va_up (V1 41) x (nI 1) := rfl
      have hc41 : (up2 V1 41 x (nI 1)) 41 = va_up (V1 41) x (nI 1) := hc41_1
      refine lv_istore (lv' := [(4, .int (nI 0)), (3, .int (nI x)), (2, .int (nI c0)), (0, .ref o), (1, .int (nI k0))]) hx hb dX13_fillsLay_20 hl (by decide) rfl (fun ls hl => ?_)
      have loop2 : ∀ (fu2 : Nat) (i : Nat) (V2 : GI) (H : Heap) (locs : List Loc) (ls : Array Slot), k0 - i < fu2 → (i ≤ k0) → (Eqx PLy (up2 V1 41 x (nI 1)) V2) → (∀ j, j < x → V2 41 j = bI (lyB t (V 30) tl k0 j)) → (V2 41 x = bI (soB t (V 30) tl x i)) → gP D dA o dM V2 L Rf H → va_S (AM o) H0 H locs → lv_has ls 5 [(4, .int (nI i)), (3, .int (nI x)), (2, .int (nI c0)), (0, .ref o), (1, .int (nI k0))] → W p l e (mkRm 8 172) s m args below meth c H locs 0 0 QQ (F0 m 22 ls []) := by
        intro fu2
        induction fu2 with
        | zero => intro i V2 H locs ls hfu; exact absurd hfu (Nat.not_lt_zero _)
        | succ fu2 ih2 =>
          intro i V2 H locs ls hfu hi hE2 hdn hmk hG hS hl
          refine lv_iload hx hb dX13_fillsLay_22 (lv_at hl 0 rfl) ?_
          refine lv_iload_n hx hb dX13_fillsLay_24 rfl (lv_at hl 4 rfl) ?_
          refine n_icmp_ge (tgt := 86) hx hb dX13_fillsLay_25 (by decide) (by omega) (by omega) (fun c25 => ?_) (fun c25 => ?_)
          · obtain rfl : i = k0 := by omega
            rcases hsk : soB t (V 30) tl x i with _ | _
            · rw [hsk] at hmk
              refine lv_aload_n hx hb dX13_fillsLay_86 rfl (lv_at hl 3 rfl) ?_
              refine g_get hx hb hts hown hK hG 0 rfl rfl ok_X13 62 (by decide) q1533 rfl rfl dX13_fillsLay_87 ?_
              refine lv_iload_n hx hb dX13_fillsLay_90 rfl (lv_at hl 1 rfl) ?_
              refine n_zald hx hb hK hG 41 rfl (by omega) (by decide) dX13_fillsLay_91 ?_
              refine iv (y := (nI 0)) hmk ?_
              refine n_if_eq (tgt := 98) hx hb dX13_fillsLay_92 (by decide) (by decide) (fun _ => ?_) (fun z => absurd z (by decide))
              refine lv_iinc (v := (nI (x + 1))) (lv' := [(3, .int (nI (x + 1))), (4, .int (nI i)), (2, .int (nI c0)), (0, .ref o), (1, .int (nI i))]) hx hb dX13_fillsLay_98 hl (k := 1) rfl (nI_add _ _) (by decide) rfl (fun ls hl => ?_)
              refine lv_goto (tgt := 4) hx hb dX13_fillsLay_101 (by decide) ?_
              exact ih1 (x + 1) c0 V2 _ _ _ (by omega) (by omega) ((cnF_f (P := lyB t (V 30) tl i) (by unfold lyB; rw [hsk]; decide)).trans hcn) (Eqx.trans (Eqx.up hE1 rfl) hE2) (fl_all hdn (hmk.trans (by unfold lyB; rw [hsk]))) hG hS (lv_sub hl [0, 2, 3, 4] rfl)
            rw [hsk] at hmk
            refine lv_aload_n hx hb dX13_fillsLay_86 rfl (lv_at hl 3 rfl) ?_
            refine g_get hx hb hts hown hK hG 0 rfl rfl ok_X13 62 (by decide) q1533 rfl rfl dX13_fillsLay_87 ?_
            refine lv_iload_n hx hb dX13_fillsLay_90 rfl (lv_at hl 1 rfl) ?_
            refine n_zald hx hb hK hG 41 rfl (by omega) (by decide) dX13_fillsLay_91 ?_
            refine iv (y := (nI 1)) hmk ?_
            refine n_if_eq (tgt := 98) hx hb dX13_fillsLay_92 (by decide) (by decide) (fun z => absurd z (by decide)) (fun _ => ?_)
            refine lv_iinc (v := (nI (c0 + 1))) (lv' := [(2, .int (nI (c0 + 1))), (4, .int (nI i)), (3, .int (nI x)), (0, .ref o), (1, .int (nI i))]) hx hb dX13_fillsLay_95 hl (k := 2) rfl (nI_add _ _) (by decide) rfl (fun ls hl => ?_)
            refine lv_iinc (v := (nI (x + 1))) (lv' := [(3, .int (nI (x + 1))), (2, .int (nI (c0 + 1))), (4, .int (nI i)), (0, .ref o), (1, .int (nI i))]) hx hb dX13_fillsLay_98 hl (k := 2) rfl (nI_add _ _) (by decide) rfl (fun ls hl => ?_)
            refine lv_goto (tgt := 4) hx hb dX13_fillsLay_101 (by decide) ?_
            exact ih1 (x + 1) (c0 + 1) V2 _ _ _ (by omega) (by omega) ((cnF_t (P := lyB t (V 30) tl i) hsk).trans (by rw [hcn])) (Eqx.trans (Eqx.up hE1 rfl) hE2) (fl_all hdn (hmk.trans (by unfold lyB; rw [hsk]))) hG hS (lv_sub hl [0, 1, 3, 4] rfl)
          rcases hsi : soB t (V 30) tl x i with _ | _
          · rw [hsi] at hmk
            refine lv_aload_n hx hb dX13_fillsLay_28 rfl (lv_at hl 3 rfl) ?_
            refine g_get hx hb hts hown hK hG 0 rfl rfl ok_X13 62 (by decide) q1533 rfl rfl dX13_fillsLay_29 ?_
            refine lv_iload_n hx hb dX13_fillsLay_32 rfl (lv_at hl 1 rfl) ?_
            refine n_zald hx hb hK hG 41 rfl (by omega) (by decide) dX13_fillsLay_33 ?_
            refine iv (y := (nI 0)) hmk ?_
            refine n_if_eq (tgt := 86) hx hb dX13_fillsLay_34 (by decide) (by decide) (fun _ => ?_) (fun z => absurd z (by decide))
            have hsk := soB_mono hsi k0 (by omega)
            refine lv_aload_n hx hb dX13_fillsLay_86 rfl (lv_at hl 3 rfl) ?_
            refine g_get hx hb hts hown hK hG 0 rfl rfl ok_X13 62 (by decide) q1533 rfl rfl dX13_fillsLay_87 ?_
            refine lv_iload_n hx hb dX13_fillsLay_90 rfl (lv_at hl 1 rfl) ?_
            refine n_zald hx hb hK hG 41 rfl (by omega) (by decide) dX13_fillsLay_91 ?_
            refine iv (y := (nI 0)) hmk ?_
            refine n_if_eq (tgt := 98) hx hb dX13_fillsLay_92 (by decide) (by decide) (fun _ => ?_) (fun z => absurd z (by decide))
            refine lv_iinc (v := (nI (x + 1))) (lv' := [(3, .int (nI (x + 1))), (4, .int (nI i)), (2, .int (nI c0)), (0, .ref o), (1, .int (nI k0))]) hx hb dX13_fillsLay_98 hl (k := 1) rfl (nI_add _ _) (by decide) rfl (fun ls hl => ?_)
            refine lv_goto (tgt := 4) hx hb dX13_fillsLay_101 (by decide) ?_
            exact ih1 (x + 1) c0 V2 _ _ _ (by omega) (by omega) ((cnF_f (P := lyB t (V 30) tl k0) (by unfold lyB; rw [hsk]; decide)).trans hcn) (Eqx.trans (Eqx.up hE1 rfl) hE2) (fl_all hdn (hmk.trans (by unfold lyB; rw [hsk]))) hG hS (lv_sub hl [0, 2, 3, 4] rfl)
          rw [hsi] at hmk
          refine lv_aload_n hx hb dX13_fillsLay_28 rfl (lv_at hl 3 rfl) ?_
          refine g_get hx hb hts hown hK hG 0 rfl rfl ok_X13 62 (by decide) q1533 rfl rfl dX13_fillsLay_29 ?_
          refine lv_iload_n hx hb dX13_fillsLay_32 rfl (lv_at hl 1 rfl) ?_
          refine n_zald hx hb hK hG 41 rfl (by omega) (by decide) dX13_fillsLay_33 ?_
          refine iv (y := (nI 1)) hmk ?_
          refine n_if_eq (tgt := 86) hx hb dX13_fillsLay_34 (by decide) (by decide) (fun z => absurd z (by decide)) (fun _ => ?_)
          have htt := tl_at htl (i := i) (by omega)
          obtain ⟨ht1, ht2, ht3, ht4, ht5, ht6⟩ := htt
          refine lv_aload_n hx hb dX13_fillsLay_37 rfl (lv_at hl 3 rfl) ?_
          refine g_get hx hb hts hown hK hG 0 rfl rfl ok_X13 62 (by decide) q1533 rfl rfl dX13_fillsLay_38 ?_
          refine lv_iload_n hx hb dX13_fillsLay_41 rfl (lv_at hl 1 rfl) ?_
          refine lv_aload_n hx hb dX13_fillsLay_42 rfl (lv_at hl 3 rfl) ?_
          refine lv_iload_n hx hb dX13_fillsLay_43 rfl (lv_at hl 1 rfl) ?_
          refine lv_aload_n hx hb dX13_fillsLay_44 rfl (lv_at hl 3 rfl) ?_
          refine g_get hx hb hts hown hK hG 0 rfl rfl ok_X13 60 (by decide) q1531 rfl rfl dX13_fillsLay_45 ?_
          refine lv_iload hx hb dX13_fillsLay_48 (lv_at hl 0 rfl) ?_
          refine n_iald hx hb hK hG 39 rfl (by omega) (by decide) dX13_fillsLay_50 ?_
          refine iv (y := (nI ((tlB tl i).2.1))) (((hE2 39 i rfl).trans (hE1 39 i rfl)).trans ht2) ?_
          refine c_VI hx hb hml hts hown hK hl.1 hS ⟨Nat.le_refl _, Nat.le_refl _⟩ (met_X13_rowAfter l D dA hG (txM_PLy ((hE1.up rfl).trans hE2) hX) x ((tlB tl i).2.1) (by omega) (by omega)) (cw_X13_389 hts ⟨by decide, by decide⟩) (hG 0 _ rfl) rfl rfl rfl rfl (Nat.le_of_ble_eq_true rfl) dX13_fillsLay_51 (fun _ h => h) (fun r H1 locs hq hF hS => ?_)
          obtain ⟨V3, hG, hE3, hr3⟩ := hq
          generalize hHe3 : H1 = H at hG hS ⊢
          clear hHe3
          have hr3 : r = nI (raF t (V 30) x ((tlB tl i).2.1)) := hr3.trans (congrArg (fun z => nI (raF t z x ((tlB tl i).2.1))) (((funext (fun j => hE2 30 j rfl)).trans (funext (fun j => hE1 30 j rfl)))))
          subst hr3
          have hra51 := raF_lt t (V 30) x ((tlB tl i).2.1)
          refine lv_aload_n hx hb dX13_fillsLay_54 rfl (lv_at hl 3 rfl) ?_
          refine g_get hx hb hts hown hK hG 0 rfl rfl ok_X13 59 (by decide) q1530 rfl rfl dX13_fillsLay_55 ?_
          refine lv_iload hx hb dX13_fillsLay_58 (lv_at hl 0 rfl) ?_
          refine n_iald hx hb hK hG 38 rfl (by omega) (by decide) dX13_fillsLay_60 ?_
          refine iv (y := (nI ((tlB tl i).1))) (((hE3 38 i rfl).trans ((hE2 38 i rfl).trans (hE1 38 i rfl))).trans ht1) ?_
          refine n_ishr hx hb dX13_fillsLay_61 (by omega) (by omega) ?_
          refine lv_iconst (v := (nI 1)) hx hb dX13_fillsLay_62 (by decide) ?_
          refine n_and1 hx hb dX13_fillsLay_63 ?_
          refine lv_aload_n hx hb dX13_fillsLay_64 rfl (lv_at hl 3 rfl) ?_
          refine g_get hx hb hts hown hK hG 0 rfl rfl ok_X13 61 (by decide) q1532 rfl rfl dX13_fillsLay_65 ?_
          refine lv_iload hx hb dX13_fillsLay_68 (lv_at hl 0 rfl) ?_
          refine n_iald hx hb hK hG 40 rfl (by omega) (by decide) dX13_fillsLay_70 ?_
          refine iv (y := (nI ((tlB tl i).2.2))) (((hE3 40 i rfl).trans ((hE2 40 i rfl).trans (hE1 40 i rfl))).trans ht3) ?_
          refine n_icmp_ne (tgt := 78) hx hb dX13_fillsLay_71 (by decide) (by omega) (by omega) (fun c71 => ?_) (fun c71 => ?_)
          · refine lv_iconst (v := (nI 0)) hx hb dX13_fillsLay_78 (by decide) ?_
            refine n_zast (x2 := (nI 0)) hx hb hK hG hS 41 (AM_in 41 (by decide)) rfl (by omega) (by decide) (by decide) dX13_fillsLay_79 (fun H locs hG hO hS => ?_)
            refine lv_iinc (v := (nI (i + 1))) (lv' := [(4, .int (nI (i + 1))), (3, .int (nI x)), (2, .int (nI c0)), (0, .ref o), (1, .int (nI k0))]) hx hb dX13_fillsLay_80 hl (k := 0) rfl (nI_add _ _) (by decide) rfl (fun ls hl => ?_)
            refine lv_goto (tgt := 22) hx hb dX13_fillsLay_83 (by decide) ?_
            have hc41_1 : V3 41 = V2 41 := (funext (fun j => hE3 41 j rfl))
            have hc41_2 : (up2 V3 41 x (nI 0)) 41 = va_up (V2 41) x (nI 0) := congrArg (fun g => va_up g x (nI 0)) hc41_1
            have hc41 : (up2 V3 41 x (nI 0)) 41 = va_up (V2 41) x (nI 0) := hc41_2
            have hso : soB t (V 30) tl x (i + 1) = false := so_f c71
            exact ih2 (i + 1) (up2 V3 41 x (nI 0)) _ _ _ (by omega) (by omega) (Eqx.up (Eqx.trans hE2 (hE3.mono PW_PLy)) rfl) (by rw [hc41]; exact fun j hj => (va_up_n (by omega)).trans (hdn j hj)) (by rw [hc41, va_up_s2, hso]; rfl) hG hS (lv_sub hl [0, 1, 2, 3, 4] rfl)
          refine lv_iconst (v := (nI 1)) hx hb dX13_fillsLay_74 (by decide) ?_
          refine lv_goto (tgt := 79) hx hb dX13_fillsLay_75 (by decide) ?_
          refine n_zast (x2 := (nI 1)) hx hb hK hG hS 41 (AM_in 41 (by decide)) rfl (by omega) (by decide) (by decide) dX13_fillsLay_79 (fun H locs hG hO hS => ?_)
          refine lv_iinc (v := (nI (i + 1))) (lv' := [(4, .int (nI (i + 1))), (3, .int (nI x)), (2, .int (nI c0)), (0, .ref o), (1, .int (nI k0))]) hx hb dX13_fillsLay_80 hl (k := 0) rfl (nI_add _ _) (by decide) rfl (fun ls hl => ?_)
          refine lv_goto (tgt := 22) hx hb dX13_fillsLay_83 (by decide) ?_
          have hc41_1 : V3 41 = V2 41 := (funext (fun j => hE3 41 j rfl))
          have hc41_2 : (up2 V3 41 x (nI 1)) 41 = va_up (V2 41) x (nI 1) := congrArg (fun g => va_up g x (nI 1)) hc41_1
          have hc41 : (up2 V3 41 x (nI 1)) 41 = va_up (V2 41) x (nI 1) := hc41_2
          have hso : soB t (V 30) tl x (i + 1) = true := so_t hsi c71
          exact ih2 (i + 1) (up2 V3 41 x (nI 1)) _ _ _ (by omega) (by omega) (Eqx.up (Eqx.trans hE2 (hE3.mono PW_PLy)) rfl) (by rw [hc41]; exact fun j hj => (va_up_n (by omega)).trans (hdn j hj)) (by rw [hc41, va_up_s2, hso]; rfl) hG hS (lv_sub hl [0, 1, 2, 3, 4] rfl)
      exact loop2 ((k0 - 0) + 1) 0 (up2 V1 41 x (nI 1)) _ _ _ (Nat.lt_succ_self _) (by omega) Eqx.rf (by rw [hc41]; exact fun j hj => (va_up_n (by omega)).trans (hdn j hj)) (by rw [hc41]; exact va_up_s2) hG hS (lv_sub hl [0, 1, 2, 3, 4] rfl)
  exact loop1 ((2 ^ xN t - 0) + 1) 0 0 V _ _ _ (Nat.lt_succ_self _) (Nat.zero_le _) rfl Eqx.rf (fun j hj => absurd hj (Nat.not_lt_zero _)) hG hS (lv_sub hl [0, 1, 2, 3] rfl)
