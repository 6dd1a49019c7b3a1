def PV (k _ : Nat) : Bool := k == 34
def PA (k j : Nat) : Bool := k == 30 || k == 34 || (k == 0 && (j == 53))
def PAW (k j : Nat) : Bool := k == 28 || k == 29 || k == 30 || k == 31 || k == 32 || k == 33 || k == 34 || (k == 0 && (j == 46 || j == 49 || j == 50 || j == 53))
theorem PL_PAW : ∀ k j, PAW k j = false → PL k j = false := by intro k j h; simp only [PL, PAW, Bool.or_eq_false_iff, Bool.and_eq_false_iff, beq_eq_false_iff_ne, ne_eq] at *; omega
theorem PT_PAW : ∀ k j, PAW k j = false → PT k j = false := by intro k j h; simp only [PT, PAW, Bool.or_eq_false_iff, Bool.and_eq_false_iff, beq_eq_false_iff_ne, ne_eq] at *; omega
theorem PE_PAW : ∀ k j, PAW k j = false → PE k j = false := by intro k j h; simp only [PE, PAW, Bool.or_eq_false_iff, Bool.and_eq_false_iff, beq_eq_false_iff_ne, ne_eq] at *; omega
theorem PR_PAW : ∀ k j, PAW k j = false → PR k j = false := by intro k j h; simp only [PR, PAW, Bool.or_eq_false_iff, Bool.and_eq_false_iff, beq_eq_false_iff_ne, ne_eq] at *; omega
theorem PN_PA : ∀ k j, PA k j = false → PN k j = false := by intro k j h; simp only [PN, PA, Bool.or_eq_false_iff, Bool.and_eq_false_iff, beq_eq_false_iff_ne, ne_eq] at *; omega
theorem PN_PAW : ∀ k j, PAW k j = false → PN k j = false := by intro k j h; simp only [PN, PAW, Bool.or_eq_false_iff, Bool.and_eq_false_iff, beq_eq_false_iff_ne, ne_eq] at *; omega
theorem PC_PAW : ∀ k j, PAW k j = false → PC k j = false := by intro k j h; simp only [PC, PAW, Bool.or_eq_false_iff, Bool.and_eq_false_iff, beq_eq_false_iff_ne, ne_eq] at *; omega
theorem PH_PAW : ∀ k j, PAW k j = false → PH k j = false := by intro k j h; simp only [PH, PAW, Bool.or_eq_false_iff, Bool.and_eq_false_iff, beq_eq_false_iff_ne, ne_eq] at *; omega
theorem PW_PAW : ∀ k j, PAW k j = false → PW k j = false := by intro k j h; simp only [PW, PAW, Bool.or_eq_false_iff, Bool.and_eq_false_iff, beq_eq_false_iff_ne, ne_eq] at *; omega
theorem PV_PA : ∀ k j, PA k j = false → PV k j = false := by intro k j h; simp only [PV, PA, Bool.or_eq_false_iff, Bool.and_eq_false_iff, beq_eq_false_iff_ne, ne_eq] at *; omega
theorem PV_PAW : ∀ k j, PAW k j = false → PV k j = false := by intro k j h; simp only [PV, PAW, Bool.or_eq_false_iff, Bool.and_eq_false_iff, beq_eq_false_iff_ne, ne_eq] at *; omega
theorem PA_PAW : ∀ k j, PAW k j = false → PA k j = false := by intro k j h; simp only [PA, PAW, Bool.or_eq_false_iff, Bool.and_eq_false_iff, beq_eq_false_iff_ne, ne_eq] at *; omega
theorem isT_PV : ∀ k j, isT k j = true → PV k j = false := by
  intro k j h
  simp only [isT, PV, Bool.or_eq_true, Bool.and_eq_true, decide_eq_true_eq, beq_iff_eq, Bool.or_eq_false_iff, Bool.and_eq_false_iff, beq_eq_false_iff_ne, ne_eq] at *
  omega
theorem txM_PV {V V1 : GI} {lv : Nat} {t : Txt} (h : Eqx PV V V1) (hX : txM V lv t) : txM V1 lv t := txM_to (fun k j q => h k j (isT_PV k j q)) hX
theorem isT_PA : ∀ k j, isT k j = true → PA k j = false := by
  intro k j h
  simp only [isT, PA, Bool.or_eq_true, Bool.and_eq_true, decide_eq_true_eq, beq_iff_eq, Bool.or_eq_false_iff, Bool.and_eq_false_iff, beq_eq_false_iff_ne, ne_eq] at *
  omega
theorem txM_PA {V V1 : GI} {lv : Nat} {t : Txt} (h : Eqx PA V V1) (hX : txM V lv t) : txM V1 lv t := txM_to (fun k j q => h k j (isT_PA k j q)) hX
theorem isT_PAW : ∀ k j, isT k j = true → PAW k j = false := by
  intro k j h
  simp only [isT, PAW, Bool.or_eq_true, Bool.and_eq_true, decide_eq_true_eq, beq_iff_eq, Bool.or_eq_false_iff, Bool.and_eq_false_iff, beq_eq_false_iff_ne, ne_eq] at *
  omega
theorem txM_PAW {V V1 : GI} {lv : Nat} {t : Txt} (h : Eqx PAW V V1) (hX : txM V lv t) : txM V1 lv t := txM_to (fun k j q => h k j (isT_PAW k j q)) hX
theorem hn_step {g f : Nat → Int32} {b k : Nat} (h : ∀ j, j < k → g (b + j) = f j) : ∀ j, j < k + 1 → va_up g (b + k) (f k) (b + j) = f j := fun j hj => by
  by_cases e : j = k
  · subst e; exact va_up_s2
  · rw [va_up_n (by omega)]; exact h j (by omega)
/-! what is done: the rows that are kept -/
abbrev Rw : Type := Nat → Int32
def hiM (V : GI) (hs : List Rw) : Prop := hs.length ≤ 40 ∧ V 0 53 = nI hs.length ∧ ∀ (i : Nat) (g : Rw), hs[i]? = some g → ∀ j, j < 48 → V 34 (48 * i + j) = g j
def phF (hs : List Rw) (f : Rw) : List Rw := (if hs.length = 40 then hs.drop 1 else hs) ++ [f]
theorem hi_len {V : GI} {hs : List Rw} (h : hiM V hs) {i : Nat} {g : Rw} (hi : hs[i]? = some g) : i < 40 := Nat.lt_of_lt_of_le (List.getElem?_eq_some_iff.mp hi).1 h.1
theorem hiM_to {V V1 : GI} {hs : List Rw} (h : hiM V hs) (h1 : V1 0 53 = V 0 53) (h2 : ∀ j, V1 34 j = V 34 j) : hiM V1 hs := ⟨h.1, h1.trans h.2.1, fun i g hi j hj => (h2 _).trans (h.2.2 i g hi j hj)⟩
theorem rec_end {V : GI} {h2 : List Rw} {u : Nat} {f : Rw} (hu : h2.length = u) (hu9 : u < 40) (h53 : V 0 53 = nI (u + 1)) (hold : ∀ (i : Nat) (g : Rw), h2[i]? = some g → ∀ j, j < 48 → V 34 (48 * i + j) = g j) (hnew : ∀ j, j < 48 → V 34 (48 * u + j) = f j) : hiM V (h2 ++ [f]) := by
  refine ⟨by simp; omega, by rw [h53]; simp [hu], fun i g hi j hj => ?_⟩
  by_cases e : i < h2.length
  · rw [List.getElem?_append_left e] at hi
    exact hold i g hi j hj
  · rw [List.getElem?_append_right (by omega)] at hi
    have h0 : i - h2.length < 1 := (List.getElem?_eq_some_iff.mp hi).1
    obtain rfl : i = u := by omega
    rw [hu, Nat.sub_self] at hi
    cases hi
    exact hnew j hj
theorem cw_X13_160 {R : Room} {s : State} {args : Array Value} (hts : ∀ w ∈ lw_all, w.before args s = true) {f w k j : Nat} (hR : f + 1 ≤ R.frames ∧ 8 + (2 + 11) + w ≤ R.locals) : CallW R s args RX13 RX13 160 yX13_keepsRow cX13_keepsRow 2 none (ws_ yX13_keepsRow cX13_keepsRow 2 none) (mkRmC f w k j) k j 0 := cwV 0 hts (lw_V q1468 q1470 qs50 q129 q1471) rfl rfl rfl (by decide +kernel) hR
set_option maxHeartbeats 4000000 in
theorem met_X13_records (l : Launch) (D : va_G) (dA : Nat → ClassId) {o : Nat} {V : GI} {L : GL} {Rf : GR} {H0 : Heap} (hG : gP D dA o dM V L Rf H0) (hs : List Rw) (hh : hiM V hs) : Ctr l D dA yX13_records cX13_records 2 none (mkRm 1 21) [.ref o] H0 (AM o) (QV (fun H1 => ∃ V1, gP D dA o dM V1 L Rf H1 ∧ Eqx PA V V1 ∧ V1 30 = V 31 ∧ hiM V1 (phF hs (V 30)))) := by
  have hh40 := hh.1
  refine ctr_V (by decide) (Nat.le_of_ble_eq_true rfl) ?_
  intro p e s m args below meth c ls QQ locs hx hb hml hown hts hK hend hS hl
  have hl : lv_has ls 2 [(0, .ref o)] := hl
  refine lv_aload_n hx hb dX13_records_0 rfl (lv_at hl 0 rfl) ?_
  refine g_get (v := .int (nI hs.length)) hx hb hts hown hK hG 0 rfl rfl ok_X13 53 (by decide) q1524 rfl (congrArg Value.int hh.2.1) dX13_records_1 ?_
  refine lv_bipush (v := (nI 40)) hx hb dX13_records_4 (by decide) ?_
  refine n_icmp_ne (tgt := 49) hx hb dX13_records_6 (by decide) (by omega) (by omega) (fun c6 => ?_) (fun c6 => ?_)
  · obtain ⟨h2, hh2, hu2, hold⟩ : ∃ h2 : List Rw, h2 = (if hs.length = 40 then hs.drop 1 else hs) ∧ h2.length = hs.length ∧ ∀ (i : Nat) (g : Rw), h2[i]? = some g → ∀ j, j < 48 → V 34 (48 * i + j) = g j := ⟨hs, by rw [if_neg c6], rfl, hh.2.2⟩
    have hu40 : h2.length < 40 := by omega
    refine lv_iconst (v := (nI 0)) hx hb dX13_records_49 (by decide) ?_
    refine lv_istore_n (lv' := [(1, .int (nI 0)), (0, .ref o)]) hx hb dX13_records_50 rfl hl (by decide) rfl (fun ls hl => ?_)
    have loop1 : ∀ (fu1 : Nat) (k : Nat) (V1 : GI) (H : Heap) (locs : List Loc) (ls : Array Slot), 48 - k < fu1 → (k ≤ 48) → (Eqx PV V V1) → (∀ (i : Nat) (g : Rw), h2[i]? = some g → ∀ j, j < 48 → V1 34 (48 * i + j) = g j) → (∀ j, j < k → V1 34 (48 * (hs.length) + j) = V 30 j) → gP D dA o dM V1 L Rf H → va_S (AM o) H0 H locs → lv_has ls 2 [(1, .int (nI k)), (0, .ref o)] → W p l e (mkRm 1 21) s m args below meth c H locs 0 0 QQ (F0 m 51 ls []) := by
      intro fu1
      induction fu1 with
      | zero => intro k V1 H locs ls hfu; exact absurd hfu (Nat.not_lt_zero _)
      | succ fu1 ih1 =>
        intro k V1 H locs ls hfu hk hE1 hold hnew hG hS hl
        refine lv_iload_n hx hb dX13_records_51 rfl (lv_at hl 0 rfl) ?_
        refine lv_bipush (v := (nI 48)) hx hb dX13_records_52 (by decide) ?_
        refine n_icmp_ge (tgt := 83) hx hb dX13_records_54 (by decide) (by omega) (by omega) (fun c54 => ?_) (fun c54 => ?_)
        · refine lv_aload_n hx hb dX13_records_83 rfl (lv_at hl 1 rfl) ?_
          refine lv_dup hx hb dX13_records_84 rfl ?_
          refine g_get (v := .int (nI hs.length)) hx hb hts hown hK hG 0 rfl rfl ok_X13 53 (by decide) q1524 rfl (congrArg Value.int ((hE1 0 53 rfl).trans hh.2.1)) dX13_records_85 ?_
          refine lv_iconst (v := (nI 1)) hx hb dX13_records_88 (by decide) ?_
          refine n_iadd hx hb dX13_records_89 ?_
          refine g_put hx hb hts hown hK hG hS 0 (AM_in 0 (by decide)) rfl rfl ok_X13 53 (by decide) q1524 rfl rfl rfl rfl dX13_records_90 (fun H locs hG hO hS => ?_)
          refine lv_aload_n hx hb dX13_records_93 rfl (lv_at hl 1 rfl) ?_
          refine c_VV hx hb hml hts hown hK hl.1 hS ⟨Nat.le_refl _, Nat.le_refl _⟩ (met_X13_keepsRow l D dA hG) (cw_X13_160 hts ⟨by decide, by decide⟩) (hG 0 _ rfl) rfl rfl rfl rfl (Nat.le_of_ble_eq_true rfl) dX13_records_94 (fun _ h => h) (fun H1 locs hq hF hS => ?_)
          obtain ⟨V2, hG, hE2, hr2⟩ := hq
          generalize hHe2 : H1 = H at hG hS ⊢
          clear hHe2
          have hr2 : V2 30 = V 31 := hr2.trans ((funext (fun j => hE1 31 j rfl)))
          refine hend _ _ _ _ hS dX13_records_97 ?_
          have h53 : V2 0 53 = nI (h2.length + 1) := (hE2 0 53 rfl).trans (by rw [hu2]; rfl)
          have h34 : V2 34 = V1 34 := (funext (fun j => hE2 34 j rfl))
          refine ⟨rfl, _, hG, (((hE1.mono PV_PA).up rfl).trans (hE2.mono PN_PA)), hr2, ?_⟩
          unfold phF; rw [← hh2]
          exact rec_end rfl hu40 h53 (by rw [h34]; exact hold) (by rw [h34]; exact fun j hj => by rw [hu2]; exact hnew j (by omega))
        refine lv_aload_n hx hb dX13_records_57 rfl (lv_at hl 1 rfl) ?_
        refine g_get hx hb hts hown hK hG 0 rfl rfl ok_X13 54 (by decide) q1525 rfl rfl dX13_records_58 ?_
        refine lv_bipush (v := (nI 48)) hx hb dX13_records_61 (by decide) ?_
        refine lv_aload_n hx hb dX13_records_63 rfl (lv_at hl 1 rfl) ?_
        refine g_get (v := .int (nI hs.length)) hx hb hts hown hK hG 0 rfl rfl ok_X13 53 (by decide) q1524 rfl (congrArg Value.int ((hE1 0 53 rfl).trans hh.2.1)) dX13_records_64 ?_
        refine n_imul hx hb dX13_records_67 ?_
        refine lv_iload_n hx hb dX13_records_68 rfl (lv_at hl 0 rfl) ?_
        refine n_iadd hx hb dX13_records_69 ?_
        refine lv_aload_n hx hb dX13_records_70 rfl (lv_at hl 1 rfl) ?_
        refine g_get hx hb hts hown hK hG 0 rfl rfl ok_X13 47 (by decide) q1518 rfl rfl dX13_records_71 ?_
        refine lv_iload_n hx hb dX13_records_74 rfl (lv_at hl 0 rfl) ?_
        refine n_iald hx hb hK hG 30 rfl (by omega) (by decide) dX13_records_75 ?_
        refine iv (y := (V 30 k)) (hE1 30 k rfl) ?_
        refine n_iast hx hb hK hG hS 34 (AM_in 34 (by decide)) rfl (by omega) (by decide) dX13_records_76 (fun H locs hG hO hS => ?_)
        refine lv_iinc (v := (nI (k + 1))) (lv' := [(1, .int (nI (k + 1))), (0, .ref o)]) hx hb dX13_records_77 hl (k := 0) rfl (nI_add _ _) (by decide) rfl (fun ls hl => ?_)
        refine lv_goto (tgt := 51) hx hb dX13_records_80 (by decide) ?_
        have hc34_1 : (up2 V1 34 ((48 * hs.length) + k) (V 30 k)) 34 = va_up (V1 34) ((48 * hs.length) + k) (V 30 k) := rfl
        have hc34 : (up2 V1 34 ((48 * hs.length) + k) (V 30 k)) 34 = va_up (V1 34) ((48 * hs.length) + k) (V 30 k) := hc34_1
        exact ih1 (k + 1) (up2 V1 34 ((48 * hs.length) + k) (V 30 k)) _ _ _ (by omega) (by omega) (Eqx.up hE1 rfl) (by rw [hc34]; exact fun i g hi j hj => (va_up_n (by have := (List.getElem?_eq_some_iff.mp hi).1; omega)).trans (hold i g hi j hj)) (by rw [hc34]; exact hn_step hnew) hG hS (lv_sub hl [0, 1] rfl)
    exact loop1 ((48 - 0) + 1) 0 V _ _ _ (Nat.lt_succ_self _) (by omega) Eqx.rf hold (fun j hj => absurd hj (Nat.not_lt_zero _)) hG hS (lv_sub hl [0, 1] rfl)
  refine lv_iconst (v := (nI 0)) hx hb dX13_records_9 (by decide) ?_
  refine lv_istore_n (lv' := [(1, .int (nI 0)), (0, .ref o)]) hx hb dX13_records_10 rfl hl (by decide) rfl (fun ls hl => ?_)
  have loop3 : ∀ (fu3 : Nat) (k : Nat) (V3 : GI) (H : Heap) (locs : List Loc) (ls : Array Slot), 1872 - k < fu3 → (k ≤ 1872) → (Eqx PV V V3) → (∀ j, j < k → V3 34 j = V 34 (j + 48)) → (∀ j, k ≤ j → V3 34 j = V 34 j) → gP D dA o dM V3 L Rf H → va_S (AM o) H0 H locs → lv_has ls 2 [(1, .int (nI k)), (0, .ref o)] → W p l e (mkRm 1 21) s m args below meth c H locs 0 0 QQ (F0 m 11 ls []) := by
    intro fu3
    induction fu3 with
    | zero => intro k V3 H locs ls hfu; exact absurd hfu (Nat.not_lt_zero _)
    | succ fu3 ih3 =>
      intro k V3 H locs ls hfu hk hE3 hslo hshi hG hS hl
      refine lv_iload_n hx hb dX13_records_11 rfl (lv_at hl 0 rfl) ?_
      refine lv_sipush (v := (nI 1872)) hx hb dX13_records_12 (by decide) ?_
      refine n_icmp_ge (tgt := 39) hx hb dX13_records_15 (by decide) (by omega) (by omega) (fun c15 => ?_) (fun c15 => ?_)
      · have hk18 : k = 1872 := by omega
        subst hk18
        refine lv_aload_n hx hb dX13_records_39 rfl (lv_at hl 1 rfl) ?_
        refine lv_dup hx hb dX13_records_40 rfl ?_
        refine g_get (v := .int (nI hs.length)) hx hb hts hown hK hG 0 rfl rfl ok_X13 53 (by decide) q1524 rfl (congrArg Value.int ((hE3 0 53 rfl).trans hh.2.1)) dX13_records_41 ?_
        refine lv_iconst (v := (nI 1)) hx hb dX13_records_44 (by decide) ?_
        refine n_isub hx hb dX13_records_45 (by omega) ?_
        refine g_put hx hb hts hown hK hG hS 0 (AM_in 0 (by decide)) rfl rfl ok_X13 53 (by decide) q1524 rfl rfl rfl rfl dX13_records_46 (fun H locs hG hO hS => ?_)
        obtain ⟨h2, hh2, hu2, hold⟩ : ∃ h2 : List Rw, h2 = (if hs.length = 40 then hs.drop 1 else hs) ∧ h2.length = hs.length - 1 ∧ ∀ (i : Nat) (g : Rw), h2[i]? = some g → ∀ j, j < 48 → V3 34 (48 * i + j) = g j := by
          refine ⟨hs.drop 1, by rw [if_pos c6], by simp, fun i g hi j hj => ?_⟩
          rw [List.getElem?_drop] at hi
          have hl := (List.getElem?_eq_some_iff.mp hi).1
          have h3 := hh.2.2 (1 + i) g hi j hj
          have h4 := hslo (48 * i + j) (by omega)
          exact h4.trans (by rw [show 48 * i + j + 48 = 48 * (1 + i) + j by omega]; exact h3)
        have hu40 : h2.length < 40 := by omega
        refine lv_iconst (v := (nI 0)) hx hb dX13_records_49 (by decide) ?_
        refine lv_istore_n (lv' := [(1, .int (nI 0)), (0, .ref o)]) hx hb dX13_records_50 rfl hl (by decide) rfl (fun ls hl => ?_)
        have loop4 : ∀ (fu4 : Nat) (k : Nat) (V4 : GI) (H : Heap) (locs : List Loc) (ls : Array Slot), 48 - k < fu4 → (k ≤ 48) → (Eqx PV (up2 V3 0 53 (nI (hs.length - 1))) V4) → (∀ (i : Nat) (g : Rw), h2[i]? = some g → ∀ j, j < 48 → V4 34 (48 * i + j) = g j) → (∀ j, j < k → V4 34 (48 * (hs.length - 1) + j) = V 30 j) → gP D dA o dM V4 L Rf H → va_S (AM o) H0 H locs → lv_has ls 2 [(1, .int (nI k)), (0, .ref o)] → W p l e (mkRm 1 21) s m args below meth c H locs 0 0 QQ (F0 m 51 ls []) := by
          intro fu4
          induction fu4 with
          | zero => intro k V4 H locs ls hfu; exact absurd hfu (Nat.not_lt_zero _)
          | succ fu4 ih4 =>
            intro k V4 H locs ls hfu hk hE4 hold hnew hG hS hl
            refine lv_iload_n hx hb dX13_records_51 rfl (lv_at hl 0 rfl) ?_
            refine lv_bipush (v := (nI 48)) hx hb dX13_records_52 (by decide) ?_
            refine n_icmp_ge (tgt := 83) hx hb dX13_records_54 (by decide) (by omega) (by omega) (fun c54 => ?_) (fun c54 => ?_)
            · refine lv_aload_n hx hb dX13_records_83 rfl (lv_at hl 1 rfl) ?_
              refine lv_dup hx hb dX13_records_84 rfl ?_
              refine g_get (v := .int (nI (hs.length - 1))) hx hb hts hown hK hG 0 rfl rfl ok_X13 53 (by decide) q1524 rfl (congrArg Value.int (hE4 0 53 rfl)) dX13_records_85 ?_
              refine lv_iconst (v := (nI 1)) hx hb dX13_records_88 (by decide) ?_
              refine n_iadd hx hb dX13_records_89 ?_
              refine g_put hx hb hts hown hK hG hS 0 (AM_in 0 (by decide)) rfl rfl ok_X13 53 (by decide) q1524 rfl rfl rfl rfl dX13_records_90 (fun H locs hG hO hS => ?_)
              refine lv_aload_n hx hb dX13_records_93 rfl (lv_at hl 1 rfl) ?_
              refine c_VV hx hb hml hts hown hK hl.1 hS ⟨Nat.le_refl _, Nat.le_refl _⟩ (met_X13_keepsRow l D dA hG) (cw_X13_160 hts ⟨by decide, by decide⟩) (hG 0 _ rfl) rfl rfl rfl rfl (Nat.le_of_ble_eq_true rfl) dX13_records_94 (fun _ h => h) (fun H1 locs hq hF hS => ?_)
              obtain ⟨V5, hG, hE5, hr5⟩ := hq
              generalize hHe5 : H1 = H at hG hS ⊢
              clear hHe5
              have hr5 : V5 30 = V 31 := hr5.trans (((funext (fun j => hE4 31 j rfl)).trans (funext (fun j => hE3 31 j rfl))))
              refine hend _ _ _ _ hS dX13_records_97 ?_
              have h53 : V5 0 53 = nI (h2.length + 1) := (hE5 0 53 rfl).trans (by rw [hu2]; rfl)
              have h34 : V5 34 = V4 34 := (funext (fun j => hE5 34 j rfl))
              refine ⟨rfl, _, hG, (((((hE3.mono PV_PA).up rfl).trans (hE4.mono PV_PA)).up rfl).trans (hE5.mono PN_PA)), hr5, ?_⟩
              unfold phF; rw [← hh2]
              exact rec_end rfl hu40 h53 (by rw [h34]; exact hold) (by rw [h34]; exact fun j hj => by rw [hu2]; exact hnew j (by omega))
            refine lv_aload_n hx hb dX13_records_57 rfl (lv_at hl 1 rfl) ?_
            refine g_get hx hb hts hown hK hG 0 rfl rfl ok_X13 54 (by decide) q1525 rfl rfl dX13_records_58 ?_
            refine lv_bipush (v := (nI 48)) hx hb dX13_records_61 (by decide) ?_
            refine lv_aload_n hx hb dX13_records_63 rfl (lv_at hl 1 rfl) ?_
            refine g_get (v := .int (nI (hs.length - 1))) hx hb hts hown hK hG 0 rfl rfl ok_X13 53 (by decide) q1524 rfl (congrArg Value.int (hE4 0 53 rfl)) dX13_records_64 ?_
            refine n_imul hx hb dX13_records_67 ?_
            refine lv_iload_n hx hb dX13_records_68 rfl (lv_at hl 0 rfl) ?_
            refine n_iadd hx hb dX13_records_69 ?_
            refine lv_aload_n hx hb dX13_records_70 rfl (lv_at hl 1 rfl) ?_
            refine g_get hx hb hts hown hK hG 0 rfl rfl ok_X13 47 (by decide) q1518 rfl rfl dX13_records_71 ?_
            refine lv_iload_n hx hb dX13_records_74 rfl (lv_at hl 0 rfl) ?_
            refine n_iald hx hb hK hG 30 rfl (by omega) (by decide) dX13_records_75 ?_
            refine iv (y := (V 30 k)) ((hE4 30 k rfl).trans (hE3 30 k rfl)) ?_
            refine n_iast hx hb hK hG hS 34 (AM_in 34 (by decide)) rfl (by omega) (by decide) dX13_records_76 (fun H locs hG hO hS => ?_)
            refine lv_iinc (v := (nI (k + 1))) (lv' := [(1, .int (nI (k + 1))), (0, .ref o)]) hx hb dX13_records_77 hl (k := 0) rfl (nI_add _ _) (by decide) rfl (fun ls hl => ?_)
            refine lv_goto (tgt := 51) hx hb dX13_records_80 (by decide) ?_
            have hc34_1 : (up2 V4 34 ((48 * (hs.length - 1)) + k) (V 30 k)) 34 = va_up (V4 34) ((48 * (hs.length - 1)) + k) (V 30 k) := rfl
            have hc34 : (up2 V4 34 ((48 * (hs.length - 1)) + k) (V 30 k)) 34 = va_up (V4 34) ((48 * (hs.length - 1)) + k) (V 30 k) := hc34_1
            exact ih4 (k + 1) (up2 V4 34 ((48 * (hs.length - 1)) + k) (V 30 k)) _ _ _ (by omega) (by omega) (Eqx.up hE4 rfl) (by rw [hc34]; exact fun i g hi j hj => (va_up_n (by have := (List.getElem?_eq_some_iff.mp hi).1; omega)).trans (hold i g hi j hj)) (by rw [hc34]; exact hn_step hnew) hG hS (lv_sub hl [0, 1] rfl)
        exact loop4 ((48 - 0) + 1) 0 (up2 V3 0 53 (nI (hs.length - 1))) _ _ _ (Nat.lt_succ_self _) (by omega) Eqx.rf hold (fun j hj => absurd hj (Nat.not_lt_zero _)) hG hS (lv_sub hl [0, 1] rfl)
      refine lv_aload_n hx hb dX13_records_18 rfl (lv_at hl 1 rfl) ?_
      refine g_get hx hb hts hown hK hG 0 rfl rfl ok_X13 54 (by decide) q1525 rfl rfl dX13_records_19 ?_
      refine lv_iload_n hx hb dX13_records_22 rfl (lv_at hl 0 rfl) ?_
      refine lv_aload_n hx hb dX13_records_23 rfl (lv_at hl 1 rfl) ?_
      refine g_get hx hb hts hown hK hG 0 rfl rfl ok_X13 54 (by decide) q1525 rfl rfl dX13_records_24 ?_
      refine lv_iload_n hx hb dX13_records_27 rfl (lv_at hl 0 rfl) ?_
      refine lv_bipush (v := (nI 48)) hx hb dX13_records_28 (by decide) ?_
      refine n_iadd hx hb dX13_records_30 ?_
      refine n_iald hx hb hK hG 34 rfl (by omega) (by decide) dX13_records_31 ?_
      refine iv (y := (V 34 (k + 48))) (hshi _ (by omega)) ?_
      refine n_iast hx hb hK hG hS 34 (AM_in 34 (by decide)) rfl (by omega) (by decide) dX13_records_32 (fun H locs hG hO hS => ?_)
      refine lv_iinc (v := (nI (k + 1))) (lv' := [(1, .int (nI (k + 1))), (0, .ref o)]) hx hb dX13_records_33 hl (k := 0) rfl (nI_add _ _) (by decide) rfl (fun ls hl => ?_)
      refine lv_goto (tgt := 11) hx hb dX13_records_36 (by decide) ?_
      have hc34_1 : (up2 V3 34 k (V 34 (k + 48))) 34 = va_up (V3 34) k (V 34 (k + 48)) := rfl
      have hc34 : (up2 V3 34 k (V 34 (k + 48))) 34 = va_up (V3 34) k (V 34 (k + 48)) := hc34_1
      exact ih3 (k + 1) (up2 V3 34 k (V 34 (k + 48))) _ _ _ (by omega) (by omega) (Eqx.up hE3 rfl) (by rw [hc34]; exact va_step (f := fun j => V 34 (j + 48)) hslo rfl) (by rw [hc34]; exact fun j hj => (va_up_n (by omega)).trans (hshi j (by omega))) hG hS (lv_sub hl [0, 1] rfl)
  exact loop3 ((1872 - 0) + 1) 0 V _ _ _ (Nat.lt_succ_self _) (by omega) Eqx.rf (fun j hj => absurd hj (Nat.not_lt_zero _)) (fun _ _ => rfl) hG hS (lv_sub hl [0, 1] rfl)
