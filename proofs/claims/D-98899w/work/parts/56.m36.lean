def PTs (k j : Nat) : Bool := k == 9 || k == 10 || k == 11 || (k == 0 && (j == 11 || j == 13 || j == 14 || j == 15 || j == 16 || j == 20))
theorem PFl_PTs : ∀ k j, PTs k j = false → PFl k j = false := by intro k j h; simp only [PFl, PTs, Bool.or_eq_false_iff, Bool.and_eq_false_iff, beq_eq_false_iff_ne, ne_eq] at *; omega
theorem PGo_PTs : ∀ k j, PTs k j = false → PGo k j = false := by intro k j h; simp only [PGo, PTs, Bool.or_eq_false_iff, Bool.and_eq_false_iff, beq_eq_false_iff_ne, ne_eq] at *; omega
theorem PWo_PTs : ∀ k j, PTs k j = false → PWo k j = false := by intro k j h; simp only [PWo, PTs, Bool.or_eq_false_iff, Bool.and_eq_false_iff, beq_eq_false_iff_ne, ne_eq] at *; omega
theorem PBd_PTs : ∀ k j, PTs k j = false → PBd k j = false := by intro k j h; simp only [PBd, PTs, Bool.or_eq_false_iff, Bool.and_eq_false_iff, beq_eq_false_iff_ne, ne_eq] at *; omega
/-- names told twice: what the first n names make of the worst -/
def smW (fo wo : Fo) (nm : Nat → Nat) (x p : Nat) : Nat → Fo
  | 0 => wo
  | i + 1 => if nm i = x then woP fo (smW fo wo nm x p i) 3 p else smW fo wo nm x p i
theorem smW_f {fo wo : Fo} {nm : Nat → Nat} {x p : Nat} (h : fo ≠ none) : ∀ i, smW fo wo nm x p i = wo
  | 0 => rfl
  | i + 1 => by
    unfold smW
    rw [smW_f h i]
    cases fo with
    | none => exact absurd rfl h
    | some q => show (if nm i = x then wo else wo) = wo; split <;> rfl
/-- a sleeper told at t: the places and faults after the name, the first int, the second, the end; the worst after each -/
def tsA (kd pl : Nat → Nat) (t : Nat) (fo : Fo) : Nat × Fo := muP kd pl 1 t fo
set_option maxHeartbeats 4000000 in
theorem met_X13_tellSleeper (l : Launch) (D : va_G) (dA : Nat → ClassId) {o : Nat} {V : GI} {L : GL} {Rf : GR} {H0 : Heap} (hG : gP D dA o dM V L Rf H0) {ch : Nat → Nat} {sz m0 : Nat} (hT : tkOK V L ch sz m0) {t : Nat} {fo : Fo} (hps : psM V m0 t fo) {wo : Fo} (hwo : woM V wo) {nm : Nat → Nat} {sd n : Nat} (h19 : V 0 19 = nI sd) (hsd9 : sd < 2) (hn : V 9 sd = nI n) (hn9 : n < 9) (h20 : V 0 20 = nI n) (hnm : ∀ i, i < n → L 8 i = lN (nm i) ∧ nm i < 2 ^ 62) : Ctr l D dA yX13_tellSleeper cX13_tellSleeper 4 none (mkRm 3 64) [.ref o] H0 (AM o) (QV (fun H1 => ∃ V1 L1, gP D dA o dM V1 L1 Rf H1 ∧ Eqx PTs V V1 ∧ psM V1 m0 (muP (kdF ch sz) (plF ch sz) 4 (bdP (kdF ch sz) (plF ch sz) (bdP (kdF ch sz) (plF ch sz) (muP (kdF ch sz) (plF ch sz) 1 t fo).1 (muP (kdF ch sz) (plF ch sz) 1 t fo).2).1 (bdP (kdF ch sz) (plF ch sz) (muP (kdF ch sz) (plF ch sz) 1 t fo).1 (muP (kdF ch sz) (plF ch sz) 1 t fo).2).2).1 (bdP (kdF ch sz) (plF ch sz) (bdP (kdF ch sz) (plF ch sz) (muP (kdF ch sz) (plF ch sz) 1 t fo).1 (muP (kdF ch sz) (plF ch sz) 1 t fo).2).1 (bdP (kdF ch sz) (plF ch sz) (muP (kdF ch sz) (plF ch sz) 1 t fo).1 (muP (kdF ch sz) (plF ch sz) 1 t fo).2).2).2).1 (muP (kdF ch sz) (plF ch sz) 4 (bdP (kdF ch sz) (plF ch sz) (bdP (kdF ch sz) (plF ch sz) (muP (kdF ch sz) (plF ch sz) 1 t fo).1 (muP (kdF ch sz) (plF ch sz) 1 t fo).2).1 (bdP (kdF ch sz) (plF ch sz) (muP (kdF ch sz) (plF ch sz) 1 t fo).1 (muP (kdF ch sz) (plF ch sz) 1 t fo).2).2).1 (bdP (kdF ch sz) (plF ch sz) (bdP (kdF ch sz) (plF ch sz) (muP (kdF ch sz) (plF ch sz) 1 t fo).1 (muP (kdF ch sz) (plF ch sz) 1 t fo).2).1 (bdP (kdF ch sz) (plF ch sz) (muP (kdF ch sz) (plF ch sz) 1 t fo).1 (muP (kdF ch sz) (plF ch sz) 1 t fo).2).2).2).2 ∧ woM V1 (bdW (kdF ch sz) (plF ch sz) (vlF ch sz) 0 9 (bdP (kdF ch sz) (plF ch sz) (muP (kdF ch sz) (plF ch sz) 1 t fo).1 (muP (kdF ch sz) (plF ch sz) 1 t fo).2).1 (bdP (kdF ch sz) (plF ch sz) (muP (kdF ch sz) (plF ch sz) 1 t fo).1 (muP (kdF ch sz) (plF ch sz) 1 t fo).2).2 (bdW (kdF ch sz) (plF ch sz) (vlF ch sz) 0 1 (muP (kdF ch sz) (plF ch sz) 1 t fo).1 (muP (kdF ch sz) (plF ch sz) 1 t fo).2 (smW (muP (kdF ch sz) (plF ch sz) 1 t fo).2 wo nm (nmF ch sz t) (plF ch sz t) n))) ∧ V1 10 (9 * sd + n) = nI (bdV (kdF ch sz) (vlF ch sz) 0 (muP (kdF ch sz) (plF ch sz) 1 t fo).1 (muP (kdF ch sz) (plF ch sz) 1 t fo).2) ∧ V1 11 (9 * sd + n) = nI (bdV (kdF ch sz) (vlF ch sz) 0 (bdP (kdF ch sz) (plF ch sz) (muP (kdF ch sz) (plF ch sz) 1 t fo).1 (muP (kdF ch sz) (plF ch sz) 1 t fo).2).1 (bdP (kdF ch sz) (plF ch sz) (muP (kdF ch sz) (plF ch sz) 1 t fo).1 (muP (kdF ch sz) (plF ch sz) 1 t fo).2).2) ∧ atM V V1 10 (9 * sd + n) ∧ atM V V1 11 (9 * sd + n) ∧ atM V V1 9 sd ∧ ((muP (kdF ch sz) (plF ch sz) 4 (bdP (kdF ch sz) (plF ch sz) (bdP (kdF ch sz) (plF ch sz) (muP (kdF ch sz) (plF ch sz) 1 t fo).1 (muP (kdF ch sz) (plF ch sz) 1 t fo).2).1 (bdP (kdF ch sz) (plF ch sz) (muP (kdF ch sz) (plF ch sz) 1 t fo).1 (muP (kdF ch sz) (plF ch sz) 1 t fo).2).2).1 (bdP (kdF ch sz) (plF ch sz) (bdP (kdF ch sz) (plF ch sz) (muP (kdF ch sz) (plF ch sz) 1 t fo).1 (muP (kdF ch sz) (plF ch sz) 1 t fo).2).1 (bdP (kdF ch sz) (plF ch sz) (muP (kdF ch sz) (plF ch sz) 1 t fo).1 (muP (kdF ch sz) (plF ch sz) 1 t fo).2).2).2).2 = none → V1 9 sd = nI (n + 1) ∧ V1 0 20 = nI (n + 1) ∧ L1 = up2 L 8 n (lN (nmF ch sz t))) ∧ ((muP (kdF ch sz) (plF ch sz) 4 (bdP (kdF ch sz) (plF ch sz) (bdP (kdF ch sz) (plF ch sz) (muP (kdF ch sz) (plF ch sz) 1 t fo).1 (muP (kdF ch sz) (plF ch sz) 1 t fo).2).1 (bdP (kdF ch sz) (plF ch sz) (muP (kdF ch sz) (plF ch sz) 1 t fo).1 (muP (kdF ch sz) (plF ch sz) 1 t fo).2).2).1 (bdP (kdF ch sz) (plF ch sz) (bdP (kdF ch sz) (plF ch sz) (muP (kdF ch sz) (plF ch sz) 1 t fo).1 (muP (kdF ch sz) (plF ch sz) 1 t fo).2).1 (bdP (kdF ch sz) (plF ch sz) (muP (kdF ch sz) (plF ch sz) 1 t fo).1 (muP (kdF ch sz) (plF ch sz) 1 t fo).2).2).2).2 ≠ none → V1 9 sd = nI n ∧ V1 0 20 = nI n ∧ L1 = L))) := by
  have hm9 := hT.2.2.1
  refine ctr_V (by decide) (Nat.le_of_ble_eq_true rfl) ?_
  intro p e s m args below meth c ls QQ locs hx hb hml hown hts hK hend hS hl
  have hl : lv_has ls 4 [(0, .ref o)] := hl
  obtain ⟨ft, hft9, hft, hfz⟩ := fo_z hps.2.2
  have htm := hps.1
  obtain ⟨hk3, hk4, hk5, hk6⟩ := hT.1 t htm
  have hkd9 := kd_lt ch sz t
  have hb3 := (hT.2.2.2.2.2 t htm).1
  have hb5 := (hT.2.2.2.2.2 t htm).2.1
  refine lv_bipush (v := (nI 9)) hx hb dX13_tellSleeper_0 (by decide) ?_
  refine lv_aload_n hx hb dX13_tellSleeper_2 rfl (lv_at hl 0 rfl) ?_
  refine g_get (v := .int (nI sd)) hx hb hts hown hK hG 0 rfl rfl ok_X13 19 (by decide) q1490 rfl (congrArg Value.int h19) dX13_tellSleeper_3 ?_
  refine n_imul hx hb dX13_tellSleeper_6 ?_
  refine lv_aload_n hx hb dX13_tellSleeper_7 rfl (lv_at hl 0 rfl) ?_
  refine g_get hx hb hts hown hK hG 0 rfl rfl ok_X13 22 (by decide) q1493 rfl rfl dX13_tellSleeper_8 ?_
  refine lv_aload_n hx hb dX13_tellSleeper_11 rfl (lv_at hl 0 rfl) ?_
  refine g_get (v := .int (nI sd)) hx hb hts hown hK hG 0 rfl rfl ok_X13 19 (by decide) q1490 rfl (congrArg Value.int h19) dX13_tellSleeper_12 ?_
  refine n_iald hx hb hK hG 9 rfl (by omega) (by decide) dX13_tellSleeper_15 ?_
  refine iv (y := (nI n)) hn ?_
  refine n_iadd hx hb dX13_tellSleeper_16 ?_
  refine lv_istore_n (lv' := [(1, .int (nI ((9 * sd) + n))), (0, .ref o)]) hx hb dX13_tellSleeper_17 rfl hl (by decide) rfl (fun ls hl => ?_)
  refine lv_aload_n hx hb dX13_tellSleeper_18 rfl (lv_at hl 1 rfl) ?_
  refine g_get (v := .int (nI t)) hx hb hts hown hK hG 0 rfl rfl ok_X13 11 (by decide) q1482 rfl (congrArg Value.int hps.2.1) dX13_tellSleeper_19 ?_
  refine lv_istore_n (lv' := [(2, .int (nI t)), (1, .int (nI ((9 * sd) + n))), (0, .ref o)]) hx hb dX13_tellSleeper_22 rfl hl (by decide) rfl (fun ls hl => ?_)
  refine lv_aload_n hx hb dX13_tellSleeper_23 rfl (lv_at hl 2 rfl) ?_
  refine lv_iconst (v := (nI 1)) hx hb dX13_tellSleeper_24 (by decide) ?_
  refine c_VV hx hb hml hts hown hK hl.1 hS ⟨Nat.le_refl _, Nat.le_refl _⟩ (met_X13_must l D dA hG hT hps 1 (by omega) (by omega)) (cw_X13_266 hts ⟨by decide, by decide⟩) (hG 0 _ rfl) rfl rfl rfl rfl (Nat.le_of_ble_eq_true rfl) dX13_tellSleeper_25 (fun _ h => h) (fun H1 locs hq hF hS => ?_)
  obtain ⟨V1, hG, hE1, hps1⟩ := hq
  generalize hHe1 : H1 = H at hG hS ⊢
  clear hHe1
  obtain ⟨t1, fo1, he1⟩ : ∃ a b, muP (kdF ch sz) (plF ch sz) 1 t fo = (a, b) := ⟨_, _, rfl⟩
  replace hps1 : psM V1 m0 t1 fo1 := by rw [he1] at hps1; exact hps1
  obtain ⟨ft1, hft91, hft1, hfz1⟩ := fo_z hps1.2.2
  have htm1 := hps1.1
  obtain ⟨hk31, hk41, hk51, hk61⟩ := hT.1 t1 htm1
  have hkd91 := kd_lt ch sz t1
  have hb31 := (hT.2.2.2.2.2 t1 htm1).1
  have hb51 := (hT.2.2.2.2.2 t1 htm1).2.1
  refine lv_iconst (v := (nI 0)) hx hb dX13_tellSleeper_28 (by decide) ?_
  refine lv_istore_n (lv' := [(3, .int (nI 0)), (2, .int (nI t)), (1, .int (nI ((9 * sd) + n))), (0, .ref o)]) hx hb dX13_tellSleeper_29 rfl hl (by decide) rfl (fun ls hl => ?_)
  have loop2 : ∀ (fu2 : Nat) (i : Nat) (w2 : Fo) (V2 : GI) (H : Heap) (locs : List Loc) (ls : Array Slot), n - i < fu2 → (i ≤ n) → (smW fo1 wo nm (nmF ch sz t) (plF ch sz t) i = w2) → (Eqx PWo V1 V2) → (woM V2 w2) → gP D dA o dM V2 L Rf H → va_S (AM o) H0 H locs → lv_has ls 4 [(3, .int (nI i)), (2, .int (nI t)), (1, .int (nI ((9 * sd) + n))), (0, .ref o)] → W p l e (mkRm 3 64) s m args below meth c H locs 0 0 QQ (F0 m 30 ls []) := by
    intro fu2
    induction fu2 with
    | zero => intro i w2 V2 H locs ls hfu; exact absurd hfu (Nat.not_lt_zero _)
    | succ fu2 ih2 =>
      intro i w2 V2 H locs ls hfu hin hw2 hE2 hwo2 hG hS hl
      refine lv_iload_n hx hb dX13_tellSleeper_30 rfl (lv_at hl 0 rfl) ?_
      refine lv_aload_n hx hb dX13_tellSleeper_31 rfl (lv_at hl 3 rfl) ?_
      refine g_get (v := .int (nI n)) hx hb hts hown hK hG 0 rfl rfl ok_X13 20 (by decide) q1491 rfl (congrArg Value.int (((hE2 0 20 rfl).trans (hE1 0 20 rfl)).trans h20)) dX13_tellSleeper_32 ?_
      refine n_icmp_ge (tgt := 73) hx hb dX13_tellSleeper_35 (by decide) (by omega) (by omega) (fun c35 => ?_) (fun c35 => ?_)
      · have hsm : smW fo1 wo nm (nmF ch sz t) (plF ch sz t) n = w2 := by rw [show n = i by omega]; exact hw2
        refine lv_aload_n hx hb dX13_tellSleeper_73 rfl (lv_at hl 3 rfl) ?_
        refine g_get hx hb hts hown hK hG 0 rfl rfl ok_X13 23 (by decide) q1494 rfl rfl dX13_tellSleeper_74 ?_
        refine lv_iload_n hx hb dX13_tellSleeper_77 rfl (lv_at hl 2 rfl) ?_
        refine lv_aload_n hx hb dX13_tellSleeper_78 rfl (lv_at hl 3 rfl) ?_
        refine lv_iconst (v := (nI 0)) hx hb dX13_tellSleeper_79 (by decide) ?_
        refine lv_iconst (v := (nI 1)) hx hb dX13_tellSleeper_80 (by decide) ?_
        refine c_VI hx hb hml hts hown hK hl.1 hS ⟨Nat.le_refl _, Nat.le_refl _⟩ (met_X13_bounded l D dA hG (tkOK_to (V := V) (fun j => (Eq.trans (hE2 3 j rfl) (hE1 3 j rfl))) (fun j => (Eq.trans (hE2 4 j rfl) (hE1 4 j rfl))) (fun j => (Eq.trans (hE2 5 j rfl) (hE1 5 j rfl))) hT) (psM_to (V := V1) (hE2 0 11 rfl) (hE2 0 13 rfl) (hE2 0 14 rfl) hps1) hwo2 0 1 (by omega) (by omega)) (cw_X13_262 hts ⟨by decide, by decide⟩) (hG 0 _ rfl) rfl rfl rfl rfl (Nat.le_of_ble_eq_true rfl) dX13_tellSleeper_81 (fun _ h => h) (fun r H1 locs hq hF hS => ?_)
        obtain ⟨rfl, hq⟩ := hq
        obtain ⟨V3, hG, hE3, hps3, hwo3⟩ := hq
        generalize hHe3 : H1 = H at hG hS ⊢
        clear hHe3
        obtain ⟨wo3, hew3⟩ : ∃ a, bdW (kdF ch sz) (plF ch sz) (vlF ch sz) 0 1 t1 fo1 w2 = a := ⟨_, rfl⟩
        rw [hew3] at hwo3
        obtain ⟨t3, fo3, he3⟩ : ∃ a b, bdP (kdF ch sz) (plF ch sz) t1 fo1 = (a, b) := ⟨_, _, rfl⟩
        replace hps3 : psM V3 m0 t3 fo3 := by rw [he3] at hps3; exact hps3
        obtain ⟨ft3, hft93, hft3, hfz3⟩ := fo_z hps3.2.2
        have htm3 := hps3.1
        obtain ⟨hk33, hk43, hk53, hk63⟩ := hT.1 t3 htm3
        have hkd93 := kd_lt ch sz t3
        have hb33 := (hT.2.2.2.2.2 t3 htm3).1
        have hb53 := (hT.2.2.2.2.2 t3 htm3).2.1
        refine n_iast hx hb hK hG hS 10 (AM_in 10 (by decide)) rfl (by omega) (by decide) dX13_tellSleeper_84 (fun H locs hG hO hS => ?_)
        refine lv_aload_n hx hb dX13_tellSleeper_85 rfl (lv_at hl 3 rfl) ?_
        refine g_get hx hb hts hown hK hG 0 rfl rfl ok_X13 24 (by decide) q1495 rfl rfl dX13_tellSleeper_86 ?_
        refine lv_iload_n hx hb dX13_tellSleeper_89 rfl (lv_at hl 2 rfl) ?_
        refine lv_aload_n hx hb dX13_tellSleeper_90 rfl (lv_at hl 3 rfl) ?_
        refine lv_iconst (v := (nI 0)) hx hb dX13_tellSleeper_91 (by decide) ?_
        refine lv_bipush (v := (nI 9)) hx hb dX13_tellSleeper_92 (by decide) ?_
        refine c_VI hx hb hml hts hown hK hl.1 hS ⟨Nat.le_refl _, Nat.le_refl _⟩ (met_X13_bounded l D dA hG (tkOK_to (V := V) (fun j => (Eq.trans (hE3 3 j rfl) (Eq.trans (hE2 3 j rfl) (hE1 3 j rfl)))) (fun j => (Eq.trans (hE3 4 j rfl) (Eq.trans (hE2 4 j rfl) (hE1 4 j rfl)))) (fun j => (Eq.trans (hE3 5 j rfl) (Eq.trans (hE2 5 j rfl) (hE1 5 j rfl)))) hT) (psM_to (V := V3) rfl rfl rfl hps3) (woM_to (V := V3) rfl rfl hwo3) 0 9 (by omega) (by omega)) (cw_X13_262 hts ⟨by decide, by decide⟩) (hG 0 _ rfl) rfl rfl rfl rfl (Nat.le_of_ble_eq_true rfl) dX13_tellSleeper_94 (fun _ h => h) (fun r H1 locs hq hF hS => ?_)
        obtain ⟨rfl, hq⟩ := hq
        obtain ⟨V4, hG, hE4, hps4, hwo4⟩ := hq
        generalize hHe4 : H1 = H at hG hS ⊢
        clear hHe4
        obtain ⟨wo4, hew4⟩ : ∃ a, bdW (kdF ch sz) (plF ch sz) (vlF ch sz) 0 9 t3 fo3 wo3 = a := ⟨_, rfl⟩
        rw [hew4] at hwo4
        obtain ⟨t4, fo4, he4⟩ : ∃ a b, bdP (kdF ch sz) (plF ch sz) t3 fo3 = (a, b) := ⟨_, _, rfl⟩
        replace hps4 : psM V4 m0 t4 fo4 := by rw [he4] at hps4; exact hps4
        obtain ⟨ft4, hft94, hft4, hfz4⟩ := fo_z hps4.2.2
        have htm4 := hps4.1
        obtain ⟨hk34, hk44, hk54, hk64⟩ := hT.1 t4 htm4
        have hkd94 := kd_lt ch sz t4
        have hb34 := (hT.2.2.2.2.2 t4 htm4).1
        have hb54 := (hT.2.2.2.2.2 t4 htm4).2.1
        refine n_iast hx hb hK hG hS 11 (AM_in 11 (by decide)) rfl (by omega) (by decide) dX13_tellSleeper_97 (fun H locs hG hO hS => ?_)
        refine lv_aload_n hx hb dX13_tellSleeper_98 rfl (lv_at hl 3 rfl) ?_
        refine lv_iconst (v := (nI 4)) hx hb dX13_tellSleeper_99 (by decide) ?_
        refine c_VV hx hb hml hts hown hK hl.1 hS ⟨Nat.le_refl _, Nat.le_refl _⟩ (met_X13_must l D dA hG (tkOK_to (V := V) (fun j => (Eq.trans (hE4 3 j rfl) (Eq.trans (hE3 3 j rfl) (Eq.trans (hE2 3 j rfl) (hE1 3 j rfl))))) (fun j => (Eq.trans (hE4 4 j rfl) (Eq.trans (hE3 4 j rfl) (Eq.trans (hE2 4 j rfl) (hE1 4 j rfl))))) (fun j => (Eq.trans (hE4 5 j rfl) (Eq.trans (hE3 5 j rfl) (Eq.trans (hE2 5 j rfl) (hE1 5 j rfl))))) hT) (psM_to (V := V4) rfl rfl rfl hps4) 4 (by omega) (by omega)) (cw_X13_266 hts ⟨by decide, by decide⟩) (hG 0 _ rfl) rfl rfl rfl rfl (Nat.le_of_ble_eq_true rfl) dX13_tellSleeper_100 (fun _ h => h) (fun H1 locs hq hF hS => ?_)
        obtain ⟨V5, hG, hE5, hps5⟩ := hq
        generalize hHe5 : H1 = H at hG hS ⊢
        clear hHe5
        obtain ⟨t5, fo5, he5⟩ : ∃ a b, muP (kdF ch sz) (plF ch sz) 4 t4 fo4 = (a, b) := ⟨_, _, rfl⟩
        replace hps5 : psM V5 m0 t5 fo5 := by rw [he5] at hps5; exact hps5
        obtain ⟨ft5, hft95, hft5, hfz5⟩ := fo_z hps5.2.2
        have htm5 := hps5.1
        obtain ⟨hk35, hk45, hk55, hk65⟩ := hT.1 t5 htm5
        have hkd95 := kd_lt ch sz t5
        have hb35 := (hT.2.2.2.2.2 t5 htm5).1
        have hb55 := (hT.2.2.2.2.2 t5 htm5).2.1
        refine lv_aload_n hx hb dX13_tellSleeper_103 rfl (lv_at hl 3 rfl) ?_
        refine g_get (v := .int (nI ft5)) hx hb hts hown hK hG 0 rfl rfl ok_X13 13 (by decide) q1484 rfl (congrArg Value.int hft5) dX13_tellSleeper_104 ?_
        refine n_if_le (tgt := 111) hx hb dX13_tellSleeper_107 (by decide) (by omega) (fun c107 => ?_) (fun c107 => ?_)
        · refine lv_aload_n hx hb dX13_tellSleeper_111 rfl (lv_at hl 3 rfl) ?_
          refine g_get hx hb hts hown hK hG 0 rfl rfl ok_X13 21 (by decide) q1492 rfl rfl dX13_tellSleeper_112 ?_
          refine lv_aload_n hx hb dX13_tellSleeper_115 rfl (lv_at hl 3 rfl) ?_
          refine g_get (v := .int (nI n)) hx hb hts hown hK hG 0 rfl rfl ok_X13 20 (by decide) q1491 rfl (congrArg Value.int (((hE5 0 20 rfl).trans ((hE4 0 20 rfl).trans ((hE3 0 20 rfl).trans ((hE2 0 20 rfl).trans (hE1 0 20 rfl))))).trans h20)) dX13_tellSleeper_116 ?_
          refine lv_aload_n hx hb dX13_tellSleeper_119 rfl (lv_at hl 3 rfl) ?_
          refine g_get hx hb hts hown hK hG 0 rfl rfl ok_X13 8 (by decide) q1479 rfl rfl dX13_tellSleeper_120 ?_
          refine lv_iload_n hx hb dX13_tellSleeper_123 rfl (lv_at hl 1 rfl) ?_
          refine n_lald hx hb hK hG 6 rfl (by omega) (by decide) dX13_tellSleeper_124 ?_
          refine jv (y := lN (nmF ch sz t)) hk6 ?_
          refine n_last hx hb hK hG hS 8 (AM_in 8 (by decide)) rfl (by omega) (by decide) dX13_tellSleeper_125 (fun H locs hG hO hS => ?_)
          refine lv_aload_n hx hb dX13_tellSleeper_126 rfl (lv_at hl 3 rfl) ?_
          refine lv_dup hx hb dX13_tellSleeper_127 rfl ?_
          refine g_get (v := .int (nI n)) hx hb hts hown hK hG 0 rfl rfl ok_X13 20 (by decide) q1491 rfl (congrArg Value.int (((hE5 0 20 rfl).trans ((hE4 0 20 rfl).trans ((hE3 0 20 rfl).trans ((hE2 0 20 rfl).trans (hE1 0 20 rfl))))).trans h20)) dX13_tellSleeper_128 ?_
          refine lv_iconst (v := (nI 1)) hx hb dX13_tellSleeper_131 (by decide) ?_
          refine n_iadd hx hb dX13_tellSleeper_132 ?_
          refine g_put hx hb hts hown hK hG hS 0 (AM_in 0 (by decide)) rfl rfl ok_X13 20 (by decide) q1491 rfl rfl rfl rfl dX13_tellSleeper_133 (fun H locs hG hO hS => ?_)
          refine lv_aload_n hx hb dX13_tellSleeper_136 rfl (lv_at hl 3 rfl) ?_
          refine g_get hx hb hts hown hK hG 0 rfl rfl ok_X13 22 (by decide) q1493 rfl rfl dX13_tellSleeper_137 ?_
          refine lv_aload_n hx hb dX13_tellSleeper_140 rfl (lv_at hl 3 rfl) ?_
          refine g_get (v := .int (nI sd)) hx hb hts hown hK hG 0 rfl rfl ok_X13 19 (by decide) q1490 rfl (congrArg Value.int (((hE5 0 19 rfl).trans ((hE4 0 19 rfl).trans ((hE3 0 19 rfl).trans ((hE2 0 19 rfl).trans (hE1 0 19 rfl))))).trans h19)) dX13_tellSleeper_141 ?_
          refine lv_dup2_11 hx hb dX13_tellSleeper_144 rfl rfl ?_
          refine n_iald hx hb hK hG 9 rfl (by omega) (by decide) dX13_tellSleeper_145 ?_
          refine iv (y := (nI n)) (((hE5 9 sd rfl).trans ((hE4 9 sd rfl).trans ((hE3 9 sd rfl).trans ((hE2 9 sd rfl).trans (hE1 9 sd rfl))))).trans hn) ?_
          refine lv_iconst (v := (nI 1)) hx hb dX13_tellSleeper_146 (by decide) ?_
          refine n_iadd hx hb dX13_tellSleeper_147 ?_
          refine n_iast hx hb hK hG hS 9 (AM_in 9 (by decide)) rfl (by omega) (by decide) dX13_tellSleeper_148 (fun H locs hG hO hS => ?_)
          refine hend _ _ _ _ hS dX13_tellSleeper_149 ?_
          have hRR : (muP (kdF ch sz) (plF ch sz) 4 (bdP (kdF ch sz) (plF ch sz) (bdP (kdF ch sz) (plF ch sz) (muP (kdF ch sz) (plF ch sz) 1 t fo).1 (muP (kdF ch sz) (plF ch sz) 1 t fo).2).1 (bdP (kdF ch sz) (plF ch sz) (muP (kdF ch sz) (plF ch sz) 1 t fo).1 (muP (kdF ch sz) (plF ch sz) 1 t fo).2).2).1 (bdP (kdF ch sz) (plF ch sz) (bdP (kdF ch sz) (plF ch sz) (muP (kdF ch sz) (plF ch sz) 1 t fo).1 (muP (kdF ch sz) (plF ch sz) 1 t fo).2).1 (bdP (kdF ch sz) (plF ch sz) (muP (kdF ch sz) (plF ch sz) 1 t fo).1 (muP (kdF ch sz) (plF ch sz) 1 t fo).2).2).2) = (t5, fo5) := by simp only [he1, he3, he4, he5]
          have hWW : (bdW (kdF ch sz) (plF ch sz) (vlF ch sz) 0 9 (bdP (kdF ch sz) (plF ch sz) (muP (kdF ch sz) (plF ch sz) 1 t fo).1 (muP (kdF ch sz) (plF ch sz) 1 t fo).2).1 (bdP (kdF ch sz) (plF ch sz) (muP (kdF ch sz) (plF ch sz) 1 t fo).1 (muP (kdF ch sz) (plF ch sz) 1 t fo).2).2 (bdW (kdF ch sz) (plF ch sz) (vlF ch sz) 0 1 (muP (kdF ch sz) (plF ch sz) 1 t fo).1 (muP (kdF ch sz) (plF ch sz) 1 t fo).2 (smW (muP (kdF ch sz) (plF ch sz) 1 t fo).2 wo nm (nmF ch sz t) (plF ch sz t) n))) = wo4 := by simp only [he1, he3, hsm, hew3, hew4]
          rw [hRR, hWW]
          simp only [he1, he3]
          refine ⟨rfl, _, (up2 L 8 n (lN (nmF ch sz t))), hG, (((((((((hE1.mono PGo_PTs).trans (hE2.mono PWo_PTs)).trans (hE3.mono PBd_PTs)).up rfl).trans (hE4.mono PBd_PTs)).up rfl).trans (hE5.mono PGo_PTs)).up rfl).up rfl), (psM_to (V := V5) rfl rfl rfl hps5), (woM_to (V := V4) (hE5 0 15 rfl) (hE5 0 16 rfl) hwo4), (Eq.trans (hE5 10 _ rfl) (Eq.trans (hE4 10 _ rfl) (show up2 _ 10 _ _ 10 _ = _ from up2_s))), (Eq.trans (hE5 11 _ rfl) (show up2 _ 11 _ _ 11 _ = _ from up2_s)), fun j hj => (Eq.trans (hE5 10 j rfl) (Eq.trans (hE4 10 j rfl) (Eq.trans (show up2 _ 10 _ _ 10 _ = _ from up2_n (fun z => hj z.2)) (Eq.trans (hE3 10 j rfl) (Eq.trans (hE2 10 j rfl) (hE1 10 j rfl)))))), fun j hj => (Eq.trans (hE5 11 j rfl) (Eq.trans (show up2 _ 11 _ _ 11 _ = _ from up2_n (fun z => hj z.2)) (Eq.trans (hE4 11 j rfl) (Eq.trans (hE3 11 j rfl) (Eq.trans (hE2 11 j rfl) (hE1 11 j rfl)))))), fun j hj => (Eq.trans (show up2 _ 9 _ _ 9 _ = _ from up2_n (fun z => hj z.2)) (Eq.trans (hE5 9 j rfl) (Eq.trans (hE4 9 j rfl) (Eq.trans (hE3 9 j rfl) (Eq.trans (hE2 9 j rfl) (hE1 9 j rfl)))))), ?_, ?_⟩
          · exact fun _ => ⟨(show up2 _ 9 _ _ 9 _ = _ from up2_s), rfl, rfl⟩
          · exact fun z => absurd (hfz5.mp (by omega)) z
        refine hend _ _ _ _ hS dX13_tellSleeper_110 ?_
        have hRR : (muP (kdF ch sz) (plF ch sz) 4 (bdP (kdF ch sz) (plF ch sz) (bdP (kdF ch sz) (plF ch sz) (muP (kdF ch sz) (plF ch sz) 1 t fo).1 (muP (kdF ch sz) (plF ch sz) 1 t fo).2).1 (bdP (kdF ch sz) (plF ch sz) (muP (kdF ch sz) (plF ch sz) 1 t fo).1 (muP (kdF ch sz) (plF ch sz) 1 t fo).2).2).1 (bdP (kdF ch sz) (plF ch sz) (bdP (kdF ch sz) (plF ch sz) (muP (kdF ch sz) (plF ch sz) 1 t fo).1 (muP (kdF ch sz) (plF ch sz) 1 t fo).2).1 (bdP (kdF ch sz) (plF ch sz) (muP (kdF ch sz) (plF ch sz) 1 t fo).1 (muP (kdF ch sz) (plF ch sz) 1 t fo).2).2).2) = (t5, fo5) := by simp only [he1, he3, he4, he5]
        have hWW : (bdW (kdF ch sz) (plF ch sz) (vlF ch sz) 0 9 (bdP (kdF ch sz) (plF ch sz) (muP (kdF ch sz) (plF ch sz) 1 t fo).1 (muP (kdF ch sz) (plF ch sz) 1 t fo).2).1 (bdP (kdF ch sz) (plF ch sz) (muP (kdF ch sz) (plF ch sz) 1 t fo).1 (muP (kdF ch sz) (plF ch sz) 1 t fo).2).2 (bdW (kdF ch sz) (plF ch sz) (vlF ch sz) 0 1 (muP (kdF ch sz) (plF ch sz) 1 t fo).1 (muP (kdF ch sz) (plF ch sz) 1 t fo).2 (smW (muP (kdF ch sz) (plF ch sz) 1 t fo).2 wo nm (nmF ch sz t) (plF ch sz t) n))) = wo4 := by simp only [he1, he3, hsm, hew3, hew4]
        rw [hRR, hWW]
        simp only [he1, he3]
        refine ⟨rfl, _, L, hG, (((((((hE1.mono PGo_PTs).trans (hE2.mono PWo_PTs)).trans (hE3.mono PBd_PTs)).up rfl).trans (hE4.mono PBd_PTs)).up rfl).trans (hE5.mono PGo_PTs)), hps5, (woM_to (V := V4) (hE5 0 15 rfl) (hE5 0 16 rfl) hwo4), (Eq.trans (hE5 10 _ rfl) (Eq.trans (hE4 10 _ rfl) (show up2 _ 10 _ _ 10 _ = _ from up2_s))), (Eq.trans (hE5 11 _ rfl) (show up2 _ 11 _ _ 11 _ = _ from up2_s)), fun j hj => (Eq.trans (hE5 10 j rfl) (Eq.trans (hE4 10 j rfl) (Eq.trans (show up2 _ 10 _ _ 10 _ = _ from up2_n (fun z => hj z.2)) (Eq.trans (hE3 10 j rfl) (Eq.trans (hE2 10 j rfl) (hE1 10 j rfl)))))), fun j hj => (Eq.trans (hE5 11 j rfl) (Eq.trans (show up2 _ 11 _ _ 11 _ = _ from up2_n (fun z => hj z.2)) (Eq.trans (hE4 11 j rfl) (Eq.trans (hE3 11 j rfl) (Eq.trans (hE2 11 j rfl) (hE1 11 j rfl)))))), fun j hj => (Eq.trans (hE5 9 j rfl) (Eq.trans (hE4 9 j rfl) (Eq.trans (hE3 9 j rfl) (Eq.trans (hE2 9 j rfl) (hE1 9 j rfl))))), ?_, ?_⟩
        · exact fun z => absurd (hfz5.mpr z) (by omega)
        · exact fun _ => ⟨(Eq.trans ((hE5 9 sd rfl).trans ((hE4 9 sd rfl).trans ((hE3 9 sd rfl).trans ((hE2 9 sd rfl).trans (hE1 9 sd rfl))))) hn), (Eq.trans ((hE5 0 20 rfl).trans ((hE4 0 20 rfl).trans ((hE3 0 20 rfl).trans ((hE2 0 20 rfl).trans (hE1 0 20 rfl))))) h20), rfl⟩
      refine lv_aload_n hx hb dX13_tellSleeper_38 rfl (lv_at hl 3 rfl) ?_
      refine g_get (v := .int (nI ft1)) hx hb hts hown hK hG 0 rfl rfl ok_X13 13 (by decide) q1484 rfl (congrArg Value.int ((hE2 0 13 rfl).trans hft1)) dX13_tellSleeper_39 ?_
      refine n_if_ne (tgt := 73) hx hb dX13_tellSleeper_42 (by decide) (by omega) (fun c42 => ?_) (fun c42 => ?_)
      · have hfn : fo1 ≠ none := fun z => by have := hfz1.mpr z; omega
        have hsm : smW fo1 wo nm (nmF ch sz t) (plF ch sz t) n = w2 := by rw [← hw2, smW_f hfn, smW_f hfn]
        refine lv_aload_n hx hb dX13_tellSleeper_73 rfl (lv_at hl 3 rfl) ?_
        refine g_get hx hb hts hown hK hG 0 rfl rfl ok_X13 23 (by decide) q1494 rfl rfl dX13_tellSleeper_74 ?_
        refine lv_iload_n hx hb dX13_tellSleeper_77 rfl (lv_at hl 2 rfl) ?_
        refine lv_aload_n hx hb dX13_tellSleeper_78 rfl (lv_at hl 3 rfl) ?_
        refine lv_iconst (v := (nI 0)) hx hb dX13_tellSleeper_79 (by decide) ?_
        refine lv_iconst (v := (nI 1)) hx hb dX13_tellSleeper_80 (by decide) ?_
        refine c_VI hx hb hml hts hown hK hl.1 hS ⟨Nat.le_refl _, Nat.le_refl _⟩ (met_X13_bounded l D dA hG (tkOK_to (V := V) (fun j => (Eq.trans (hE2 3 j rfl) (hE1 3 j rfl))) (fun j => (Eq.trans (hE2 4 j rfl) (hE1 4 j rfl))) (fun j => (Eq.trans (hE2 5 j rfl) (hE1 5 j rfl))) hT) (psM_to (V := V1) (hE2 0 11 rfl) (hE2 0 13 rfl) (hE2 0 14 rfl) hps1) hwo2 0 1 (by omega) (by omega)) (cw_X13_262 hts ⟨by decide, by decide⟩) (hG 0 _ rfl) rfl rfl rfl rfl (Nat.le_of_ble_eq_true rfl) dX13_tellSleeper_81 (fun _ h => h) (fun r H1 locs hq hF hS => ?_)
        obtain ⟨rfl, hq⟩ := hq
        obtain ⟨V6, hG, hE6, hps6, hwo6⟩ := hq
        generalize hHe6 : H1 = H at hG hS ⊢
        clear hHe6
        obtain ⟨wo6, hew6⟩ : ∃ a, bdW (kdF ch sz) (plF ch sz) (vlF ch sz) 0 1 t1 fo1 w2 = a := ⟨_, rfl⟩
        rw [hew6] at hwo6
        obtain ⟨t6, fo6, he6⟩ : ∃ a b, bdP (kdF ch sz) (plF ch sz) t1 fo1 = (a, b) := ⟨_, _, rfl⟩
        replace hps6 : psM V6 m0 t6 fo6 := by rw [he6] at hps6; exact hps6
        obtain ⟨ft6, hft96, hft6, hfz6⟩ := fo_z hps6.2.2
        have htm6 := hps6.1
        obtain ⟨hk36, hk46, hk56, hk66⟩ := hT.1 t6 htm6
        have hkd96 := kd_lt ch sz t6
        have hb36 := (hT.2.2.2.2.2 t6 htm6).1
        have hb56 := (hT.2.2.2.2.2 t6 htm6).2.1
        refine n_iast hx hb hK hG hS 10 (AM_in 10 (by decide)) rfl (by omega) (by decide) dX13_tellSleeper_84 (fun H locs hG hO hS => ?_)
        refine lv_aload_n hx hb dX13_tellSleeper_85 rfl (lv_at hl 3 rfl) ?_
        refine g_get hx hb hts hown hK hG 0 rfl rfl ok_X13 24 (by decide) q1495 rfl rfl dX13_tellSleeper_86 ?_
        refine lv_iload_n hx hb dX13_tellSleeper_89 rfl (lv_at hl 2 rfl) ?_
        refine lv_aload_n hx hb dX13_tellSleeper_90 rfl (lv_at hl 3 rfl) ?_
        refine lv_iconst (v := (nI 0)) hx hb dX13_tellSleeper_91 (by decide) ?_
        refine lv_bipush (v := (nI 9)) hx hb dX13_tellSleeper_92 (by decide) ?_
        refine c_VI hx hb hml hts hown hK hl.1 hS ⟨Nat.le_refl _, Nat.le_refl _⟩ (met_X13_bounded l D dA hG (tkOK_to (V := V) (fun j => (Eq.trans (hE6 3 j rfl) (Eq.trans (hE2 3 j rfl) (hE1 3 j rfl)))) (fun j => (Eq.trans (hE6 4 j rfl) (Eq.trans (hE2 4 j rfl) (hE1 4 j rfl)))) (fun j => (Eq.trans (hE6 5 j rfl) (Eq.trans (hE2 5 j rfl) (hE1 5 j rfl)))) hT) (psM_to (V := V6) rfl rfl rfl hps6) (woM_to (V := V6) rfl rfl hwo6) 0 9 (by omega) (by omega)) (cw_X13_262 hts ⟨by decide, by decide⟩) (hG 0 _ rfl) rfl rfl rfl rfl (Nat.le_of_ble_eq_true rfl) dX13_tellSleeper_94 (fun _ h => h) (fun r H1 locs hq hF hS => ?_)
        obtain ⟨rfl, hq⟩ := hq
        obtain ⟨V7, hG, hE7, hps7, hwo7⟩ := hq
        generalize hHe7 : H1 = H at hG hS ⊢
        clear hHe7
        obtain ⟨wo7, hew7⟩ : ∃ a, bdW (kdF ch sz) (plF ch sz) (vlF ch sz) 0 9 t6 fo6 wo6 = a := ⟨_, rfl⟩
        rw [hew7] at hwo7
        obtain ⟨t7, fo7, he7⟩ : ∃ a b, bdP (kdF ch sz) (plF ch sz) t6 fo6 = (a, b) := ⟨_, _, rfl⟩
        replace hps7 : psM V7 m0 t7 fo7 := by rw [he7] at hps7; exact hps7
        obtain ⟨ft7, hft97, hft7, hfz7⟩ := fo_z hps7.2.2
        have htm7 := hps7.1
        obtain ⟨hk37, hk47, hk57, hk67⟩ := hT.1 t7 htm7
        have hkd97 := kd_lt ch sz t7
        have hb37 := (hT.2.2.2.2.2 t7 htm7).1
        have hb57 := (hT.2.2.2.2.2 t7 htm7).2.1
        refine n_iast hx hb hK hG hS 11 (AM_in 11 (by decide)) rfl (by omega) (by decide) dX13_tellSleeper_97 (fun H locs hG hO hS => ?_)
        refine lv_aload_n hx hb dX13_tellSleeper_98 rfl (lv_at hl 3 rfl) ?_
        refine lv_iconst (v := (nI 4)) hx hb dX13_tellSleeper_99 (by decide) ?_
        refine c_VV hx hb hml hts hown hK hl.1 hS ⟨Nat.le_refl _, Nat.le_refl _⟩ (met_X13_must l D dA hG (tkOK_to (V := V) (fun j => (Eq.trans (hE7 3 j rfl) (Eq.trans (hE6 3 j rfl) (Eq.trans (hE2 3 j rfl) (hE1 3 j rfl))))) (fun j => (Eq.trans (hE7 4 j rfl) (Eq.trans (hE6 4 j rfl) (Eq.trans (hE2 4 j rfl) (hE1 4 j rfl))))) (fun j => (Eq.trans (hE7 5 j rfl) (Eq.trans (hE6 5 j rfl) (Eq.trans (hE2 5 j rfl) (hE1 5 j rfl))))) hT) (psM_to (V := V7) rfl rfl rfl hps7) 4 (by omega) (by omega)) (cw_X13_266 hts ⟨by decide, by decide⟩) (hG 0 _ rfl) rfl rfl rfl rfl (Nat.le_of_ble_eq_true rfl) dX13_tellSleeper_100 (fun _ h => h) (fun H1 locs hq hF hS => ?_)
        obtain ⟨V8, hG, hE8, hps8⟩ := hq
        generalize hHe8 : H1 = H at hG hS ⊢
        clear hHe8
        obtain ⟨t8, fo8, he8⟩ : ∃ a b, muP (kdF ch sz) (plF ch sz) 4 t7 fo7 = (a, b) := ⟨_, _, rfl⟩
        replace hps8 : psM V8 m0 t8 fo8 := by rw [he8] at hps8; exact hps8
        obtain ⟨ft8, hft98, hft8, hfz8⟩ := fo_z hps8.2.2
        have htm8 := hps8.1
        obtain ⟨hk38, hk48, hk58, hk68⟩ := hT.1 t8 htm8
        have hkd98 := kd_lt ch sz t8
        have hb38 := (hT.2.2.2.2.2 t8 htm8).1
        have hb58 := (hT.2.2.2.2.2 t8 htm8).2.1
        refine lv_aload_n hx hb dX13_tellSleeper_103 rfl (lv_at hl 3 rfl) ?_
        refine g_get (v := .int (nI ft8)) hx hb hts hown hK hG 0 rfl rfl ok_X13 13 (by decide) q1484 rfl (congrArg Value.int hft8) dX13_tellSleeper_104 ?_
        refine n_if_le (tgt := 111) hx hb dX13_tellSleeper_107 (by decide) (by omega) (fun c107 => ?_) (fun c107 => ?_)
        · refine lv_aload_n hx hb dX13_tellSleeper_111 rfl (lv_at hl 3 rfl) ?_
          refine g_get hx hb hts hown hK hG 0 rfl rfl ok_X13 21 (by decide) q1492 rfl rfl dX13_tellSleeper_112 ?_
          refine lv_aload_n hx hb dX13_tellSleeper_115 rfl (lv_at hl 3 rfl) ?_
          refine g_get (v := .int (nI n)) hx hb hts hown hK hG 0 rfl rfl ok_X13 20 (by decide) q1491 rfl (congrArg Value.int (((hE8 0 20 rfl).trans ((hE7 0 20 rfl).trans ((hE6 0 20 rfl).trans ((hE2 0 20 rfl).trans (hE1 0 20 rfl))))).trans h20)) dX13_tellSleeper_116 ?_
          refine lv_aload_n hx hb dX13_tellSleeper_119 rfl (lv_at hl 3 rfl) ?_
          refine g_get hx hb hts hown hK hG 0 rfl rfl ok_X13 8 (by decide) q1479 rfl rfl dX13_tellSleeper_120 ?_
          refine lv_iload_n hx hb dX13_tellSleeper_123 rfl (lv_at hl 1 rfl) ?_
          refine n_lald hx hb hK hG 6 rfl (by omega) (by decide) dX13_tellSleeper_124 ?_
          refine jv (y := lN (nmF ch sz t)) hk6 ?_
          refine n_last hx hb hK hG hS 8 (AM_in 8 (by decide)) rfl (by omega) (by decide) dX13_tellSleeper_125 (fun H locs hG hO hS => ?_)
          refine lv_aload_n hx hb dX13_tellSleeper_126 rfl (lv_at hl 3 rfl) ?_
          refine lv_dup hx hb dX13_tellSleeper_127 rfl ?_
          refine g_get (v := .int (nI n)) hx hb hts hown hK hG 0 rfl rfl ok_X13 20 (by decide) q1491 rfl (congrArg Value.int (((hE8 0 20 rfl).trans ((hE7 0 20 rfl).trans ((hE6 0 20 rfl).trans ((hE2 0 20 rfl).trans (hE1 0 20 rfl))))).trans h20)) dX13_tellSleeper_128 ?_
          refine lv_iconst (v := (nI 1)) hx hb dX13_tellSleeper_131 (by decide) ?_
          refine n_iadd hx hb dX13_tellSleeper_132 ?_
          refine g_put hx hb hts hown hK hG hS 0 (AM_in 0 (by decide)) rfl rfl ok_X13 20 (by decide) q1491 rfl rfl rfl rfl dX13_tellSleeper_133 (fun H locs hG hO hS => ?_)
          refine lv_aload_n hx hb dX13_tellSleeper_136 rfl (lv_at hl 3 rfl) ?_
          refine g_get hx hb hts hown hK hG 0 rfl rfl ok_X13 22 (by decide) q1493 rfl rfl dX13_tellSleeper_137 ?_
          refine lv_aload_n hx hb dX13_tellSleeper_140 rfl (lv_at hl 3 rfl) ?_
          refine g_get (v := .int (nI sd)) hx hb hts hown hK hG 0 rfl rfl ok_X13 19 (by decide) q1490 rfl (congrArg Value.int (((hE8 0 19 rfl).trans ((hE7 0 19 rfl).trans ((hE6 0 19 rfl).trans ((hE2 0 19 rfl).trans (hE1 0 19 rfl))))).trans h19)) dX13_tellSleeper_141 ?_
          refine lv_dup2_11 hx hb dX13_tellSleeper_144 rfl rfl ?_
          refine n_iald hx hb hK hG 9 rfl (by omega) (by decide) dX13_tellSleeper_145 ?_
          refine iv (y := (nI n)) (((hE8 9 sd rfl).trans ((hE7 9 sd rfl).trans ((hE6 9 sd rfl).trans ((hE2 9 sd rfl).trans (hE1 9 sd rfl))))).trans hn) ?_
          refine lv_iconst (v := (nI 1)) hx hb dX13_tellSleeper_146 (by decide) ?_
          refine n_iadd hx hb dX13_tellSleeper_147 ?_
          refine n_iast hx hb hK hG hS 9 (AM_in 9 (by decide)) rfl (by omega) (by decide) dX13_tellSleeper_148 (fun H locs hG hO hS => ?_)
          refine hend _ _ _ _ hS dX13_tellSleeper_149 ?_
          have hRR : (muP (kdF ch sz) (plF ch sz) 4 (bdP (kdF ch sz) (plF ch sz) (bdP (kdF ch sz) (plF ch sz) (muP (kdF ch sz) (plF ch sz) 1 t fo).1 (muP (kdF ch sz) (plF ch sz) 1 t fo).2).1 (bdP (kdF ch sz) (plF ch sz) (muP (kdF ch sz) (plF ch sz) 1 t fo).1 (muP (kdF ch sz) (plF ch sz) 1 t fo).2).2).1 (bdP (kdF ch sz) (plF ch sz) (bdP (kdF ch sz) (plF ch sz) (muP (kdF ch sz) (plF ch sz) 1 t fo).1 (muP (kdF ch sz) (plF ch sz) 1 t fo).2).1 (bdP (kdF ch sz) (plF ch sz) (muP (kdF ch sz) (plF ch sz) 1 t fo).1 (muP (kdF ch sz) (plF ch sz) 1 t fo).2).2).2) = (t8, fo8) := by simp only [he1, he6, he7, he8]
          have hWW : (bdW (kdF ch sz) (plF ch sz) (vlF ch sz) 0 9 (bdP (kdF ch sz) (plF ch sz) (muP (kdF ch sz) (plF ch sz) 1 t fo).1 (muP (kdF ch sz) (plF ch sz) 1 t fo).2).1 (bdP (kdF ch sz) (plF ch sz) (muP (kdF ch sz) (plF ch sz) 1 t fo).1 (muP (kdF ch sz) (plF ch sz) 1 t fo).2).2 (bdW (kdF ch sz) (plF ch sz) (vlF ch sz) 0 1 (muP (kdF ch sz) (plF ch sz) 1 t fo).1 (muP (kdF ch sz) (plF ch sz) 1 t fo).2 (smW (muP (kdF ch sz) (plF ch sz) 1 t fo).2 wo nm (nmF ch sz t) (plF ch sz t) n))) = wo7 := by simp only [he1, he6, hsm, hew6, hew7]
          rw [hRR, hWW]
          simp only [he1, he6]
          refine ⟨rfl, _, (up2 L 8 n (lN (nmF ch sz t))), hG, (((((((((hE1.mono PGo_PTs).trans (hE2.mono PWo_PTs)).trans (hE6.mono PBd_PTs)).up rfl).trans (hE7.mono PBd_PTs)).up rfl).trans (hE8.mono PGo_PTs)).up rfl).up rfl), (psM_to (V := V8) rfl rfl rfl hps8), (woM_to (V := V7) (hE8 0 15 rfl) (hE8 0 16 rfl) hwo7), (Eq.trans (hE8 10 _ rfl) (Eq.trans (hE7 10 _ rfl) (show up2 _ 10 _ _ 10 _ = _ from up2_s))), (Eq.trans (hE8 11 _ rfl) (show up2 _ 11 _ _ 11 _ = _ from up2_s)), fun j hj => (Eq.trans (hE8 10 j rfl) (Eq.trans (hE7 10 j rfl) (Eq.trans (show up2 _ 10 _ _ 10 _ = _ from up2_n (fun z => hj z.2)) (Eq.trans (hE6 10 j rfl) (Eq.trans (hE2 10 j rfl) (hE1 10 j rfl)))))), fun j hj => (Eq.trans (hE8 11 j rfl) (Eq.trans (show up2 _ 11 _ _ 11 _ = _ from up2_n (fun z => hj z.2)) (Eq.trans (hE7 11 j rfl) (Eq.trans (hE6 11 j rfl) (Eq.trans (hE2 11 j rfl) (hE1 11 j rfl)))))), fun j hj => (Eq.trans (show up2 _ 9 _ _ 9 _ = _ from up2_n (fun z => hj z.2)) (Eq.trans (hE8 9 j rfl) (Eq.trans (hE7 9 j rfl) (Eq.trans (hE6 9 j rfl) (Eq.trans (hE2 9 j rfl) (hE1 9 j rfl)))))), ?_, ?_⟩
          · exact fun _ => ⟨(show up2 _ 9 _ _ 9 _ = _ from up2_s), rfl, rfl⟩
          · exact fun z => absurd (hfz8.mp (by omega)) z
        refine hend _ _ _ _ hS dX13_tellSleeper_110 ?_
        have hRR : (muP (kdF ch sz) (plF ch sz) 4 (bdP (kdF ch sz) (plF ch sz) (bdP (kdF ch sz) (plF ch sz) (muP (kdF ch sz) (plF ch sz) 1 t fo).1 (muP (kdF ch sz) (plF ch sz) 1 t fo).2).1 (bdP (kdF ch sz) (plF ch sz) (muP (kdF ch sz) (plF ch sz) 1 t fo).1 (muP (kdF ch sz) (plF ch sz) 1 t fo).2).2).1 (bdP (kdF ch sz) (plF ch sz) (bdP (kdF ch sz) (plF ch sz) (muP (kdF ch sz) (plF ch sz) 1 t fo).1 (muP (kdF ch sz) (plF ch sz) 1 t fo).2).1 (bdP (kdF ch sz) (plF ch sz) (muP (kdF ch sz) (plF ch sz) 1 t fo).1 (muP (kdF ch sz) (plF ch sz) 1 t fo).2).2).2) = (t8, fo8) := by simp only [he1, he6, he7, he8]
        have hWW : (bdW (kdF ch sz) (plF ch sz) (vlF ch sz) 0 9 (bdP (kdF ch sz) (plF ch sz) (muP (kdF ch sz) (plF ch sz) 1 t fo).1 (muP (kdF ch sz) (plF ch sz) 1 t fo).2).1 (bdP (kdF ch sz) (plF ch sz) (muP (kdF ch sz) (plF ch sz) 1 t fo).1 (muP (kdF ch sz) (plF ch sz) 1 t fo).2).2 (bdW (kdF ch sz) (plF ch sz) (vlF ch sz) 0 1 (muP (kdF ch sz) (plF ch sz) 1 t fo).1 (muP (kdF ch sz) (plF ch sz) 1 t fo).2 (smW (muP (kdF ch sz) (plF ch sz) 1 t fo).2 wo nm (nmF ch sz t) (plF ch sz t) n))) = wo7 := by simp only [he1, he6, hsm, hew6, hew7]
        rw [hRR, hWW]
        simp only [he1, he6]
        refine ⟨rfl, _, L, hG, (((((((hE1.mono PGo_PTs).trans (hE2.mono PWo_PTs)).trans (hE6.mono PBd_PTs)).up rfl).trans (hE7.mono PBd_PTs)).up rfl).trans (hE8.mono PGo_PTs)), hps8, (woM_to (V := V7) (hE8 0 15 rfl) (hE8 0 16 rfl) hwo7), (Eq.trans (hE8 10 _ rfl) (Eq.trans (hE7 10 _ rfl) (show up2 _ 10 _ _ 10 _ = _ from up2_s))), (Eq.trans (hE8 11 _ rfl) (show up2 _ 11 _ _ 11 _ = _ from up2_s)), fun j hj => (Eq.trans (hE8 10 j rfl) (Eq.trans (hE7 10 j rfl) (Eq.trans (show up2 _ 10 _ _ 10 _ = _ from up2_n (fun z => hj z.2)) (Eq.trans (hE6 10 j rfl) (Eq.trans (hE2 10 j rfl) (hE1 10 j rfl)))))), fun j hj => (Eq.trans (hE8 11 j rfl) (Eq.trans (show up2 _ 11 _ _ 11 _ = _ from up2_n (fun z => hj z.2)) (Eq.trans (hE7 11 j rfl) (Eq.trans (hE6 11 j rfl) (Eq.trans (hE2 11 j rfl) (hE1 11 j rfl)))))), fun j hj => (Eq.trans (hE8 9 j rfl) (Eq.trans (hE7 9 j rfl) (Eq.trans (hE6 9 j rfl) (Eq.trans (hE2 9 j rfl) (hE1 9 j rfl))))), ?_, ?_⟩
        · exact fun z => absurd (hfz8.mpr z) (by omega)
        · exact fun _ => ⟨(Eq.trans ((hE8 9 sd rfl).trans ((hE7 9 sd rfl).trans ((hE6 9 sd rfl).trans ((hE2 9 sd rfl).trans (hE1 9 sd rfl))))) hn), (Eq.trans ((hE8 0 20 rfl).trans ((hE7 0 20 rfl).trans ((hE6 0 20 rfl).trans ((hE2 0 20 rfl).trans (hE1 0 20 rfl))))) h20), rfl⟩
      refine lv_aload_n hx hb dX13_tellSleeper_45 rfl (lv_at hl 3 rfl) ?_
      refine g_get hx hb hts hown hK hG 0 rfl rfl ok_X13 21 (by decide) q1492 rfl rfl dX13_tellSleeper_46 ?_
      refine lv_iload_n hx hb dX13_tellSleeper_49 rfl (lv_at hl 0 rfl) ?_
      refine n_lald hx hb hK hG 8 rfl (by omega) (by decide) dX13_tellSleeper_50 ?_
      refine jv (y := lN (nm i)) (hnm i (by omega)).1 ?_
      refine lv_aload_n hx hb dX13_tellSleeper_51 rfl (lv_at hl 3 rfl) ?_
      refine g_get hx hb hts hown hK hG 0 rfl rfl ok_X13 8 (by decide) q1479 rfl rfl dX13_tellSleeper_52 ?_
      refine lv_iload_n hx hb dX13_tellSleeper_55 rfl (lv_at hl 1 rfl) ?_
      refine n_lald hx hb hK hG 6 rfl (by omega) (by decide) dX13_tellSleeper_56 ?_
      refine jv (y := lN (nmF ch sz t)) hk6 ?_
      have hc0 := cmp0 (a := nm i) (b := nmF ch sz t) (Nat.lt_trans (hnm i (by omega)).2 (by decide)) (Nat.lt_trans (hT.2.2.2.2.2 t htm).2.2 (by decide))
      refine W.lcmp hx hb dX13_tellSleeper_57 ?_
      refine lv_if_ne (tgt := 67) hx hb dX13_tellSleeper_58 (by decide) (fun c58 => ?_) (fun c58 => ?_)
      · refine lv_iinc (v := (nI (i + 1))) (lv' := [(3, .int (nI (i + 1))), (2, .int (nI t)), (1, .int (nI ((9 * sd) + n))), (0, .ref o)]) hx hb dX13_tellSleeper_67 hl (k := 0) rfl (nI_add _ _) (by decide) rfl (fun ls hl => ?_)
        refine lv_goto (tgt := 30) hx hb dX13_tellSleeper_70 (by decide) ?_
        exact ih2 (i + 1) w2 V2 _ _ _ (by omega) (by omega) (by show (if _ then _ else _) = _; rw [if_neg (fun z => c58 (hc0.mpr z))]; exact hw2) hE2 hwo2 hG hS (lv_sub hl [0, 1, 2, 3] rfl)
      refine lv_aload_n hx hb dX13_tellSleeper_61 rfl (lv_at hl 3 rfl) ?_
      refine lv_iconst (v := (nI 3)) hx hb dX13_tellSleeper_62 (by decide) ?_
      refine lv_iload_n hx hb dX13_tellSleeper_63 rfl (lv_at hl 1 rfl) ?_
      refine c_VV hx hb hml hts hown hK hl.1 hS ⟨Nat.le_refl _, Nat.le_refl _⟩ (met_X13_wrong l D dA hG (tkOK_to (V := V) (fun j => (Eq.trans (hE2 3 j rfl) (hE1 3 j rfl))) (fun j => (Eq.trans (hE2 4 j rfl) (hE1 4 j rfl))) (fun j => (Eq.trans (hE2 5 j rfl) (hE1 5 j rfl))) hT) (psM_to (V := V1) (hE2 0 11 rfl) (hE2 0 13 rfl) (hE2 0 14 rfl) hps1) hwo2 3 t (by omega) (by omega) (by omega)) (cw_X13_252 hts ⟨by decide, by decide⟩) (hG 0 _ rfl) rfl rfl rfl rfl (Nat.le_of_ble_eq_true rfl) dX13_tellSleeper_64 (fun _ h => h) (fun H1 locs hq hF hS => ?_)
      obtain ⟨V9, hG, hE9, hwo9⟩ := hq
      generalize hHe9 : H1 = H at hG hS ⊢
      clear hHe9
      refine lv_iinc (v := (nI (i + 1))) (lv' := [(3, .int (nI (i + 1))), (2, .int (nI t)), (1, .int (nI ((9 * sd) + n))), (0, .ref o)]) hx hb dX13_tellSleeper_67 hl (k := 0) rfl (nI_add _ _) (by decide) rfl (fun ls hl => ?_)
      refine lv_goto (tgt := 30) hx hb dX13_tellSleeper_70 (by decide) ?_
      exact ih2 (i + 1) (woP fo1 w2 3 (plF ch sz t)) V9 _ _ _ (by omega) (by omega) (by rw [← hw2]; show (if _ then _ else _) = _; rw [if_pos (hc0.mp c58)]) (Eqx.trans hE2 hE9) hwo9 hG hS (lv_sub hl [0, 1, 2, 3] rfl)
  exact loop2 ((n - 0) + 1) 0 wo V1 _ _ _ (Nat.lt_succ_self _) (by omega) rfl Eqx.rf (woM_to (V := V) (hE1 0 15 rfl) (hE1 0 16 rfl) hwo) hG hS (lv_sub hl [0, 1, 2, 3] rfl)
