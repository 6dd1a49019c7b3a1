def PR (k _ : Nat) : Bool := k == 31
def PN (k _ : Nat) : Bool := k == 30
def PC (k j : Nat) : Bool := k == 31 || (k == 0 && (j == 49 || j == 50))
def PH (k j : Nat) : Bool := k == 28 || k == 29 || k == 31 || k == 32 || k == 33 || (k == 0 && (j == 46))
def PW (k j : Nat) : Bool := k == 28 || k == 29 || k == 31 || k == 32 || k == 33 || (k == 0 && (j == 46 || j == 49 || j == 50))
theorem PL_PH : ∀ k j, PH k j = false → PL k j = false := by intro k j h; simp only [PL, PH, Bool.or_eq_false_iff, Bool.and_eq_false_iff, beq_eq_false_iff_ne, ne_eq] at *; omega
theorem PL_PW : ∀ k j, PW k j = false → PL k j = false := by intro k j h; simp only [PL, PW, Bool.or_eq_false_iff, Bool.and_eq_false_iff, beq_eq_false_iff_ne, ne_eq] at *; omega
theorem PT_PH : ∀ k j, PH k j = false → PT k j = false := by intro k j h; simp only [PT, PH, Bool.or_eq_false_iff, Bool.and_eq_false_iff, beq_eq_false_iff_ne, ne_eq] at *; omega
theorem PT_PW : ∀ k j, PW k j = false → PT k j = false := by intro k j h; simp only [PT, PW, Bool.or_eq_false_iff, Bool.and_eq_false_iff, beq_eq_false_iff_ne, ne_eq] at *; omega
theorem PE_PH : ∀ k j, PH k j = false → PE k j = false := by intro k j h; simp only [PE, PH, Bool.or_eq_false_iff, Bool.and_eq_false_iff, beq_eq_false_iff_ne, ne_eq] at *; omega
theorem PE_PW : ∀ k j, PW k j = false → PE k j = false := by intro k j h; simp only [PE, PW, Bool.or_eq_false_iff, Bool.and_eq_false_iff, beq_eq_false_iff_ne, ne_eq] at *; omega
theorem PR_PC : ∀ k j, PC k j = false → PR k j = false := by intro k j h; simp only [PR, PC, Bool.or_eq_false_iff, Bool.and_eq_false_iff, beq_eq_false_iff_ne, ne_eq] at *; omega
theorem PR_PH : ∀ k j, PH k j = false → PR k j = false := by intro k j h; simp only [PR, PH, Bool.or_eq_false_iff, Bool.and_eq_false_iff, beq_eq_false_iff_ne, ne_eq] at *; omega
theorem PR_PW : ∀ k j, PW k j = false → PR k j = false := by intro k j h; simp only [PR, PW, Bool.or_eq_false_iff, Bool.and_eq_false_iff, beq_eq_false_iff_ne, ne_eq] at *; omega
theorem PC_PW : ∀ k j, PW k j = false → PC k j = false := by intro k j h; simp only [PC, PW, Bool.or_eq_false_iff, Bool.and_eq_false_iff, beq_eq_false_iff_ne, ne_eq] at *; omega
theorem PH_PW : ∀ k j, PW k j = false → PH k j = false := by intro k j h; simp only [PH, PW, Bool.or_eq_false_iff, Bool.and_eq_false_iff, beq_eq_false_iff_ne, ne_eq] at *; omega
theorem isT_PR : ∀ k j, isT k j = true → PR k j = false := by
  intro k j h
  simp only [isT, PR, Bool.or_eq_true, Bool.and_eq_true, decide_eq_true_eq, beq_iff_eq, Bool.or_eq_false_iff, Bool.and_eq_false_iff, beq_eq_false_iff_ne, ne_eq] at *
  omega
theorem txM_PR {V V1 : GI} {lv : Nat} {t : Txt} (h : Eqx PR V V1) (hX : txM V lv t) : txM V1 lv t := txM_to (fun k j q => h k j (isT_PR k j q)) hX
theorem isT_PN : ∀ k j, isT k j = true → PN k j = false := by
  intro k j h
  simp only [isT, PN, Bool.or_eq_true, Bool.and_eq_true, decide_eq_true_eq, beq_iff_eq, Bool.or_eq_false_iff, Bool.and_eq_false_iff, beq_eq_false_iff_ne, ne_eq] at *
  omega
theorem txM_PN {V V1 : GI} {lv : Nat} {t : Txt} (h : Eqx PN V V1) (hX : txM V lv t) : txM V1 lv t := txM_to (fun k j q => h k j (isT_PN k j q)) hX
theorem isT_PC : ∀ k j, isT k j = true → PC k j = false := by
  intro k j h
  simp only [isT, PC, Bool.or_eq_true, Bool.and_eq_true, decide_eq_true_eq, beq_iff_eq, Bool.or_eq_false_iff, Bool.and_eq_false_iff, beq_eq_false_iff_ne, ne_eq] at *
  omega
theorem txM_PC {V V1 : GI} {lv : Nat} {t : Txt} (h : Eqx PC V V1) (hX : txM V lv t) : txM V1 lv t := txM_to (fun k j q => h k j (isT_PC k j q)) hX
theorem isT_PH : ∀ k j, isT k j = true → PH k j = false := by
  intro k j h
  simp only [isT, PH, Bool.or_eq_true, Bool.and_eq_true, decide_eq_true_eq, beq_iff_eq, Bool.or_eq_false_iff, Bool.and_eq_false_iff, beq_eq_false_iff_ne, ne_eq] at *
  omega
theorem txM_PH {V V1 : GI} {lv : Nat} {t : Txt} (h : Eqx PH V V1) (hX : txM V lv t) : txM V1 lv t := txM_to (fun k j q => h k j (isT_PH k j q)) hX
theorem isT_PW : ∀ k j, isT k j = true → PW k j = false := by
  intro k j h
  simp only [isT, PW, Bool.or_eq_true, Bool.and_eq_true, decide_eq_true_eq, beq_iff_eq, Bool.or_eq_false_iff, Bool.and_eq_false_iff, beq_eq_false_iff_ne, ne_eq] at *
  omega
theorem txM_PW {V V1 : GI} {lv : Nat} {t : Txt} (h : Eqx PW V V1) (hX : txM V lv t) : txM V1 lv t := txM_to (fun k j q => h k j (isT_PW k j q)) hX
/-! rows and hours -/
def ltF (lots w : Int32) : Int32 := ((mixI (mixI lots (nI 139)) w).toUInt32 >>> ((nI 1).toUInt32 &&& Int32.toUInt32 31)).toInt32 - ((mixI (mixI lots (nI 139)) w).toUInt32 >>> ((nI 1).toUInt32 &&& Int32.toUInt32 31)).toInt32 / nI 100 * nI 100
/-- one is chilled: not in a still night -/
def chB (t : Txt) (f : Nat → Int32) (stl lots : Int32) (b : Nat) : Bool := decide (stl = 0) && decide (ltF lots (nI 16 * f 45 + nI b) < chiF t f b)
def lnF (t : Txt) (f : Nat → Int32) (stl lots : Int32) (b : Nat) : Int32 := if chB t f stl lots b = true then nI 1 - lieF t f b else lieF t f b
def pnF (t : Txt) (f : Nat → Int32) (b : Nat) : Int32 := wthn (f (27 + b) + (if f b = nI 1 then parF t f b else -parF t f b)) (-9999) (nI 9999)
def chN (t : Txt) (f : Nat → Int32) (stl lots : Int32) : Nat → Int32 → Int32
  | 0, x => x
  | b + 1, x => if chB t f stl lots b = true then chN t f stl lots b x + nI 1 else chN t f stl lots b x
def hourF (t : Txt) (stl lots : Int32) (f : Nat → Int32) : Nat → Int32 := fun j => if j < xN t then lnF t f stl lots j else if 27 ≤ j ∧ j < 27 + xN t then pnF t f (j - 27) else if j = 45 then f 45 + nI 1 else if j = 46 then chN t f stl lots (xN t) (f 46) else if j = 47 then f 47 + nI 1 else f j
def goF (t : Txt) (stl lots : Int32) : Nat → (Nat → Int32) → Nat → Int32
  | 0, f => f
  | k + 1, f => hourF t stl lots (goF t stl lots k f)
def layF (n x : Nat) (f : Nat → Int32) : Nat → Int32 := fun j => if j < n then nI (x / 2 ^ j % 2) else f j
def b01 (x : Int32) : Nat := if x = nI 1 then 1 else 0
def rbF (f : Nat → Int32) : Nat → Nat
  | 0 => 0
  | k + 1 => rbF f k ||| b01 (f k) * 2 ^ k
def RV (n : Nat) (f : Nat → Int32) : Prop := ∀ b, b < n → f b = nI (b01 (f b))
theorem b01_lt (x : Int32) : b01 x < 2 := by unfold b01; split <;> decide
theorem b01_0 : b01 (nI 0) = 0 := by decide
theorem b01_1 : b01 (nI 1) = 1 := by decide
theorem b01_of {k : Nat} (h : k < 2) : b01 (nI k) = k := by rcases (show k = 0 ∨ k = 1 by omega) with rfl | rfl; exact b01_0; exact b01_1
theorem rv_of {x : Int32} {k : Nat} (h : x = nI k) (hk : k < 2) : x = nI (b01 x) := by subst h; rw [b01_of hk]
theorem lie01 (t : Txt) (f : Nat → Int32) (b : Nat) : ∃ k, k < 2 ∧ lieF t f b = nI k := by unfold lieF; split; exact ⟨1, by decide, rfl⟩; exact ⟨0, by decide, rfl⟩
theorem ln01 (t : Txt) (f : Nat → Int32) (stl lots : Int32) (b : Nat) : ∃ k, k < 2 ∧ lnF t f stl lots b = nI k := by
  obtain ⟨k, hk, e⟩ := lie01 t f b
  unfold lnF
  rw [e]
  split
  · exact ⟨1 - k, by omega, pk_sub (by omega)⟩
  · exact ⟨k, hk, rfl⟩
theorem hour_RV (t : Txt) (f : Nat → Int32) (stl lots : Int32) : RV (xN t) (hourF t stl lots f) := fun b hb => by
  have e : hourF t stl lots f b = lnF t f stl lots b := if_pos hb
  obtain ⟨k, hk, h⟩ := ln01 t f stl lots b
  exact rv_of (e.trans h) hk
theorem lay_RV {n x : Nat} {f : Nat → Int32} : RV n (layF n x f) := fun b hb => rv_of (show layF n x f b = nI (x / 2 ^ b % 2) from if_pos hb) (Nat.mod_lt _ (by decide))
theorem go_RV {t : Txt} {stl lots : Int32} {f : Nat → Int32} (h : RV (xN t) f) : ∀ k, RV (xN t) (goF t stl lots k f)
  | 0 => h
  | k + 1 => hour_RV t _ stl lots
def raF (t : Txt) (f : Nat → Int32) (x k : Nat) : Nat := rbF (goF t (nI 1) (xS t) k (layF (xN t) x f)) (xN t)
theorem rbF_lt (f : Nat → Int32) : ∀ k, rbF f k < 2 ^ k
  | 0 => Nat.one_pos
  | k + 1 => by
    have h1 := rbF_lt f k
    have h2 : b01 (f k) * 2 ^ k < 2 ^ (k + 1) := by
      rw [Nat.pow_succ]
      have := b01_lt (f k)
      have hp := Nat.two_pow_pos k
      rcases (show b01 (f k) = 0 ∨ b01 (f k) = 1 by omega) with e | e <;> rw [e] <;> omega
    exact Nat.or_lt_two_pow (Nat.lt_of_lt_of_le h1 (Nat.pow_le_pow_right (by decide) (by omega))) h2
/-! what one asks of a row doesn't look at how many were chilled -/
theorem lAt_congr {f g : Nat → Int32} {r : Int32} {n : Nat} {b : Int32} (hn : n ≤ 9) (h : ∀ j, j ≠ 46 → g j = f j) : lAt g r n b = lAt f r n b := by
  unfold lAt
  split
  · next q => exact h _ (by have := Nat.not_le.mp (fun z => q (Or.inr z)); omega)
  · split
    · split <;> exact h _ (by omega)
    · rfl
theorem vr_congr {t : Txt} {f g : Nat → Int32} {b : Nat} (hn : xN t ≤ 9) (hb : b < xN t) (h : ∀ j, j ≠ 46 → g j = f j) : vrF t g b = vrF t f b := by
  funext j
  unfold vrF lookV
  split
  · exact h _ (by omega)
  · exact lAt_congr hn h
  · exact lAt_congr hn h
  · exact h _ (by omega)
  · rfl
  · rw [h 45 (by decide)]
  · rfl
  · rfl
  · exact h _ (by omega)
theorem lie_congr {t : Txt} {f g : Nat → Int32} {b : Nat} (hn : xN t ≤ 9) (hb : b < xN t) (h : ∀ j, j ≠ 46 → g j = f j) : lieF t g b = lieF t f b := by unfold lieF; rw [vr_congr hn hb h, h b (by omega)]
theorem par_congr {t : Txt} {f g : Nat → Int32} {b : Nat} (hn : xN t ≤ 9) (hb : b < xN t) (h : ∀ j, j ≠ 46 → g j = f j) : parF t g b = parF t f b := by unfold parF; rw [vr_congr hn hb h]
theorem chi_congr {t : Txt} {f g : Nat → Int32} {b : Nat} (hn : xN t ≤ 9) (hb : b < xN t) (h : ∀ j, j ≠ 46 → g j = f j) : chiF t g b = chiF t f b := by unfold chiF; rw [vr_congr hn hb h]
theorem cp_step {g : Nat → Int32} {V : GI} {c k : Nat} (h : ∀ j, j < k → V c j = g j) : ∀ j, j < k + 1 → up2 V c k (g k) c j = g j := fun j hj => by
  by_cases e : j = k
  · subst e; exact up2_s
  · rw [up2_n (fun z => e z.2)]; exact h j (by omega)
theorem lay_lo {V : GI} {c k : Nat} {g : Nat → Int32} (h : ∀ j, j < k → V c j = g j) : ∀ j, j < k + 1 → up2 V c k (g k) c j = g j := fun j hj => by
  by_cases e : j = k
  · subst e; exact up2_s
  · rw [up2_n (fun z => e z.2)]; exact h j (by omega)
theorem cw_X13_325 {R : Room} {s : State} {args : Array Value} (hts : ∀ w ∈ lw_all, w.before args s = true) {f w k j : Nat} (hR : f + 1 ≤ R.frames ∧ 8 + (3 + 11) + w ≤ R.locals) : CallB R s args RX13 325 yX13_mixed cX13_mixed 3 (some .int) (ws_ yX13_mixed cX13_mixed 3 (some .int)) (mkRmC f w k j) k j 2 ∧ (Cond.static yX13_mixed).before args s = true := va_cwS 2 hts (lw_S q1868 q1869 q129 q1870) rfl rfl rfl (by decide +kernel) hR
set_option maxHeartbeats 4000000 in
theorem met_X13_lotOf (l : Launch) (D : va_G) (dA : Nat → ClassId) {o : Nat} {V : GI} {L : GL} {Rf : GR} {H0 : Heap} (hG : gP D dA o dM V L Rf H0) (x : Int32) : Ctr l D dA yX13_lotOf cX13_lotOf 2 (some .int) (mkRm 1 22) [.ref o, .int x] H0 A0 (QI (fun r H1 => H0 = H1 ∧ r = ltF (V 0 49) x)) := by
  refine ctr_I (by decide) (Nat.le_of_ble_eq_true rfl) ?_
  intro p e s m args below meth c ls QQ locs hx hb hml hown hts hK hend hS hl
  have hl : lv_has ls 2 [(0, .ref o), (1, .int x)] := hl
  refine lv_aload_n hx hb dX13_lotOf_0 rfl (lv_at hl 0 rfl) ?_
  refine g_get (v := .int (V 0 49)) hx hb hts hown hK hG 0 rfl rfl ok_X13 49 (by decide) q1520 rfl rfl dX13_lotOf_1 ?_
  refine lv_sipush (v := (nI 139)) hx hb dX13_lotOf_4 (by decide) ?_
  refine c_SI hx hb hml hts hown hK hl.1 hS ⟨Nat.le_refl _, Nat.le_refl _⟩ (met_X13_mixed l D dA (V 0 49) (nI 139)) (cw_X13_325 hts ⟨by decide, by decide⟩) rfl rfl (Nat.le_of_ble_eq_true rfl) dX13_lotOf_7 (fun _ h => h.elim) (fun r H1 locs hq hF hS => ?_)
  obtain ⟨rfl, rfl⟩ := hq
  refine lv_iload_n hx hb dX13_lotOf_10 rfl (lv_at hl 1 rfl) ?_
  refine c_SI hx hb hml hts hown hK hl.1 hS ⟨Nat.le_refl _, Nat.le_refl _⟩ (met_X13_mixed l D dA (mixI (V 0 49) (nI 139)) x) (cw_X13_325 hts ⟨by decide, by decide⟩) rfl rfl (Nat.le_of_ble_eq_true rfl) dX13_lotOf_11 (fun _ h => h.elim) (fun r H1 locs hq hF hS => ?_)
  obtain ⟨rfl, rfl⟩ := hq
  refine lv_iconst (v := (nI 1)) hx hb dX13_lotOf_14 (by decide) ?_
  refine lv_iushr (v := ((mixI (mixI (V 0 49) (nI 139)) x).toUInt32 >>> ((nI 1).toUInt32 &&& Int32.toUInt32 31)).toInt32) hx hb dX13_lotOf_15 rfl ?_
  refine lv_bipush (v := (nI 100)) hx hb dX13_lotOf_16 (by decide) ?_
  refine lv_irem hx hb dX13_lotOf_18 (by decide) ?_
  refine hend _ _ _ _ _ hS dX13_lotOf_19 ?_
  exact ⟨_, rfl, rfl, rfl⟩
set_option maxHeartbeats 4000000 in
theorem met_X13_copies (l : Launch) (D : va_G) (dA : Nat → ClassId) {o : Nat} {V : GI} {L : GL} {Rf : GR} {H0 : Heap} (hG : gP D dA o dM V L Rf H0) {lv : Nat} {t : Txt} (hX : txM V lv t) : Ctr l D dA yX13_copies cX13_copies 2 none (mkRm 0 0) [.ref o] H0 (AM o) (QV (fun H1 => ∃ V1, gP D dA o dM V1 L Rf H1 ∧ Eqx PC V V1 ∧ V1 31 = V 30 ∧ V1 0 49 = xS t ∧ V1 0 50 = nI 0)) := by
  have hT := hX.1
  have hT1 := hT.1
  have hT2 := hT.2.1
  refine ctr_V (by decide) (Nat.le_of_ble_eq_true rfl) ?_
  intro p e s m args below meth c ls QQ locs hx hb hml hown hts hK hend hS hl
  have hl : lv_has ls 2 [(0, .ref o)] := hl
  refine lv_iconst (v := (nI 0)) hx hb dX13_copies_0 (by decide) ?_
  refine lv_istore_n (lv' := [(1, .int (nI 0)), (0, .ref o)]) hx hb dX13_copies_1 rfl hl (by decide) rfl (fun ls hl => ?_)
  have loop1 : ∀ (fu1 : Nat) (k : Nat) (V1 : GI) (H : Heap) (locs : List Loc) (ls : Array Slot), 48 - k < fu1 → (k ≤ 48) → (Eqx PR V V1) → (∀ j, j < k → V1 31 j = V 30 j) → gP D dA o dM V1 L Rf H → va_S (AM o) H0 H locs → lv_has ls 2 [(1, .int (nI k)), (0, .ref o)] → W p l e (mkRm 0 0) s m args below meth c H locs 0 0 QQ (F0 m 2 ls []) := by
    intro fu1
    induction fu1 with
    | zero => intro k V1 H locs ls hfu; exact absurd hfu (Nat.not_lt_zero _)
    | succ fu1 ih1 =>
      intro k V1 H locs ls hfu hk hE1 hcp hG hS hl
      refine lv_iload_n hx hb dX13_copies_2 rfl (lv_at hl 0 rfl) ?_
      refine lv_bipush (v := (nI 48)) hx hb dX13_copies_3 (by decide) ?_
      refine n_icmp_ge (tgt := 26) hx hb dX13_copies_5 (by decide) (by omega) (by omega) (fun c5 => ?_) (fun c5 => ?_)
      · refine lv_aload_n hx hb dX13_copies_26 rfl (lv_at hl 1 rfl) ?_
        refine lv_aload_n hx hb dX13_copies_27 rfl (lv_at hl 1 rfl) ?_
        refine g_get hx hb hts hown hK hG 0 rfl rfl ok_X13 30 (by decide) q1501 rfl rfl dX13_copies_28 ?_
        refine lv_aload_n hx hb dX13_copies_31 rfl (lv_at hl 1 rfl) ?_
        refine g_get (v := .int (nI lv)) hx hb hts hown hK hG 0 rfl rfl ok_X13 18 (by decide) q1489 rfl (congrArg Value.int ((hE1 0 18 rfl).trans hT.2.2.1)) dX13_copies_32 ?_
        refine n_iald hx hb hK hG 17 rfl (by omega) (by decide) dX13_copies_35 ?_
        refine iv (y := (xS t)) ((hE1 17 lv rfl).trans hX.2.2.2.2.2.1) ?_
        refine g_put hx hb hts hown hK hG hS 0 (AM_in 0 (by decide)) rfl rfl ok_X13 49 (by decide) q1520 rfl rfl rfl rfl dX13_copies_36 (fun H locs hG hO hS => ?_)
        refine lv_aload_n hx hb dX13_copies_39 rfl (lv_at hl 1 rfl) ?_
        refine lv_iconst (v := (nI 0)) hx hb dX13_copies_40 (by decide) ?_
        refine g_put hx hb hts hown hK hG hS 0 (AM_in 0 (by decide)) rfl rfl ok_X13 50 (by decide) q1521 rfl rfl rfl rfl dX13_copies_41 (fun H locs hG hO hS => ?_)
        refine hend _ _ _ _ hS dX13_copies_44 ?_
        obtain rfl : k = 48 := by omega
        have hG2 := hG.setcell (k := 31) (f := V 30) rfl (fun j hj => hcp j hj)
        exact ⟨rfl, _, hG2, Eqx.cell (((hE1.mono PR_PC).up rfl).up rfl) (fun _ => rfl), va_up_s, rfl, rfl⟩
      refine lv_aload_n hx hb dX13_copies_8 rfl (lv_at hl 1 rfl) ?_
      refine g_get hx hb hts hown hK hG 0 rfl rfl ok_X13 48 (by decide) q1519 rfl rfl dX13_copies_9 ?_
      refine lv_iload_n hx hb dX13_copies_12 rfl (lv_at hl 0 rfl) ?_
      refine lv_aload_n hx hb dX13_copies_13 rfl (lv_at hl 1 rfl) ?_
      refine g_get hx hb hts hown hK hG 0 rfl rfl ok_X13 47 (by decide) q1518 rfl rfl dX13_copies_14 ?_
      refine lv_iload_n hx hb dX13_copies_17 rfl (lv_at hl 0 rfl) ?_
      refine n_iald hx hb hK hG 30 rfl (by omega) (by decide) dX13_copies_18 ?_
      refine iv (y := (V 30 k)) (hE1 30 k rfl) ?_
      refine n_iast hx hb hK hG hS 31 (AM_in 31 (by decide)) rfl (by omega) (by decide) dX13_copies_19 (fun H locs hG hO hS => ?_)
      refine lv_iinc (v := (nI (k + 1))) (lv' := [(1, .int (nI (k + 1))), (0, .ref o)]) hx hb dX13_copies_20 hl (k := 0) rfl (nI_add _ _) (by decide) rfl (fun ls hl => ?_)
      refine lv_goto (tgt := 2) hx hb dX13_copies_23 (by decide) ?_
      exact ih1 (k + 1) (up2 V1 31 k (V 30 k)) _ _ _ (by omega) (by omega) (Eqx.up hE1 rfl) (cp_step hcp) hG hS (lv_sub hl [0, 1] rfl)
  exact loop1 ((48 - 0) + 1) 0 V _ _ _ (Nat.lt_succ_self _) (by omega) Eqx.rf (fun j hj => absurd hj (Nat.not_lt_zero _)) hG hS (lv_sub hl [0, 1] rfl)
theorem cw_X13_321 {R : Room} {s : State} {args : Array Value} (hts : ∀ w ∈ lw_all, w.before args s = true) {f w k j : Nat} (hR : f + 1 ≤ R.frames ∧ 8 + (2 + 11) + w ≤ R.locals) : CallW R s args RX13 RX13 321 yX13_copies cX13_copies 2 none (ws_ yX13_copies cX13_copies 2 none) (mkRmC f w k j) k j 0 := cwV 0 hts (lw_V q1790 q1792 qs74 q129 q1793) rfl rfl rfl (by decide +kernel) hR
set_option maxHeartbeats 4000000 in
theorem met_X13_copiesStill (l : Launch) (D : va_G) (dA : Nat → ClassId) {o : Nat} {V : GI} {L : GL} {Rf : GR} {H0 : Heap} (hG : gP D dA o dM V L Rf H0) {lv : Nat} {t : Txt} (hX : txM V lv t) : Ctr l D dA yX13_copiesStill cX13_copiesStill 1 none (mkRm 1 21) [.ref o] H0 (AM o) (QV (fun H1 => ∃ V1, gP D dA o dM V1 L Rf H1 ∧ Eqx PC V V1 ∧ V1 31 = V 30 ∧ V1 0 49 = xS t ∧ V1 0 50 = nI 1)) := by
  have hT := hX.1
  have hT1 := hT.1
  have hT2 := hT.2.1
  refine ctr_V (by decide) (Nat.le_of_ble_eq_true rfl) ?_
  intro p e s m args below meth c ls QQ locs hx hb hml hown hts hK hend hS hl
  have hl : lv_has ls 1 [(0, .ref o)] := hl
  refine lv_aload_n hx hb dX13_copiesStill_0 rfl (lv_at hl 0 rfl) ?_
  refine c_VV hx hb hml hts hown hK hl.1 hS ⟨Nat.le_refl _, Nat.le_refl _⟩ (met_X13_copies l D dA hG hX) (cw_X13_321 hts ⟨by decide, by decide⟩) (hG 0 _ rfl) rfl rfl rfl rfl (Nat.le_of_ble_eq_true rfl) dX13_copiesStill_1 (fun _ h => h) (fun H1 locs hq hF hS => ?_)
  obtain ⟨V1, hG, hE1, hr1, hl1, hs1⟩ := hq
  generalize hHe1 : H1 = H at hG hS ⊢
  clear hHe1
  refine lv_aload_n hx hb dX13_copiesStill_4 rfl (lv_at hl 0 rfl) ?_
  refine lv_iconst (v := (nI 1)) hx hb dX13_copiesStill_5 (by decide) ?_
  refine g_put hx hb hts hown hK hG hS 0 (AM_in 0 (by decide)) rfl rfl ok_X13 50 (by decide) q1521 rfl rfl rfl rfl dX13_copiesStill_6 (fun H locs hG hO hS => ?_)
  refine hend _ _ _ _ hS dX13_copiesStill_9 ?_
  exact ⟨rfl, _, hG, (hE1.up rfl), hr1, hl1, rfl⟩
set_option maxHeartbeats 4000000 in
theorem met_X13_keepsRow (l : Launch) (D : va_G) (dA : Nat → ClassId) {o : Nat} {V : GI} {L : GL} {Rf : GR} {H0 : Heap} (hG : gP D dA o dM V L Rf H0)  : Ctr l D dA yX13_keepsRow cX13_keepsRow 2 none (mkRm 0 0) [.ref o] H0 (AM o) (QV (fun H1 => ∃ V1, gP D dA o dM V1 L Rf H1 ∧ Eqx PN V V1 ∧ V1 30 = V 31)) := by
  refine ctr_V (by decide) (Nat.le_of_ble_eq_true rfl) ?_
  intro p e s m args below meth c ls QQ locs hx hb hml hown hts hK hend hS hl
  have hl : lv_has ls 2 [(0, .ref o)] := hl
  refine lv_iconst (v := (nI 0)) hx hb dX13_keepsRow_0 (by decide) ?_
  refine lv_istore_n (lv' := [(1, .int (nI 0)), (0, .ref o)]) hx hb dX13_keepsRow_1 rfl hl (by decide) rfl (fun ls hl => ?_)
  have loop1 : ∀ (fu1 : Nat) (k : Nat) (V1 : GI) (H : Heap) (locs : List Loc) (ls : Array Slot), 48 - k < fu1 → (k ≤ 48) → (Eqx PN V V1) → (∀ j, j < k → V1 30 j = V 31 j) → gP D dA o dM V1 L Rf H → va_S (AM o) H0 H locs → lv_has ls 2 [(1, .int (nI k)), (0, .ref o)] → W p l e (mkRm 0 0) s m args below meth c H locs 0 0 QQ (F0 m 2 ls []) := by
    intro fu1
    induction fu1 with
    | zero => intro k V1 H locs ls hfu; exact absurd hfu (Nat.not_lt_zero _)
    | succ fu1 ih1 =>
      intro k V1 H locs ls hfu hk hE1 hcp hG hS hl
      refine lv_iload_n hx hb dX13_keepsRow_2 rfl (lv_at hl 0 rfl) ?_
      refine lv_bipush (v := (nI 48)) hx hb dX13_keepsRow_3 (by decide) ?_
      refine n_icmp_ge (tgt := 26) hx hb dX13_keepsRow_5 (by decide) (by omega) (by omega) (fun c5 => ?_) (fun c5 => ?_)
      · refine hend _ _ _ _ hS dX13_keepsRow_26 ?_
        obtain rfl : k = 48 := by omega
        exact ⟨rfl, _, hG.setcell (k := 30) (f := V 31) rfl (fun j hj => hcp j hj), Eqx.cell hE1 (fun _ => rfl), va_up_s⟩
      refine lv_aload_n hx hb dX13_keepsRow_8 rfl (lv_at hl 1 rfl) ?_
      refine g_get hx hb hts hown hK hG 0 rfl rfl ok_X13 47 (by decide) q1518 rfl rfl dX13_keepsRow_9 ?_
      refine lv_iload_n hx hb dX13_keepsRow_12 rfl (lv_at hl 0 rfl) ?_
      refine lv_aload_n hx hb dX13_keepsRow_13 rfl (lv_at hl 1 rfl) ?_
      refine g_get hx hb hts hown hK hG 0 rfl rfl ok_X13 48 (by decide) q1519 rfl rfl dX13_keepsRow_14 ?_
      refine lv_iload_n hx hb dX13_keepsRow_17 rfl (lv_at hl 0 rfl) ?_
      refine n_iald hx hb hK hG 31 rfl (by omega) (by decide) dX13_keepsRow_18 ?_
      refine iv (y := (V 31 k)) (hE1 31 k rfl) ?_
      refine n_iast hx hb hK hG hS 30 (AM_in 30 (by decide)) rfl (by omega) (by decide) dX13_keepsRow_19 (fun H locs hG hO hS => ?_)
      refine lv_iinc (v := (nI (k + 1))) (lv' := [(1, .int (nI (k + 1))), (0, .ref o)]) hx hb dX13_keepsRow_20 hl (k := 0) rfl (nI_add _ _) (by decide) rfl (fun ls hl => ?_)
      refine lv_goto (tgt := 2) hx hb dX13_keepsRow_23 (by decide) ?_
      exact ih1 (k + 1) (up2 V1 30 k (V 31 k)) _ _ _ (by omega) (by omega) (Eqx.up hE1 rfl) (cp_step hcp) hG hS (lv_sub hl [0, 1] rfl)
  exact loop1 ((48 - 0) + 1) 0 V _ _ _ (Nat.lt_succ_self _) (by omega) Eqx.rf (fun j hj => absurd hj (Nat.not_lt_zero _)) hG hS (lv_sub hl [0, 1] rfl)
set_option maxHeartbeats 4000000 in
theorem met_X13_rowBits (l : Launch) (D : va_G) (dA : Nat → ClassId) {o : Nat} {V : GI} {L : GL} {Rf : GR} {H0 : Heap} (hG : gP D dA o dM V L Rf H0) {lv : Nat} {t : Txt} (hX : txM V lv t) (hrv : RV (xN t) (V 31)) : Ctr l D dA yX13_rowBits cX13_rowBits 3 (some .int) (mkRm 1 20) [.ref o] H0 A0 (QI (fun r H1 => H0 = H1 ∧ r = nI (rbF (V 31) (xN t)))) := by
  have hT := hX.1
  have hT1 := hT.1
  have hT2 := hT.2.1
  refine ctr_I (by decide) (Nat.le_of_ble_eq_true rfl) ?_
  intro p e s m args below meth c ls QQ locs hx hb hml hown hts hK hend hS hl
  have hl : lv_has ls 3 [(0, .ref o)] := hl
  refine lv_iconst (v := (nI 0)) hx hb dX13_rowBits_0 (by decide) ?_
  refine lv_istore_n (lv' := [(1, .int (nI 0)), (0, .ref o)]) hx hb dX13_rowBits_1 rfl hl (by decide) rfl (fun ls hl => ?_)
  refine lv_iconst (v := (nI 0)) hx hb dX13_rowBits_2 (by decide) ?_
  refine lv_istore_n (lv' := [(2, .int (nI 0)), (1, .int (nI 0)), (0, .ref o)]) hx hb dX13_rowBits_3 rfl hl (by decide) rfl (fun ls hl => ?_)
  have loop1 : ∀ (fu1 : Nat) (k : Nat) (locs : List Loc) (ls : Array Slot), xN t - k < fu1 → (k ≤ xN t) → va_S A0 H0 H0 locs → lv_has ls 3 [(2, .int (nI k)), (1, .int (nI (rbF (V 31) k))), (0, .ref o)] → W p l e (mkRm 1 20) s m args below meth c H0 locs 0 0 QQ (F0 m 4 ls []) := by
    intro fu1
    induction fu1 with
    | zero => intro k locs ls hfu; exact absurd hfu (Nat.not_lt_zero _)
    | succ fu1 ih1 =>
      intro k locs ls hfu hk hS hl
      refine lv_iload_n hx hb dX13_rowBits_4 rfl (lv_at hl 0 rfl) ?_
      refine lv_aload_n hx hb dX13_rowBits_5 rfl (lv_at hl 2 rfl) ?_
      refine c_VI hx hb hml hts hown hK hl.1 hS ⟨Nat.le_refl _, Nat.le_refl _⟩ (met_X13_many l D dA hG hT) (cw_X13_304 hts ⟨by decide, by decide⟩) (hG 0 _ rfl) rfl rfl rfl rfl (Nat.le_of_ble_eq_true rfl) dX13_rowBits_6 (fun _ h => h.elim) (fun r H1 locs hq hF hS => ?_)
      obtain ⟨rfl, rfl⟩ := hq
      refine n_icmp_ge (tgt := 29) hx hb dX13_rowBits_9 (by decide) (by omega) (by omega) (fun c9 => ?_) (fun c9 => ?_)
      · refine lv_iload_n hx hb dX13_rowBits_29 rfl (lv_at hl 1 rfl) ?_
        refine hend _ _ _ _ _ hS dX13_rowBits_30 ?_
        exact ⟨_, rfl, rfl, by rw [show k = xN t by omega]⟩
      refine lv_iload_n hx hb dX13_rowBits_12 rfl (lv_at hl 1 rfl) ?_
      refine lv_aload_n hx hb dX13_rowBits_13 rfl (lv_at hl 2 rfl) ?_
      refine g_get hx hb hts hown hK hG 0 rfl rfl ok_X13 48 (by decide) q1519 rfl rfl dX13_rowBits_14 ?_
      refine lv_iload_n hx hb dX13_rowBits_17 rfl (lv_at hl 0 rfl) ?_
      refine n_iald hx hb hK hG 31 rfl (by omega) (by decide) dX13_rowBits_18 ?_
      refine iv (y := (nI (b01 (V 31 k)))) (hrv k c9) ?_
      refine lv_iload_n hx hb dX13_rowBits_19 rfl (lv_at hl 0 rfl) ?_
      refine n_ishl hx hb dX13_rowBits_20 (by omega) ?_
      refine n_ior hx hb dX13_rowBits_21 ?_
      refine lv_istore_n (lv' := [(1, .int (nI ((rbF (V 31) k) ||| ((b01 (V 31 k)) * 2 ^ k)))), (2, .int (nI k)), (0, .ref o)]) hx hb dX13_rowBits_22 rfl hl (by decide) rfl (fun ls hl => ?_)
      refine lv_iinc (v := (nI (k + 1))) (lv' := [(2, .int (nI (k + 1))), (1, .int (nI ((rbF (V 31) k) ||| ((b01 (V 31 k)) * 2 ^ k)))), (0, .ref o)]) hx hb dX13_rowBits_23 hl (k := 1) rfl (nI_add _ _) (by decide) rfl (fun ls hl => ?_)
      refine lv_goto (tgt := 4) hx hb dX13_rowBits_26 (by decide) ?_
      exact ih1 (k + 1) _ _ (by omega) (by omega) hS (lv_sub hl [0, 1, 2] rfl)
  exact loop1 ((xN t - 0) + 1) 0 _ _ (Nat.lt_succ_self _) (by omega) hS (lv_sub hl [0, 1, 2] rfl)
set_option maxHeartbeats 4000000 in
theorem met_X13_rowNow (l : Launch) (D : va_G) (dA : Nat → ClassId) {o : Nat} {V : GI} {L : GL} {Rf : GR} {H0 : Heap} (hG : gP D dA o dM V L Rf H0) {lv : Nat} {t : Txt} (hX : txM V lv t) (hrv : RV (xN t) (V 30)) : Ctr l D dA yX13_rowNow cX13_rowNow 3 (some .int) (mkRm 1 20) [.ref o] H0 A0 (QI (fun r H1 => H0 = H1 ∧ r = nI (rbF (V 30) (xN t)))) := by
  have hT := hX.1
  have hT1 := hT.1
  have hT2 := hT.2.1
  refine ctr_I (by decide) (Nat.le_of_ble_eq_true rfl) ?_
  intro p e s m args below meth c ls QQ locs hx hb hml hown hts hK hend hS hl
  have hl : lv_has ls 3 [(0, .ref o)] := hl
  refine lv_iconst (v := (nI 0)) hx hb dX13_rowNow_0 (by decide) ?_
  refine lv_istore_n (lv' := [(1, .int (nI 0)), (0, .ref o)]) hx hb dX13_rowNow_1 rfl hl (by decide) rfl (fun ls hl => ?_)
  refine lv_iconst (v := (nI 0)) hx hb dX13_rowNow_2 (by decide) ?_
  refine lv_istore_n (lv' := [(2, .int (nI 0)), (1, .int (nI 0)), (0, .ref o)]) hx hb dX13_rowNow_3 rfl hl (by decide) rfl (fun ls hl => ?_)
  have loop1 : ∀ (fu1 : Nat) (k : Nat) (locs : List Loc) (ls : Array Slot), xN t - k < fu1 → (k ≤ xN t) → va_S A0 H0 H0 locs → lv_has ls 3 [(2, .int (nI k)), (1, .int (nI (rbF (V 30) k))), (0, .ref o)] → W p l e (mkRm 1 20) s m args below meth c H0 locs 0 0 QQ (F0 m 4 ls []) := by
    intro fu1
    induction fu1 with
    | zero => intro k locs ls hfu; exact absurd hfu (Nat.not_lt_zero _)
    | succ fu1 ih1 =>
      intro k locs ls hfu hk hS hl
      refine lv_iload_n hx hb dX13_rowNow_4 rfl (lv_at hl 0 rfl) ?_
      refine lv_aload_n hx hb dX13_rowNow_5 rfl (lv_at hl 2 rfl) ?_
      refine c_VI hx hb hml hts hown hK hl.1 hS ⟨Nat.le_refl _, Nat.le_refl _⟩ (met_X13_many l D dA hG hT) (cw_X13_304 hts ⟨by decide, by decide⟩) (hG 0 _ rfl) rfl rfl rfl rfl (Nat.le_of_ble_eq_true rfl) dX13_rowNow_6 (fun _ h => h.elim) (fun r H1 locs hq hF hS => ?_)
      obtain ⟨rfl, rfl⟩ := hq
      refine n_icmp_ge (tgt := 29) hx hb dX13_rowNow_9 (by decide) (by omega) (by omega) (fun c9 => ?_) (fun c9 => ?_)
      · refine lv_iload_n hx hb dX13_rowNow_29 rfl (lv_at hl 1 rfl) ?_
        refine hend _ _ _ _ _ hS dX13_rowNow_30 ?_
        exact ⟨_, rfl, rfl, by rw [show k = xN t by omega]⟩
      refine lv_iload_n hx hb dX13_rowNow_12 rfl (lv_at hl 1 rfl) ?_
      refine lv_aload_n hx hb dX13_rowNow_13 rfl (lv_at hl 2 rfl) ?_
      refine g_get hx hb hts hown hK hG 0 rfl rfl ok_X13 47 (by decide) q1518 rfl rfl dX13_rowNow_14 ?_
      refine lv_iload_n hx hb dX13_rowNow_17 rfl (lv_at hl 0 rfl) ?_
      refine n_iald hx hb hK hG 30 rfl (by omega) (by decide) dX13_rowNow_18 ?_
      refine iv (y := (nI (b01 (V 30 k)))) (hrv k c9) ?_
      refine lv_iload_n hx hb dX13_rowNow_19 rfl (lv_at hl 0 rfl) ?_
      refine n_ishl hx hb dX13_rowNow_20 (by omega) ?_
      refine n_ior hx hb dX13_rowNow_21 ?_
      refine lv_istore_n (lv' := [(1, .int (nI ((rbF (V 30) k) ||| ((b01 (V 30 k)) * 2 ^ k)))), (2, .int (nI k)), (0, .ref o)]) hx hb dX13_rowNow_22 rfl hl (by decide) rfl (fun ls hl => ?_)
      refine lv_iinc (v := (nI (k + 1))) (lv' := [(2, .int (nI (k + 1))), (1, .int (nI ((rbF (V 30) k) ||| ((b01 (V 30 k)) * 2 ^ k)))), (0, .ref o)]) hx hb dX13_rowNow_23 hl (k := 1) rfl (nI_add _ _) (by decide) rfl (fun ls hl => ?_)
      refine lv_goto (tgt := 4) hx hb dX13_rowNow_26 (by decide) ?_
      exact ih1 (k + 1) _ _ (by omega) (by omega) hS (lv_sub hl [0, 1, 2] rfl)
  exact loop1 ((xN t - 0) + 1) 0 _ _ (Nat.lt_succ_self _) (by omega) hS (lv_sub hl [0, 1, 2] rfl)
set_option maxHeartbeats 4000000 in
theorem met_X13_laysRow (l : Launch) (D : va_G) (dA : Nat → ClassId) {o : Nat} {V : GI} {L : GL} {Rf : GR} {H0 : Heap} (hG : gP D dA o dM V L Rf H0) {lv : Nat} {t : Txt} (hX : txM V lv t) (x : Nat) (hx9 : x < 512) : Ctr l D dA yX13_laysRow cX13_laysRow 3 none (mkRm 1 20) [.ref o, .int (nI x)] H0 (AM o) (QV (fun H1 => ∃ V1, gP D dA o dM V1 L Rf H1 ∧ Eqx PR V V1 ∧ V1 31 = layF (xN t) x (V 31))) := by
  have hT := hX.1
  have hT1 := hT.1
  have hT2 := hT.2.1
  refine ctr_V (by decide) (Nat.le_of_ble_eq_true rfl) ?_
  intro p e s m args below meth c ls QQ locs hx hb hml hown hts hK hend hS hl
  have hl : lv_has ls 3 [(0, .ref o), (1, .int (nI x))] := hl
  refine lv_iconst (v := (nI 0)) hx hb dX13_laysRow_0 (by decide) ?_
  refine lv_istore_n (lv' := [(2, .int (nI 0)), (0, .ref o), (1, .int (nI x))]) hx hb dX13_laysRow_1 rfl hl (by decide) rfl (fun ls hl => ?_)
  have loop1 : ∀ (fu1 : Nat) (k : Nat) (V1 : GI) (H : Heap) (locs : List Loc) (ls : Array Slot), xN t - k < fu1 → (k ≤ xN t) → (Eqx PR V V1) → (∀ j, j < k → V1 31 j = nI (x / 2 ^ j % 2)) → (∀ j, k ≤ j → V1 31 j = V 31 j) → gP D dA o dM V1 L Rf H → va_S (AM o) H0 H locs → lv_has ls 3 [(2, .int (nI k)), (0, .ref o), (1, .int (nI x))] → W p l e (mkRm 1 20) s m args below meth c H locs 0 0 QQ (F0 m 2 ls []) := by
    intro fu1
    induction fu1 with
    | zero => intro k V1 H locs ls hfu; exact absurd hfu (Nat.not_lt_zero _)
    | succ fu1 ih1 =>
      intro k V1 H locs ls hfu hk hE1 hlo hhi hG hS hl
      refine lv_iload_n hx hb dX13_laysRow_2 rfl (lv_at hl 0 rfl) ?_
      refine lv_aload_n hx hb dX13_laysRow_3 rfl (lv_at hl 1 rfl) ?_
      refine c_VI hx hb hml hts hown hK hl.1 hS ⟨Nat.le_refl _, Nat.le_refl _⟩ (met_X13_many l D dA hG (tM_to hT (hE1 0 18 rfl) (hE1 9 lv rfl))) (cw_X13_304 hts ⟨by decide, by decide⟩) (hG 0 _ rfl) rfl rfl rfl rfl (Nat.le_of_ble_eq_true rfl) dX13_laysRow_4 (fun _ h => h.elim) (fun r H1 locs hq hF hS => ?_)
      obtain ⟨rfl, rfl⟩ := hq
      refine n_icmp_ge (tgt := 27) hx hb dX13_laysRow_7 (by decide) (by omega) (by omega) (fun c7 => ?_) (fun c7 => ?_)
      · refine hend _ _ _ _ hS dX13_laysRow_27 ?_
        obtain rfl : k = xN t := by omega
        exact ⟨rfl, _, hG.setcell (k := 31) (f := layF (xN t) x (V 31)) rfl (fun j _ => by unfold layF; split; exact hlo j (by assumption); exact hhi j (by omega)), Eqx.cell hE1 (fun _ => rfl), va_up_s⟩
      refine lv_aload_n hx hb dX13_laysRow_10 rfl (lv_at hl 1 rfl) ?_
      refine g_get hx hb hts hown hK hG 0 rfl rfl ok_X13 48 (by decide) q1519 rfl rfl dX13_laysRow_11 ?_
      refine lv_iload_n hx hb dX13_laysRow_14 rfl (lv_at hl 0 rfl) ?_
      refine lv_iload_n hx hb dX13_laysRow_15 rfl (lv_at hl 2 rfl) ?_
      refine lv_iload_n hx hb dX13_laysRow_16 rfl (lv_at hl 0 rfl) ?_
      refine n_ishr hx hb dX13_laysRow_17 (by omega) (by omega) ?_
      refine lv_iconst (v := (nI 1)) hx hb dX13_laysRow_18 (by decide) ?_
      refine n_and1 hx hb dX13_laysRow_19 ?_
      refine n_iast hx hb hK hG hS 31 (AM_in 31 (by decide)) rfl (by omega) (by decide) dX13_laysRow_20 (fun H locs hG hO hS => ?_)
      refine lv_iinc (v := (nI (k + 1))) (lv' := [(2, .int (nI (k + 1))), (0, .ref o), (1, .int (nI x))]) hx hb dX13_laysRow_21 hl (k := 0) rfl (nI_add _ _) (by decide) rfl (fun ls hl => ?_)
      refine lv_goto (tgt := 2) hx hb dX13_laysRow_24 (by decide) ?_
      exact ih1 (k + 1) (up2 V1 31 k (nI ((x / 2 ^ k) % 2))) _ _ _ (by omega) (by omega) (Eqx.up hE1 rfl) (lay_lo hlo) (fun j hj => (up2_n (by omega)).trans (hhi j (by omega))) hG hS (lv_sub hl [0, 1, 2] rfl)
  exact loop1 ((xN t - 0) + 1) 0 V _ _ _ (Nat.lt_succ_self _) (by omega) Eqx.rf (fun j hj => absurd hj (Nat.not_lt_zero _)) (fun _ _ => rfl) hG hS (lv_sub hl [0, 1, 2] rfl)
