def PQ (k _ : Nat) : Bool := k == 35
def PJ (k j : Nat) : Bool := k == 28 || k == 29 || k == 31 || k == 32 || k == 33 || k == 35 || (k == 0 && (j == 46 || j == 49 || j == 50))
theorem PL_PJ : ∀ k j, PJ k j = false → PL k j = false := by intro k j h; simp only [PL, PJ, Bool.or_eq_false_iff, Bool.and_eq_false_iff, beq_eq_false_iff_ne, ne_eq] at *; omega
theorem PT_PJ : ∀ k j, PJ k j = false → PT k j = false := by intro k j h; simp only [PT, PJ, Bool.or_eq_false_iff, Bool.and_eq_false_iff, beq_eq_false_iff_ne, ne_eq] at *; omega
theorem PE_PJ : ∀ k j, PJ k j = false → PE k j = false := by intro k j h; simp only [PE, PJ, Bool.or_eq_false_iff, Bool.and_eq_false_iff, beq_eq_false_iff_ne, ne_eq] at *; omega
theorem PR_PJ : ∀ k j, PJ k j = false → PR k j = false := by intro k j h; simp only [PR, PJ, Bool.or_eq_false_iff, Bool.and_eq_false_iff, beq_eq_false_iff_ne, ne_eq] at *; omega
theorem PC_PJ : ∀ k j, PJ k j = false → PC k j = false := by intro k j h; simp only [PC, PJ, Bool.or_eq_false_iff, Bool.and_eq_false_iff, beq_eq_false_iff_ne, ne_eq] at *; omega
theorem PH_PJ : ∀ k j, PJ k j = false → PH k j = false := by intro k j h; simp only [PH, PJ, Bool.or_eq_false_iff, Bool.and_eq_false_iff, beq_eq_false_iff_ne, ne_eq] at *; omega
theorem PW_PJ : ∀ k j, PJ k j = false → PW k j = false := by intro k j h; simp only [PW, PJ, Bool.or_eq_false_iff, Bool.and_eq_false_iff, beq_eq_false_iff_ne, ne_eq] at *; omega
theorem PQ_PJ : ∀ k j, PJ k j = false → PQ k j = false := by intro k j h; simp only [PQ, PJ, Bool.or_eq_false_iff, Bool.and_eq_false_iff, beq_eq_false_iff_ne, ne_eq] at *; omega
theorem isT_PQ : ∀ k j, isT k j = true → PQ k j = false := by
  intro k j h
  simp only [isT, PQ, Bool.or_eq_true, Bool.and_eq_true, decide_eq_true_eq, beq_iff_eq, Bool.or_eq_false_iff, Bool.and_eq_false_iff, beq_eq_false_iff_ne, ne_eq] at *
  omega
theorem txM_PQ {V V1 : GI} {lv : Nat} {t : Txt} (h : Eqx PQ V V1) (hX : txM V lv t) : txM V1 lv t := txM_to (fun k j q => h k j (isT_PQ k j q)) hX
theorem isT_PJ : ∀ k j, isT k j = true → PJ k j = false := by
  intro k j h
  simp only [isT, PJ, Bool.or_eq_true, Bool.and_eq_true, decide_eq_true_eq, beq_iff_eq, Bool.or_eq_false_iff, Bool.and_eq_false_iff, beq_eq_false_iff_ne, ne_eq] at *
  omega
theorem txM_PJ {V V1 : GI} {lv : Nat} {t : Txt} (h : Eqx PJ V V1) (hX : txM V lv t) : txM V1 lv t := txM_to (fun k j q => h k j (isT_PJ k j q)) hX
theorem wthn_nat (v : Int32) (N : Nat) (hN : N < 1000) : ∃ k, k ≤ N ∧ wthn v 0 (nI N) = nI k := by
  have e0 : (0 : Int32).toInt = 0 := rfl
  have eN : (nI N).toInt = N := nI_toInt (by omega)
  unfold wthn
  split
  · exact ⟨0, by omega, rfl⟩
  · next h1 =>
    split
    · exact ⟨N, Nat.le_refl _, rfl⟩
    · next h2 =>
      obtain ⟨k, hk, rfl⟩ := nI_of h1
      exact ⟨k, by have := Int32.not_lt.mp h2; have := (nI_leI hk (by omega)).mp this; omega, rfl⟩
def coN (t : Txt) (f : Nat → Int32) (b : Nat) : Nat := (cosF t f b).toNatClampNeg
def ciN (t : Txt) (f : Nat → Int32) (b : Nat) : Nat := (chiF t f b).toNatClampNeg
theorem cos_n (t : Txt) (f : Nat → Int32) (b : Nat) : cosF t f b = nI (coN t f b) ∧ coN t f b ≤ 99 := by
  obtain ⟨k, hk, e⟩ := wthn_nat (lwO (vrF t f b) 1 (xL t 3)) 99 (by decide)
  have e' : cosF t f b = nI k := e
  have : coN t f b = k := by unfold coN; rw [e', nI_clamp (by omega)]
  rw [this]; exact ⟨e', hk⟩
theorem chi_n (t : Txt) (f : Nat → Int32) (b : Nat) : chiF t f b = nI (ciN t f b) ∧ ciN t f b ≤ 100 := by
  obtain ⟨k, hk, e⟩ := wthn_nat (lwO (vrF t f b) 0 (xL t 2)) 100 (by decide)
  have e' : chiF t f b = nI k := e
  have : ciN t f b = k := by unfold ciN; rw [e', nI_clamp (by omega)]
  rw [this]; exact ⟨e', hk⟩
/-- what a set costs -/
def csF (G : Nat → Nat) (x : Nat) : Nat → Nat
  | 0 => 0
  | b + 1 => csF G x b + (if x / 2 ^ b % 2 = 1 then G b else 0)
theorem csF_le {G : Nat → Nat} {x : Nat} (h : ∀ b, G b ≤ 99) : ∀ b, csF G x b ≤ 99 * b
  | 0 => Nat.le_refl _
  | b + 1 => by have := csF_le (x := x) h b; have := h b; simp only [csF]; split <;> omega
theorem sub_gt {a b : Nat} (ha : a < 2 ^ 30) (hb : b < 2 ^ 30) : 0 < nI a - nI b ↔ b < a := by
  rw [Int32.lt_iff_toInt_lt, pk_sub_toInt ha hb]
  have : (0 : Int32).toInt = 0 := rfl
  omega
theorem sub_z {a b : Nat} (ha : a < 2 ^ 30) (hb : b < 2 ^ 30) : nI a - nI b = 0 ↔ a = b := by
  constructor
  · intro h
    have e := pk_sub_toInt ha hb
    rw [h] at e
    have : (0 : Int32).toInt = 0 := rfl
    omega
  · intro h; subst h; exact Int32.sub_self _
/-- the cheapest (of fewest, of least) that does it -/
def chF (hit : Nat → Bool) (c g : Nat → Nat) : Nat → Option Nat
  | 0 => none
  | k + 1 => match chF hit c g k with
    | none => if hit k = true then some k else none
    | some b => if c b < c k ∨ (c k = c b ∧ g b ≤ g k) then some b else if hit k = true then some k else some b
theorem chF_n1 {hit : Nat → Bool} {c g : Nat → Nat} {k : Nat} (h : chF hit c g k = none) (hh : hit k = true) : chF hit c g (k + 1) = some k := by simp only [chF, h]; rw [if_pos hh]
theorem chF_n0 {hit : Nat → Bool} {c g : Nat → Nat} {k : Nat} (h : chF hit c g k = none) (hh : ¬ hit k = true) : chF hit c g (k + 1) = none := by simp only [chF, h]; rw [if_neg hh]
theorem chF_s {hit : Nat → Bool} {c g : Nat → Nat} {k b : Nat} (h : chF hit c g k = some b) (hc : c b < c k ∨ (c k = c b ∧ g b ≤ g k)) : chF hit c g (k + 1) = some b := by simp only [chF, h]; rw [if_pos hc]
theorem chF_s1 {hit : Nat → Bool} {c g : Nat → Nat} {k b : Nat} (h : chF hit c g k = some b) (hc : ¬ (c b < c k ∨ (c k = c b ∧ g b ≤ g k))) (hh : hit k = true) : chF hit c g (k + 1) = some k := by simp only [chF, h]; rw [if_neg hc, if_pos hh]
theorem chF_s0 {hit : Nat → Bool} {c g : Nat → Nat} {k b : Nat} (h : chF hit c g k = some b) (hh : ¬ hit k = true) : chF hit c g (k + 1) = some b := by
  by_cases hc : c b < c k ∨ (c k = c b ∧ g b ≤ g k)
  · exact chF_s h hc
  · simp only [chF, h]; rw [if_neg hc, if_neg hh]
theorem chF_lt {hit : Nat → Bool} {c g : Nat → Nat} : ∀ {k b : Nat}, chF hit c g k = some b → b < k
  | k + 1, b, h => by
    cases hm : chF hit c g k with
    | none =>
      by_cases hh : hit k = true
      · rw [chF_n1 hm hh] at h; cases h; omega
      · rw [chF_n0 hm hh] at h; cases h
    | some i =>
      have := chF_lt hm
      by_cases hc : c i < c k ∨ (c k = c i ∧ g i ≤ g k)
      · rw [chF_s hm hc] at h; cases h; omega
      · by_cases hh : hit k = true
        · rw [chF_s1 hm hc hh] at h; cases h; omega
        · rw [chF_s0 hm hh] at h; cases h; omega
def cstF (t : Txt) (f : Nat → Int32) (x : Nat) : Nat := csF (coN t f) x (xN t)
theorem cstF_le {t : Txt} {f : Nat → Int32} {x : Nat} (hn : xN t ≤ 9) : cstF t f x ≤ 891 := Nat.le_trans (csF_le (fun b => (cos_n t f b).2) _) (by omega)
def hitF (t : Txt) (f : Nat → Int32) (g q x : Nat) : Bool := decide (raF t f (rbF f (xN t) ^^^ x) q = g)
def chpF (t : Txt) (f : Nat → Int32) (g q : Nat) : Option Nat := chF (hitF t f g q) (cstF t f) bc (2 ^ xN t)
def turnedA (t : Txt) (f : Nat → Int32) (q w : Int32) : Int32 := rng q 0 25 (fun q => rng w 0 2 (fun w => match chpF t f (2 ^ xN t - 1) q with
  | none => -2
  | some s => if w = 1 then nI s else nI (cstF t f s)) (-1)) (-1)
def turnToA (t : Txt) (f : Nat → Int32) (g q : Int32) : Int32 := rng g 0 (2 ^ xN t) (fun g => rng q 0 25 (fun q => match chpF t f g q with
  | none => -2
  | some s => nI (cstF t f s)) (-1)) (-1)
/-! rounds -/
def rdR (t : Txt) (f : Nat → Int32) : Nat → Nat → Int32
  | 0 => f
  | k + 1 => hourF t (nI 1) (xS t) (layF (xN t) (2 ^ xN t - 1) (rdR t f k))
/-- of a row how many must be turned; what they cost -/
def rcF (f : Nat → Int32) : Nat → Nat
  | 0 => 0
  | b + 1 => if f b = nI 1 then rcF f b else rcF f b + 1
def rsF (t : Txt) (f : Nat → Int32) : Nat → Nat
  | 0 => 0
  | b + 1 => if f b = nI 1 then rsF t f b else rsF t f b + coN t f b
def rdC (t : Txt) (f : Nat → Int32) : Nat → Nat
  | 0 => 0
  | k + 1 => rdC t f k + rcF (rdR t f k) (xN t)
def rdS (t : Txt) (f : Nat → Int32) : Nat → Nat
  | 0 => 0
  | k + 1 => rdS t f k + rsF t (rdR t f k) (xN t)
theorem rcF_le (f : Nat → Int32) : ∀ b, rcF f b ≤ b
  | 0 => Nat.le_refl _
  | b + 1 => by have := rcF_le f b; simp only [rcF]; split <;> omega
theorem rsF_le (t : Txt) (f : Nat → Int32) : ∀ b, rsF t f b ≤ 99 * b
  | 0 => Nat.le_refl _
  | b + 1 => by have := rsF_le t f b; have := (cos_n t f b).2; simp only [rsF]; split <;> omega
theorem rdC_le {t : Txt} {f : Nat → Int32} (hn : xN t ≤ 9) : ∀ k, rdC t f k ≤ 9 * k
  | 0 => Nat.le_refl _
  | k + 1 => by have := rdC_le (f := f) hn k; have := rcF_le (rdR t f k) (xN t); simp only [rdC]; omega
theorem rdS_le {t : Txt} {f : Nat → Int32} (hn : xN t ≤ 9) : ∀ k, rdS t f k ≤ 891 * k
  | 0 => Nat.le_refl _
  | k + 1 => by have := rdS_le (f := f) hn k; have := rsF_le t (rdR t f k) (xN t); simp only [rdS]; omega
def roundA (t : Txt) (f : Nat → Int32) (q w : Int32) : Int32 := rng q 1 49 (fun q => rng w 0 2 (fun w => if w = 0 then nI (rdC t f q) else nI (rdS t f q)) (-1)) (-1)
/-! the coldest hour -/
def smF (G : Nat → Nat) : Nat → Nat
  | 0 => 0
  | b + 1 => smF G b + G b
theorem smF_le {G : Nat → Nat} {N : Nat} (h : ∀ b, G b ≤ N) : ∀ b, smF G b ≤ N * b
  | 0 => Nat.zero_le _
  | b + 1 => by have := smF_le h b; have := h b; simp only [smF]; rw [Nat.mul_succ]; omega
def cdF (t : Txt) (f : Nat → Int32) (k : Nat) : Nat := smF (ciN t (goF t (nI 1) (xS t) k f)) (xN t)
theorem cdF_le {t : Txt} {f : Nat → Int32} {k : Nat} (hn : xN t ≤ 9) : cdF t f k ≤ 900 := Nat.le_trans (smF_le (fun b => (chi_n t _ b).2) _) (by omega)
def coldestA (t : Txt) (f : Nat → Int32) (w : Int32) : Int32 := rng w 0 2 (fun w => if w = 0 then oI 0 (mxF (cdF t f) 24) else oV 0 (mxF (cdF t f) 24)) (-1)
theorem mxF_0 {g : Nat → Nat} {b : Nat} (h : mxF g b = none) : b = 0 := by
  cases b with
  | zero => rfl
  | succ b =>
    exfalso
    cases hm : mxF g b with
    | none => rw [mxF_n hm] at h; cases h
    | some p =>
      obtain ⟨i, v⟩ := p
      by_cases hv : v < g b
      · rw [mxF_t hm hv] at h; cases h
      · rw [mxF_f hm (Nat.not_lt.mp hv)] at h; cases h
/-! who would lie left in which case -/
def rlV (t : Txt) (f : Nat → Int32) (b c : Nat) : Nat → Int32 := va_up (va_up (va_up (vrF t f b) 0 (nI (c % 2))) 1 (nI (c / 2 ^ 1 % 2))) 2 (nI (c / 2 ^ 2))
def obF (hit : Nat → Bool) : Nat → Nat
  | 0 => 0
  | k + 1 => if hit k = true then obF hit k ||| 1 * 2 ^ k else obF hit k
def rlB (t : Txt) (f : Nat → Int32) (b c : Nat) : Bool := decide (0 < lwO (rlV t f b c) (nI (c % 2)) (xL t 0))
def ruleA (t : Txt) (f : Nat → Int32) (b : Int32) : Int32 := rng b 0 (xN t) (fun b => nI (obF (rlB t f b) 8)) (-1)
theorem cw_X13_374 {R : Room} {s : State} {args : Array Value} (hts : ∀ w ∈ lw_all, w.before args s = true) {f w k j : Nat} (hR : f + 1 ≤ R.frames ∧ 8 + (2 + 11) + w ≤ R.locals) : CallW R s args RX13 RX13 374 yX13_costsOf cX13_costsOf 2 (some .int) (ws_ yX13_costsOf cX13_costsOf 2 (some .int)) (mkRmC f w k j) k j 1 := cwV 1 hts (lw_V q1825 q1827 qs82 q129 q1828) rfl rfl rfl (by decide +kernel) hR
set_option maxHeartbeats 4000000 in
theorem met_X13_fillsCosts (l : Launch) (D : va_G) (dA : Nat → ClassId) {o : Nat} {V : GI} {L : GL} {Rf : GR} {H0 : Heap} (hG : gP D dA o dM V L Rf H0) {lv : Nat} {t : Txt} (hX : txM V lv t) : Ctr l D dA yX13_fillsCosts cX13_fillsCosts 2 none (mkRm 5 106) [.ref o] H0 (AM o) (QV (fun H1 => ∃ V1, gP D dA o dM V1 L Rf H1 ∧ Eqx PJ V V1 ∧ ∀ b, b < xN t → V1 35 b = nI (coN t (V 30) b))) := by
  have hT := hX.1
  have hT1 := hT.1
  have hT2 := hT.2.1
  refine ctr_V (by decide) (Nat.le_of_ble_eq_true rfl) ?_
  intro p e s m args below meth c ls QQ locs hx hb hml hown hts hK hend hS hl
  have hl : lv_has ls 2 [(0, .ref o)] := hl
  refine lv_aload_n hx hb dX13_fillsCosts_0 rfl (lv_at hl 0 rfl) ?_
  refine c_VV hx hb hml hts hown hK hl.1 hS ⟨Nat.le_refl _, Nat.le_refl _⟩ (met_X13_copies l D dA hG hX) (cw_X13_321 hts ⟨by decide, by decide⟩) (hG 0 _ rfl) rfl rfl rfl rfl (Nat.le_of_ble_eq_true rfl) dX13_fillsCosts_1 (fun _ h => h) (fun H1 locs hq hF hS => ?_)
  obtain ⟨V1, hG, hE1, hr1, hl1, hs1⟩ := hq
  generalize hHe1 : H1 = H at hG hS ⊢
  clear hHe1
  refine lv_iconst (v := (nI 0)) hx hb dX13_fillsCosts_4 (by decide) ?_
  refine lv_istore_n (lv' := [(1, .int (nI 0)), (0, .ref o)]) hx hb dX13_fillsCosts_5 rfl hl (by decide) rfl (fun ls hl => ?_)
  have loop2 : ∀ (fu2 : Nat) (b : Nat) (V2 : GI) (H : Heap) (locs : List Loc) (ls : Array Slot), xN t - b < fu2 → (b ≤ xN t) → (Eqx PJ V1 V2) → (V2 31 = V 30) → (∀ j, j < b → V2 35 j = nI (coN t (V 30) j)) → gP D dA o dM V2 L Rf H → va_S (AM o) H0 H locs → lv_has ls 2 [(1, .int (nI b)), (0, .ref o)] → W p l e (mkRm 5 106) s m args below meth c H locs 0 0 QQ (F0 m 6 ls []) := by
    intro fu2
    induction fu2 with
    | zero => intro b V2 H locs ls hfu; exact absurd hfu (Nat.not_lt_zero _)
    | succ fu2 ih2 =>
      intro b V2 H locs ls hfu hbn hE2 hrw hcst hG hS hl
      refine lv_iload_n hx hb dX13_fillsCosts_6 rfl (lv_at hl 0 rfl) ?_
      refine lv_aload_n hx hb dX13_fillsCosts_7 rfl (lv_at hl 1 rfl) ?_
      refine c_VI hx hb hml hts hown hK hl.1 hS ⟨Nat.le_refl _, Nat.le_refl _⟩ (met_X13_many l D dA hG (tM_to hT ((hE2 0 18 rfl).trans (hE1 0 18 rfl)) ((hE2 9 lv rfl).trans (hE1 9 lv rfl)))) (cw_X13_304 hts ⟨by decide, by decide⟩) (hG 0 _ rfl) rfl rfl rfl rfl (Nat.le_of_ble_eq_true rfl) dX13_fillsCosts_8 (fun _ h => h.elim) (fun r H1 locs hq hF hS => ?_)
      obtain ⟨rfl, rfl⟩ := hq
      refine n_icmp_ge (tgt := 31) hx hb dX13_fillsCosts_11 (by decide) (by omega) (by omega) (fun c11 => ?_) (fun c11 => ?_)
      · obtain rfl : b = xN t := by omega
        refine hend _ _ _ _ hS dX13_fillsCosts_31 ?_
        exact ⟨rfl, _, hG, ((hE1.mono PC_PJ).trans hE2), hcst⟩
      refine lv_aload_n hx hb dX13_fillsCosts_14 rfl (lv_at hl 1 rfl) ?_
      refine g_get hx hb hts hown hK hG 0 rfl rfl ok_X13 55 (by decide) q1526 rfl rfl dX13_fillsCosts_15 ?_
      refine lv_iload_n hx hb dX13_fillsCosts_18 rfl (lv_at hl 0 rfl) ?_
      refine lv_aload_n hx hb dX13_fillsCosts_19 rfl (lv_at hl 1 rfl) ?_
      refine lv_iload_n hx hb dX13_fillsCosts_20 rfl (lv_at hl 0 rfl) ?_
      refine c_VI hx hb hml hts hown hK hl.1 hS ⟨Nat.le_refl _, Nat.le_refl _⟩ (met_X13_costsOf l D dA hG (txM_PJ ((hE1.mono PC_PJ).trans hE2) hX) b (by omega)) (cw_X13_374 hts ⟨by decide, by decide⟩) (hG 0 _ rfl) rfl rfl rfl rfl (Nat.le_of_ble_eq_true rfl) dX13_fillsCosts_21 (fun _ h => h) (fun r H1 locs hq hF hS => ?_)
      obtain ⟨V3, hG, hE3, hr3⟩ := hq
      generalize hHe3 : H1 = H at hG hS ⊢
      clear hHe3
      have hr3 : r = cosF t (V 30) b := hr3.trans (congrArg (fun z => cosF t z b) (hrw))
      subst hr3
      refine iv (y := nI (coN t (V 30) b)) (cos_n t (V 30) b).1 ?_
      have hle21 := (cos_n t (V 30) b).2
      refine n_iast hx hb hK hG hS 35 (AM_in 35 (by decide)) rfl (by omega) (by decide) dX13_fillsCosts_24 (fun H locs hG hO hS => ?_)
      refine lv_iinc (v := (nI (b + 1))) (lv' := [(1, .int (nI (b + 1))), (0, .ref o)]) hx hb dX13_fillsCosts_25 hl (k := 0) rfl (nI_add _ _) (by decide) rfl (fun ls hl => ?_)
      refine lv_goto (tgt := 6) hx hb dX13_fillsCosts_28 (by decide) ?_
      have hc35_1 : V3 35 = V2 35 := (funext (fun j => hE3 35 j rfl))
      have hc35_2 : (up2 V3 35 b (nI (coN t (V 30) b))) 35 = va_up (V2 35) b (nI (coN t (V 30) b)) := congrArg (fun g => va_up g b (nI (coN t (V 30) b))) hc35_1
      have hc35 : (up2 V3 35 b (nI (coN t (V 30) b))) 35 = va_up (V2 35) b (nI (coN t (V 30) b)) := hc35_2
      have hc31 : (up2 V3 35 b (nI (coN t (V 30) b))) 31 = V 30 := ((funext (fun j => hE3 31 j rfl)).trans hrw)
      exact ih2 (b + 1) (up2 V3 35 b (nI (coN t (V 30) b))) _ _ _ (by omega) (by omega) (Eqx.up (Eqx.trans hE2 (hE3.mono PE_PJ)) rfl) hc31 (by rw [hc35]; exact va_step hcst rfl) hG hS (lv_sub hl [0, 1] rfl)
  exact loop2 ((xN t - 0) + 1) 0 V1 _ _ _ (Nat.lt_succ_self _) (by omega) Eqx.rf hr1 (fun j hj => absurd hj (Nat.not_lt_zero _)) hG hS (lv_sub hl [0, 1] rfl)
set_option maxHeartbeats 4000000 in
theorem met_X13_costsOfAll (l : Launch) (D : va_G) (dA : Nat → ClassId) {o : Nat} {V : GI} {L : GL} {Rf : GR} {H0 : Heap} (hG : gP D dA o dM V L Rf H0) {lv n : Nat} (hT : tM V lv n) (G : Nat → Nat) (hG9 : ∀ b, b < n → V 35 b = nI (G b)) (hG10 : ∀ b, G b ≤ 99) (x : Nat) (hx9 : x < 512) : Ctr l D dA yX13_costsOfAll cX13_costsOfAll 4 (some .int) (mkRm 1 20) [.ref o, .int (nI x)] H0 A0 (QI (fun r H1 => H0 = H1 ∧ r = nI (csF G x n))) := by
  have hT1 := hT.1
  have hT2 := hT.2.1
  refine ctr_I (by decide) (Nat.le_of_ble_eq_true rfl) ?_
  intro p e s m args below meth c ls QQ locs hx hb hml hown hts hK hend hS hl
  have hl : lv_has ls 4 [(0, .ref o), (1, .int (nI x))] := hl
  refine lv_iconst (v := (nI 0)) hx hb dX13_costsOfAll_0 (by decide) ?_
  refine lv_istore_n (lv' := [(2, .int (nI 0)), (0, .ref o), (1, .int (nI x))]) hx hb dX13_costsOfAll_1 rfl hl (by decide) rfl (fun ls hl => ?_)
  refine lv_iconst (v := (nI 0)) hx hb dX13_costsOfAll_2 (by decide) ?_
  refine lv_istore_n (lv' := [(3, .int (nI 0)), (2, .int (nI 0)), (0, .ref o), (1, .int (nI x))]) hx hb dX13_costsOfAll_3 rfl hl (by decide) rfl (fun ls hl => ?_)
  have loop1 : ∀ (fu1 : Nat) (b : Nat) (y : Nat) (locs : List Loc) (ls : Array Slot), n - b < fu1 → (b ≤ n) → (csF G x b = y) → va_S A0 H0 H0 locs → lv_has ls 4 [(3, .int (nI b)), (2, .int (nI y)), (0, .ref o), (1, .int (nI x))] → W p l e (mkRm 1 20) s m args below meth c H0 locs 0 0 QQ (F0 m 4 ls []) := by
    intro fu1
    induction fu1 with
    | zero => intro b y locs ls hfu; exact absurd hfu (Nat.not_lt_zero _)
    | succ fu1 ih1 =>
      intro b y locs ls hfu hbn hy hS hl
      have hyl : y ≤ 99 * b := hy ▸ csF_le hG10 b
      refine lv_iload_n hx hb dX13_costsOfAll_4 rfl (lv_at hl 0 rfl) ?_
      refine lv_aload_n hx hb dX13_costsOfAll_5 rfl (lv_at hl 2 rfl) ?_
      refine c_VI hx hb hml hts hown hK hl.1 hS ⟨Nat.le_refl _, Nat.le_refl _⟩ (met_X13_many l D dA hG hT) (cw_X13_304 hts ⟨by decide, by decide⟩) (hG 0 _ rfl) rfl rfl rfl rfl (Nat.le_of_ble_eq_true rfl) dX13_costsOfAll_6 (fun _ h => h.elim) (fun r H1 locs hq hF hS => ?_)
      obtain ⟨rfl, rfl⟩ := hq
      refine n_icmp_ge (tgt := 36) hx hb dX13_costsOfAll_9 (by decide) (by omega) (by omega) (fun c9 => ?_) (fun c9 => ?_)
      · obtain rfl : b = n := by omega
        refine lv_iload_n hx hb dX13_costsOfAll_36 rfl (lv_at hl 1 rfl) ?_
        refine hend _ _ _ _ _ hS dX13_costsOfAll_37 ?_
        exact ⟨_, rfl, rfl, by rw [hy]⟩
      refine lv_iload_n hx hb dX13_costsOfAll_12 rfl (lv_at hl 3 rfl) ?_
      refine lv_iload_n hx hb dX13_costsOfAll_13 rfl (lv_at hl 0 rfl) ?_
      refine n_ishr hx hb dX13_costsOfAll_14 (by omega) (by omega) ?_
      refine lv_iconst (v := (nI 1)) hx hb dX13_costsOfAll_15 (by decide) ?_
      refine n_and1 hx hb dX13_costsOfAll_16 ?_
      refine lv_iconst (v := (nI 1)) hx hb dX13_costsOfAll_17 (by decide) ?_
      refine n_icmp_ne (tgt := 30) hx hb dX13_costsOfAll_18 (by decide) (by omega) (by omega) (fun c18 => ?_) (fun c18 => ?_)
      · refine lv_iinc (v := (nI (b + 1))) (lv' := [(3, .int (nI (b + 1))), (2, .int (nI y)), (0, .ref o), (1, .int (nI x))]) hx hb dX13_costsOfAll_30 hl (k := 0) rfl (nI_add _ _) (by decide) rfl (fun ls hl => ?_)
        refine lv_goto (tgt := 4) hx hb dX13_costsOfAll_33 (by decide) ?_
        exact ih1 (b + 1) y _ _ (by omega) (by omega) (by simp only [csF]; rw [hy, if_neg c18, Nat.add_zero]) hS (lv_sub hl [0, 1, 2, 3] rfl)
      refine lv_iload_n hx hb dX13_costsOfAll_21 rfl (lv_at hl 1 rfl) ?_
      refine lv_aload_n hx hb dX13_costsOfAll_22 rfl (lv_at hl 2 rfl) ?_
      refine g_get hx hb hts hown hK hG 0 rfl rfl ok_X13 55 (by decide) q1526 rfl rfl dX13_costsOfAll_23 ?_
      refine lv_iload_n hx hb dX13_costsOfAll_26 rfl (lv_at hl 0 rfl) ?_
      refine n_iald hx hb hK hG 35 rfl (by omega) (by decide) dX13_costsOfAll_27 ?_
      refine iv (y := (nI (G b))) (hG9 b (by omega)) ?_
      refine n_iadd hx hb dX13_costsOfAll_28 ?_
      refine lv_istore_n (lv' := [(2, .int (nI (y + (G b)))), (3, .int (nI b)), (0, .ref o), (1, .int (nI x))]) hx hb dX13_costsOfAll_29 rfl hl (by decide) rfl (fun ls hl => ?_)
      refine lv_iinc (v := (nI (b + 1))) (lv' := [(3, .int (nI (b + 1))), (2, .int (nI (y + (G b)))), (0, .ref o), (1, .int (nI x))]) hx hb dX13_costsOfAll_30 hl (k := 1) rfl (nI_add _ _) (by decide) rfl (fun ls hl => ?_)
      refine lv_goto (tgt := 4) hx hb dX13_costsOfAll_33 (by decide) ?_
      exact ih1 (b + 1) (y + (G b)) _ _ (by omega) (by omega) (by simp only [csF]; rw [hy, if_pos c18]) hS (lv_sub hl [0, 1, 2, 3] rfl)
  exact loop1 ((n - 0) + 1) 0 0 _ _ (Nat.lt_succ_self _) (by omega) rfl hS (lv_sub hl [0, 1, 2, 3] rfl)
theorem cw_X13_392 {R : Room} {s : State} {args : Array Value} (hts : ∀ w ∈ lw_all, w.before args s = true) {f w k j : Nat} (hR : f + 1 ≤ R.frames ∧ 8 + (2 + 11) + w ≤ R.locals) : CallW R s args RX13 RX13 392 yX13_fillsCosts cX13_fillsCosts 2 none (ws_ yX13_fillsCosts cX13_fillsCosts 2 none) (mkRmC f w k j) k j 0 := cwV 0 hts (lw_V q1915 q1917 qs95 q129 q1918) rfl rfl rfl (by decide +kernel) hR
theorem cw_X13_395 {R : Room} {s : State} {args : Array Value} (hts : ∀ w ∈ lw_all, w.before args s = true) {f w k j : Nat} (hR : f + 1 ≤ R.frames ∧ 8 + (4 + 11) + w ≤ R.locals) : CallW R s args RX13 RX13 395 yX13_costsOfAll cX13_costsOfAll 4 (some .int) (ws_ yX13_costsOfAll cX13_costsOfAll 4 (some .int)) (mkRmC f w k j) k j 1 := cwV 1 hts (lw_V q1919 q1921 qs96 q129 q1922) rfl rfl rfl (by decide +kernel) hR
set_option maxHeartbeats 4000000 in
theorem met_X13_cheapest (l : Launch) (D : va_G) (dA : Nat → ClassId) {o : Nat} {V : GI} {L : GL} {Rf : GR} {H0 : Heap} (hG : gP D dA o dM V L Rf H0) {lv : Nat} {t : Txt} (hX : txM V lv t) (hrv : RV (xN t) (V 30)) (g q : Nat) (hg9 : g < 512) (hq9 : q < 1000) : Ctr l D dA yX13_cheapest cX13_cheapest 6 (some .int) (mkRm 8 172) [.ref o, .int (nI g), .int (nI q)] H0 (AM o) (QI (fun r H1 => ∃ V1, gP D dA o dM V1 L Rf H1 ∧ Eqx PJ V V1 ∧ r = o1 (-2) (chpF t (V 30) g q) ∧ ∀ b, b < xN t → V1 35 b = nI (coN t (V 30) b))) := by
  have hT := hX.1
  have hT1 := hT.1
  have hT2 := hT.2.1
  have hp2 := two9 hT2
  have hpp := Nat.two_pow_pos (xN t)
  refine ctr_I (by decide) (Nat.le_of_ble_eq_true rfl) ?_
  intro p e s m args below meth c ls QQ locs hx hb hml hown hts hK hend hS hl
  have hl : lv_has ls 6 [(0, .ref o), (1, .int (nI g)), (2, .int (nI q))] := hl
  refine lv_aload_n hx hb dX13_cheapest_0 rfl (lv_at hl 0 rfl) ?_
  refine c_VV hx hb hml hts hown hK hl.1 hS ⟨Nat.le_refl _, Nat.le_refl _⟩ (met_X13_fillsCosts l D dA hG hX) (cw_X13_392 hts ⟨by decide, by decide⟩) (hG 0 _ rfl) rfl rfl rfl rfl (Nat.le_of_ble_eq_true rfl) dX13_cheapest_1 (fun _ h => h) (fun H1 locs hq hF hS => ?_)
  obtain ⟨V1, hG, hE1, hcst⟩ := hq
  generalize hHe1 : H1 = H at hG hS ⊢
  clear hHe1
  refine lv_bipush (v := (-2)) hx hb dX13_cheapest_4 (by decide) ?_
  refine lv_istore_n (lv' := [(3, .int (-2)), (0, .ref o), (1, .int (nI g)), (2, .int (nI q))]) hx hb dX13_cheapest_6 rfl hl (by decide) rfl (fun ls hl => ?_)
  refine lv_iconst (v := (nI 0)) hx hb dX13_cheapest_7 (by decide) ?_
  refine lv_istore (lv' := [(4, .int (nI 0)), (3, .int (-2)), (0, .ref o), (1, .int (nI g)), (2, .int (nI q))]) hx hb dX13_cheapest_8 hl (by decide) rfl (fun ls hl => ?_)
  have loop2 : ∀ (fu2 : Nat) (x : Nat) (op : Option Nat) (V2 : GI) (H : Heap) (locs : List Loc) (ls : Array Slot), 2 ^ xN t - x < fu2 → (x ≤ 2 ^ xN t) → (chF (hitF t (V 30) g q) (cstF t (V 30)) bc x = op) → (Eqx PW V1 V2) → gP D dA o dM V2 L Rf H → va_S (AM o) H0 H locs → lv_has ls 6 [(4, .int (nI x)), (3, .int (o1 (-2) op)), (0, .ref o), (1, .int (nI g)), (2, .int (nI q))] → W p l e (mkRm 8 172) s m args below meth c H locs 0 0 QQ (F0 m 10 ls []) := by
    intro fu2
    induction fu2 with
    | zero => intro x op V2 H locs ls hfu; exact absurd hfu (Nat.not_lt_zero _)
    | succ fu2 ih2 =>
      intro x op V2 H locs ls hfu hx2 hp hE2 hG hS hl
      refine lv_iload hx hb dX13_cheapest_10 (lv_at hl 0 rfl) ?_
      refine lv_aload_n hx hb dX13_cheapest_12 rfl (lv_at hl 2 rfl) ?_
      refine c_VI hx hb hml hts hown hK hl.1 hS ⟨Nat.le_refl _, Nat.le_refl _⟩ (met_X13_allBits l D dA hG (tM_to hT ((hE2 0 18 rfl).trans (hE1 0 18 rfl)) ((hE2 9 lv rfl).trans (hE1 9 lv rfl)))) (cw_X13_312 hts ⟨by decide, by decide⟩) (hG 0 _ rfl) rfl rfl rfl rfl (Nat.le_of_ble_eq_true rfl) dX13_cheapest_13 (fun _ h => h.elim) (fun r H1 locs hq hF hS => ?_)
      obtain ⟨rfl, rfl⟩ := hq
      refine n_icmp_gt (tgt := 87) hx hb dX13_cheapest_16 (by decide) (by omega) (by omega) (fun c16 => ?_) (fun c16 => ?_)
      · obtain rfl : x = 2 ^ xN t := by omega
        refine lv_iload_n hx hb dX13_cheapest_87 rfl (lv_at hl 1 rfl) ?_
        refine hend _ _ _ _ _ hS dX13_cheapest_88 ?_
        exact ⟨_, rfl, _, hG, (hE1.trans (hE2.mono PW_PJ)), (congrArg (o1 (-2)) hp).symm, (by rw [(funext (fun j => hE2 35 j rfl))]; exact hcst)⟩
      rcases op with _ | i
      · have hl : lv_has ls 6 [(4, .int (nI x)), (3, .int (-2)), (0, .ref o), (1, .int (nI g)), (2, .int (nI q))] := hl
        refine lv_iload_n hx hb dX13_cheapest_19 rfl (lv_at hl 1 rfl) ?_
        refine lv_if_lt (tgt := 62) hx hb dX13_cheapest_20 (by decide) (fun _ => ?_) (fun z => absurd (by decide) z)
        refine lv_aload_n hx hb dX13_cheapest_62 rfl (lv_at hl 2 rfl) ?_
        refine lv_aload_n hx hb dX13_cheapest_63 rfl (lv_at hl 2 rfl) ?_
        refine c_VI hx hb hml hts hown hK hl.1 hS ⟨Nat.le_refl _, Nat.le_refl _⟩ (met_X13_rowNow l D dA hG (txM_PJ (hE1.trans (hE2.mono PW_PJ)) hX) (by rw [((funext (fun j => hE2 30 j rfl)).trans (funext (fun j => hE1 30 j rfl)))]; exact hrv)) (cw_X13_401 hts ⟨by decide, by decide⟩) (hG 0 _ rfl) rfl rfl rfl rfl (Nat.le_of_ble_eq_true rfl) dX13_cheapest_64 (fun _ h => h.elim) (fun r H1 locs hq hF hS => ?_)
        obtain ⟨rfl, rfl⟩ := hq
        refine iv (y := nI (rbF (V 30) (xN t))) (by rw [((funext (fun j => hE2 30 j rfl)).trans (funext (fun j => hE1 30 j rfl)))]) ?_
        refine lv_iload hx hb dX13_cheapest_67 (lv_at hl 0 rfl) ?_
        refine n_ixor hx hb dX13_cheapest_69 ?_
        refine lv_iload_n hx hb dX13_cheapest_70 rfl (lv_at hl 4 rfl) ?_
        refine c_VI hx hb hml hts hown hK hl.1 hS ⟨Nat.le_refl _, Nat.le_refl _⟩ (met_X13_rowAfter l D dA hG (txM_PJ (hE1.trans (hE2.mono PW_PJ)) hX) ((rbF (V 30) (xN t)) ^^^ x) q (x9 (rb9 hT2) (by omega)) (by omega)) (cw_X13_389 hts ⟨by decide, by decide⟩) (hG 0 _ rfl) rfl rfl rfl rfl (Nat.le_of_ble_eq_true rfl) dX13_cheapest_71 (fun _ h => h) (fun r H1 locs hq hF hS => ?_)
        obtain ⟨V3, hG, hE3, hr3⟩ := hq
        generalize hHe3 : H1 = H at hG hS ⊢
        clear hHe3
        have hr3 : r = nI (raF t (V 30) ((rbF (V 30) (xN t)) ^^^ x) q) := hr3.trans (congrArg (fun z => nI (raF t z ((rbF (V 30) (xN t)) ^^^ x) q)) (((funext (fun j => hE2 30 j rfl)).trans (funext (fun j => hE1 30 j rfl)))))
        subst hr3
        have hra71 := raF_lt t (V 30) ((rbF (V 30) (xN t)) ^^^ x) q
        refine lv_iload_n hx hb dX13_cheapest_74 rfl (lv_at hl 3 rfl) ?_
        refine n_icmp_ne (tgt := 81) hx hb dX13_cheapest_75 (by decide) (by omega) (by omega) (fun c75 => ?_) (fun c75 => ?_)
        · refine lv_iinc (v := (nI (x + 1))) (lv' := [(4, .int (nI (x + 1))), (3, .int (-2)), (0, .ref o), (1, .int (nI g)), (2, .int (nI q))]) hx hb dX13_cheapest_81 hl (k := 0) rfl (nI_add _ _) (by decide) rfl (fun ls hl => ?_)
          refine lv_goto (tgt := 10) hx hb dX13_cheapest_84 (by decide) ?_
          exact ih2 (x + 1) none V3 _ _ _ (by omega) (by omega) (chF_n0 hp (dcF c75)) (Eqx.trans hE2 hE3) hG hS (lv_sub hl [0, 1, 2, 3, 4] rfl)
        refine lv_iload hx hb dX13_cheapest_78 (lv_at hl 0 rfl) ?_
        refine lv_istore_n (lv' := [(3, .int (nI x)), (4, .int (nI x)), (0, .ref o), (1, .int (nI g)), (2, .int (nI q))]) hx hb dX13_cheapest_80 rfl hl (by decide) rfl (fun ls hl => ?_)
        refine lv_iinc (v := (nI (x + 1))) (lv' := [(4, .int (nI (x + 1))), (3, .int (nI x)), (0, .ref o), (1, .int (nI g)), (2, .int (nI q))]) hx hb dX13_cheapest_81 hl (k := 1) rfl (nI_add _ _) (by decide) rfl (fun ls hl => ?_)
        refine lv_goto (tgt := 10) hx hb dX13_cheapest_84 (by decide) ?_
        exact ih2 (x + 1) (some x) V3 _ _ _ (by omega) (by omega) (chF_n1 hp (dcT c75)) (Eqx.trans hE2 hE3) hG hS (lv_sub hl [0, 1, 2, 3, 4] rfl)
      have hl : lv_has ls 6 [(4, .int (nI x)), (3, .int (nI i)), (0, .ref o), (1, .int (nI g)), (2, .int (nI q))] := hl
      have hi9 := chF_lt hp
      refine lv_iload_n hx hb dX13_cheapest_19 rfl (lv_at hl 1 rfl) ?_
      refine n_if_lt (tgt := 62) hx hb dX13_cheapest_20 (by decide) (by omega) ?_
      refine lv_aload_n hx hb dX13_cheapest_23 rfl (lv_at hl 2 rfl) ?_
      refine lv_iload hx hb dX13_cheapest_24 (lv_at hl 0 rfl) ?_
      refine c_VI hx hb hml hts hown hK hl.1 hS ⟨Nat.le_refl _, Nat.le_refl _⟩ (met_X13_costsOfAll l D dA hG (txM_PJ (hE1.trans (hE2.mono PW_PJ)) hX).1 (coN t (V 30)) (by rw [(funext (fun j => hE2 35 j rfl))]; exact hcst) (fun b => (cos_n t (V 30) b).2) x (by omega)) (cw_X13_395 hts ⟨by decide, by decide⟩) (hG 0 _ rfl) rfl rfl rfl rfl (Nat.le_of_ble_eq_true rfl) dX13_cheapest_26 (fun _ h => h.elim) (fun r H1 locs hq hF hS => ?_)
      obtain ⟨rfl, rfl⟩ := hq
      have hcs26 : cstF t (V 30) x ≤ 891 := cstF_le hT2
      refine lv_aload_n hx hb dX13_cheapest_29 rfl (lv_at hl 2 rfl) ?_
      refine lv_iload_n hx hb dX13_cheapest_30 rfl (lv_at hl 1 rfl) ?_
      refine c_VI hx hb hml hts hown hK hl.1 hS ⟨Nat.le_refl _, Nat.le_refl _⟩ (met_X13_costsOfAll l D dA hG (txM_PJ (hE1.trans (hE2.mono PW_PJ)) hX).1 (coN t (V 30)) (by rw [(funext (fun j => hE2 35 j rfl))]; exact hcst) (fun b => (cos_n t (V 30) b).2) i (by omega)) (cw_X13_395 hts ⟨by decide, by decide⟩) (hG 0 _ rfl) rfl rfl rfl rfl (Nat.le_of_ble_eq_true rfl) dX13_cheapest_31 (fun _ h => h.elim) (fun r H1 locs hq hF hS => ?_)
      obtain ⟨rfl, rfl⟩ := hq
      have hcs31 : cstF t (V 30) i ≤ 891 := cstF_le hT2
      refine lv_isub hx hb dX13_cheapest_34 ?_
      refine lv_istore (lv' := [(5, .int ((nI (cstF t (V 30) x)) - (nI (cstF t (V 30) i)))), (4, .int (nI x)), (3, .int (nI i)), (0, .ref o), (1, .int (nI g)), (2, .int (nI q))]) hx hb dX13_cheapest_35 hl (by decide) rfl (fun ls hl => ?_)
      refine lv_iload hx hb dX13_cheapest_37 (lv_at hl 0 rfl) ?_
      refine lv_if_gt (tgt := 81) hx hb dX13_cheapest_39 (by decide) (fun c39 => ?_) (fun c39 => ?_)
      · have c39 := (sub_gt (by omega) (by omega)).mp c39
        refine lv_iinc (v := (nI (x + 1))) (lv' := [(4, .int (nI (x + 1))), (5, .int ((nI (cstF t (V 30) x)) - (nI (cstF t (V 30) i)))), (3, .int (nI i)), (0, .ref o), (1, .int (nI g)), (2, .int (nI q))]) hx hb dX13_cheapest_81 hl (k := 1) rfl (nI_add _ _) (by decide) rfl (fun ls hl => ?_)
        refine lv_goto (tgt := 10) hx hb dX13_cheapest_84 (by decide) ?_
        exact ih2 (x + 1) (some i) V2 _ _ _ (by omega) (by omega) (chF_s hp (Or.inl c39)) hE2 hG hS (lv_sub hl [0, 2, 3, 4, 5] rfl)
      have c39 : ¬ cstF t (V 30) i < cstF t (V 30) x := fun z => c39 ((sub_gt (by omega) (by omega)).mpr z)
      refine lv_iload hx hb dX13_cheapest_42 (lv_at hl 0 rfl) ?_
      refine lv_if_ne (tgt := 62) hx hb dX13_cheapest_44 (by decide) (fun c44 => ?_) (fun c44 => ?_)
      · have hne : ¬ cstF t (V 30) x = cstF t (V 30) i := fun z => c44 ((sub_z (by omega) (by omega)).mpr z)
        have hnc : ¬ (cstF t (V 30) i < cstF t (V 30) x ∨ (cstF t (V 30) x = cstF t (V 30) i ∧ bc i ≤ bc x)) := by omega
        refine lv_aload_n hx hb dX13_cheapest_62 rfl (lv_at hl 3 rfl) ?_
        refine lv_aload_n hx hb dX13_cheapest_63 rfl (lv_at hl 3 rfl) ?_
        refine c_VI hx hb hml hts hown hK hl.1 hS ⟨Nat.le_refl _, Nat.le_refl _⟩ (met_X13_rowNow l D dA hG (txM_PJ (hE1.trans (hE2.mono PW_PJ)) hX) (by rw [((funext (fun j => hE2 30 j rfl)).trans (funext (fun j => hE1 30 j rfl)))]; exact hrv)) (cw_X13_401 hts ⟨by decide, by decide⟩) (hG 0 _ rfl) rfl rfl rfl rfl (Nat.le_of_ble_eq_true rfl) dX13_cheapest_64 (fun _ h => h.elim) (fun r H1 locs hq hF hS => ?_)
        obtain ⟨rfl, rfl⟩ := hq
        refine iv (y := nI (rbF (V 30) (xN t))) (by rw [((funext (fun j => hE2 30 j rfl)).trans (funext (fun j => hE1 30 j rfl)))]) ?_
        refine lv_iload hx hb dX13_cheapest_67 (lv_at hl 1 rfl) ?_
        refine n_ixor hx hb dX13_cheapest_69 ?_
        refine lv_iload_n hx hb dX13_cheapest_70 rfl (lv_at hl 5 rfl) ?_
        refine c_VI hx hb hml hts hown hK hl.1 hS ⟨Nat.le_refl _, Nat.le_refl _⟩ (met_X13_rowAfter l D dA hG (txM_PJ (hE1.trans (hE2.mono PW_PJ)) hX) ((rbF (V 30) (xN t)) ^^^ x) q (x9 (rb9 hT2) (by omega)) (by omega)) (cw_X13_389 hts ⟨by decide, by decide⟩) (hG 0 _ rfl) rfl rfl rfl rfl (Nat.le_of_ble_eq_true rfl) dX13_cheapest_71 (fun _ h => h) (fun r H1 locs hq hF hS => ?_)
        obtain ⟨V4, hG, hE4, hr4⟩ := hq
        generalize hHe4 : H1 = H at hG hS ⊢
        clear hHe4
        have hr4 : r = nI (raF t (V 30) ((rbF (V 30) (xN t)) ^^^ x) q) := hr4.trans (congrArg (fun z => nI (raF t z ((rbF (V 30) (xN t)) ^^^ x) q)) (((funext (fun j => hE2 30 j rfl)).trans (funext (fun j => hE1 30 j rfl)))))
        subst hr4
        have hra71 := raF_lt t (V 30) ((rbF (V 30) (xN t)) ^^^ x) q
        refine lv_iload_n hx hb dX13_cheapest_74 rfl (lv_at hl 4 rfl) ?_
        refine n_icmp_ne (tgt := 81) hx hb dX13_cheapest_75 (by decide) (by omega) (by omega) (fun c75 => ?_) (fun c75 => ?_)
        · refine lv_iinc (v := (nI (x + 1))) (lv' := [(4, .int (nI (x + 1))), (5, .int ((nI (cstF t (V 30) x)) - (nI (cstF t (V 30) i)))), (3, .int (nI i)), (0, .ref o), (1, .int (nI g)), (2, .int (nI q))]) hx hb dX13_cheapest_81 hl (k := 1) rfl (nI_add _ _) (by decide) rfl (fun ls hl => ?_)
          refine lv_goto (tgt := 10) hx hb dX13_cheapest_84 (by decide) ?_
          exact ih2 (x + 1) (some i) V4 _ _ _ (by omega) (by omega) (chF_s0 hp (dcF c75)) (Eqx.trans hE2 hE4) hG hS (lv_sub hl [0, 2, 3, 4, 5] rfl)
        refine lv_iload hx hb dX13_cheapest_78 (lv_at hl 1 rfl) ?_
        refine lv_istore_n (lv' := [(3, .int (nI x)), (5, .int ((nI (cstF t (V 30) x)) - (nI (cstF t (V 30) i)))), (4, .int (nI x)), (0, .ref o), (1, .int (nI g)), (2, .int (nI q))]) hx hb dX13_cheapest_80 rfl hl (by decide) rfl (fun ls hl => ?_)
        refine lv_iinc (v := (nI (x + 1))) (lv' := [(4, .int (nI (x + 1))), (3, .int (nI x)), (5, .int ((nI (cstF t (V 30) x)) - (nI (cstF t (V 30) i)))), (0, .ref o), (1, .int (nI g)), (2, .int (nI q))]) hx hb dX13_cheapest_81 hl (k := 2) rfl (nI_add _ _) (by decide) rfl (fun ls hl => ?_)
        refine lv_goto (tgt := 10) hx hb dX13_cheapest_84 (by decide) ?_
        exact ih2 (x + 1) (some x) V4 _ _ _ (by omega) (by omega) (chF_s1 hp hnc (dcT c75)) (Eqx.trans hE2 hE4) hG hS (lv_sub hl [0, 1, 3, 4, 5] rfl)
      have c44 : cstF t (V 30) x = cstF t (V 30) i := (sub_z (by omega) (by omega)).mp c44
      refine lv_iload hx hb dX13_cheapest_47 (lv_at hl 1 rfl) ?_
      refine c_SI hx hb hml hts hown hK hl.1 hS ⟨Nat.le_refl _, Nat.le_refl _⟩ (met_X13_bits l D dA x (by omega)) (cw_X13_398 hts ⟨by decide, by decide⟩) rfl rfl (Nat.le_of_ble_eq_true rfl) dX13_cheapest_49 (fun _ h => h.elim) (fun r H1 locs hq hF hS => ?_)
      obtain ⟨rfl, rfl⟩ := hq
      have hbc49 := bc9 x
      refine lv_iload_n hx hb dX13_cheapest_52 rfl (lv_at hl 2 rfl) ?_
      refine c_SI hx hb hml hts hown hK hl.1 hS ⟨Nat.le_refl _, Nat.le_refl _⟩ (met_X13_bits l D dA i (by omega)) (cw_X13_398 hts ⟨by decide, by decide⟩) rfl rfl (Nat.le_of_ble_eq_true rfl) dX13_cheapest_53 (fun _ h => h.elim) (fun r H1 locs hq hF hS => ?_)
      obtain ⟨rfl, rfl⟩ := hq
      have hbc53 := bc9 i
      refine n_icmp_lt (tgt := 62) hx hb dX13_cheapest_56 (by decide) (by omega) (by omega) (fun c56 => ?_) (fun c56 => ?_)
      · have hnc : ¬ (cstF t (V 30) i < cstF t (V 30) x ∨ (cstF t (V 30) x = cstF t (V 30) i ∧ bc i ≤ bc x)) := by omega
        refine lv_aload_n hx hb dX13_cheapest_62 rfl (lv_at hl 3 rfl) ?_
        refine lv_aload_n hx hb dX13_cheapest_63 rfl (lv_at hl 3 rfl) ?_
        refine c_VI hx hb hml hts hown hK hl.1 hS ⟨Nat.le_refl _, Nat.le_refl _⟩ (met_X13_rowNow l D dA hG (txM_PJ (hE1.trans (hE2.mono PW_PJ)) hX) (by rw [((funext (fun j => hE2 30 j rfl)).trans (funext (fun j => hE1 30 j rfl)))]; exact hrv)) (cw_X13_401 hts ⟨by decide, by decide⟩) (hG 0 _ rfl) rfl rfl rfl rfl (Nat.le_of_ble_eq_true rfl) dX13_cheapest_64 (fun _ h => h.elim) (fun r H1 locs hq hF hS => ?_)
        obtain ⟨rfl, rfl⟩ := hq
        refine iv (y := nI (rbF (V 30) (xN t))) (by rw [((funext (fun j => hE2 30 j rfl)).trans (funext (fun j => hE1 30 j rfl)))]) ?_
        refine lv_iload hx hb dX13_cheapest_67 (lv_at hl 1 rfl) ?_
        refine n_ixor hx hb dX13_cheapest_69 ?_
        refine lv_iload_n hx hb dX13_cheapest_70 rfl (lv_at hl 5 rfl) ?_
        refine c_VI hx hb hml hts hown hK hl.1 hS ⟨Nat.le_refl _, Nat.le_refl _⟩ (met_X13_rowAfter l D dA hG (txM_PJ (hE1.trans (hE2.mono PW_PJ)) hX) ((rbF (V 30) (xN t)) ^^^ x) q (x9 (rb9 hT2) (by omega)) (by omega)) (cw_X13_389 hts ⟨by decide, by decide⟩) (hG 0 _ rfl) rfl rfl rfl rfl (Nat.le_of_ble_eq_true rfl) dX13_cheapest_71 (fun _ h => h) (fun r H1 locs hq hF hS => ?_)
        obtain ⟨V5, hG, hE5, hr5⟩ := hq
        generalize hHe5 : H1 = H at hG hS ⊢
        clear hHe5
        have hr5 : r = nI (raF t (V 30) ((rbF (V 30) (xN t)) ^^^ x) q) := hr5.trans (congrArg (fun z => nI (raF t z ((rbF (V 30) (xN t)) ^^^ x) q)) (((funext (fun j => hE2 30 j rfl)).trans (funext (fun j => hE1 30 j rfl)))))
        subst hr5
        have hra71 := raF_lt t (V 30) ((rbF (V 30) (xN t)) ^^^ x) q
        refine lv_iload_n hx hb dX13_cheapest_74 rfl (lv_at hl 4 rfl) ?_
        refine n_icmp_ne (tgt := 81) hx hb dX13_cheapest_75 (by decide) (by omega) (by omega) (fun c75 => ?_) (fun c75 => ?_)
        · refine lv_iinc (v := (nI (x + 1))) (lv' := [(4, .int (nI (x + 1))), (5, .int ((nI (cstF t (V 30) x)) - (nI (cstF t (V 30) i)))), (3, .int (nI i)), (0, .ref o), (1, .int (nI g)), (2, .int (nI q))]) hx hb dX13_cheapest_81 hl (k := 1) rfl (nI_add _ _) (by decide) rfl (fun ls hl => ?_)
          refine lv_goto (tgt := 10) hx hb dX13_cheapest_84 (by decide) ?_
          exact ih2 (x + 1) (some i) V5 _ _ _ (by omega) (by omega) (chF_s0 hp (dcF c75)) (Eqx.trans hE2 hE5) hG hS (lv_sub hl [0, 2, 3, 4, 5] rfl)
        refine lv_iload hx hb dX13_cheapest_78 (lv_at hl 1 rfl) ?_
        refine lv_istore_n (lv' := [(3, .int (nI x)), (5, .int ((nI (cstF t (V 30) x)) - (nI (cstF t (V 30) i)))), (4, .int (nI x)), (0, .ref o), (1, .int (nI g)), (2, .int (nI q))]) hx hb dX13_cheapest_80 rfl hl (by decide) rfl (fun ls hl => ?_)
        refine lv_iinc (v := (nI (x + 1))) (lv' := [(4, .int (nI (x + 1))), (3, .int (nI x)), (5, .int ((nI (cstF t (V 30) x)) - (nI (cstF t (V 30) i)))), (0, .ref o), (1, .int (nI g)), (2, .int (nI q))]) hx hb dX13_cheapest_81 hl (k := 2) rfl (nI_add _ _) (by decide) rfl (fun ls hl => ?_)
        refine lv_goto (tgt := 10) hx hb dX13_cheapest_84 (by decide) ?_
        exact ih2 (x + 1) (some x) V5 _ _ _ (by omega) (by omega) (chF_s1 hp hnc (dcT c75)) (Eqx.trans hE2 hE5) hG hS (lv_sub hl [0, 1, 3, 4, 5] rfl)
      refine lv_goto (tgt := 81) hx hb dX13_cheapest_59 (by decide) ?_
      refine lv_iinc (v := (nI (x + 1))) (lv' := [(4, .int (nI (x + 1))), (5, .int ((nI (cstF t (V 30) x)) - (nI (cstF t (V 30) i)))), (3, .int (nI i)), (0, .ref o), (1, .int (nI g)), (2, .int (nI q))]) hx hb dX13_cheapest_81 hl (k := 1) rfl (nI_add _ _) (by decide) rfl (fun ls hl => ?_)
      refine lv_goto (tgt := 10) hx hb dX13_cheapest_84 (by decide) ?_
      exact ih2 (x + 1) (some i) V2 _ _ _ (by omega) (by omega) (chF_s hp (Or.inr ⟨c44, c56⟩)) hE2 hG hS (lv_sub hl [0, 2, 3, 4, 5] rfl)
  exact loop2 ((2 ^ xN t - 0) + 1) 0 none V1 _ _ _ (Nat.lt_succ_self _) (Nat.zero_le _) rfl Eqx.rf hG hS (lv_sub hl [0, 1, 2, 3, 4] rfl)
theorem cw_X13_407 {R : Room} {s : State} {args : Array Value} (hts : ∀ w ∈ lw_all, w.before args s = true) {f w k j : Nat} (hR : f + 1 ≤ R.frames ∧ 8 + (6 + 11) + w ≤ R.locals) : CallW R s args RX13 RX13 407 yX13_cheapest cX13_cheapest 6 (some .int) (ws_ yX13_cheapest cX13_cheapest 6 (some .int)) (mkRmC f w k j) k j 2 := cwV 2 hts (lw_V q1911 q1913 qs94 q129 q1914) rfl rfl rfl (by decide +kernel) hR
set_option maxHeartbeats 4000000 in
theorem met_X13_turned (l : Launch) (D : va_G) (dA : Nat → ClassId) {o : Nat} {V : GI} {L : GL} {Rf : GR} {H0 : Heap} (hG : gP D dA o dM V L Rf H0) {lv : Nat} {t : Txt} (hX : txM V lv t) (hrv : RV (xN t) (V 30)) (v1 v2 : Int32) : Ctr l D dA yX13_turned cX13_turned 4 (some .int) (mkRm 9 197) [.ref o, .int v1, .int v2] H0 (AM o) (QI (fun r H1 => ∃ V1, gP D dA o dM V1 L Rf H1 ∧ Eqx PJ V V1 ∧ r = turnedA t (V 30) v1 v2)) := by
  have hT := hX.1
  have hT1 := hT.1
  have hT2 := hT.2.1
  have hp2 := two9 hT2
  have hpp := Nat.two_pow_pos (xN t)
  refine ctr_I (by decide) (Nat.le_of_ble_eq_true rfl) ?_
  intro p e s m args below meth c ls QQ locs hx hb hml hown hts hK hend hS hl
  have hl : lv_has ls 4 [(0, .ref o), (1, .int v1), (2, .int v2)] := hl
  refine lv_iload_n hx hb dX13_turned_0 rfl (lv_at hl 1 rfl) ?_
  refine c_SI hx hb hml hts hown hK hl.1 hS ⟨Nat.le_refl _, Nat.le_refl _⟩ (met_X13_isShort l D dA v1) (cw_X13_404 hts ⟨by decide, by decide⟩) rfl rfl (Nat.le_of_ble_eq_true rfl) dX13_turned_1 (fun _ h => h.elim) (fun r H1 locs hq hF hS => ?_)
  obtain ⟨rfl, rfl⟩ := hq
  rcases (inZ_cases v1 0 24 (by decide) (by decide)).symm with ⟨hz1, ho1⟩ | ⟨x1, hlo_x1, hhi_x1, rfl, hz1⟩
  · refine iv (y := nI 0) hz1 ?_
    refine n_if_eq (tgt := 16) hx hb dX13_turned_4 (by decide) (by decide) (fun _ => ?_) (fun z => absurd z (by decide))
    refine lv_iconst (v := (-1)) hx hb dX13_turned_16 (by decide) ?_
    refine hend _ _ _ _ _ hS dX13_turned_17 ?_
    exact ⟨_, rfl, _, hG, Eqx.rf, ((ho1.1 _ _)).symm⟩
  refine iv (y := nI 1) hz1 ?_
  have hl : lv_has ls 4 [(0, .ref o), (1, .int (nI x1)), (2, .int v2)] := hl
  refine n_if_eq (tgt := 16) hx hb dX13_turned_4 (by decide) (by decide) (fun z => absurd z (by decide)) (fun _ => ?_)
  refine lv_iload_n hx hb dX13_turned_7 rfl (lv_at hl 2 rfl) ?_
  refine lv_iconst (v := (nI 0)) hx hb dX13_turned_8 (by decide) ?_
  refine lv_iconst (v := (nI 1)) hx hb dX13_turned_9 (by decide) ?_
  refine c_SI hx hb hml hts hown hK hl.1 hS ⟨Nat.le_refl _, Nat.le_refl _⟩ (met_X13_in l D dA v2 (nI 0) (nI 1)) (cw_X13_308 hts ⟨by decide, by decide⟩) rfl rfl (Nat.le_of_ble_eq_true rfl) dX13_turned_10 (fun _ h => h.elim) (fun r H1 locs hq hF hS => ?_)
  obtain ⟨rfl, rfl⟩ := hq
  rcases (inZ_cases v2 0 1 (by decide) (by decide)).symm with ⟨hz10, ho10⟩ | ⟨x2, hlo_x2, hhi_x2, rfl, hz10⟩
  · refine iv (y := nI 0) hz10 ?_
    refine n_if_ne (tgt := 18) hx hb dX13_turned_13 (by decide) (by decide) (fun z => absurd z (by decide)) (fun _ => ?_)
    refine lv_iconst (v := (-1)) hx hb dX13_turned_16 (by decide) ?_
    refine hend _ _ _ _ _ hS dX13_turned_17 ?_
    exact ⟨_, rfl, _, hG, Eqx.rf, ((rng_in hlo_x1 hhi_x1 (by omega)).trans ((ho10.1 _ _))).symm⟩
  refine iv (y := nI 1) hz10 ?_
  have hl : lv_has ls 4 [(0, .ref o), (1, .int (nI x1)), (2, .int (nI x2))] := hl
  refine n_if_ne (tgt := 18) hx hb dX13_turned_13 (by decide) (by decide) (fun _ => ?_) (fun z => absurd z (by decide))
  refine lv_aload_n hx hb dX13_turned_18 rfl (lv_at hl 0 rfl) ?_
  refine lv_aload_n hx hb dX13_turned_19 rfl (lv_at hl 0 rfl) ?_
  refine c_VI hx hb hml hts hown hK hl.1 hS ⟨Nat.le_refl _, Nat.le_refl _⟩ (met_X13_allBits l D dA hG hT) (cw_X13_312 hts ⟨by decide, by decide⟩) (hG 0 _ rfl) rfl rfl rfl rfl (Nat.le_of_ble_eq_true rfl) dX13_turned_20 (fun _ h => h.elim) (fun r H1 locs hq hF hS => ?_)
  obtain ⟨rfl, rfl⟩ := hq
  refine lv_iload_n hx hb dX13_turned_23 rfl (lv_at hl 1 rfl) ?_
  refine c_VI hx hb hml hts hown hK hl.1 hS ⟨Nat.le_refl _, Nat.le_refl _⟩ (met_X13_cheapest l D dA hG hX hrv (2 ^ (xN t) - 1) x1 (by omega) (by omega)) (cw_X13_407 hts ⟨by decide, by decide⟩) (hG 0 _ rfl) rfl rfl rfl rfl (Nat.le_of_ble_eq_true rfl) dX13_turned_24 (fun _ h => h) (fun r H1 locs hq hF hS => ?_)
  obtain ⟨V1, hG, hE1, hr1, hcst⟩ := hq
  generalize hHe1 : H1 = H at hG hS ⊢
  clear hHe1
  subst hr1
  rcases hch : chpF t (V 30) (2 ^ (xN t) - 1) x1 with _ | z
  · refine iv (y := -2) rfl ?_
    refine lv_istore_n (lv' := [(3, .int (-2)), (0, .ref o), (1, .int (nI x1)), (2, .int (nI x2))]) hx hb dX13_turned_27 rfl hl (by decide) rfl (fun ls hl => ?_)
    refine lv_iload_n hx hb dX13_turned_28 rfl (lv_at hl 0 rfl) ?_
    refine lv_if_lt (tgt := 37) hx hb dX13_turned_29 (by decide) (fun _ => ?_) (fun z => absurd (by decide) z)
    refine lv_iload_n hx hb dX13_turned_37 rfl (lv_at hl 0 rfl) ?_
    refine lv_goto (tgt := 46) hx hb dX13_turned_38 (by decide) ?_
    refine hend _ _ _ _ _ hS dX13_turned_46 ?_
    exact ⟨_, rfl, _, hG, hE1, ((rng_in hlo_x1 hhi_x1 (by omega)).trans ((rng_in hlo_x2 hhi_x2 (by omega)).trans ((by simp only [hch])))).symm⟩
  refine iv (y := nI z) rfl ?_
  have hz9 := chF_lt hch
  refine lv_istore_n (lv' := [(3, .int (nI z)), (0, .ref o), (1, .int (nI x1)), (2, .int (nI x2))]) hx hb dX13_turned_27 rfl hl (by decide) rfl (fun ls hl => ?_)
  refine lv_iload_n hx hb dX13_turned_28 rfl (lv_at hl 0 rfl) ?_
  refine n_if_lt (tgt := 37) hx hb dX13_turned_29 (by decide) (by omega) ?_
  refine lv_iload_n hx hb dX13_turned_32 rfl (lv_at hl 3 rfl) ?_
  refine lv_iconst (v := (nI 1)) hx hb dX13_turned_33 (by decide) ?_
  refine n_icmp_ne (tgt := 41) hx hb dX13_turned_34 (by decide) (by omega) (by omega) (fun c34 => ?_) (fun c34 => ?_)
  · refine lv_aload_n hx hb dX13_turned_41 rfl (lv_at hl 1 rfl) ?_
    refine lv_iload_n hx hb dX13_turned_42 rfl (lv_at hl 0 rfl) ?_
    refine c_VI hx hb hml hts hown hK hl.1 hS ⟨Nat.le_refl _, Nat.le_refl _⟩ (met_X13_costsOfAll l D dA hG (txM_PJ hE1 hX).1 (coN t (V 30)) hcst (fun b => (cos_n t (V 30) b).2) z (by omega)) (cw_X13_395 hts ⟨by decide, by decide⟩) (hG 0 _ rfl) rfl rfl rfl rfl (Nat.le_of_ble_eq_true rfl) dX13_turned_43 (fun _ h => h.elim) (fun r H1 locs hq hF hS => ?_)
    obtain ⟨rfl, rfl⟩ := hq
    have hcs43 : cstF t (V 30) z ≤ 891 := cstF_le hT2
    refine hend _ _ _ _ _ hS dX13_turned_46 ?_
    exact ⟨_, rfl, _, hG, hE1, ((rng_in hlo_x1 hhi_x1 (by omega)).trans ((rng_in hlo_x2 hhi_x2 (by omega)).trans ((by simp only [hch]; exact if_neg c34)))).symm⟩
  refine lv_iload_n hx hb dX13_turned_37 rfl (lv_at hl 0 rfl) ?_
  refine lv_goto (tgt := 46) hx hb dX13_turned_38 (by decide) ?_
  refine hend _ _ _ _ _ hS dX13_turned_46 ?_
  exact ⟨_, rfl, _, hG, hE1, ((rng_in hlo_x1 hhi_x1 (by omega)).trans ((rng_in hlo_x2 hhi_x2 (by omega)).trans ((by simp only [hch]; exact if_pos c34)))).symm⟩
set_option maxHeartbeats 4000000 in
theorem met_X13_turnTo (l : Launch) (D : va_G) (dA : Nat → ClassId) {o : Nat} {V : GI} {L : GL} {Rf : GR} {H0 : Heap} (hG : gP D dA o dM V L Rf H0) {lv : Nat} {t : Txt} (hX : txM V lv t) (hrv : RV (xN t) (V 30)) (v1 v2 : Int32) : Ctr l D dA yX13_turnTo cX13_turnTo 4 (some .int) (mkRm 9 197) [.ref o, .int v1, .int v2] H0 (AM o) (QI (fun r H1 => ∃ V1, gP D dA o dM V1 L Rf H1 ∧ Eqx PJ V V1 ∧ r = turnToA t (V 30) v1 v2)) := by
  have hT := hX.1
  have hT1 := hT.1
  have hT2 := hT.2.1
  have hp2 := two9 hT2
  have hpp := Nat.two_pow_pos (xN t)
  refine ctr_I (by decide) (Nat.le_of_ble_eq_true rfl) ?_
  intro p e s m args below meth c ls QQ locs hx hb hml hown hts hK hend hS hl
  have hl : lv_has ls 4 [(0, .ref o), (1, .int v1), (2, .int v2)] := hl
  refine lv_aload_n hx hb dX13_turnTo_0 rfl (lv_at hl 0 rfl) ?_
  refine lv_iload_n hx hb dX13_turnTo_1 rfl (lv_at hl 1 rfl) ?_
  refine c_VI hx hb hml hts hown hK hl.1 hS ⟨Nat.le_refl _, Nat.le_refl _⟩ (met_X13_isRow l D dA hG hT v1) (cw_X13_386 hts ⟨by decide, by decide⟩) (hG 0 _ rfl) rfl rfl rfl rfl (Nat.le_of_ble_eq_true rfl) dX13_turnTo_2 (fun _ h => h.elim) (fun r H1 locs hq hF hS => ?_)
  obtain ⟨rfl, rfl⟩ := hq
  rcases (rowN_cases hT2 v1).symm with ⟨hz2, ho2⟩ | ⟨x1, hlo_x1, hhi_x1, rfl, hz2⟩
  · refine iv (y := nI 0) hz2 ?_
    refine n_if_eq (tgt := 15) hx hb dX13_turnTo_5 (by decide) (by decide) (fun _ => ?_) (fun z => absurd z (by decide))
    refine lv_iconst (v := (-1)) hx hb dX13_turnTo_15 (by decide) ?_
    refine hend _ _ _ _ _ hS dX13_turnTo_16 ?_
    exact ⟨_, rfl, _, hG, Eqx.rf, ((ho2.1 _ _)).symm⟩
  refine iv (y := nI 1) hz2 ?_
  have hl : lv_has ls 4 [(0, .ref o), (1, .int (nI x1)), (2, .int v2)] := hl
  refine n_if_eq (tgt := 15) hx hb dX13_turnTo_5 (by decide) (by decide) (fun z => absurd z (by decide)) (fun _ => ?_)
  refine lv_iload_n hx hb dX13_turnTo_8 rfl (lv_at hl 2 rfl) ?_
  refine c_SI hx hb hml hts hown hK hl.1 hS ⟨Nat.le_refl _, Nat.le_refl _⟩ (met_X13_isShort l D dA v2) (cw_X13_404 hts ⟨by decide, by decide⟩) rfl rfl (Nat.le_of_ble_eq_true rfl) dX13_turnTo_9 (fun _ h => h.elim) (fun r H1 locs hq hF hS => ?_)
  obtain ⟨rfl, rfl⟩ := hq
  rcases (inZ_cases v2 0 24 (by decide) (by decide)).symm with ⟨hz9, ho9⟩ | ⟨x2, hlo_x2, hhi_x2, rfl, hz9⟩
  · refine iv (y := nI 0) hz9 ?_
    refine n_if_ne (tgt := 17) hx hb dX13_turnTo_12 (by decide) (by decide) (fun z => absurd z (by decide)) (fun _ => ?_)
    refine lv_iconst (v := (-1)) hx hb dX13_turnTo_15 (by decide) ?_
    refine hend _ _ _ _ _ hS dX13_turnTo_16 ?_
    exact ⟨_, rfl, _, hG, Eqx.rf, ((rng_in hlo_x1 hhi_x1 (by omega)).trans ((ho9.1 _ _))).symm⟩
  refine iv (y := nI 1) hz9 ?_
  have hl : lv_has ls 4 [(0, .ref o), (1, .int (nI x1)), (2, .int (nI x2))] := hl
  refine n_if_ne (tgt := 17) hx hb dX13_turnTo_12 (by decide) (by decide) (fun _ => ?_) (fun z => absurd z (by decide))
  refine lv_aload_n hx hb dX13_turnTo_17 rfl (lv_at hl 0 rfl) ?_
  refine lv_iload_n hx hb dX13_turnTo_18 rfl (lv_at hl 1 rfl) ?_
  refine lv_iload_n hx hb dX13_turnTo_19 rfl (lv_at hl 2 rfl) ?_
  refine c_VI hx hb hml hts hown hK hl.1 hS ⟨Nat.le_refl _, Nat.le_refl _⟩ (met_X13_cheapest l D dA hG hX hrv x1 x2 (by omega) (by omega)) (cw_X13_407 hts ⟨by decide, by decide⟩) (hG 0 _ rfl) rfl rfl rfl rfl (Nat.le_of_ble_eq_true rfl) dX13_turnTo_20 (fun _ h => h) (fun r H1 locs hq hF hS => ?_)
  obtain ⟨V1, hG, hE1, hr1, hcst⟩ := hq
  generalize hHe1 : H1 = H at hG hS ⊢
  clear hHe1
  subst hr1
  rcases hch : chpF t (V 30) x1 x2 with _ | z
  · refine iv (y := -2) rfl ?_
    refine lv_istore_n (lv' := [(3, .int (-2)), (0, .ref o), (1, .int (nI x1)), (2, .int (nI x2))]) hx hb dX13_turnTo_23 rfl hl (by decide) rfl (fun ls hl => ?_)
    refine lv_iload_n hx hb dX13_turnTo_24 rfl (lv_at hl 0 rfl) ?_
    refine lv_if_ge (tgt := 33) hx hb dX13_turnTo_25 (by decide) (fun z => absurd z (by decide)) (fun _ => ?_)
    refine lv_bipush (v := (-2)) hx hb dX13_turnTo_28 (by decide) ?_
    refine lv_goto (tgt := 38) hx hb dX13_turnTo_30 (by decide) ?_
    refine hend _ _ _ _ _ hS dX13_turnTo_38 ?_
    exact ⟨_, rfl, _, hG, hE1, ((rng_in hlo_x1 hhi_x1 (by omega)).trans ((rng_in hlo_x2 hhi_x2 (by omega)).trans ((by simp only [hch] <;> rfl)))).symm⟩
  refine iv (y := nI z) rfl ?_
  have hz9 := chF_lt hch
  refine lv_istore_n (lv' := [(3, .int (nI z)), (0, .ref o), (1, .int (nI x1)), (2, .int (nI x2))]) hx hb dX13_turnTo_23 rfl hl (by decide) rfl (fun ls hl => ?_)
  refine lv_iload_n hx hb dX13_turnTo_24 rfl (lv_at hl 0 rfl) ?_
  refine n_if_ge (tgt := 33) hx hb dX13_turnTo_25 (by decide) (by omega) ?_
  refine lv_aload_n hx hb dX13_turnTo_33 rfl (lv_at hl 1 rfl) ?_
  refine lv_iload_n hx hb dX13_turnTo_34 rfl (lv_at hl 0 rfl) ?_
  refine c_VI hx hb hml hts hown hK hl.1 hS ⟨Nat.le_refl _, Nat.le_refl _⟩ (met_X13_costsOfAll l D dA hG (txM_PJ hE1 hX).1 (coN t (V 30)) hcst (fun b => (cos_n t (V 30) b).2) z (by omega)) (cw_X13_395 hts ⟨by decide, by decide⟩) (hG 0 _ rfl) rfl rfl rfl rfl (Nat.le_of_ble_eq_true rfl) dX13_turnTo_35 (fun _ h => h.elim) (fun r H1 locs hq hF hS => ?_)
  obtain ⟨rfl, rfl⟩ := hq
  have hcs35 : cstF t (V 30) z ≤ 891 := cstF_le hT2
  refine hend _ _ _ _ _ hS dX13_turnTo_38 ?_
  exact ⟨_, rfl, _, hG, hE1, ((rng_in hlo_x1 hhi_x1 (by omega)).trans ((rng_in hlo_x2 hhi_x2 (by omega)).trans ((by simp only [hch] <;> rfl)))).symm⟩
