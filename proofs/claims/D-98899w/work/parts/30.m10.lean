theorem ng_gt {k : Int32} {a : Nat} (hk : k < 0) (ha : a < 2 ^ 31) : k < nI a := by
  rw [Int32.lt_iff_toInt_lt] at *
  rw [nI_toInt ha]
  have : (0 : Int32).toInt = 0 := rfl
  omega
theorem ng_ge {k : Int32} {a : Nat} (hk : k < 0) (ha : a < 2 ^ 31) : k ≤ nI a := Int32.le_of_lt (ng_gt hk ha)
theorem ng_lt {k : Int32} {a : Nat} (hk : k < 0) (ha : a < 2 ^ 31) : ¬ nI a < k := Int32.not_lt.mpr (ng_ge hk ha)
theorem ng_le {k : Int32} {a : Nat} (hk : k < 0) (ha : a < 2 ^ 31) : ¬ nI a ≤ k := Int32.not_le.mpr (ng_gt hk ha)
theorem ng_ne {k : Int32} {a : Nat} (hk : k < 0) (ha : a < 2 ^ 31) : ¬ nI a = k := fun e => ng_le hk ha (by rw [e]; exact Int32.le_refl _)
theorem ng_eq {k : Int32} {a : Nat} (hk : k < 0) (ha : a < 2 ^ 31) : ¬ nI a = k := ng_ne hk ha
theorem wbF_some {g : Nat → Nat} : ∀ {n : Nat}, 0 < n → n ≤ 9 → ∃ i, wbF g (-1) n = some i ∧ i < n := by
  intro n hn hn9
  have key : ∀ b, b < n → ∃ i, wbF g (-1) (b + 1) = some i := by
    intro b hb
    have hng : ¬ nI b = (-1 : Int32) := ng_ne (by decide) (by omega)
    cases hp : wbF g (-1) b with
    | none => exact ⟨b, wbF_n hng hp⟩
    | some i =>
      by_cases hv : g b < g i
      · exact ⟨b, wbF_t hng hp hv⟩
      · exact ⟨i, wbF_f hng hp (Nat.not_lt.mp hv)⟩
  obtain ⟨i, hi⟩ := key (n - 1) (by omega)
  rw [show n - 1 + 1 = n by omega] at hi
  exact ⟨i, hi, wbF_lt hi⟩
theorem soF_s {t : Txt} {f : Nat → Int32} {w k q : Nat} {r : Int32} (h : snF t f w q = some r) : soF t f w (k + 1) q = r := by simp only [soF, h]
theorem soF_n {t : Txt} {f : Nat → Int32} {w k q : Nat} (h : snF t f w q = none) : soF t f w (k + 1) q = soF t f w k (q + 1) := by simp only [soF, h]
theorem snF_a {t : Txt} {f : Nat → Int32} {w q : Nat} (h : raF t f (rbF f (xN t)) q = 2 ^ xN t - 1) : snF t f w q = some (if w = 0 then nI q else -3) := by
  unfold snF allF; rw [if_pos (decide_eq_true h)]
theorem snF_b {t : Txt} {f : Nat → Int32} {w q b : Nat} (h : ¬ raF t f (rbF f (xN t)) q = 2 ^ xN t - 1) (hb : b < xN t) (hf : fdF (fun b => decide (raF t f (rbF f (xN t) ^^^ 1 * 2 ^ b) q = 2 ^ xN t - 1)) b = none) (hh : raF t f (rbF f (xN t) ^^^ 1 * 2 ^ b) q = 2 ^ xN t - 1) : snF t f w q = some (if w = 0 then nI q else nI b) := by
  unfold snF allF oneF; rw [if_neg (by simp [h]), fdF_t hf (decide_eq_true hh) _ (by omega)]
theorem snF_n {t : Txt} {f : Nat → Int32} {w q : Nat} (h : ¬ raF t f (rbF f (xN t)) q = 2 ^ xN t - 1) (hf : fdF (fun b => decide (raF t f (rbF f (xN t) ^^^ 1 * 2 ^ b) q = 2 ^ xN t - 1)) (xN t) = none) : snF t f w q = none := by
  unfold snF allF oneF; rw [if_neg (by simp [h]), hf]
/-! counting, the first -/
def cnF (P : Nat → Bool) : Nat → Nat
  | 0 => 0
  | k + 1 => cnF P k + (if P k = true then 1 else 0)
theorem cnF_le (P : Nat → Bool) : ∀ k, cnF P k ≤ k
  | 0 => Nat.le_refl _
  | k + 1 => by have := cnF_le P k; simp only [cnF]; split <;> omega
def fdR (P : Nat → Bool) (k : Nat) : Nat → Option Nat
  | 0 => none
  | m + 1 => if P k = true then some k else fdR P (k + 1) m
def cnR (P : Nat → Bool) (k : Nat) : Nat → Nat
  | 0 => 0
  | m + 1 => (if P k = true then 1 else 0) + cnR P (k + 1) m
theorem cnR_eq (P : Nat → Bool) : ∀ m k, cnF P (k + m) = cnF P k + cnR P k m := by
  intro m
  induction m with
  | zero => intro k; rfl
  | succ m ih =>
    intro k
    rw [show k + (m + 1) = (k + 1) + m by omega, ih (k + 1)]
    simp only [cnF, cnR]
    omega
theorem fdR_eq (P : Nat → Bool) : ∀ m k, fdF P (k + m) = (match fdF P k with
    | some i => some i
    | none => fdR P k m) := by
  intro m
  induction m with
  | zero => intro k; rw [Nat.add_zero]; cases fdF P k <;> rfl
  | succ m ih =>
    intro k
    rw [show k + (m + 1) = (k + 1) + m by omega, ih (k + 1)]
    cases h : fdF P k with
    | some i => simp only [fdF, h]
    | none =>
      by_cases hp : P k = true
      · simp only [fdF, h, hp, fdR]; rfl
      · have hp' : P k = false := by simpa using hp
        simp only [fdF, h, hp', fdR]; rfl
def dI : Nat → Int32
  | 0 => -1
  | k + 1 => nI k
theorem dI_dec (k : Nat) : nI k + Int32.ofInt (-1) = dI k := by
  cases k with
  | zero => decide
  | succ k => exact pk_m1 k
def leadP (t : Txt) (f : Nat → Int32) (g q x : Nat) : Bool := decide (raF t f x q = g)
def leadsA (t : Txt) (f : Nat → Int32) (g q w : Int32) : Int32 := rng g 0 (2 ^ xN t) (fun g => rng q 0 25 (fun q => rng w 0 2 (fun w => if w = 0 then nI (cnF (leadP t f g q) (2 ^ xN t)) else o1 (-2) (fdF (leadP t f g q) (2 ^ xN t))) (-1)) (-1)) (-1)
/-- the best (least) of those of a kind -/
def mpF (P : Nat → Bool) (g : Nat → Nat) : Nat → Option Nat
  | 0 => none
  | b + 1 => if P b = true then (match mpF P g b with
    | none => some b
    | some i => if g b < g i then some b else some i) else mpF P g b
theorem mpF_o {P : Nat → Bool} {g : Nat → Nat} {b : Nat} (h : ¬ P b = true) : mpF P g (b + 1) = mpF P g b := by simp only [mpF]; rw [if_neg h]
theorem mpF_n {P : Nat → Bool} {g : Nat → Nat} {b : Nat} (h : P b = true) (hp : mpF P g b = none) : mpF P g (b + 1) = some b := by simp only [mpF, hp]; rw [if_pos h]
theorem mpF_t {P : Nat → Bool} {g : Nat → Nat} {b i : Nat} (h : P b = true) (hp : mpF P g b = some i) (hv : g b < g i) : mpF P g (b + 1) = some b := by simp only [mpF, hp]; rw [if_pos h, if_pos hv]
theorem mpF_f {P : Nat → Bool} {g : Nat → Nat} {b i : Nat} (h : P b = true) (hp : mpF P g b = some i) (hv : g i ≤ g b) : mpF P g (b + 1) = some i := by simp only [mpF, hp]; rw [if_pos h, if_neg (Nat.not_lt.mpr hv)]
theorem mpF_lt {P : Nat → Bool} {g : Nat → Nat} : ∀ {b i : Nat}, mpF P g b = some i → i < b
  | b + 1, i, h => by
    by_cases hP : P b = true
    · cases hm : mpF P g b with
      | none => rw [mpF_n hP hm] at h; cases h; omega
      | some j =>
        have := mpF_lt hm
        by_cases hv : g b < g j
        · rw [mpF_t hP hm hv] at h; cases h; omega
        · rw [mpF_f hP hm (Nat.not_lt.mp hv)] at h; cases h; omega
    · rw [mpF_o hP] at h; have := mpF_lt h; omega
def stillP (t : Txt) (f : Nat → Int32) (x : Nat) : Bool := decide (raF t f x 1 = x)
def stillG (t : Txt) (f : Nat → Int32) (x : Nat) : Nat := bc (x ^^^ rbF f (xN t))
def stillA (t : Txt) (f : Nat → Int32) (w : Int32) : Int32 := rng w 0 2 (fun w => if w = 0 then nI (cnF (stillP t f) (2 ^ xN t)) else o1 (-2) (mpF (stillP t f) (stillG t f) (2 ^ xN t))) (-1)
/-- some of the first k goes to x -/
def anF (G : Nat → Nat) (x : Nat) : Nat → Bool
  | 0 => false
  | k + 1 => anF G x k || decide (G k = x)
def edenA (t : Txt) (f : Nat → Int32) (q : Int32) : Int32 := rng q 1 25 (fun q => nI (cnF (fun x => !anF (fun y => raF t f y q) x (2 ^ xN t)) (2 ^ xN t))) (-1)
theorem cw_X13_419 {R : Room} {s : State} {args : Array Value} (hts : ∀ w ∈ lw_all, w.before args s = true) {f w k j : Nat} (hR : f + 1 ≤ R.frames ∧ 8 + (3 + 11) + w ≤ R.locals) : CallW R s args RX13 RX13 419 yX13_fillsLeft cX13_fillsLeft 3 none (ws_ yX13_fillsLeft cX13_fillsLeft 3 none) (mkRmC f w k j) k j 1 := cwV 1 hts (lw_V q1990 q1992 qs101 q129 q1993) rfl rfl rfl (by decide +kernel) hR
theorem cw_X13_422 {R : Room} {s : State} {args : Array Value} (hts : ∀ w ∈ lw_all, w.before args s = true) {f w k j : Nat} (hR : f + 1 ≤ R.frames ∧ 8 + (4 + 11) + w ≤ R.locals) : CallW R s args RX13 RX13 422 yX13_worstBut cX13_worstBut 4 (some .int) (ws_ yX13_worstBut cX13_worstBut 4 (some .int)) (mkRmC f w k j) k j 1 := cwV 1 hts (lw_V q1994 q1996 qs102 q129 q1997) rfl rfl rfl (by decide +kernel) hR
set_option maxHeartbeats 4000000 in
theorem met_X13_worst (l : Launch) (D : va_G) (dA : Nat → ClassId) {o : Nat} {V : GI} {L : GL} {Rf : GR} {H0 : Heap} (hG : gP D dA o dM V L Rf H0) {lv : Nat} {t : Txt} (hX : txM V lv t) (hrv : RV (xN t) (V 30)) (v1 v2 : Int32) : Ctr l D dA yX13_worst cX13_worst 3 (some .int) (mkRm 9 194) [.ref o, .int v1, .int v2] H0 (AM o) (QI (fun r H1 => ∃ V1, gP D dA o dM V1 L Rf H1 ∧ Eqx PB V V1 ∧ r = worstA t (V 30) v1 v2)) := by
  have hT := hX.1
  have hT1 := hT.1
  have hT2 := hT.2.1
  have hp2 := two9 hT2
  have hpp := Nat.two_pow_pos (xN t)
  refine ctr_I (by decide) (Nat.le_of_ble_eq_true rfl) ?_
  intro p e s m args below meth c ls QQ locs hx hb hml hown hts hK hend hS hl
  have hl : lv_has ls 3 [(0, .ref o), (1, .int v1), (2, .int v2)] := hl
  refine lv_iload_n hx hb dX13_worst_0 rfl (lv_at hl 1 rfl) ?_
  refine c_SI hx hb hml hts hown hK hl.1 hS ⟨Nat.le_refl _, Nat.le_refl _⟩ (met_X13_isShort l D dA v1) (cw_X13_404 hts ⟨by decide, by decide⟩) rfl rfl (Nat.le_of_ble_eq_true rfl) dX13_worst_1 (fun _ h => h.elim) (fun r H1 locs hq hF hS => ?_)
  obtain ⟨rfl, rfl⟩ := hq
  rcases (inZ_cases v1 0 24 (by decide) (by decide)).symm with ⟨hz1, ho1⟩ | ⟨x1, hlo_x1, hhi_x1, rfl, hz1⟩
  · refine iv (y := nI 0) hz1 ?_
    refine n_if_eq (tgt := 16) hx hb dX13_worst_4 (by decide) (by decide) (fun _ => ?_) (fun z => absurd z (by decide))
    refine lv_iconst (v := (-1)) hx hb dX13_worst_16 (by decide) ?_
    refine hend _ _ _ _ _ hS dX13_worst_17 ?_
    exact ⟨_, rfl, _, hG, Eqx.rf, ((ho1.1 _ _)).symm⟩
  refine iv (y := nI 1) hz1 ?_
  have hl : lv_has ls 3 [(0, .ref o), (1, .int (nI x1)), (2, .int v2)] := hl
  refine n_if_eq (tgt := 16) hx hb dX13_worst_4 (by decide) (by decide) (fun z => absurd z (by decide)) (fun _ => ?_)
  refine lv_iload_n hx hb dX13_worst_7 rfl (lv_at hl 2 rfl) ?_
  refine lv_iconst (v := (nI 0)) hx hb dX13_worst_8 (by decide) ?_
  refine lv_iconst (v := (nI 1)) hx hb dX13_worst_9 (by decide) ?_
  refine c_SI hx hb hml hts hown hK hl.1 hS ⟨Nat.le_refl _, Nat.le_refl _⟩ (met_X13_in l D dA v2 (nI 0) (nI 1)) (cw_X13_308 hts ⟨by decide, by decide⟩) rfl rfl (Nat.le_of_ble_eq_true rfl) dX13_worst_10 (fun _ h => h.elim) (fun r H1 locs hq hF hS => ?_)
  obtain ⟨rfl, rfl⟩ := hq
  rcases (inZ_cases v2 0 1 (by decide) (by decide)).symm with ⟨hz10, ho10⟩ | ⟨x2, hlo_x2, hhi_x2, rfl, hz10⟩
  · refine iv (y := nI 0) hz10 ?_
    refine n_if_ne (tgt := 18) hx hb dX13_worst_13 (by decide) (by decide) (fun z => absurd z (by decide)) (fun _ => ?_)
    refine lv_iconst (v := (-1)) hx hb dX13_worst_16 (by decide) ?_
    refine hend _ _ _ _ _ hS dX13_worst_17 ?_
    exact ⟨_, rfl, _, hG, Eqx.rf, ((rng_in hlo_x1 hhi_x1 (by omega)).trans ((ho10.1 _ _))).symm⟩
  refine iv (y := nI 1) hz10 ?_
  have hl : lv_has ls 3 [(0, .ref o), (1, .int (nI x1)), (2, .int (nI x2))] := hl
  refine n_if_ne (tgt := 18) hx hb dX13_worst_13 (by decide) (by decide) (fun _ => ?_) (fun z => absurd z (by decide))
  refine lv_aload_n hx hb dX13_worst_18 rfl (lv_at hl 0 rfl) ?_
  refine c_VI hx hb hml hts hown hK hl.1 hS ⟨Nat.le_refl _, Nat.le_refl _⟩ (met_X13_many l D dA hG hT) (cw_X13_304 hts ⟨by decide, by decide⟩) (hG 0 _ rfl) rfl rfl rfl rfl (Nat.le_of_ble_eq_true rfl) dX13_worst_19 (fun _ h => h.elim) (fun r H1 locs hq hF hS => ?_)
  obtain ⟨rfl, rfl⟩ := hq
  refine n_if_ne (tgt := 28) hx hb dX13_worst_22 (by decide) (by omega) (fun c22 => ?_) (fun c22 => ?_)
  · refine lv_aload_n hx hb dX13_worst_28 rfl (lv_at hl 0 rfl) ?_
    refine lv_iload_n hx hb dX13_worst_29 rfl (lv_at hl 1 rfl) ?_
    refine c_VV hx hb hml hts hown hK hl.1 hS ⟨Nat.le_refl _, Nat.le_refl _⟩ (met_X13_fillsLeft l D dA hG hX hrv x1 (by omega)) (cw_X13_419 hts ⟨by decide, by decide⟩) (hG 0 _ rfl) rfl rfl rfl rfl (Nat.le_of_ble_eq_true rfl) dX13_worst_30 (fun _ h => h) (fun H1 locs hq hF hS => ?_)
    obtain ⟨V1, hG, hE1, hlf⟩ := hq
    generalize hHe1 : H1 = H at hG hS ⊢
    clear hHe1
    refine lv_iload_n hx hb dX13_worst_33 rfl (lv_at hl 2 rfl) ?_
    refine n_if_ne (tgt := 45) hx hb dX13_worst_34 (by decide) (by omega) (fun c34 => ?_) (fun c34 => ?_)
    · refine lv_aload_n hx hb dX13_worst_45 rfl (lv_at hl 0 rfl) ?_
      refine g_get hx hb hts hown hK hG 0 rfl rfl ok_X13 57 (by decide) q1528 rfl rfl dX13_worst_46 ?_
      refine lv_aload_n hx hb dX13_worst_49 rfl (lv_at hl 0 rfl) ?_
      refine lv_iconst (v := (-1)) hx hb dX13_worst_50 (by decide) ?_
      refine c_VI hx hb hml hts hown hK hl.1 hS ⟨Nat.le_refl _, Nat.le_refl _⟩ (met_X13_worstBut l D dA hG (txM_PB hE1 hX).1 (leftG t (V 30) x1) hlf (fun _ => bc9 _) (-1)) (cw_X13_422 hts ⟨by decide, by decide⟩) (hG 0 _ rfl) rfl rfl rfl rfl (Nat.le_of_ble_eq_true rfl) dX13_worst_51 (fun _ h => h.elim) (fun r H1 locs hq hF hS => ?_)
      obtain ⟨rfl, rfl⟩ := hq
      obtain ⟨i, hi, hil⟩ := wbF_some (g := leftG t (V 30) x1) c22 hT2
      refine iv (y := nI i) (by rw [hi]; rfl) ?_
      refine n_iald hx hb hK hG 37 rfl (by omega) (by decide) dX13_worst_54 ?_
      refine iv (y := (nI (leftG t (V 30) x1 i))) (hlf i (by omega)) ?_
      refine hend _ _ _ _ _ hS dX13_worst_55 ?_
      exact ⟨_, rfl, _, hG, hE1, ((rng_in hlo_x1 hhi_x1 (by omega)).trans ((rng_in hlo_x2 hhi_x2 (by omega)).trans (((if_neg (by omega)).trans ((if_neg (by omega)).trans (by rw [hi])))))).symm⟩
    refine lv_aload_n hx hb dX13_worst_37 rfl (lv_at hl 0 rfl) ?_
    refine lv_iconst (v := (-1)) hx hb dX13_worst_38 (by decide) ?_
    refine c_VI hx hb hml hts hown hK hl.1 hS ⟨Nat.le_refl _, Nat.le_refl _⟩ (met_X13_worstBut l D dA hG (txM_PB hE1 hX).1 (leftG t (V 30) x1) hlf (fun _ => bc9 _) (-1)) (cw_X13_422 hts ⟨by decide, by decide⟩) (hG 0 _ rfl) rfl rfl rfl rfl (Nat.le_of_ble_eq_true rfl) dX13_worst_39 (fun _ h => h.elim) (fun r H1 locs hq hF hS => ?_)
    obtain ⟨rfl, rfl⟩ := hq
    refine lv_goto (tgt := 55) hx hb dX13_worst_42 (by decide) ?_
    refine hend _ _ _ _ _ hS dX13_worst_55 ?_
    exact ⟨_, rfl, _, hG, hE1, ((rng_in hlo_x1 hhi_x1 (by omega)).trans ((rng_in hlo_x2 hhi_x2 (by omega)).trans (((if_neg (by omega)).trans (if_pos c34))))).symm⟩
  refine lv_bipush (v := (-2)) hx hb dX13_worst_25 (by decide) ?_
  refine hend _ _ _ _ _ hS dX13_worst_27 ?_
  exact ⟨_, rfl, _, hG, Eqx.rf, ((rng_in hlo_x1 hhi_x1 (by omega)).trans ((rng_in hlo_x2 hhi_x2 (by omega)).trans ((if_pos c22)))).symm⟩
set_option maxHeartbeats 4000000 in
theorem met_X13_sentry (l : Launch) (D : va_G) (dA : Nat → ClassId) {o : Nat} {V : GI} {L : GL} {Rf : GR} {H0 : Heap} (hG : gP D dA o dM V L Rf H0) {lv : Nat} {t : Txt} (hX : txM V lv t) (hrv : RV (xN t) (V 30)) (v1 v2 : Int32) : Ctr l D dA yX13_sentry cX13_sentry 8 (some .int) (mkRm 9 194) [.ref o, .int v1, .int v2] H0 (AM o) (QI (fun r H1 => ∃ V1, gP D dA o dM V1 L Rf H1 ∧ Eqx PB V V1 ∧ r = sentryA t (V 30) v1 v2)) := by
  have hT := hX.1
  have hT1 := hT.1
  have hT2 := hT.2.1
  have hp2 := two9 hT2
  have hpp := Nat.two_pow_pos (xN t)
  refine ctr_I (by decide) (Nat.le_of_ble_eq_true rfl) ?_
  intro p e s m args below meth c ls QQ locs hx hb hml hown hts hK hend hS hl
  have hl : lv_has ls 8 [(0, .ref o), (1, .int v1), (2, .int v2)] := hl
  refine lv_iload_n hx hb dX13_sentry_0 rfl (lv_at hl 1 rfl) ?_
  refine c_SI hx hb hml hts hown hK hl.1 hS ⟨Nat.le_refl _, Nat.le_refl _⟩ (met_X13_isShort l D dA v1) (cw_X13_404 hts ⟨by decide, by decide⟩) rfl rfl (Nat.le_of_ble_eq_true rfl) dX13_sentry_1 (fun _ h => h.elim) (fun r H1 locs hq hF hS => ?_)
  obtain ⟨rfl, rfl⟩ := hq
  rcases (inZ_cases v1 0 24 (by decide) (by decide)).symm with ⟨hz1, ho1⟩ | ⟨x1, hlo_x1, hhi_x1, rfl, hz1⟩
  · refine iv (y := nI 0) hz1 ?_
    refine n_if_eq (tgt := 16) hx hb dX13_sentry_4 (by decide) (by decide) (fun _ => ?_) (fun z => absurd z (by decide))
    refine lv_iconst (v := (-1)) hx hb dX13_sentry_16 (by decide) ?_
    refine hend _ _ _ _ _ hS dX13_sentry_17 ?_
    exact ⟨_, rfl, _, hG, Eqx.rf, ((ho1.1 _ _)).symm⟩
  refine iv (y := nI 1) hz1 ?_
  have hl : lv_has ls 8 [(0, .ref o), (1, .int (nI x1)), (2, .int v2)] := hl
  refine n_if_eq (tgt := 16) hx hb dX13_sentry_4 (by decide) (by decide) (fun z => absurd z (by decide)) (fun _ => ?_)
  refine lv_iload_n hx hb dX13_sentry_7 rfl (lv_at hl 2 rfl) ?_
  refine lv_iconst (v := (nI 0)) hx hb dX13_sentry_8 (by decide) ?_
  refine lv_iconst (v := (nI 1)) hx hb dX13_sentry_9 (by decide) ?_
  refine c_SI hx hb hml hts hown hK hl.1 hS ⟨Nat.le_refl _, Nat.le_refl _⟩ (met_X13_in l D dA v2 (nI 0) (nI 1)) (cw_X13_308 hts ⟨by decide, by decide⟩) rfl rfl (Nat.le_of_ble_eq_true rfl) dX13_sentry_10 (fun _ h => h.elim) (fun r H1 locs hq hF hS => ?_)
  obtain ⟨rfl, rfl⟩ := hq
  rcases (inZ_cases v2 0 1 (by decide) (by decide)).symm with ⟨hz10, ho10⟩ | ⟨x2, hlo_x2, hhi_x2, rfl, hz10⟩
  · refine iv (y := nI 0) hz10 ?_
    refine n_if_ne (tgt := 18) hx hb dX13_sentry_13 (by decide) (by decide) (fun z => absurd z (by decide)) (fun _ => ?_)
    refine lv_iconst (v := (-1)) hx hb dX13_sentry_16 (by decide) ?_
    refine hend _ _ _ _ _ hS dX13_sentry_17 ?_
    exact ⟨_, rfl, _, hG, Eqx.rf, ((rng_in hlo_x1 hhi_x1 (by omega)).trans ((ho10.1 _ _))).symm⟩
  refine iv (y := nI 1) hz10 ?_
  have hl : lv_has ls 8 [(0, .ref o), (1, .int (nI x1)), (2, .int (nI x2))] := hl
  refine n_if_ne (tgt := 18) hx hb dX13_sentry_13 (by decide) (by decide) (fun _ => ?_) (fun z => absurd z (by decide))
  refine lv_aload_n hx hb dX13_sentry_18 rfl (lv_at hl 0 rfl) ?_
  refine c_VI hx hb hml hts hown hK hl.1 hS ⟨Nat.le_refl _, Nat.le_refl _⟩ (met_X13_many l D dA hG hT) (cw_X13_304 hts ⟨by decide, by decide⟩) (hG 0 _ rfl) rfl rfl rfl rfl (Nat.le_of_ble_eq_true rfl) dX13_sentry_19 (fun _ h => h.elim) (fun r H1 locs hq hF hS => ?_)
  obtain ⟨rfl, rfl⟩ := hq
  refine n_if_ne (tgt := 28) hx hb dX13_sentry_22 (by decide) (by omega) (fun c22 => ?_) (fun c22 => ?_)
  · refine lv_aload_n hx hb dX13_sentry_28 rfl (lv_at hl 0 rfl) ?_
    refine lv_iload_n hx hb dX13_sentry_29 rfl (lv_at hl 1 rfl) ?_
    refine c_VV hx hb hml hts hown hK hl.1 hS ⟨Nat.le_refl _, Nat.le_refl _⟩ (met_X13_fillsLeft l D dA hG hX hrv x1 (by omega)) (cw_X13_419 hts ⟨by decide, by decide⟩) (hG 0 _ rfl) rfl rfl rfl rfl (Nat.le_of_ble_eq_true rfl) dX13_sentry_30 (fun _ h => h) (fun H1 locs hq hF hS => ?_)
    obtain ⟨V1, hG, hE1, hlf⟩ := hq
    generalize hHe1 : H1 = H at hG hS ⊢
    clear hHe1
    refine lv_iconst (v := (nI 0)) hx hb dX13_sentry_33 (by decide) ?_
    refine lv_istore_n (lv' := [(3, .int (nI 0)), (0, .ref o), (1, .int (nI x1)), (2, .int (nI x2))]) hx hb dX13_sentry_34 rfl hl (by decide) rfl (fun ls hl => ?_)
    refine lv_iconst (v := (-1)) hx hb dX13_sentry_35 (by decide) ?_
    refine lv_istore (lv' := [(4, .int (-1)), (3, .int (nI 0)), (0, .ref o), (1, .int (nI x1)), (2, .int (nI x2))]) hx hb dX13_sentry_36 hl (by decide) rfl (fun ls hl => ?_)
    refine lv_iconst (v := (nI 0)) hx hb dX13_sentry_38 (by decide) ?_
    refine lv_istore (lv' := [(5, .int (nI 0)), (4, .int (-1)), (3, .int (nI 0)), (0, .ref o), (1, .int (nI x1)), (2, .int (nI x2))]) hx hb dX13_sentry_39 hl (by decide) rfl (fun ls hl => ?_)
    have loop2 : ∀ (fu2 : Nat) (b : Nat) (op : Option (Nat × Nat)) (V2 : GI) (H : Heap) (locs : List Loc) (ls : Array Slot), xN t - b < fu2 → (b ≤ xN t) → (mxF (wgF t (V 30) x1) b = op) → (Eqx PW V1 V2) → gP D dA o dM V2 L Rf H → va_S (AM o) H0 H locs → lv_has ls 8 [(5, .int (nI b)), (4, .int (oV (-1) op)), (3, .int (oI 0 op)), (0, .ref o), (1, .int (nI x1)), (2, .int (nI x2))] → W p l e (mkRm 9 194) s m args below meth c H locs 0 0 QQ (F0 m 41 ls []) := by
      intro fu2
      induction fu2 with
      | zero => intro b op V2 H locs ls hfu; exact absurd hfu (Nat.not_lt_zero _)
      | succ fu2 ih2 =>
        intro b op V2 H locs ls hfu hbn hp hE2 hG hS hl
        refine lv_iload hx hb dX13_sentry_41 (lv_at hl 0 rfl) ?_
        refine lv_aload_n hx hb dX13_sentry_43 rfl (lv_at hl 3 rfl) ?_
        refine c_VI hx hb hml hts hown hK hl.1 hS ⟨Nat.le_refl _, Nat.le_refl _⟩ (met_X13_many l D dA hG (tM_to hT ((hE2 0 18 rfl).trans (hE1 0 18 rfl)) ((hE2 9 lv rfl).trans (hE1 9 lv rfl)))) (cw_X13_304 hts ⟨by decide, by decide⟩) (hG 0 _ rfl) rfl rfl rfl rfl (Nat.le_of_ble_eq_true rfl) dX13_sentry_44 (fun _ h => h.elim) (fun r H1 locs hq hF hS => ?_)
        obtain ⟨rfl, rfl⟩ := hq
        refine n_icmp_ge (tgt := 110) hx hb dX13_sentry_47 (by decide) (by omega) (by omega) (fun c47 => ?_) (fun c47 => ?_)
        · obtain rfl : b = xN t := by omega
          refine lv_iload_n hx hb dX13_sentry_110 rfl (lv_at hl 5 rfl) ?_
          refine n_if_ne (tgt := 118) hx hb dX13_sentry_111 (by decide) (by omega) (fun c111 => ?_) (fun c111 => ?_)
          · refine lv_iload hx hb dX13_sentry_118 (lv_at hl 1 rfl) ?_
            refine hend _ _ _ _ _ hS dX13_sentry_120 ?_
            exact ⟨_, rfl, _, hG, (hE1.trans (hE2.mono PW_PB)), ((rng_in hlo_x1 hhi_x1 (by omega)).trans ((rng_in hlo_x2 hhi_x2 (by omega)).trans (((if_neg (by omega)).trans ((if_neg (by omega)).trans (congrArg (oV (-1)) hp)))))).symm⟩
          refine lv_iload_n hx hb dX13_sentry_114 rfl (lv_at hl 2 rfl) ?_
          refine lv_goto (tgt := 120) hx hb dX13_sentry_115 (by decide) ?_
          refine hend _ _ _ _ _ hS dX13_sentry_120 ?_
          exact ⟨_, rfl, _, hG, (hE1.trans (hE2.mono PW_PB)), ((rng_in hlo_x1 hhi_x1 (by omega)).trans ((rng_in hlo_x2 hhi_x2 (by omega)).trans (((if_neg (by omega)).trans ((if_pos c111).trans (congrArg (oI 0) hp)))))).symm⟩
        rcases op with _ | ⟨i0, v0⟩
        · have hl : lv_has ls 8 [(5, .int (nI b)), (4, .int (-1)), (3, .int (nI 0)), (0, .ref o), (1, .int (nI x1)), (2, .int (nI x2))] := hl
          refine lv_aload_n hx hb dX13_sentry_50 rfl (lv_at hl 3 rfl) ?_
          refine lv_iload hx hb dX13_sentry_51 (lv_at hl 0 rfl) ?_
          refine c_VI hx hb hml hts hown hK hl.1 hS ⟨Nat.le_refl _, Nat.le_refl _⟩ (met_X13_worstBut l D dA hG (txM_PB (hE1.trans (hE2.mono PW_PB)) hX).1 (leftG t (V 30) x1) (by rw [(funext (fun j => hE2 37 j rfl))]; exact hlf) (fun _ => bc9 _) (nI b)) (cw_X13_422 hts ⟨by decide, by decide⟩) (hG 0 _ rfl) rfl rfl rfl rfl (Nat.le_of_ble_eq_true rfl) dX13_sentry_53 (fun _ h => h.elim) (fun r H1 locs hq hF hS => ?_)
          obtain ⟨rfl, rfl⟩ := hq
          rcases hw : wbF (leftG t (V 30) x1) (nI b) (xN t) with _ | i
          · refine iv (y := -1) rfl ?_
            have hval : lfF t (V 30) x1 (rbF (V 30) (xN t)) = wgF t (V 30) x1 b := by unfold wgF; rw [hw]
            refine lv_istore (lv' := [(6, .int (-1)), (5, .int (nI b)), (4, .int (-1)), (3, .int (nI 0)), (0, .ref o), (1, .int (nI x1)), (2, .int (nI x2))]) hx hb dX13_sentry_56 hl (by decide) rfl (fun ls hl => ?_)
            refine lv_iload hx hb dX13_sentry_58 (lv_at hl 0 rfl) ?_
            refine lv_if_ge (tgt := 78) hx hb dX13_sentry_60 (by decide) (fun z => absurd z (by decide)) (fun _ => ?_)
            refine lv_aload_n hx hb dX13_sentry_63 rfl (lv_at hl 4 rfl) ?_
            refine lv_aload_n hx hb dX13_sentry_64 rfl (lv_at hl 4 rfl) ?_
            refine c_VI hx hb hml hts hown hK hl.1 hS ⟨Nat.le_refl _, Nat.le_refl _⟩ (met_X13_rowNow l D dA hG (txM_PB (hE1.trans (hE2.mono PW_PB)) hX) (by rw [((funext (fun j => hE2 30 j rfl)).trans (funext (fun j => hE1 30 j rfl)))]; exact hrv)) (cw_X13_401 hts ⟨by decide, by decide⟩) (hG 0 _ rfl) rfl rfl rfl rfl (Nat.le_of_ble_eq_true rfl) dX13_sentry_65 (fun _ h => h.elim) (fun r H1 locs hq hF hS => ?_)
            obtain ⟨rfl, rfl⟩ := hq
            refine iv (y := nI (rbF (V 30) (xN t))) (by rw [((funext (fun j => hE2 30 j rfl)).trans (funext (fun j => hE1 30 j rfl)))]) ?_
            refine lv_iload_n hx hb dX13_sentry_68 rfl (lv_at hl 5 rfl) ?_
            refine c_VI hx hb hml hts hown hK hl.1 hS ⟨Nat.le_refl _, Nat.le_refl _⟩ (met_X13_rowAfter l D dA hG (txM_PB (hE1.trans (hE2.mono PW_PB)) hX) (rbF (V 30) (xN t)) x1 (rb9 hT2) (by omega)) (cw_X13_389 hts ⟨by decide, by decide⟩) (hG 0 _ rfl) rfl rfl rfl rfl (Nat.le_of_ble_eq_true rfl) dX13_sentry_69 (fun _ h => h) (fun r H1 locs hq hF hS => ?_)
            obtain ⟨V3, hG, hE3, hr3⟩ := hq
            generalize hHe3 : H1 = H at hG hS ⊢
            clear hHe3
            have hr3 : r = nI (raF t (V 30) (rbF (V 30) (xN t)) x1) := hr3.trans (congrArg (fun z => nI (raF t z (rbF (V 30) (xN t)) x1)) (((funext (fun j => hE2 30 j rfl)).trans (funext (fun j => hE1 30 j rfl)))))
            subst hr3
            have hra69 := raF_lt t (V 30) (rbF (V 30) (xN t)) x1
            refine c_SI hx hb hml hts hown hK hl.1 hS ⟨Nat.le_refl _, Nat.le_refl _⟩ (met_X13_bits l D dA (raF t (V 30) (rbF (V 30) (xN t)) x1) (ra9 hT2)) (cw_X13_398 hts ⟨by decide, by decide⟩) rfl rfl (Nat.le_of_ble_eq_true rfl) dX13_sentry_72 (fun _ h => h.elim) (fun r H1 locs hq hF hS => ?_)
            obtain ⟨rfl, rfl⟩ := hq
            have hbc72 := bc9 (raF t (V 30) (rbF (V 30) (xN t)) x1)
            refine lv_goto (tgt := 85) hx hb dX13_sentry_75 (by decide) ?_
            refine iv (y := nI (wgF t (V 30) x1 b)) (congrArg nI hval) ?_
            have hwg := wgF_le t (V 30) x1 b
            refine lv_istore (lv' := [(7, .int (nI (wgF t (V 30) x1 b))), (6, .int (-1)), (5, .int (nI b)), (4, .int (-1)), (3, .int (nI 0)), (0, .ref o), (1, .int (nI x1)), (2, .int (nI x2))]) hx hb dX13_sentry_85 hl (by decide) rfl (fun ls hl => ?_)
            refine lv_iload hx hb dX13_sentry_87 (lv_at hl 0 rfl) ?_
            refine lv_iload hx hb dX13_sentry_89 (lv_at hl 3 rfl) ?_
            refine lv_icmp_gt (tgt := 97) hx hb dX13_sentry_91 (by decide) (fun _ => ?_) (fun z => absurd (ng_gt (by decide) (by omega)) z)
            refine lv_iload hx hb dX13_sentry_97 (lv_at hl 2 rfl) ?_
            refine lv_istore_n (lv' := [(3, .int (nI b)), (7, .int (nI (wgF t (V 30) x1 b))), (6, .int (-1)), (5, .int (nI b)), (4, .int (-1)), (0, .ref o), (1, .int (nI x1)), (2, .int (nI x2))]) hx hb dX13_sentry_99 rfl hl (by decide) rfl (fun ls hl => ?_)
            refine lv_iload hx hb dX13_sentry_100 (lv_at hl 1 rfl) ?_
            refine lv_istore (lv' := [(4, .int (nI (wgF t (V 30) x1 b))), (3, .int (nI b)), (7, .int (nI (wgF t (V 30) x1 b))), (6, .int (-1)), (5, .int (nI b)), (0, .ref o), (1, .int (nI x1)), (2, .int (nI x2))]) hx hb dX13_sentry_102 hl (by decide) rfl (fun ls hl => ?_)
            refine lv_iinc (v := (nI (b + 1))) (lv' := [(5, .int (nI (b + 1))), (4, .int (nI (wgF t (V 30) x1 b))), (3, .int (nI b)), (7, .int (nI (wgF t (V 30) x1 b))), (6, .int (-1)), (0, .ref o), (1, .int (nI x1)), (2, .int (nI x2))]) hx hb dX13_sentry_104 hl (k := 4) rfl (nI_add _ _) (by decide) rfl (fun ls hl => ?_)
            refine lv_goto (tgt := 41) hx hb dX13_sentry_107 (by decide) ?_
            exact ih2 (b + 1) (some (b, wgF t (V 30) x1 b)) V3 _ _ _ (by omega) (by omega) (mxF_n hp) (Eqx.trans hE2 hE3) hG hS (lv_sub hl [0, 1, 2, 5, 6, 7] rfl)
          refine iv (y := nI i) rfl ?_
          have hil := wbF_lt hw
          have hval : leftG t (V 30) x1 i = wgF t (V 30) x1 b := by unfold wgF; rw [hw]
          have hl9 : leftG t (V 30) x1 i ≤ 9 := bc9 _
          refine lv_istore (lv' := [(6, .int (nI i)), (5, .int (nI b)), (4, .int (-1)), (3, .int (nI 0)), (0, .ref o), (1, .int (nI x1)), (2, .int (nI x2))]) hx hb dX13_sentry_56 hl (by decide) rfl (fun ls hl => ?_)
          refine lv_iload hx hb dX13_sentry_58 (lv_at hl 0 rfl) ?_
          refine n_if_ge (tgt := 78) hx hb dX13_sentry_60 (by decide) (by omega) ?_
          refine lv_aload_n hx hb dX13_sentry_78 rfl (lv_at hl 4 rfl) ?_
          refine g_get hx hb hts hown hK hG 0 rfl rfl ok_X13 57 (by decide) q1528 rfl rfl dX13_sentry_79 ?_
          refine lv_iload hx hb dX13_sentry_82 (lv_at hl 0 rfl) ?_
          refine n_iald hx hb hK hG 37 rfl (by omega) (by decide) dX13_sentry_84 ?_
          refine iv (y := (nI (leftG t (V 30) x1 i))) ((hE2 37 i rfl).trans (hlf i (by omega))) ?_
          refine iv (y := nI (wgF t (V 30) x1 b)) (congrArg nI hval) ?_
          have hwg := wgF_le t (V 30) x1 b
          refine lv_istore (lv' := [(7, .int (nI (wgF t (V 30) x1 b))), (6, .int (nI i)), (5, .int (nI b)), (4, .int (-1)), (3, .int (nI 0)), (0, .ref o), (1, .int (nI x1)), (2, .int (nI x2))]) hx hb dX13_sentry_85 hl (by decide) rfl (fun ls hl => ?_)
          refine lv_iload hx hb dX13_sentry_87 (lv_at hl 0 rfl) ?_
          refine lv_iload hx hb dX13_sentry_89 (lv_at hl 3 rfl) ?_
          refine lv_icmp_gt (tgt := 97) hx hb dX13_sentry_91 (by decide) (fun _ => ?_) (fun z => absurd (ng_gt (by decide) (by omega)) z)
          refine lv_iload hx hb dX13_sentry_97 (lv_at hl 2 rfl) ?_
          refine lv_istore_n (lv' := [(3, .int (nI b)), (7, .int (nI (wgF t (V 30) x1 b))), (6, .int (nI i)), (5, .int (nI b)), (4, .int (-1)), (0, .ref o), (1, .int (nI x1)), (2, .int (nI x2))]) hx hb dX13_sentry_99 rfl hl (by decide) rfl (fun ls hl => ?_)
          refine lv_iload hx hb dX13_sentry_100 (lv_at hl 1 rfl) ?_
          refine lv_istore (lv' := [(4, .int (nI (wgF t (V 30) x1 b))), (3, .int (nI b)), (7, .int (nI (wgF t (V 30) x1 b))), (6, .int (nI i)), (5, .int (nI b)), (0, .ref o), (1, .int (nI x1)), (2, .int (nI x2))]) hx hb dX13_sentry_102 hl (by decide) rfl (fun ls hl => ?_)
          refine lv_iinc (v := (nI (b + 1))) (lv' := [(5, .int (nI (b + 1))), (4, .int (nI (wgF t (V 30) x1 b))), (3, .int (nI b)), (7, .int (nI (wgF t (V 30) x1 b))), (6, .int (nI i)), (0, .ref o), (1, .int (nI x1)), (2, .int (nI x2))]) hx hb dX13_sentry_104 hl (k := 4) rfl (nI_add _ _) (by decide) rfl (fun ls hl => ?_)
          refine lv_goto (tgt := 41) hx hb dX13_sentry_107 (by decide) ?_
          exact ih2 (b + 1) (some (b, wgF t (V 30) x1 b)) V2 _ _ _ (by omega) (by omega) (mxF_n hp) hE2 hG hS (lv_sub hl [0, 1, 2, 5, 6, 7] rfl)
        have hl : lv_has ls 8 [(5, .int (nI b)), (4, .int (nI v0)), (3, .int (nI i0)), (0, .ref o), (1, .int (nI x1)), (2, .int (nI x2))] := hl
        have hv9 : v0 ≤ 9 := (mxF_lt hp).2 ▸ wgF_le _ _ _ _
        have hi9 := (mxF_lt hp).1
        refine lv_aload_n hx hb dX13_sentry_50 rfl (lv_at hl 3 rfl) ?_
        refine lv_iload hx hb dX13_sentry_51 (lv_at hl 0 rfl) ?_
        refine c_VI hx hb hml hts hown hK hl.1 hS ⟨Nat.le_refl _, Nat.le_refl _⟩ (met_X13_worstBut l D dA hG (txM_PB (hE1.trans (hE2.mono PW_PB)) hX).1 (leftG t (V 30) x1) (by rw [(funext (fun j => hE2 37 j rfl))]; exact hlf) (fun _ => bc9 _) (nI b)) (cw_X13_422 hts ⟨by decide, by decide⟩) (hG 0 _ rfl) rfl rfl rfl rfl (Nat.le_of_ble_eq_true rfl) dX13_sentry_53 (fun _ h => h.elim) (fun r H1 locs hq hF hS => ?_)
        obtain ⟨rfl, rfl⟩ := hq
        rcases hw : wbF (leftG t (V 30) x1) (nI b) (xN t) with _ | i
        · refine iv (y := -1) rfl ?_
          have hval : lfF t (V 30) x1 (rbF (V 30) (xN t)) = wgF t (V 30) x1 b := by unfold wgF; rw [hw]
          refine lv_istore (lv' := [(6, .int (-1)), (5, .int (nI b)), (4, .int (nI v0)), (3, .int (nI i0)), (0, .ref o), (1, .int (nI x1)), (2, .int (nI x2))]) hx hb dX13_sentry_56 hl (by decide) rfl (fun ls hl => ?_)
          refine lv_iload hx hb dX13_sentry_58 (lv_at hl 0 rfl) ?_
          refine lv_if_ge (tgt := 78) hx hb dX13_sentry_60 (by decide) (fun z => absurd z (by decide)) (fun _ => ?_)
          refine lv_aload_n hx hb dX13_sentry_63 rfl (lv_at hl 4 rfl) ?_
          refine lv_aload_n hx hb dX13_sentry_64 rfl (lv_at hl 4 rfl) ?_
          refine c_VI hx hb hml hts hown hK hl.1 hS ⟨Nat.le_refl _, Nat.le_refl _⟩ (met_X13_rowNow l D dA hG (txM_PB (hE1.trans (hE2.mono PW_PB)) hX) (by rw [((funext (fun j => hE2 30 j rfl)).trans (funext (fun j => hE1 30 j rfl)))]; exact hrv)) (cw_X13_401 hts ⟨by decide, by decide⟩) (hG 0 _ rfl) rfl rfl rfl rfl (Nat.le_of_ble_eq_true rfl) dX13_sentry_65 (fun _ h => h.elim) (fun r H1 locs hq hF hS => ?_)
          obtain ⟨rfl, rfl⟩ := hq
          refine iv (y := nI (rbF (V 30) (xN t))) (by rw [((funext (fun j => hE2 30 j rfl)).trans (funext (fun j => hE1 30 j rfl)))]) ?_
          refine lv_iload_n hx hb dX13_sentry_68 rfl (lv_at hl 5 rfl) ?_
          refine c_VI hx hb hml hts hown hK hl.1 hS ⟨Nat.le_refl _, Nat.le_refl _⟩ (met_X13_rowAfter l D dA hG (txM_PB (hE1.trans (hE2.mono PW_PB)) hX) (rbF (V 30) (xN t)) x1 (rb9 hT2) (by omega)) (cw_X13_389 hts ⟨by decide, by decide⟩) (hG 0 _ rfl) rfl rfl rfl rfl (Nat.le_of_ble_eq_true rfl) dX13_sentry_69 (fun _ h => h) (fun r H1 locs hq hF hS => ?_)
          obtain ⟨V4, hG, hE4, hr4⟩ := hq
          generalize hHe4 : H1 = H at hG hS ⊢
          clear hHe4
          have hr4 : r = nI (raF t (V 30) (rbF (V 30) (xN t)) x1) := hr4.trans (congrArg (fun z => nI (raF t z (rbF (V 30) (xN t)) x1)) (((funext (fun j => hE2 30 j rfl)).trans (funext (fun j => hE1 30 j rfl)))))
          subst hr4
          have hra69 := raF_lt t (V 30) (rbF (V 30) (xN t)) x1
          refine c_SI hx hb hml hts hown hK hl.1 hS ⟨Nat.le_refl _, Nat.le_refl _⟩ (met_X13_bits l D dA (raF t (V 30) (rbF (V 30) (xN t)) x1) (ra9 hT2)) (cw_X13_398 hts ⟨by decide, by decide⟩) rfl rfl (Nat.le_of_ble_eq_true rfl) dX13_sentry_72 (fun _ h => h.elim) (fun r H1 locs hq hF hS => ?_)
          obtain ⟨rfl, rfl⟩ := hq
          have hbc72 := bc9 (raF t (V 30) (rbF (V 30) (xN t)) x1)
          refine lv_goto (tgt := 85) hx hb dX13_sentry_75 (by decide) ?_
          refine iv (y := nI (wgF t (V 30) x1 b)) (congrArg nI hval) ?_
          have hwg := wgF_le t (V 30) x1 b
          refine lv_istore (lv' := [(7, .int (nI (wgF t (V 30) x1 b))), (6, .int (-1)), (5, .int (nI b)), (4, .int (nI v0)), (3, .int (nI i0)), (0, .ref o), (1, .int (nI x1)), (2, .int (nI x2))]) hx hb dX13_sentry_85 hl (by decide) rfl (fun ls hl => ?_)
          refine lv_iload hx hb dX13_sentry_87 (lv_at hl 0 rfl) ?_
          refine lv_iload hx hb dX13_sentry_89 (lv_at hl 3 rfl) ?_
          refine n_icmp_gt (tgt := 97) hx hb dX13_sentry_91 (by decide) (by omega) (by omega) (fun c91 => ?_) (fun c91 => ?_)
          · refine lv_iload hx hb dX13_sentry_97 (lv_at hl 2 rfl) ?_
            refine lv_istore_n (lv' := [(3, .int (nI b)), (7, .int (nI (wgF t (V 30) x1 b))), (6, .int (-1)), (5, .int (nI b)), (4, .int (nI v0)), (0, .ref o), (1, .int (nI x1)), (2, .int (nI x2))]) hx hb dX13_sentry_99 rfl hl (by decide) rfl (fun ls hl => ?_)
            refine lv_iload hx hb dX13_sentry_100 (lv_at hl 1 rfl) ?_
            refine lv_istore (lv' := [(4, .int (nI (wgF t (V 30) x1 b))), (3, .int (nI b)), (7, .int (nI (wgF t (V 30) x1 b))), (6, .int (-1)), (5, .int (nI b)), (0, .ref o), (1, .int (nI x1)), (2, .int (nI x2))]) hx hb dX13_sentry_102 hl (by decide) rfl (fun ls hl => ?_)
            refine lv_iinc (v := (nI (b + 1))) (lv' := [(5, .int (nI (b + 1))), (4, .int (nI (wgF t (V 30) x1 b))), (3, .int (nI b)), (7, .int (nI (wgF t (V 30) x1 b))), (6, .int (-1)), (0, .ref o), (1, .int (nI x1)), (2, .int (nI x2))]) hx hb dX13_sentry_104 hl (k := 4) rfl (nI_add _ _) (by decide) rfl (fun ls hl => ?_)
            refine lv_goto (tgt := 41) hx hb dX13_sentry_107 (by decide) ?_
            exact ih2 (b + 1) (some (b, wgF t (V 30) x1 b)) V4 _ _ _ (by omega) (by omega) (mxF_t hp c91) (Eqx.trans hE2 hE4) hG hS (lv_sub hl [0, 1, 2, 5, 6, 7] rfl)
          refine lv_goto (tgt := 104) hx hb dX13_sentry_94 (by decide) ?_
          refine lv_iinc (v := (nI (b + 1))) (lv' := [(5, .int (nI (b + 1))), (7, .int (nI (wgF t (V 30) x1 b))), (6, .int (-1)), (4, .int (nI v0)), (3, .int (nI i0)), (0, .ref o), (1, .int (nI x1)), (2, .int (nI x2))]) hx hb dX13_sentry_104 hl (k := 2) rfl (nI_add _ _) (by decide) rfl (fun ls hl => ?_)
          refine lv_goto (tgt := 41) hx hb dX13_sentry_107 (by decide) ?_
          exact ih2 (b + 1) (some (i0, v0)) V4 _ _ _ (by omega) (by omega) (mxF_f hp c91) (Eqx.trans hE2 hE4) hG hS (lv_sub hl [0, 3, 4, 5, 6, 7] rfl)
        refine iv (y := nI i) rfl ?_
        have hil := wbF_lt hw
        have hval : leftG t (V 30) x1 i = wgF t (V 30) x1 b := by unfold wgF; rw [hw]
        have hl9 : leftG t (V 30) x1 i ≤ 9 := bc9 _
        refine lv_istore (lv' := [(6, .int (nI i)), (5, .int (nI b)), (4, .int (nI v0)), (3, .int (nI i0)), (0, .ref o), (1, .int (nI x1)), (2, .int (nI x2))]) hx hb dX13_sentry_56 hl (by decide) rfl (fun ls hl => ?_)
        refine lv_iload hx hb dX13_sentry_58 (lv_at hl 0 rfl) ?_
        refine n_if_ge (tgt := 78) hx hb dX13_sentry_60 (by decide) (by omega) ?_
        refine lv_aload_n hx hb dX13_sentry_78 rfl (lv_at hl 4 rfl) ?_
        refine g_get hx hb hts hown hK hG 0 rfl rfl ok_X13 57 (by decide) q1528 rfl rfl dX13_sentry_79 ?_
        refine lv_iload hx hb dX13_sentry_82 (lv_at hl 0 rfl) ?_
        refine n_iald hx hb hK hG 37 rfl (by omega) (by decide) dX13_sentry_84 ?_
        refine iv (y := (nI (leftG t (V 30) x1 i))) ((hE2 37 i rfl).trans (hlf i (by omega))) ?_
        refine iv (y := nI (wgF t (V 30) x1 b)) (congrArg nI hval) ?_
        have hwg := wgF_le t (V 30) x1 b
        refine lv_istore (lv' := [(7, .int (nI (wgF t (V 30) x1 b))), (6, .int (nI i)), (5, .int (nI b)), (4, .int (nI v0)), (3, .int (nI i0)), (0, .ref o), (1, .int (nI x1)), (2, .int (nI x2))]) hx hb dX13_sentry_85 hl (by decide) rfl (fun ls hl => ?_)
        refine lv_iload hx hb dX13_sentry_87 (lv_at hl 0 rfl) ?_
        refine lv_iload hx hb dX13_sentry_89 (lv_at hl 3 rfl) ?_
        refine n_icmp_gt (tgt := 97) hx hb dX13_sentry_91 (by decide) (by omega) (by omega) (fun c91 => ?_) (fun c91 => ?_)
        · refine lv_iload hx hb dX13_sentry_97 (lv_at hl 2 rfl) ?_
          refine lv_istore_n (lv' := [(3, .int (nI b)), (7, .int (nI (wgF t (V 30) x1 b))), (6, .int (nI i)), (5, .int (nI b)), (4, .int (nI v0)), (0, .ref o), (1, .int (nI x1)), (2, .int (nI x2))]) hx hb dX13_sentry_99 rfl hl (by decide) rfl (fun ls hl => ?_)
          refine lv_iload hx hb dX13_sentry_100 (lv_at hl 1 rfl) ?_
          refine lv_istore (lv' := [(4, .int (nI (wgF t (V 30) x1 b))), (3, .int (nI b)), (7, .int (nI (wgF t (V 30) x1 b))), (6, .int (nI i)), (5, .int (nI b)), (0, .ref o), (1, .int (nI x1)), (2, .int (nI x2))]) hx hb dX13_sentry_102 hl (by decide) rfl (fun ls hl => ?_)
          refine lv_iinc (v := (nI (b + 1))) (lv' := [(5, .int (nI (b + 1))), (4, .int (nI (wgF t (V 30) x1 b))), (3, .int (nI b)), (7, .int (nI (wgF t (V 30) x1 b))), (6, .int (nI i)), (0, .ref o), (1, .int (nI x1)), (2, .int (nI x2))]) hx hb dX13_sentry_104 hl (k := 4) rfl (nI_add _ _) (by decide) rfl (fun ls hl => ?_)
          refine lv_goto (tgt := 41) hx hb dX13_sentry_107 (by decide) ?_
          exact ih2 (b + 1) (some (b, wgF t (V 30) x1 b)) V2 _ _ _ (by omega) (by omega) (mxF_t hp c91) hE2 hG hS (lv_sub hl [0, 1, 2, 5, 6, 7] rfl)
        refine lv_goto (tgt := 104) hx hb dX13_sentry_94 (by decide) ?_
        refine lv_iinc (v := (nI (b + 1))) (lv' := [(5, .int (nI (b + 1))), (7, .int (nI (wgF t (V 30) x1 b))), (6, .int (nI i)), (4, .int (nI v0)), (3, .int (nI i0)), (0, .ref o), (1, .int (nI x1)), (2, .int (nI x2))]) hx hb dX13_sentry_104 hl (k := 2) rfl (nI_add _ _) (by decide) rfl (fun ls hl => ?_)
        refine lv_goto (tgt := 41) hx hb dX13_sentry_107 (by decide) ?_
        exact ih2 (b + 1) (some (i0, v0)) V2 _ _ _ (by omega) (by omega) (mxF_f hp c91) hE2 hG hS (lv_sub hl [0, 3, 4, 5, 6, 7] rfl)
    exact loop2 ((xN t - 0) + 1) 0 none V1 _ _ _ (Nat.lt_succ_self _) (by omega) rfl Eqx.rf hG hS (lv_sub hl [0, 1, 2, 3, 4, 5] rfl)
  refine lv_bipush (v := (-2)) hx hb dX13_sentry_25 (by decide) ?_
  refine hend _ _ _ _ _ hS dX13_sentry_27 ?_
  exact ⟨_, rfl, _, hG, Eqx.rf, ((rng_in hlo_x1 hhi_x1 (by omega)).trans ((rng_in hlo_x2 hhi_x2 (by omega)).trans ((if_pos c22)))).symm⟩
set_option maxHeartbeats 4000000 in
theorem met_X13_soonest (l : Launch) (D : va_G) (dA : Nat → ClassId) {o : Nat} {V : GI} {L : GL} {Rf : GR} {H0 : Heap} (hG : gP D dA o dM V L Rf H0) {lv : Nat} {t : Txt} (hX : txM V lv t) (hrv : RV (xN t) (V 30)) (v1 : Int32) : Ctr l D dA yX13_soonest cX13_soonest 4 (some .int) (mkRm 8 172) [.ref o, .int v1] H0 (AM o) (QI (fun r H1 => ∃ V1, gP D dA o dM V1 L Rf H1 ∧ Eqx PW V V1 ∧ r = soonestA t (V 30) v1)) := by
  have hT := hX.1
  have hT1 := hT.1
  have hT2 := hT.2.1
  have hp2 := two9 hT2
  have hpp := Nat.two_pow_pos (xN t)
  refine ctr_I (by decide) (Nat.le_of_ble_eq_true rfl) ?_
  intro p e s m args below meth c ls QQ locs hx hb hml hown hts hK hend hS hl
  have hl : lv_has ls 4 [(0, .ref o), (1, .int v1)] := hl
  refine lv_iload_n hx hb dX13_soonest_0 rfl (lv_at hl 1 rfl) ?_
  refine lv_iconst (v := (nI 0)) hx hb dX13_soonest_1 (by decide) ?_
  refine lv_iconst (v := (nI 1)) hx hb dX13_soonest_2 (by decide) ?_
  refine c_SI hx hb hml hts hown hK hl.1 hS ⟨Nat.le_refl _, Nat.le_refl _⟩ (met_X13_in l D dA v1 (nI 0) (nI 1)) (cw_X13_308 hts ⟨by decide, by decide⟩) rfl rfl (Nat.le_of_ble_eq_true rfl) dX13_soonest_3 (fun _ h => h.elim) (fun r H1 locs hq hF hS => ?_)
  obtain ⟨rfl, rfl⟩ := hq
  rcases (inZ_cases v1 0 1 (by decide) (by decide)).symm with ⟨hz3, ho3⟩ | ⟨x1, hlo_x1, hhi_x1, rfl, hz3⟩
  · refine iv (y := nI 0) hz3 ?_
    refine n_if_ne (tgt := 11) hx hb dX13_soonest_6 (by decide) (by decide) (fun z => absurd z (by decide)) (fun _ => ?_)
    refine lv_iconst (v := (-1)) hx hb dX13_soonest_9 (by decide) ?_
    refine hend _ _ _ _ _ hS dX13_soonest_10 ?_
    exact ⟨_, rfl, _, hG, Eqx.rf, ((ho3.1 _ _)).symm⟩
  refine iv (y := nI 1) hz3 ?_
  have hl : lv_has ls 4 [(0, .ref o), (1, .int (nI x1))] := hl
  refine n_if_ne (tgt := 11) hx hb dX13_soonest_6 (by decide) (by decide) (fun _ => ?_) (fun z => absurd z (by decide))
  refine lv_iconst (v := (nI 0)) hx hb dX13_soonest_11 (by decide) ?_
  refine lv_istore_n (lv' := [(2, .int (nI 0)), (0, .ref o), (1, .int (nI x1))]) hx hb dX13_soonest_12 rfl hl (by decide) rfl (fun ls hl => ?_)
  have loop1 : ∀ (fu1 : Nat) (q : Nat) (k : Nat) (V1 : GI) (H : Heap) (locs : List Loc) (ls : Array Slot), k < fu1 → (q + k = 25) → (soF t (V 30) x1 k q = soF t (V 30) x1 25 0) → (Eqx PW V V1) → gP D dA o dM V1 L Rf H → va_S (AM o) H0 H locs → lv_has ls 4 [(2, .int (nI q)), (0, .ref o), (1, .int (nI x1))] → W p l e (mkRm 8 172) s m args below meth c H locs 0 0 QQ (F0 m 13 ls []) := by
    intro fu1
    induction fu1 with
    | zero => intro q k V1 H locs ls hfu; exact absurd hfu (Nat.not_lt_zero _)
    | succ fu1 ih1 =>
      intro q k V1 H locs ls hfu hqk hR hE1 hG hS hl
      refine lv_iload_n hx hb dX13_soonest_13 rfl (lv_at hl 0 rfl) ?_
      refine lv_bipush (v := (nI 24)) hx hb dX13_soonest_14 (by decide) ?_
      refine n_icmp_gt (tgt := 98) hx hb dX13_soonest_16 (by decide) (by omega) (by omega) (fun c16 => ?_) (fun c16 => ?_)
      · refine lv_bipush (v := (-2)) hx hb dX13_soonest_98 (by decide) ?_
        refine hend _ _ _ _ _ hS dX13_soonest_100 ?_
        exact ⟨_, rfl, _, hG, hE1, ((rng_in hlo_x1 hhi_x1 (by omega)).trans ((by obtain rfl : k = 0 := (by omega); exact hR.symm))).symm⟩
      obtain ⟨k, rfl⟩ : ∃ k1, k = k1 + 1 := ⟨k - 1, by omega⟩
      refine lv_aload_n hx hb dX13_soonest_19 rfl (lv_at hl 1 rfl) ?_
      refine lv_aload_n hx hb dX13_soonest_20 rfl (lv_at hl 1 rfl) ?_
      refine c_VI hx hb hml hts hown hK hl.1 hS ⟨Nat.le_refl _, Nat.le_refl _⟩ (met_X13_rowNow l D dA hG (txM_PW hE1 hX) (by rw [(funext (fun j => hE1 30 j rfl))]; exact hrv)) (cw_X13_401 hts ⟨by decide, by decide⟩) (hG 0 _ rfl) rfl rfl rfl rfl (Nat.le_of_ble_eq_true rfl) dX13_soonest_21 (fun _ h => h.elim) (fun r H1 locs hq hF hS => ?_)
      obtain ⟨rfl, rfl⟩ := hq
      refine iv (y := nI (rbF (V 30) (xN t))) (by rw [(funext (fun j => hE1 30 j rfl))]) ?_
      refine lv_iload_n hx hb dX13_soonest_24 rfl (lv_at hl 0 rfl) ?_
      refine c_VI hx hb hml hts hown hK hl.1 hS ⟨Nat.le_refl _, Nat.le_refl _⟩ (met_X13_rowAfter l D dA hG (txM_PW hE1 hX) (rbF (V 30) (xN t)) q (rb9 hT2) (by omega)) (cw_X13_389 hts ⟨by decide, by decide⟩) (hG 0 _ rfl) rfl rfl rfl rfl (Nat.le_of_ble_eq_true rfl) dX13_soonest_25 (fun _ h => h) (fun r H1 locs hq hF hS => ?_)
      obtain ⟨V2, hG, hE2, hr2⟩ := hq
      generalize hHe2 : H1 = H at hG hS ⊢
      clear hHe2
      have hr2 : r = nI (raF t (V 30) (rbF (V 30) (xN t)) q) := hr2.trans (congrArg (fun z => nI (raF t z (rbF (V 30) (xN t)) q)) ((funext (fun j => hE1 30 j rfl))))
      subst hr2
      have hra25 := raF_lt t (V 30) (rbF (V 30) (xN t)) q
      refine lv_aload_n hx hb dX13_soonest_28 rfl (lv_at hl 1 rfl) ?_
      refine c_VI hx hb hml hts hown hK hl.1 hS ⟨Nat.le_refl _, Nat.le_refl _⟩ (met_X13_allBits l D dA hG (tM_to hT ((hE2 0 18 rfl).trans (hE1 0 18 rfl)) ((hE2 9 lv rfl).trans (hE1 9 lv rfl)))) (cw_X13_312 hts ⟨by decide, by decide⟩) (hG 0 _ rfl) rfl rfl rfl rfl (Nat.le_of_ble_eq_true rfl) dX13_soonest_29 (fun _ h => h.elim) (fun r H1 locs hq hF hS => ?_)
      obtain ⟨rfl, rfl⟩ := hq
      refine n_icmp_ne (tgt := 46) hx hb dX13_soonest_32 (by decide) (by omega) (by omega) (fun c32 => ?_) (fun c32 => ?_)
      · refine lv_iconst (v := (nI 0)) hx hb dX13_soonest_46 (by decide) ?_
        refine lv_istore_n (lv' := [(3, .int (nI 0)), (2, .int (nI q)), (0, .ref o), (1, .int (nI x1))]) hx hb dX13_soonest_47 rfl hl (by decide) rfl (fun ls hl => ?_)
        have loop3 : ∀ (fu3 : Nat) (b : Nat) (V3 : GI) (H : Heap) (locs : List Loc) (ls : Array Slot), xN t - b < fu3 → (b ≤ xN t) → (fdF (fun b => decide (raF t (V 30) (rbF (V 30) (xN t) ^^^ 1 * 2 ^ b) q = 2 ^ xN t - 1)) b = none) → (Eqx PW V2 V3) → gP D dA o dM V3 L Rf H → va_S (AM o) H0 H locs → lv_has ls 4 [(3, .int (nI b)), (2, .int (nI q)), (0, .ref o), (1, .int (nI x1))] → W p l e (mkRm 8 172) s m args below meth c H locs 0 0 QQ (F0 m 48 ls []) := by
          intro fu3
          induction fu3 with
          | zero => intro b V3 H locs ls hfu; exact absurd hfu (Nat.not_lt_zero _)
          | succ fu3 ih3 =>
            intro b V3 H locs ls hfu hbn hf hE3 hG hS hl
            refine lv_iload_n hx hb dX13_soonest_48 rfl (lv_at hl 0 rfl) ?_
            refine lv_aload_n hx hb dX13_soonest_49 rfl (lv_at hl 2 rfl) ?_
            refine c_VI hx hb hml hts hown hK hl.1 hS ⟨Nat.le_refl _, Nat.le_refl _⟩ (met_X13_many l D dA hG (tM_to hT ((hE3 0 18 rfl).trans ((hE2 0 18 rfl).trans (hE1 0 18 rfl))) ((hE3 9 lv rfl).trans ((hE2 9 lv rfl).trans (hE1 9 lv rfl))))) (cw_X13_304 hts ⟨by decide, by decide⟩) (hG 0 _ rfl) rfl rfl rfl rfl (Nat.le_of_ble_eq_true rfl) dX13_soonest_50 (fun _ h => h.elim) (fun r H1 locs hq hF hS => ?_)
            obtain ⟨rfl, rfl⟩ := hq
            refine n_icmp_ge (tgt := 92) hx hb dX13_soonest_53 (by decide) (by omega) (by omega) (fun c53 => ?_) (fun c53 => ?_)
            · obtain rfl : b = xN t := by omega
              refine lv_iinc (v := (nI (q + 1))) (lv' := [(2, .int (nI (q + 1))), (3, .int (nI (xN t))), (0, .ref o), (1, .int (nI x1))]) hx hb dX13_soonest_92 hl (k := 1) rfl (nI_add _ _) (by decide) rfl (fun ls hl => ?_)
              refine lv_goto (tgt := 13) hx hb dX13_soonest_95 (by decide) ?_
              exact ih1 (q + 1) k V3 _ _ _ (by omega) (by omega) ((soF_n (snF_n c32 (show fdF (fun b => decide (raF t (V 30) (rbF (V 30) (xN t) ^^^ 1 * 2 ^ b) q = 2 ^ xN t - 1)) (xN t) = none from hf))).symm.trans hR) (Eqx.trans (Eqx.trans hE1 hE2) hE3) hG hS (lv_sub hl [0, 2, 3] rfl)
            refine lv_aload_n hx hb dX13_soonest_56 rfl (lv_at hl 2 rfl) ?_
            refine lv_aload_n hx hb dX13_soonest_57 rfl (lv_at hl 2 rfl) ?_
            refine c_VI hx hb hml hts hown hK hl.1 hS ⟨Nat.le_refl _, Nat.le_refl _⟩ (met_X13_rowNow l D dA hG (txM_PW ((hE1.trans hE2).trans hE3) hX) (by rw [((funext (fun j => hE3 30 j rfl)).trans ((funext (fun j => hE2 30 j rfl)).trans (funext (fun j => hE1 30 j rfl))))]; exact hrv)) (cw_X13_401 hts ⟨by decide, by decide⟩) (hG 0 _ rfl) rfl rfl rfl rfl (Nat.le_of_ble_eq_true rfl) dX13_soonest_58 (fun _ h => h.elim) (fun r H1 locs hq hF hS => ?_)
            obtain ⟨rfl, rfl⟩ := hq
            refine iv (y := nI (rbF (V 30) (xN t))) (by rw [((funext (fun j => hE3 30 j rfl)).trans ((funext (fun j => hE2 30 j rfl)).trans (funext (fun j => hE1 30 j rfl))))]) ?_
            refine lv_iconst (v := (nI 1)) hx hb dX13_soonest_61 (by decide) ?_
            refine lv_iload_n hx hb dX13_soonest_62 rfl (lv_at hl 0 rfl) ?_
            refine n_ishl hx hb dX13_soonest_63 (by omega) ?_
            refine n_ixor hx hb dX13_soonest_64 ?_
            refine lv_iload_n hx hb dX13_soonest_65 rfl (lv_at hl 1 rfl) ?_
            refine c_VI hx hb hml hts hown hK hl.1 hS ⟨Nat.le_refl _, Nat.le_refl _⟩ (met_X13_rowAfter l D dA hG (txM_PW ((hE1.trans hE2).trans hE3) hX) ((rbF (V 30) (xN t)) ^^^ (1 * 2 ^ b)) q (x9 (rb9 hT2) (p9 (by omega) hT2)) (by omega)) (cw_X13_389 hts ⟨by decide, by decide⟩) (hG 0 _ rfl) rfl rfl rfl rfl (Nat.le_of_ble_eq_true rfl) dX13_soonest_66 (fun _ h => h) (fun r H1 locs hq hF hS => ?_)
            obtain ⟨V4, hG, hE4, hr4⟩ := hq
            generalize hHe4 : H1 = H at hG hS ⊢
            clear hHe4
            have hr4 : r = nI (raF t (V 30) ((rbF (V 30) (xN t)) ^^^ (1 * 2 ^ b)) q) := hr4.trans (congrArg (fun z => nI (raF t z ((rbF (V 30) (xN t)) ^^^ (1 * 2 ^ b)) q)) (((funext (fun j => hE3 30 j rfl)).trans ((funext (fun j => hE2 30 j rfl)).trans (funext (fun j => hE1 30 j rfl))))))
            subst hr4
            have hra66 := raF_lt t (V 30) ((rbF (V 30) (xN t)) ^^^ (1 * 2 ^ b)) q
            refine lv_aload_n hx hb dX13_soonest_69 rfl (lv_at hl 2 rfl) ?_
            refine c_VI hx hb hml hts hown hK hl.1 hS ⟨Nat.le_refl _, Nat.le_refl _⟩ (met_X13_allBits l D dA hG (tM_to hT ((hE4 0 18 rfl).trans ((hE3 0 18 rfl).trans ((hE2 0 18 rfl).trans (hE1 0 18 rfl)))) ((hE4 9 lv rfl).trans ((hE3 9 lv rfl).trans ((hE2 9 lv rfl).trans (hE1 9 lv rfl)))))) (cw_X13_312 hts ⟨by decide, by decide⟩) (hG 0 _ rfl) rfl rfl rfl rfl (Nat.le_of_ble_eq_true rfl) dX13_soonest_70 (fun _ h => h.elim) (fun r H1 locs hq hF hS => ?_)
            obtain ⟨rfl, rfl⟩ := hq
            refine n_icmp_ne (tgt := 86) hx hb dX13_soonest_73 (by decide) (by omega) (by omega) (fun c73 => ?_) (fun c73 => ?_)
            · refine lv_iinc (v := (nI (b + 1))) (lv' := [(3, .int (nI (b + 1))), (2, .int (nI q)), (0, .ref o), (1, .int (nI x1))]) hx hb dX13_soonest_86 hl (k := 0) rfl (nI_add _ _) (by decide) rfl (fun ls hl => ?_)
              refine lv_goto (tgt := 48) hx hb dX13_soonest_89 (by decide) ?_
              exact ih3 (b + 1) V4 _ _ _ (by omega) (by omega) (fdF_k hf (decide_eq_false c73)) (Eqx.trans hE3 hE4) hG hS (lv_sub hl [0, 1, 2, 3] rfl)
            refine lv_iload_n hx hb dX13_soonest_76 rfl (lv_at hl 3 rfl) ?_
            refine n_if_ne (tgt := 84) hx hb dX13_soonest_77 (by decide) (by omega) (fun c77 => ?_) (fun c77 => ?_)
            · refine lv_iload_n hx hb dX13_soonest_84 rfl (lv_at hl 0 rfl) ?_
              refine hend _ _ _ _ _ hS dX13_soonest_85 ?_
              exact ⟨_, rfl, _, hG, (((hE1.trans hE2).trans hE3).trans hE4), ((rng_in hlo_x1 hhi_x1 (by omega)).trans ((hR.symm.trans ((soF_s (snF_b c32 c53 hf c73)).trans (if_neg (by omega)))))).symm⟩
            refine lv_iload_n hx hb dX13_soonest_80 rfl (lv_at hl 1 rfl) ?_
            refine lv_goto (tgt := 85) hx hb dX13_soonest_81 (by decide) ?_
            refine hend _ _ _ _ _ hS dX13_soonest_85 ?_
            exact ⟨_, rfl, _, hG, (((hE1.trans hE2).trans hE3).trans hE4), ((rng_in hlo_x1 hhi_x1 (by omega)).trans ((hR.symm.trans ((soF_s (snF_b c32 c53 hf c73)).trans (if_pos c77))))).symm⟩
        exact loop3 ((xN t - 0) + 1) 0 V2 _ _ _ (Nat.lt_succ_self _) (by omega) rfl Eqx.rf hG hS (lv_sub hl [0, 1, 2, 3] rfl)
      refine lv_iload_n hx hb dX13_soonest_35 rfl (lv_at hl 2 rfl) ?_
      refine n_if_ne (tgt := 43) hx hb dX13_soonest_36 (by decide) (by omega) (fun c36 => ?_) (fun c36 => ?_)
      · refine lv_bipush (v := (-3)) hx hb dX13_soonest_43 (by decide) ?_
        refine hend _ _ _ _ _ hS dX13_soonest_45 ?_
        exact ⟨_, rfl, _, hG, (hE1.trans hE2), ((rng_in hlo_x1 hhi_x1 (by omega)).trans ((hR.symm.trans ((soF_s (snF_a c32)).trans (if_neg (by omega)))))).symm⟩
      refine lv_iload_n hx hb dX13_soonest_39 rfl (lv_at hl 0 rfl) ?_
      refine lv_goto (tgt := 45) hx hb dX13_soonest_40 (by decide) ?_
      refine hend _ _ _ _ _ hS dX13_soonest_45 ?_
      exact ⟨_, rfl, _, hG, (hE1.trans hE2), ((rng_in hlo_x1 hhi_x1 (by omega)).trans ((hR.symm.trans ((soF_s (snF_a c32)).trans (if_pos c36))))).symm⟩
  exact loop1 (25 + 1) 0 25 V _ _ _ (Nat.lt_succ_self _) rfl rfl Eqx.rf hG hS (lv_sub hl [0, 1, 2] rfl)
