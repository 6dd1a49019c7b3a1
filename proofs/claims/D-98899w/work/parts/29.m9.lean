def PK (k _ : Nat) : Bool := k == 37
def PB (k j : Nat) : Bool := k == 28 || k == 29 || k == 31 || k == 32 || k == 33 || k == 37 || (k == 0 && (j == 46 || j == 49 || j == 50))
theorem PL_PB : ∀ k j, PB k j = false → PL k j = false := by intro k j h; simp only [PL, PB, Bool.or_eq_false_iff, Bool.and_eq_false_iff, beq_eq_false_iff_ne, ne_eq] at *; omega
theorem PT_PB : ∀ k j, PB k j = false → PT k j = false := by intro k j h; simp only [PT, PB, Bool.or_eq_false_iff, Bool.and_eq_false_iff, beq_eq_false_iff_ne, ne_eq] at *; omega
theorem PE_PB : ∀ k j, PB k j = false → PE k j = false := by intro k j h; simp only [PE, PB, Bool.or_eq_false_iff, Bool.and_eq_false_iff, beq_eq_false_iff_ne, ne_eq] at *; omega
theorem PR_PB : ∀ k j, PB k j = false → PR k j = false := by intro k j h; simp only [PR, PB, Bool.or_eq_false_iff, Bool.and_eq_false_iff, beq_eq_false_iff_ne, ne_eq] at *; omega
theorem PC_PB : ∀ k j, PB k j = false → PC k j = false := by intro k j h; simp only [PC, PB, Bool.or_eq_false_iff, Bool.and_eq_false_iff, beq_eq_false_iff_ne, ne_eq] at *; omega
theorem PH_PB : ∀ k j, PB k j = false → PH k j = false := by intro k j h; simp only [PH, PB, Bool.or_eq_false_iff, Bool.and_eq_false_iff, beq_eq_false_iff_ne, ne_eq] at *; omega
theorem PW_PB : ∀ k j, PB k j = false → PW k j = false := by intro k j h; simp only [PW, PB, Bool.or_eq_false_iff, Bool.and_eq_false_iff, beq_eq_false_iff_ne, ne_eq] at *; omega
theorem PK_PB : ∀ k j, PB k j = false → PK k j = false := by intro k j h; simp only [PK, PB, Bool.or_eq_false_iff, Bool.and_eq_false_iff, beq_eq_false_iff_ne, ne_eq] at *; omega
theorem isT_PK : ∀ k j, isT k j = true → PK k j = false := by
  intro k j h
  simp only [isT, PK, Bool.or_eq_true, Bool.and_eq_true, decide_eq_true_eq, beq_iff_eq, Bool.or_eq_false_iff, Bool.and_eq_false_iff, beq_eq_false_iff_ne, ne_eq] at *
  omega
theorem txM_PK {V V1 : GI} {lv : Nat} {t : Txt} (h : Eqx PK V V1) (hX : txM V lv t) : txM V1 lv t := txM_to (fun k j q => h k j (isT_PK k j q)) hX
theorem isT_PB : ∀ k j, isT k j = true → PB k j = false := by
  intro k j h
  simp only [isT, PB, Bool.or_eq_true, Bool.and_eq_true, decide_eq_true_eq, beq_iff_eq, Bool.or_eq_false_iff, Bool.and_eq_false_iff, beq_eq_false_iff_ne, ne_eq] at *
  omega
theorem txM_PB {V V1 : GI} {lv : Nat} {t : Txt} (h : Eqx PB V V1) (hX : txM V lv t) : txM V1 lv t := txM_to (fun k j q => h k j (isT_PB k j q)) hX
/-- the least behind hours, one whistled over who isn't guarded -/
def leftG (t : Txt) (f : Nat → Int32) (q b : Nat) : Nat := lfF t f q (rbF f (xN t) ^^^ 1 * 2 ^ b)
/-- the first bed of the least that isn't guarded -/
def wbF (g : Nat → Nat) (gd : Int32) : Nat → Option Nat
  | 0 => none
  | b + 1 => if nI b = gd then wbF g gd b else match wbF g gd b with
    | none => some b
    | some i => if g b < g i then some b else some i
def o1 (d : Int32) : Option Nat → Int32
  | none => d
  | some i => nI i
theorem wbF_lt {g : Nat → Nat} {gd : Int32} : ∀ {b i : Nat}, wbF g gd b = some i → i < b
  | b + 1, i, h => by
    simp only [wbF] at h
    split at h
    · have := wbF_lt h; omega
    · split at h
      · cases h; omega
      · next j hj =>
        have := wbF_lt hj
        split at h <;> cases h <;> omega
theorem wbF_g {g : Nat → Nat} {gd : Int32} {b : Nat} (h : nI b = gd) : wbF g gd (b + 1) = wbF g gd b := by simp only [wbF]; rw [if_pos h]
theorem wbF_n {g : Nat → Nat} {gd : Int32} {b : Nat} (h : ¬ nI b = gd) (hp : wbF g gd b = none) : wbF g gd (b + 1) = some b := by simp only [wbF, hp]; rw [if_neg h]
theorem wbF_t {g : Nat → Nat} {gd : Int32} {b i : Nat} (h : ¬ nI b = gd) (hp : wbF g gd b = some i) (hv : g b < g i) : wbF g gd (b + 1) = some b := by simp only [wbF, hp]; rw [if_neg h, if_pos hv]
theorem wbF_f {g : Nat → Nat} {gd : Int32} {b i : Nat} (h : ¬ nI b = gd) (hp : wbF g gd b = some i) (hv : g i ≤ g b) : wbF g gd (b + 1) = some i := by simp only [wbF, hp]; rw [if_neg h, if_neg (Nat.not_lt.mpr hv)]
def worstA (t : Txt) (f : Nat → Int32) (q w : Int32) : Int32 := rng q 0 25 (fun q => rng w 0 2 (fun w => if xN t = 0 then -2 else if w = 0 then o1 (-1) (wbF (leftG t f q) (-1) (xN t)) else match wbF (leftG t f q) (-1) (xN t) with | none => -1 | some i => nI (leftG t f q i)) (-1)) (-1)
/-- how many lie left at the worst, one guarded -/
def wgF (t : Txt) (f : Nat → Int32) (q g : Nat) : Nat := match wbF (leftG t f q) (nI g) (xN t) with
  | none => lfF t f q (rbF f (xN t))
  | some i => leftG t f q i
def sentryA (t : Txt) (f : Nat → Int32) (q w : Int32) : Int32 := rng q 0 25 (fun q => rng w 0 2 (fun w => if xN t = 0 then -2 else if w = 0 then oI 0 (mxF (wgF t f q) (xN t)) else oV (-1) (mxF (wgF t f q) (xN t))) (-1)) (-1)
theorem wgF_le (t : Txt) (f : Nat → Int32) (q g : Nat) : wgF t f q g ≤ 9 := by unfold wgF; split; exact bc9 _; exact bc9 _
/-- who, turned now, is enough behind so many hours -/
def fdF (P : Nat → Bool) : Nat → Option Nat
  | 0 => none
  | b + 1 => match fdF P b with
    | some i => some i
    | none => if P b = true then some b else none
theorem fdF_k {P : Nat → Bool} {b : Nat} (h : fdF P b = none) (hb : P b = false) : fdF P (b + 1) = none := by simp only [fdF, h, hb]; rfl
theorem fdF_t {P : Nat → Bool} {b : Nat} (h : fdF P b = none) (hb : P b = true) : ∀ n, b + 1 ≤ n → fdF P n = some b := by
  intro n hn
  induction n with
  | zero => omega
  | succ n ih =>
    by_cases e : b + 1 ≤ n
    · simp only [fdF, ih e]
    · obtain rfl : b = n := by omega
      simp only [fdF, h, hb]; rfl
def oneF (t : Txt) (f : Nat → Int32) (q : Nat) : Option Nat := fdF (fun b => decide (raF t f (rbF f (xN t) ^^^ 1 * 2 ^ b) q = 2 ^ xN t - 1)) (xN t)
def allF (t : Txt) (f : Nat → Int32) (q : Nat) : Bool := decide (raF t f (rbF f (xN t)) q = 2 ^ xN t - 1)
/-- of q hours: nobody need be, one, nothing yet -/
def snF (t : Txt) (f : Nat → Int32) (w q : Nat) : Option Int32 := if allF t f q = true then some (if w = 0 then nI q else -3) else match oneF t f q with
  | some b => some (if w = 0 then nI q else nI b)
  | none => none
def soF (t : Txt) (f : Nat → Int32) (w : Nat) : Nat → Nat → Int32
  | 0, _ => -2
  | k + 1, q => match snF t f w q with
    | some r => r
    | none => soF t f w k (q + 1)
def soonestA (t : Txt) (f : Nat → Int32) (w : Int32) : Int32 := rng w 0 2 (fun w => soF t f w 25 0) (-1)
theorem cw_X13_416 {R : Room} {s : State} {args : Array Value} (hts : ∀ w ∈ lw_all, w.before args s = true) {f w k j : Nat} (hR : f + 1 ≤ R.frames ∧ 8 + (6 + 11) + w ≤ R.locals) : CallW R s args RX13 RX13 416 yX13_mostWith cX13_mostWith 6 (some .int) (ws_ yX13_mostWith cX13_mostWith 6 (some .int)) (mkRmC f w k j) k j 2 := cwV 2 hts (lw_V q1982 q1984 qs100 q129 q1985) rfl rfl rfl (by decide +kernel) hR
set_option maxHeartbeats 4000000 in
theorem met_X13_duel (l : Launch) (D : va_G) (dA : Nat → ClassId) {o : Nat} {V : GI} {L : GL} {Rf : GR} {H0 : Heap} (hG : gP D dA o dM V L Rf H0) {lv : Nat} {t : Txt} (hX : txM V lv t) (hrv : RV (xN t) (V 30)) (v1 v2 : Int32) : Ctr l D dA yX13_duel cX13_duel 7 (some .int) (mkRm 9 197) [.ref o, .int v1, .int v2] H0 (AM o) (QI (fun r H1 => ∃ V1, gP D dA o dM V1 L Rf H1 ∧ Eqx PW V V1 ∧ r = duelA t (V 30) v1 v2)) := by
  have hT := hX.1
  have hT1 := hT.1
  have hT2 := hT.2.1
  have hp2 := two9 hT2
  have hpp := Nat.two_pow_pos (xN t)
  refine ctr_I (by decide) (Nat.le_of_ble_eq_true rfl) ?_
  intro p e s m args below meth c ls QQ locs hx hb hml hown hts hK hend hS hl
  have hl : lv_has ls 7 [(0, .ref o), (1, .int v1), (2, .int v2)] := hl
  refine lv_iload_n hx hb dX13_duel_0 rfl (lv_at hl 1 rfl) ?_
  refine c_SI hx hb hml hts hown hK hl.1 hS ⟨Nat.le_refl _, Nat.le_refl _⟩ (met_X13_isShort l D dA v1) (cw_X13_404 hts ⟨by decide, by decide⟩) rfl rfl (Nat.le_of_ble_eq_true rfl) dX13_duel_1 (fun _ h => h.elim) (fun r H1 locs hq hF hS => ?_)
  obtain ⟨rfl, rfl⟩ := hq
  rcases (inZ_cases v1 0 24 (by decide) (by decide)).symm with ⟨hz1, ho1⟩ | ⟨x1, hlo_x1, hhi_x1, rfl, hz1⟩
  · refine iv (y := nI 0) hz1 ?_
    refine n_if_eq (tgt := 16) hx hb dX13_duel_4 (by decide) (by decide) (fun _ => ?_) (fun z => absurd z (by decide))
    refine lv_iconst (v := (-1)) hx hb dX13_duel_16 (by decide) ?_
    refine hend _ _ _ _ _ hS dX13_duel_17 ?_
    exact ⟨_, rfl, _, hG, Eqx.rf, ((ho1.1 _ _)).symm⟩
  refine iv (y := nI 1) hz1 ?_
  have hl : lv_has ls 7 [(0, .ref o), (1, .int (nI x1)), (2, .int v2)] := hl
  refine n_if_eq (tgt := 16) hx hb dX13_duel_4 (by decide) (by decide) (fun z => absurd z (by decide)) (fun _ => ?_)
  refine lv_iload_n hx hb dX13_duel_7 rfl (lv_at hl 2 rfl) ?_
  refine lv_iconst (v := (nI 0)) hx hb dX13_duel_8 (by decide) ?_
  refine lv_iconst (v := (nI 1)) hx hb dX13_duel_9 (by decide) ?_
  refine c_SI hx hb hml hts hown hK hl.1 hS ⟨Nat.le_refl _, Nat.le_refl _⟩ (met_X13_in l D dA v2 (nI 0) (nI 1)) (cw_X13_308 hts ⟨by decide, by decide⟩) rfl rfl (Nat.le_of_ble_eq_true rfl) dX13_duel_10 (fun _ h => h.elim) (fun r H1 locs hq hF hS => ?_)
  obtain ⟨rfl, rfl⟩ := hq
  rcases (inZ_cases v2 0 1 (by decide) (by decide)).symm with ⟨hz10, ho10⟩ | ⟨x2, hlo_x2, hhi_x2, rfl, hz10⟩
  · refine iv (y := nI 0) hz10 ?_
    refine n_if_ne (tgt := 18) hx hb dX13_duel_13 (by decide) (by decide) (fun z => absurd z (by decide)) (fun _ => ?_)
    refine lv_iconst (v := (-1)) hx hb dX13_duel_16 (by decide) ?_
    refine hend _ _ _ _ _ hS dX13_duel_17 ?_
    exact ⟨_, rfl, _, hG, Eqx.rf, ((rng_in hlo_x1 hhi_x1 (by omega)).trans ((ho10.1 _ _))).symm⟩
  refine iv (y := nI 1) hz10 ?_
  have hl : lv_has ls 7 [(0, .ref o), (1, .int (nI x1)), (2, .int (nI x2))] := hl
  refine n_if_ne (tgt := 18) hx hb dX13_duel_13 (by decide) (by decide) (fun _ => ?_) (fun z => absurd z (by decide))
  refine lv_bipush (v := (-2)) hx hb dX13_duel_18 (by decide) ?_
  refine lv_istore_n (lv' := [(3, .int (-2)), (0, .ref o), (1, .int (nI x1)), (2, .int (nI x2))]) hx hb dX13_duel_20 rfl hl (by decide) rfl (fun ls hl => ?_)
  refine lv_bipush (v := (-2)) hx hb dX13_duel_21 (by decide) ?_
  refine lv_istore (lv' := [(4, .int (-2)), (3, .int (-2)), (0, .ref o), (1, .int (nI x1)), (2, .int (nI x2))]) hx hb dX13_duel_23 hl (by decide) rfl (fun ls hl => ?_)
  refine lv_iconst (v := (nI 0)) hx hb dX13_duel_25 (by decide) ?_
  refine lv_istore (lv' := [(5, .int (nI 0)), (4, .int (-2)), (3, .int (-2)), (0, .ref o), (1, .int (nI x1)), (2, .int (nI x2))]) hx hb dX13_duel_26 hl (by decide) rfl (fun ls hl => ?_)
  have loop1 : ∀ (fu1 : Nat) (b : Nat) (op : Option (Nat × Nat)) (V1 : GI) (H : Heap) (locs : List Loc) (ls : Array Slot), xN t - b < fu1 → (b ≤ xN t) → (mnF (fun b => mwF (lfF t (V 30) x1) (rbF (V 30) (xN t) ^^^ 1 * 2 ^ b) (xN t)) b = op) → (Eqx PW V V1) → gP D dA o dM V1 L Rf H → va_S (AM o) H0 H locs → lv_has ls 7 [(5, .int (nI b)), (4, .int (oV (-2) op)), (3, .int (oI (-2) op)), (0, .ref o), (1, .int (nI x1)), (2, .int (nI x2))] → W p l e (mkRm 9 197) s m args below meth c H locs 0 0 QQ (F0 m 28 ls []) := by
    intro fu1
    induction fu1 with
    | zero => intro b op V1 H locs ls hfu; exact absurd hfu (Nat.not_lt_zero _)
    | succ fu1 ih1 =>
      intro b op V1 H locs ls hfu hbn hp hE1 hG hS hl
      refine lv_iload hx hb dX13_duel_28 (lv_at hl 0 rfl) ?_
      refine lv_aload_n hx hb dX13_duel_30 rfl (lv_at hl 3 rfl) ?_
      refine c_VI hx hb hml hts hown hK hl.1 hS ⟨Nat.le_refl _, Nat.le_refl _⟩ (met_X13_many l D dA hG (tM_to hT (hE1 0 18 rfl) (hE1 9 lv rfl))) (cw_X13_304 hts ⟨by decide, by decide⟩) (hG 0 _ rfl) rfl rfl rfl rfl (Nat.le_of_ble_eq_true rfl) dX13_duel_31 (fun _ h => h.elim) (fun r H1 locs hq hF hS => ?_)
      obtain ⟨rfl, rfl⟩ := hq
      refine n_icmp_ge (tgt := 80) hx hb dX13_duel_34 (by decide) (by omega) (by omega) (fun c34 => ?_) (fun c34 => ?_)
      · obtain rfl : b = xN t := by omega
        refine lv_iload_n hx hb dX13_duel_80 rfl (lv_at hl 5 rfl) ?_
        refine n_if_ne (tgt := 89) hx hb dX13_duel_81 (by decide) (by omega) (fun c81 => ?_) (fun c81 => ?_)
        · refine lv_iload_n hx hb dX13_duel_89 rfl (lv_at hl 2 rfl) ?_
          refine hend _ _ _ _ _ hS dX13_duel_90 ?_
          exact ⟨_, rfl, _, hG, hE1, ((rng_in hlo_x1 hhi_x1 (by omega)).trans ((rng_in hlo_x2 hhi_x2 (by omega)).trans (((if_neg (by omega)).trans (congrArg (oI (-2)) hp))))).symm⟩
        refine lv_iload hx hb dX13_duel_84 (lv_at hl 1 rfl) ?_
        refine lv_goto (tgt := 90) hx hb dX13_duel_86 (by decide) ?_
        refine hend _ _ _ _ _ hS dX13_duel_90 ?_
        exact ⟨_, rfl, _, hG, hE1, ((rng_in hlo_x1 hhi_x1 (by omega)).trans ((rng_in hlo_x2 hhi_x2 (by omega)).trans (((if_pos c81).trans (congrArg (oV (-2)) hp))))).symm⟩
      rcases op with _ | ⟨i, v⟩
      · have hl : lv_has ls 7 [(5, .int (nI b)), (4, .int (-2)), (3, .int (-2)), (0, .ref o), (1, .int (nI x1)), (2, .int (nI x2))] := hl
        refine lv_aload_n hx hb dX13_duel_37 rfl (lv_at hl 3 rfl) ?_
        refine lv_aload_n hx hb dX13_duel_38 rfl (lv_at hl 3 rfl) ?_
        refine c_VI hx hb hml hts hown hK hl.1 hS ⟨Nat.le_refl _, Nat.le_refl _⟩ (met_X13_rowNow l D dA hG (txM_PW hE1 hX) (by rw [(funext (fun j => hE1 30 j rfl))]; exact hrv)) (cw_X13_401 hts ⟨by decide, by decide⟩) (hG 0 _ rfl) rfl rfl rfl rfl (Nat.le_of_ble_eq_true rfl) dX13_duel_39 (fun _ h => h.elim) (fun r H1 locs hq hF hS => ?_)
        obtain ⟨rfl, rfl⟩ := hq
        refine iv (y := nI (rbF (V 30) (xN t))) (by rw [(funext (fun j => hE1 30 j rfl))]) ?_
        refine lv_iconst (v := (nI 1)) hx hb dX13_duel_42 (by decide) ?_
        refine lv_iload hx hb dX13_duel_43 (lv_at hl 0 rfl) ?_
        refine n_ishl hx hb dX13_duel_45 (by omega) ?_
        refine n_ixor hx hb dX13_duel_46 ?_
        refine lv_iload_n hx hb dX13_duel_47 rfl (lv_at hl 4 rfl) ?_
        refine c_VI hx hb hml hts hown hK hl.1 hS ⟨Nat.le_refl _, Nat.le_refl _⟩ (met_X13_mostWith l D dA hG (txM_PW hE1 hX) ((rbF (V 30) (xN t)) ^^^ (1 * 2 ^ b)) x1 (x9 (rb9 hT2) (p9 (by omega) hT2)) (by omega)) (cw_X13_416 hts ⟨by decide, by decide⟩) (hG 0 _ rfl) rfl rfl rfl rfl (Nat.le_of_ble_eq_true rfl) dX13_duel_48 (fun _ h => h) (fun r H1 locs hq hF hS => ?_)
        obtain ⟨V2, hG, hE2, hr2⟩ := hq
        generalize hHe2 : H1 = H at hG hS ⊢
        clear hHe2
        have hr2 : r = nI (mwF (lfF t (V 30) x1) ((rbF (V 30) (xN t)) ^^^ (1 * 2 ^ b)) (xN t)) := hr2.trans (congrArg (fun z => nI (mwF (lfF t z x1) ((rbF (V 30) (xN t)) ^^^ (1 * 2 ^ b)) (xN t))) ((funext (fun j => hE1 30 j rfl))))
        subst hr2
        have hmw48 : mwF (lfF t (V 30) x1) ((rbF (V 30) (xN t)) ^^^ (1 * 2 ^ b)) (xN t) ≤ 9 := mwF_le (fun _ => bc9 _) _
        refine lv_istore (lv' := [(6, .int (nI (mwF (lfF t (V 30) x1) ((rbF (V 30) (xN t)) ^^^ (1 * 2 ^ b)) (xN t)))), (5, .int (nI b)), (4, .int (-2)), (3, .int (-2)), (0, .ref o), (1, .int (nI x1)), (2, .int (nI x2))]) hx hb dX13_duel_51 hl (by decide) rfl (fun ls hl => ?_)
        refine lv_iload_n hx hb dX13_duel_53 rfl (lv_at hl 3 rfl) ?_
        refine lv_if_lt (tgt := 67) hx hb dX13_duel_54 (by decide) (fun _ => ?_) (fun z => absurd (by decide) z)
        refine lv_iload hx hb dX13_duel_67 (lv_at hl 1 rfl) ?_
        refine lv_istore_n (lv' := [(3, .int (nI b)), (6, .int (nI (mwF (lfF t (V 30) x1) ((rbF (V 30) (xN t)) ^^^ (1 * 2 ^ b)) (xN t)))), (5, .int (nI b)), (4, .int (-2)), (0, .ref o), (1, .int (nI x1)), (2, .int (nI x2))]) hx hb dX13_duel_69 rfl hl (by decide) rfl (fun ls hl => ?_)
        refine lv_iload hx hb dX13_duel_70 (lv_at hl 1 rfl) ?_
        refine lv_istore (lv' := [(4, .int (nI (mwF (lfF t (V 30) x1) ((rbF (V 30) (xN t)) ^^^ (1 * 2 ^ b)) (xN t)))), (3, .int (nI b)), (6, .int (nI (mwF (lfF t (V 30) x1) ((rbF (V 30) (xN t)) ^^^ (1 * 2 ^ b)) (xN t)))), (5, .int (nI b)), (0, .ref o), (1, .int (nI x1)), (2, .int (nI x2))]) hx hb dX13_duel_72 hl (by decide) rfl (fun ls hl => ?_)
        refine lv_iinc (v := (nI (b + 1))) (lv' := [(5, .int (nI (b + 1))), (4, .int (nI (mwF (lfF t (V 30) x1) ((rbF (V 30) (xN t)) ^^^ (1 * 2 ^ b)) (xN t)))), (3, .int (nI b)), (6, .int (nI (mwF (lfF t (V 30) x1) ((rbF (V 30) (xN t)) ^^^ (1 * 2 ^ b)) (xN t)))), (0, .ref o), (1, .int (nI x1)), (2, .int (nI x2))]) hx hb dX13_duel_74 hl (k := 3) rfl (nI_add _ _) (by decide) rfl (fun ls hl => ?_)
        refine lv_goto (tgt := 28) hx hb dX13_duel_77 (by decide) ?_
        exact ih1 (b + 1) (some (b, mwF (lfF t (V 30) x1) ((rbF (V 30) (xN t)) ^^^ (1 * 2 ^ b)) (xN t))) V2 _ _ _ (by omega) (by omega) (mnF_n hp) (Eqx.trans hE1 hE2) hG hS (lv_sub hl [0, 1, 2, 4, 5, 6] rfl)
      have hl : lv_has ls 7 [(5, .int (nI b)), (4, .int (nI v)), (3, .int (nI i)), (0, .ref o), (1, .int (nI x1)), (2, .int (nI x2))] := hl
      have hv9 : v ≤ 9 := (mnF_lt hp).2 ▸ mwF_le (fun _ => bc9 _) _
      have hi9 := (mnF_lt hp).1
      refine lv_aload_n hx hb dX13_duel_37 rfl (lv_at hl 3 rfl) ?_
      refine lv_aload_n hx hb dX13_duel_38 rfl (lv_at hl 3 rfl) ?_
      refine c_VI hx hb hml hts hown hK hl.1 hS ⟨Nat.le_refl _, Nat.le_refl _⟩ (met_X13_rowNow l D dA hG (txM_PW hE1 hX) (by rw [(funext (fun j => hE1 30 j rfl))]; exact hrv)) (cw_X13_401 hts ⟨by decide, by decide⟩) (hG 0 _ rfl) rfl rfl rfl rfl (Nat.le_of_ble_eq_true rfl) dX13_duel_39 (fun _ h => h.elim) (fun r H1 locs hq hF hS => ?_)
      obtain ⟨rfl, rfl⟩ := hq
      refine iv (y := nI (rbF (V 30) (xN t))) (by rw [(funext (fun j => hE1 30 j rfl))]) ?_
      refine lv_iconst (v := (nI 1)) hx hb dX13_duel_42 (by decide) ?_
      refine lv_iload hx hb dX13_duel_43 (lv_at hl 0 rfl) ?_
      refine n_ishl hx hb dX13_duel_45 (by omega) ?_
      refine n_ixor hx hb dX13_duel_46 ?_
      refine lv_iload_n hx hb dX13_duel_47 rfl (lv_at hl 4 rfl) ?_
      refine c_VI hx hb hml hts hown hK hl.1 hS ⟨Nat.le_refl _, Nat.le_refl _⟩ (met_X13_mostWith l D dA hG (txM_PW hE1 hX) ((rbF (V 30) (xN t)) ^^^ (1 * 2 ^ b)) x1 (x9 (rb9 hT2) (p9 (by omega) hT2)) (by omega)) (cw_X13_416 hts ⟨by decide, by decide⟩) (hG 0 _ rfl) rfl rfl rfl rfl (Nat.le_of_ble_eq_true rfl) dX13_duel_48 (fun _ h => h) (fun r H1 locs hq hF hS => ?_)
      obtain ⟨V3, hG, hE3, hr3⟩ := hq
      generalize hHe3 : H1 = H at hG hS ⊢
      clear hHe3
      have hr3 : r = nI (mwF (lfF t (V 30) x1) ((rbF (V 30) (xN t)) ^^^ (1 * 2 ^ b)) (xN t)) := hr3.trans (congrArg (fun z => nI (mwF (lfF t z x1) ((rbF (V 30) (xN t)) ^^^ (1 * 2 ^ b)) (xN t))) ((funext (fun j => hE1 30 j rfl))))
      subst hr3
      have hmw48 : mwF (lfF t (V 30) x1) ((rbF (V 30) (xN t)) ^^^ (1 * 2 ^ b)) (xN t) ≤ 9 := mwF_le (fun _ => bc9 _) _
      refine lv_istore (lv' := [(6, .int (nI (mwF (lfF t (V 30) x1) ((rbF (V 30) (xN t)) ^^^ (1 * 2 ^ b)) (xN t)))), (5, .int (nI b)), (4, .int (nI v)), (3, .int (nI i)), (0, .ref o), (1, .int (nI x1)), (2, .int (nI x2))]) hx hb dX13_duel_51 hl (by decide) rfl (fun ls hl => ?_)
      refine lv_iload_n hx hb dX13_duel_53 rfl (lv_at hl 3 rfl) ?_
      refine n_if_lt (tgt := 67) hx hb dX13_duel_54 (by decide) (by omega) ?_
      refine lv_iload hx hb dX13_duel_57 (lv_at hl 0 rfl) ?_
      refine lv_iload hx hb dX13_duel_59 (lv_at hl 2 rfl) ?_
      refine n_icmp_lt (tgt := 67) hx hb dX13_duel_61 (by decide) (by omega) (by omega) (fun c61 => ?_) (fun c61 => ?_)
      · refine lv_iload hx hb dX13_duel_67 (lv_at hl 1 rfl) ?_
        refine lv_istore_n (lv' := [(3, .int (nI b)), (6, .int (nI (mwF (lfF t (V 30) x1) ((rbF (V 30) (xN t)) ^^^ (1 * 2 ^ b)) (xN t)))), (5, .int (nI b)), (4, .int (nI v)), (0, .ref o), (1, .int (nI x1)), (2, .int (nI x2))]) hx hb dX13_duel_69 rfl hl (by decide) rfl (fun ls hl => ?_)
        refine lv_iload hx hb dX13_duel_70 (lv_at hl 1 rfl) ?_
        refine lv_istore (lv' := [(4, .int (nI (mwF (lfF t (V 30) x1) ((rbF (V 30) (xN t)) ^^^ (1 * 2 ^ b)) (xN t)))), (3, .int (nI b)), (6, .int (nI (mwF (lfF t (V 30) x1) ((rbF (V 30) (xN t)) ^^^ (1 * 2 ^ b)) (xN t)))), (5, .int (nI b)), (0, .ref o), (1, .int (nI x1)), (2, .int (nI x2))]) hx hb dX13_duel_72 hl (by decide) rfl (fun ls hl => ?_)
        refine lv_iinc (v := (nI (b + 1))) (lv' := [(5, .int (nI (b + 1))), (4, .int (nI (mwF (lfF t (V 30) x1) ((rbF (V 30) (xN t)) ^^^ (1 * 2 ^ b)) (xN t)))), (3, .int (nI b)), (6, .int (nI (mwF (lfF t (V 30) x1) ((rbF (V 30) (xN t)) ^^^ (1 * 2 ^ b)) (xN t)))), (0, .ref o), (1, .int (nI x1)), (2, .int (nI x2))]) hx hb dX13_duel_74 hl (k := 3) rfl (nI_add _ _) (by decide) rfl (fun ls hl => ?_)
        refine lv_goto (tgt := 28) hx hb dX13_duel_77 (by decide) ?_
        exact ih1 (b + 1) (some (b, mwF (lfF t (V 30) x1) ((rbF (V 30) (xN t)) ^^^ (1 * 2 ^ b)) (xN t))) V3 _ _ _ (by omega) (by omega) (mnF_t hp c61) (Eqx.trans hE1 hE3) hG hS (lv_sub hl [0, 1, 2, 4, 5, 6] rfl)
      refine lv_goto (tgt := 74) hx hb dX13_duel_64 (by decide) ?_
      refine lv_iinc (v := (nI (b + 1))) (lv' := [(5, .int (nI (b + 1))), (6, .int (nI (mwF (lfF t (V 30) x1) ((rbF (V 30) (xN t)) ^^^ (1 * 2 ^ b)) (xN t)))), (4, .int (nI v)), (3, .int (nI i)), (0, .ref o), (1, .int (nI x1)), (2, .int (nI x2))]) hx hb dX13_duel_74 hl (k := 1) rfl (nI_add _ _) (by decide) rfl (fun ls hl => ?_)
      refine lv_goto (tgt := 28) hx hb dX13_duel_77 (by decide) ?_
      exact ih1 (b + 1) (some (i, v)) V3 _ _ _ (by omega) (by omega) (mnF_f hp c61) (Eqx.trans hE1 hE3) hG hS (lv_sub hl [0, 2, 3, 4, 5, 6] rfl)
  exact loop1 ((xN t - 0) + 1) 0 none V _ _ _ (Nat.lt_succ_self _) (by omega) rfl Eqx.rf hG hS (lv_sub hl [0, 1, 2, 3, 4, 5] rfl)
set_option maxHeartbeats 4000000 in
theorem met_X13_fillsLeft (l : Launch) (D : va_G) (dA : Nat → ClassId) {o : Nat} {V : GI} {L : GL} {Rf : GR} {H0 : Heap} (hG : gP D dA o dM V L Rf H0) {lv : Nat} {t : Txt} (hX : txM V lv t) (hrv : RV (xN t) (V 30)) (q : Nat) (hq9 : q < 1000) : Ctr l D dA yX13_fillsLeft cX13_fillsLeft 3 none (mkRm 8 172) [.ref o, .int (nI q)] H0 (AM o) (QV (fun H1 => ∃ V1, gP D dA o dM V1 L Rf H1 ∧ Eqx PB V V1 ∧ ∀ b, b < xN t → V1 37 b = nI (leftG t (V 30) q b))) := by
  have hT := hX.1
  have hT1 := hT.1
  have hT2 := hT.2.1
  refine ctr_V (by decide) (Nat.le_of_ble_eq_true rfl) ?_
  intro p e s m args below meth c ls QQ locs hx hb hml hown hts hK hend hS hl
  have hl : lv_has ls 3 [(0, .ref o), (1, .int (nI q))] := hl
  refine lv_iconst (v := (nI 0)) hx hb dX13_fillsLeft_0 (by decide) ?_
  refine lv_istore_n (lv' := [(2, .int (nI 0)), (0, .ref o), (1, .int (nI q))]) hx hb dX13_fillsLeft_1 rfl hl (by decide) rfl (fun ls hl => ?_)
  have loop1 : ∀ (fu1 : Nat) (b : Nat) (V1 : GI) (H : Heap) (locs : List Loc) (ls : Array Slot), xN t - b < fu1 → (b ≤ xN t) → (Eqx PB V V1) → (∀ j, j < b → V1 37 j = nI (leftG t (V 30) q j)) → gP D dA o dM V1 L Rf H → va_S (AM o) H0 H locs → lv_has ls 3 [(2, .int (nI b)), (0, .ref o), (1, .int (nI q))] → W p l e (mkRm 8 172) s m args below meth c H locs 0 0 QQ (F0 m 2 ls []) := by
    intro fu1
    induction fu1 with
    | zero => intro b V1 H locs ls hfu; exact absurd hfu (Nat.not_lt_zero _)
    | succ fu1 ih1 =>
      intro b V1 H locs ls hfu hbn hE1 hlf hG hS hl
      refine lv_iload_n hx hb dX13_fillsLeft_2 rfl (lv_at hl 0 rfl) ?_
      refine lv_aload_n hx hb dX13_fillsLeft_3 rfl (lv_at hl 1 rfl) ?_
      refine c_VI hx hb hml hts hown hK hl.1 hS ⟨Nat.le_refl _, Nat.le_refl _⟩ (met_X13_many l D dA hG (tM_to hT (hE1 0 18 rfl) (hE1 9 lv rfl))) (cw_X13_304 hts ⟨by decide, by decide⟩) (hG 0 _ rfl) rfl rfl rfl rfl (Nat.le_of_ble_eq_true rfl) dX13_fillsLeft_4 (fun _ h => h.elim) (fun r H1 locs hq hF hS => ?_)
      obtain ⟨rfl, rfl⟩ := hq
      refine n_icmp_ge (tgt := 38) hx hb dX13_fillsLeft_7 (by decide) (by omega) (by omega) (fun c7 => ?_) (fun c7 => ?_)
      · obtain rfl : b = xN t := by omega
        refine hend _ _ _ _ hS dX13_fillsLeft_38 ?_
        exact ⟨rfl, _, hG, hE1, hlf⟩
      refine lv_aload_n hx hb dX13_fillsLeft_10 rfl (lv_at hl 1 rfl) ?_
      refine g_get hx hb hts hown hK hG 0 rfl rfl ok_X13 57 (by decide) q1528 rfl rfl dX13_fillsLeft_11 ?_
      refine lv_iload_n hx hb dX13_fillsLeft_14 rfl (lv_at hl 0 rfl) ?_
      refine lv_aload_n hx hb dX13_fillsLeft_15 rfl (lv_at hl 1 rfl) ?_
      refine lv_aload_n hx hb dX13_fillsLeft_16 rfl (lv_at hl 1 rfl) ?_
      refine c_VI hx hb hml hts hown hK hl.1 hS ⟨Nat.le_refl _, Nat.le_refl _⟩ (met_X13_rowNow l D dA hG (txM_PB hE1 hX) (by rw [(funext (fun j => hE1 30 j rfl))]; exact hrv)) (cw_X13_401 hts ⟨by decide, by decide⟩) (hG 0 _ rfl) rfl rfl rfl rfl (Nat.le_of_ble_eq_true rfl) dX13_fillsLeft_17 (fun _ h => h.elim) (fun r H1 locs hq hF hS => ?_)
      obtain ⟨rfl, rfl⟩ := hq
      refine iv (y := nI (rbF (V 30) (xN t))) (by rw [(funext (fun j => hE1 30 j rfl))]) ?_
      refine lv_iconst (v := (nI 1)) hx hb dX13_fillsLeft_20 (by decide) ?_
      refine lv_iload_n hx hb dX13_fillsLeft_21 rfl (lv_at hl 0 rfl) ?_
      refine n_ishl hx hb dX13_fillsLeft_22 (by omega) ?_
      refine n_ixor hx hb dX13_fillsLeft_23 ?_
      refine lv_iload_n hx hb dX13_fillsLeft_24 rfl (lv_at hl 2 rfl) ?_
      refine c_VI hx hb hml hts hown hK hl.1 hS ⟨Nat.le_refl _, Nat.le_refl _⟩ (met_X13_rowAfter l D dA hG (txM_PB hE1 hX) ((rbF (V 30) (xN t)) ^^^ (1 * 2 ^ b)) q (x9 (rb9 hT2) (p9 (by omega) hT2)) (by omega)) (cw_X13_389 hts ⟨by decide, by decide⟩) (hG 0 _ rfl) rfl rfl rfl rfl (Nat.le_of_ble_eq_true rfl) dX13_fillsLeft_25 (fun _ h => h) (fun r H1 locs hq hF hS => ?_)
      obtain ⟨V2, hG, hE2, hr2⟩ := hq
      generalize hHe2 : H1 = H at hG hS ⊢
      clear hHe2
      have hr2 : r = nI (raF t (V 30) ((rbF (V 30) (xN t)) ^^^ (1 * 2 ^ b)) q) := hr2.trans (congrArg (fun z => nI (raF t z ((rbF (V 30) (xN t)) ^^^ (1 * 2 ^ b)) q)) ((funext (fun j => hE1 30 j rfl))))
      subst hr2
      have hra25 := raF_lt t (V 30) ((rbF (V 30) (xN t)) ^^^ (1 * 2 ^ b)) q
      refine c_SI hx hb hml hts hown hK hl.1 hS ⟨Nat.le_refl _, Nat.le_refl _⟩ (met_X13_bits l D dA (raF t (V 30) ((rbF (V 30) (xN t)) ^^^ (1 * 2 ^ b)) q) (ra9 hT2)) (cw_X13_398 hts ⟨by decide, by decide⟩) rfl rfl (Nat.le_of_ble_eq_true rfl) dX13_fillsLeft_28 (fun _ h => h.elim) (fun r H1 locs hq hF hS => ?_)
      obtain ⟨rfl, rfl⟩ := hq
      have hbc28 := bc9 (raF t (V 30) ((rbF (V 30) (xN t)) ^^^ (1 * 2 ^ b)) q)
      refine n_iast hx hb hK hG hS 37 (AM_in 37 (by decide)) rfl (by omega) (by decide) dX13_fillsLeft_31 (fun H locs hG hO hS => ?_)
      refine lv_iinc (v := (nI (b + 1))) (lv' := [(2, .int (nI (b + 1))), (0, .ref o), (1, .int (nI q))]) hx hb dX13_fillsLeft_32 hl (k := 0) rfl (nI_add _ _) (by decide) rfl (fun ls hl => ?_)
      refine lv_goto (tgt := 2) hx hb dX13_fillsLeft_35 (by decide) ?_
      have hc37_1 : V2 37 = V1 37 := (funext (fun j => hE2 37 j rfl))
      have hc37_2 : (up2 V2 37 b (nI (bc (raF t (V 30) ((rbF (V 30) (xN t)) ^^^ (1 * 2 ^ b)) q)))) 37 = va_up (V1 37) b (nI (bc (raF t (V 30) ((rbF (V 30) (xN t)) ^^^ (1 * 2 ^ b)) q))) := congrArg (fun g => va_up g b (nI (bc (raF t (V 30) ((rbF (V 30) (xN t)) ^^^ (1 * 2 ^ b)) q)))) hc37_1
      have hc37 : (up2 V2 37 b (nI (bc (raF t (V 30) ((rbF (V 30) (xN t)) ^^^ (1 * 2 ^ b)) q)))) 37 = va_up (V1 37) b (nI (bc (raF t (V 30) ((rbF (V 30) (xN t)) ^^^ (1 * 2 ^ b)) q))) := hc37_2
      exact ih1 (b + 1) (up2 V2 37 b (nI (bc (raF t (V 30) ((rbF (V 30) (xN t)) ^^^ (1 * 2 ^ b)) q)))) _ _ _ (by omega) (by omega) (Eqx.up (Eqx.trans hE1 (hE2.mono PW_PB)) rfl) (by rw [hc37]; exact va_step hlf rfl) hG hS (lv_sub hl [0, 1, 2] rfl)
  exact loop1 ((xN t - 0) + 1) 0 V _ _ _ (Nat.lt_succ_self _) (by omega) Eqx.rf (fun j hj => absurd hj (Nat.not_lt_zero _)) hG hS (lv_sub hl [0, 1, 2] rfl)
set_option maxHeartbeats 4000000 in
theorem met_X13_worstBut (l : Launch) (D : va_G) (dA : Nat → ClassId) {o : Nat} {V : GI} {L : GL} {Rf : GR} {H0 : Heap} (hG : gP D dA o dM V L Rf H0) {lv n : Nat} (hT : tM V lv n) (G : Nat → Nat) (hG9 : ∀ b, b < n → V 37 b = nI (G b)) (hG10 : ∀ b, G b ≤ 9) (gd : Int32) : Ctr l D dA yX13_worstBut cX13_worstBut 4 (some .int) (mkRm 1 20) [.ref o, .int gd] H0 A0 (QI (fun r H1 => H0 = H1 ∧ r = o1 (-1) (wbF G gd n))) := by
  have hT1 := hT.1
  have hT2 := hT.2.1
  refine ctr_I (by decide) (Nat.le_of_ble_eq_true rfl) ?_
  intro p e s m args below meth c ls QQ locs hx hb hml hown hts hK hend hS hl
  have hl : lv_has ls 4 [(0, .ref o), (1, .int gd)] := hl
  refine lv_iconst (v := (-1)) hx hb dX13_worstBut_0 (by decide) ?_
  refine lv_istore_n (lv' := [(2, .int (-1)), (0, .ref o), (1, .int gd)]) hx hb dX13_worstBut_1 rfl hl (by decide) rfl (fun ls hl => ?_)
  refine lv_iconst (v := (nI 0)) hx hb dX13_worstBut_2 (by decide) ?_
  refine lv_istore_n (lv' := [(3, .int (nI 0)), (2, .int (-1)), (0, .ref o), (1, .int gd)]) hx hb dX13_worstBut_3 rfl hl (by decide) rfl (fun ls hl => ?_)
  have loop1 : ∀ (fu1 : Nat) (b : Nat) (op : Option Nat) (locs : List Loc) (ls : Array Slot), n - b < fu1 → (b ≤ n) → (wbF G gd b = op) → va_S A0 H0 H0 locs → lv_has ls 4 [(3, .int (nI b)), (2, .int (o1 (-1) op)), (0, .ref o), (1, .int gd)] → W p l e (mkRm 1 20) s m args below meth c H0 locs 0 0 QQ (F0 m 4 ls []) := by
    intro fu1
    induction fu1 with
    | zero => intro b op locs ls hfu; exact absurd hfu (Nat.not_lt_zero _)
    | succ fu1 ih1 =>
      intro b op locs ls hfu hbn hp hS hl
      refine lv_iload_n hx hb dX13_worstBut_4 rfl (lv_at hl 0 rfl) ?_
      refine lv_aload_n hx hb dX13_worstBut_5 rfl (lv_at hl 2 rfl) ?_
      refine c_VI hx hb hml hts hown hK hl.1 hS ⟨Nat.le_refl _, Nat.le_refl _⟩ (met_X13_many l D dA hG hT) (cw_X13_304 hts ⟨by decide, by decide⟩) (hG 0 _ rfl) rfl rfl rfl rfl (Nat.le_of_ble_eq_true rfl) dX13_worstBut_6 (fun _ h => h.elim) (fun r H1 locs hq hF hS => ?_)
      obtain ⟨rfl, rfl⟩ := hq
      refine n_icmp_ge (tgt := 44) hx hb dX13_worstBut_9 (by decide) (by omega) (by omega) (fun c9 => ?_) (fun c9 => ?_)
      · obtain rfl : b = n := by omega
        refine lv_iload_n hx hb dX13_worstBut_44 rfl (lv_at hl 1 rfl) ?_
        refine hend _ _ _ _ _ hS dX13_worstBut_45 ?_
        exact ⟨_, rfl, rfl, by rw [hp]⟩
      rcases op with _ | i
      · have hl : lv_has ls 4 [(3, .int (nI b)), (2, .int (-1)), (0, .ref o), (1, .int gd)] := hl
        refine lv_iload_n hx hb dX13_worstBut_12 rfl (lv_at hl 0 rfl) ?_
        refine lv_iload_n hx hb dX13_worstBut_13 rfl (lv_at hl 3 rfl) ?_
        refine lv_icmp_eq (tgt := 38) hx hb dX13_worstBut_14 (by decide) (fun c14 => ?_) (fun c14 => ?_)
        · refine lv_iinc (v := (nI (b + 1))) (lv' := [(3, .int (nI (b + 1))), (2, .int (-1)), (0, .ref o), (1, .int gd)]) hx hb dX13_worstBut_38 hl (k := 0) rfl (nI_add _ _) (by decide) rfl (fun ls hl => ?_)
          refine lv_goto (tgt := 4) hx hb dX13_worstBut_41 (by decide) ?_
          exact ih1 (b + 1) none _ _ (by omega) (by omega) ((wbF_g c14).trans hp) hS (lv_sub hl [0, 1, 2, 3] rfl)
        refine lv_iload_n hx hb dX13_worstBut_17 rfl (lv_at hl 1 rfl) ?_
        refine lv_if_lt (tgt := 36) hx hb dX13_worstBut_18 (by decide) (fun _ => ?_) (fun z => absurd (by decide) z)
        refine lv_iload_n hx hb dX13_worstBut_36 rfl (lv_at hl 0 rfl) ?_
        refine lv_istore_n (lv' := [(2, .int (nI b)), (3, .int (nI b)), (0, .ref o), (1, .int gd)]) hx hb dX13_worstBut_37 rfl hl (by decide) rfl (fun ls hl => ?_)
        refine lv_iinc (v := (nI (b + 1))) (lv' := [(3, .int (nI (b + 1))), (2, .int (nI b)), (0, .ref o), (1, .int gd)]) hx hb dX13_worstBut_38 hl (k := 1) rfl (nI_add _ _) (by decide) rfl (fun ls hl => ?_)
        refine lv_goto (tgt := 4) hx hb dX13_worstBut_41 (by decide) ?_
        exact ih1 (b + 1) (some b) _ _ (by omega) (by omega) (wbF_n c14 hp) hS (lv_sub hl [0, 1, 2, 3] rfl)
      have hl : lv_has ls 4 [(3, .int (nI b)), (2, .int (nI i)), (0, .ref o), (1, .int gd)] := hl
      have hin := wbF_lt hp
      refine lv_iload_n hx hb dX13_worstBut_12 rfl (lv_at hl 0 rfl) ?_
      refine lv_iload_n hx hb dX13_worstBut_13 rfl (lv_at hl 3 rfl) ?_
      refine lv_icmp_eq (tgt := 38) hx hb dX13_worstBut_14 (by decide) (fun c14 => ?_) (fun c14 => ?_)
      · refine lv_iinc (v := (nI (b + 1))) (lv' := [(3, .int (nI (b + 1))), (2, .int (nI i)), (0, .ref o), (1, .int gd)]) hx hb dX13_worstBut_38 hl (k := 0) rfl (nI_add _ _) (by decide) rfl (fun ls hl => ?_)
        refine lv_goto (tgt := 4) hx hb dX13_worstBut_41 (by decide) ?_
        exact ih1 (b + 1) (some i) _ _ (by omega) (by omega) ((wbF_g c14).trans hp) hS (lv_sub hl [0, 1, 2, 3] rfl)
      refine lv_iload_n hx hb dX13_worstBut_17 rfl (lv_at hl 1 rfl) ?_
      refine n_if_lt (tgt := 36) hx hb dX13_worstBut_18 (by decide) (by omega) ?_
      have hg1 := hG10 b
      have hg2 := hG10 i
      refine lv_aload_n hx hb dX13_worstBut_21 rfl (lv_at hl 2 rfl) ?_
      refine g_get hx hb hts hown hK hG 0 rfl rfl ok_X13 57 (by decide) q1528 rfl rfl dX13_worstBut_22 ?_
      refine lv_iload_n hx hb dX13_worstBut_25 rfl (lv_at hl 0 rfl) ?_
      refine n_iald hx hb hK hG 37 rfl (by omega) (by decide) dX13_worstBut_26 ?_
      refine iv (y := (nI (G b))) (hG9 b (by omega)) ?_
      refine lv_aload_n hx hb dX13_worstBut_27 rfl (lv_at hl 2 rfl) ?_
      refine g_get hx hb hts hown hK hG 0 rfl rfl ok_X13 57 (by decide) q1528 rfl rfl dX13_worstBut_28 ?_
      refine lv_iload_n hx hb dX13_worstBut_31 rfl (lv_at hl 1 rfl) ?_
      refine n_iald hx hb hK hG 37 rfl (by omega) (by decide) dX13_worstBut_32 ?_
      refine iv (y := (nI (G i))) (hG9 i (by omega)) ?_
      refine n_icmp_ge (tgt := 38) hx hb dX13_worstBut_33 (by decide) (by omega) (by omega) (fun c33 => ?_) (fun c33 => ?_)
      · refine lv_iinc (v := (nI (b + 1))) (lv' := [(3, .int (nI (b + 1))), (2, .int (nI i)), (0, .ref o), (1, .int gd)]) hx hb dX13_worstBut_38 hl (k := 0) rfl (nI_add _ _) (by decide) rfl (fun ls hl => ?_)
        refine lv_goto (tgt := 4) hx hb dX13_worstBut_41 (by decide) ?_
        exact ih1 (b + 1) (some i) _ _ (by omega) (by omega) (wbF_f c14 hp c33) hS (lv_sub hl [0, 1, 2, 3] rfl)
      refine lv_iload_n hx hb dX13_worstBut_36 rfl (lv_at hl 0 rfl) ?_
      refine lv_istore_n (lv' := [(2, .int (nI b)), (3, .int (nI b)), (0, .ref o), (1, .int gd)]) hx hb dX13_worstBut_37 rfl hl (by decide) rfl (fun ls hl => ?_)
      refine lv_iinc (v := (nI (b + 1))) (lv' := [(3, .int (nI (b + 1))), (2, .int (nI b)), (0, .ref o), (1, .int gd)]) hx hb dX13_worstBut_38 hl (k := 1) rfl (nI_add _ _) (by decide) rfl (fun ls hl => ?_)
      refine lv_goto (tgt := 4) hx hb dX13_worstBut_41 (by decide) ?_
      exact ih1 (b + 1) (some b) _ _ (by omega) (by omega) (wbF_t c14 hp c33) hS (lv_sub hl [0, 1, 2, 3] rfl)
  exact loop1 ((n - 0) + 1) 0 none _ _ (Nat.lt_succ_self _) (by omega) rfl hS (lv_sub hl [0, 1, 2, 3] rfl)
