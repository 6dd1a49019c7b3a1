/-! runs, partings -/
def rnG (f : Nat → Int32) (n b : Nat) : Nat → Nat → Nat
  | 0, k => k
  | u + 1, k => if f (k % n) = f b then rnG f n b u (k + 1) else k
def enF (n b : Nat) (rg : Int32) : Nat := if rg = nI 1 then b + n else n
def rnF (f : Nat → Int32) (n : Nat) (rg : Int32) (b : Nat) : Nat := rnG f n b (enF n b rg - b) b - b
theorem rnG_ge (f : Nat → Int32) (n b : Nat) : ∀ u k, k ≤ rnG f n b u k := by
  intro u
  induction u with
  | zero => intro k; exact Nat.le_refl _
  | succ u ih => intro k; simp only [rnG]; split; exact Nat.le_trans (Nat.le_succ k) (ih (k + 1)); exact Nat.le_refl _
theorem rnG_le (f : Nat → Int32) (n b : Nat) : ∀ u k, rnG f n b u k ≤ k + u := by
  intro u
  induction u with
  | zero => intro k; exact Nat.le_refl _
  | succ u ih => intro k; simp only [rnG]; split; have := ih (k + 1); omega; omega
theorem rnG_t {f : Nat → Int32} {n b u k : Nat} (h : f (k % n) = f b) : rnG f n b (u + 1) k = rnG f n b u (k + 1) := by simp only [rnG]; rw [if_pos h]
theorem rnG_f {f : Nat → Int32} {n b u k : Nat} (h : ¬ f (k % n) = f b) : rnG f n b (u + 1) k = k := by simp only [rnG]; rw [if_neg h]
theorem enF_gt {n b : Nat} {rg : Int32} (h : b < n) : b < enF n b rg ∧ enF n b rg ≤ b + n := by unfold enF; split <;> omega
theorem rnF_pos {f : Nat → Int32} {n b : Nat} {rg : Int32} (h : b < n) : 1 ≤ rnF f n rg b := by
  have h1 := (enF_gt (rg := rg) h).1
  unfold rnF
  obtain ⟨u, hu⟩ : ∃ u, enF n b rg - b = u + 1 := ⟨enF n b rg - b - 1, by omega⟩
  rw [hu, rnG_t (by rw [Nat.mod_eq_of_lt h])]
  have := rnG_ge f n b u (b + 1)
  omega
theorem rnF_le {f : Nat → Int32} {n b : Nat} {rg : Int32} (h : b < n) : rnF f n rg b ≤ n := by
  have h1 := (enF_gt (rg := rg) h).2
  unfold rnF
  have := rnG_le f n b (enF n b rg - b) b
  omega
def runP (t : Txt) (f : Nat → Int32) : Option (Nat × Nat) := mxF (rnF f (xN t) (xR t)) (xN t)
def runA (t : Txt) (f : Nat → Int32) (w : Int32) : Int32 := rng w 0 2 (fun w => if w = 0 then oV 0 (runP t f) else oI (-2) (runP t f)) (-1)
/-- how many lie unlike who lies ahead of them -/
def ulF (f : Nat → Int32) : Nat → Nat
  | 0 => 0
  | b + 1 => if b = 0 then 0 else if f b = f (b - 1) then ulF f b else ulF f b + 1
theorem ulF_le (f : Nat → Int32) : ∀ b, ulF f b ≤ b
  | 0 => Nat.le_refl _
  | b + 1 => by have := ulF_le f b; simp only [ulF]; split; omega; split <;> omega
theorem ulF_t {f : Nat → Int32} {b : Nat} (h0 : 0 < b) (h : f b = f (b - 1)) : ulF f (b + 1) = ulF f b := by simp only [ulF]; rw [if_neg (by omega), if_pos h]
theorem ulF_f {f : Nat → Int32} {b : Nat} (h0 : 0 < b) (h : ¬ f b = f (b - 1)) : ulF f (b + 1) = ulF f b + 1 := by simp only [ulF]; rw [if_neg (by omega), if_neg h]
def unlikeA (t : Txt) (f : Nat → Int32) : Int32 := if xR t = nI 1 ∧ 2 < xN t ∧ ¬ f 0 = f (xN t - 1) then nI (ulF f (xN t) + 1) else nI (ulF f (xN t))
def pgF (f : Nat → Int32) : Nat → Nat
  | 0 => 0
  | b + 1 => if f (27 + pgF f b) < f (27 + b) then b else pgF f b
theorem pgF_lt (f : Nat → Int32) : ∀ b, pgF f (b + 1) < b + 1
  | 0 => by simp [pgF]
  | b + 1 => by have := pgF_lt f b; rw [pgF]; split <;> omega
theorem pgF_t {f : Nat → Int32} {b i : Nat} (hi : pgF f b = i) (h : f (27 + i) < f (27 + b)) : pgF f (b + 1) = b := by simp only [pgF]; rw [hi, if_pos h]
theorem pgF_f {f : Nat → Int32} {b i : Nat} (hi : pgF f b = i) (h : ¬ f (27 + i) < f (27 + b)) : pgF f (b + 1) = i := by simp only [pgF]; rw [hi, if_neg h]
theorem pgF_1 (f : Nat → Int32) : pgF f 1 = 0 := by simp [pgF]
def partingA (t : Txt) (f : Nat → Int32) (w : Int32) : Int32 := rng w 0 2 (fun w => if xN t = 0 then -100000 else if w = 0 then nI (pgF f (xN t)) else f (27 + pgF f (xN t))) (-100000)
/-! shown, again, leaving -/
def shB (f : Nat → Int32) (b : Nat) : Bool := decide (0 < f (27 + b))
theorem obF_lt (hit : Nat → Bool) : ∀ k, obF hit k < 2 ^ k
  | 0 => Nat.one_pos
  | k + 1 => by
    have h := obF_lt hit k
    have h2 : obF hit k < 2 ^ (k + 1) := Nat.lt_of_lt_of_le h (Nat.pow_le_pow_right (by decide) (by omega))
    simp only [obF]
    split
    · exact Nat.or_lt_two_pow h2 (by rw [Nat.one_mul]; exact Nat.pow_lt_pow_right (by decide) (by omega))
    · exact h2
theorem ob9 {hit : Nat → Bool} {n : Nat} (hn : n ≤ 9) : obF hit n < 512 := Nat.lt_of_lt_of_le (obF_lt hit n) (two9 hn)
def showsA (t : Txt) (f : Nat → Int32) (q : Int32) : Int32 := rng q 0 49 (fun q => nI (bc (obF (shB (goF t (nI 1) (xS t) q f)) (xN t)))) (-1)
/-- the first of so many from k on -/
def fsF (P : Nat → Bool) : Nat → Nat → Int32
  | 0, _ => -2
  | u + 1, k => if P k = true then nI k else fsF P u (k + 1)
theorem fsF_t {P : Nat → Bool} {u k : Nat} (h : P k = true) : fsF P (u + 1) k = nI k := by simp only [fsF]; rw [if_pos h]
theorem fsF_f {P : Nat → Bool} {u k : Nat} (h : ¬ P k = true) : fsF P (u + 1) k = fsF P u (k + 1) := by simp only [fsF]; rw [if_neg h]
def agP (t : Txt) (f : Nat → Int32) (k : Nat) : Bool := decide (rbF (goF t (nI 1) (xS t) k f) (xN t) = rbF f (xN t))
def againA (t : Txt) (f : Nat → Int32) : Int32 := fsF (agP t f) 240 1
def lvP (t : Txt) (f : Nat → Int32) (b k : Nat) : Bool := decide (¬ (shB (goF t (nI 1) (xS t) k f) b = shB f b))
def leaveA (t : Txt) (f : Nat → Int32) (b : Int32) : Int32 := rng b 0 (xN t) (fun b => fsF (lvP t f b) 240 1) (-1)
def liG (t : Txt) (stl lots : Int32) (f : Nat → Int32) (k : Nat) : Nat := bc (rbF (goF t stl lots (k + 1) f) (xN t))
def liF (t : Txt) (stl lots : Int32) (f : Nat → Int32) (q : Nat) : Nat := smF (liG t stl lots f) q
theorem liF_le {t : Txt} {stl lots : Int32} {f : Nat → Int32} (q : Nat) : liF t stl lots f q ≤ 9 * q := smF_le (fun _ => bc9 _) q
/-- two sleepers change beds -/
def swF (a b : Nat) (f : Nat → Int32) : Nat → Int32 := fun j => if j < 45 then (if j % 9 = a then f (j / 9 * 9 + b) else if j % 9 = b then f (j / 9 * 9 + a) else f j) else f j
def cbG (t : Txt) (f : Nat → Int32) (q a b : Nat) : Nat := liF t (nI 1) (xS t) (swF a b f) q
def cbU (s : Option Nat × Nat) (a b v : Nat) : Option Nat × Nat := if s.2 < v then (some (10 * a + b), v) else s
def cbJ (G : Nat → Nat → Nat) (a : Nat) : Nat → Option Nat × Nat → Option Nat × Nat
  | 0, s => s
  | b + 1, s => if a < b then cbU (cbJ G a b s) a b (G a b) else cbJ G a b s
theorem cbJ_0 {G : Nat → Nat → Nat} {a : Nat} {s : Option Nat × Nat} : ∀ b, b ≤ a + 1 → cbJ G a b s = s
  | 0, _ => rfl
  | b + 1, h => by simp only [cbJ]; rw [if_neg (by omega)]; exact cbJ_0 b (by omega)
def cbO (G : Nat → Nat → Nat) (n m0 : Nat) : Nat → Option Nat × Nat
  | 0 => (none, m0)
  | a + 1 => cbJ G a n (cbO G n m0 a)
def cbP (t : Txt) (f : Nat → Int32) (q : Nat) : Option Nat × Nat := cbO (cbG t f q) (xN t) (liF t (nI 1) (xS t) f q) (xN t)
def changeBestA (t : Txt) (f : Nat → Int32) (q w : Int32) : Int32 := rng q 1 25 (fun q => rng w 0 2 (fun w => match (cbP t f q).1 with
  | none => -2
  | some i => if w = 0 then nI i else nI (cbP t f q).2) (-1)) (-1)
def thenA (t : Txt) (f : Nat → Int32) (b q w : Int32) : Int32 := rng q 0 49 (fun q => rng w 0 3 (fun w => if w = 2 then nI (bc (rbF (goF t (nI 0) (xS t) q f) (xN t))) else rng b 0 (xN t) (fun b => if w = 0 then goF t (nI 0) (xS t) q f b else goF t (nI 0) (xS t) q f (27 + b)) (-100000)) (-100000)) (-100000)
def yrP (t : Txt) (f : Nat → Int32) (q k : Nat) : Bool := decide (rbF (goF t (nI 0) (xS t + nI k) q f) (xN t) = 2 ^ xN t - 1)
def yearA (t : Txt) (f : Nat → Int32) (q s : Int32) : Int32 := rng q 0 49 (fun q => rng s 1 21 (fun s => nI (cnF (yrP t f q) s)) (-1)) (-1)
set_option maxHeartbeats 4000000 in
theorem met_X13_ringAt (l : Launch) (D : va_G) (dA : Nat → ClassId) {o : Nat} {V : GI} {L : GL} {Rf : GR} {H0 : Heap} (hG : gP D dA o dM V L Rf H0) {lv n : Nat} (hT : tM V lv n) (b : Nat) (hb9 : b < 1000) (hn0 : 0 < n) : Ctr l D dA yX13_ringAt cX13_ringAt 2 (some .int) (mkRm 1 20) [.ref o, .int (nI b)] H0 A0 (QI (fun r H1 => H0 = H1 ∧ r = V 30 (b % n))) := by
  have hT1 := hT.1
  have hT2 := hT.2.1
  have hm := Nat.mod_lt b hn0
  refine ctr_I (by decide) (Nat.le_of_ble_eq_true rfl) ?_
  intro p e s m args below meth c ls QQ locs hx hb hml hown hts hK hend hS hl
  have hl : lv_has ls 2 [(0, .ref o), (1, .int (nI b))] := hl
  refine lv_aload_n hx hb dX13_ringAt_0 rfl (lv_at hl 0 rfl) ?_
  refine g_get hx hb hts hown hK hG 0 rfl rfl ok_X13 47 (by decide) q1518 rfl rfl dX13_ringAt_1 ?_
  refine lv_iload_n hx hb dX13_ringAt_4 rfl (lv_at hl 1 rfl) ?_
  refine lv_aload_n hx hb dX13_ringAt_5 rfl (lv_at hl 0 rfl) ?_
  refine c_VI hx hb hml hts hown hK hl.1 hS ⟨Nat.le_refl _, Nat.le_refl _⟩ (met_X13_many l D dA hG hT) (cw_X13_304 hts ⟨by decide, by decide⟩) (hG 0 _ rfl) rfl rfl rfl rfl (Nat.le_of_ble_eq_true rfl) dX13_ringAt_6 (fun _ h => h.elim) (fun r H1 locs hq hF hS => ?_)
  obtain ⟨rfl, rfl⟩ := hq
  refine n_irem hx hb dX13_ringAt_9 (by omega) (by omega) (by omega) ?_
  refine n_iald hx hb hK hG 30 rfl (by omega) (by decide) dX13_ringAt_10 ?_
  refine hend _ _ _ _ _ hS dX13_ringAt_11 ?_
  exact ⟨_, rfl, rfl, rfl⟩
theorem cw_X13_410 {R : Room} {s : State} {args : Array Value} (hts : ∀ w ∈ lw_all, w.before args s = true) {f w k j : Nat} (hR : f + 1 ≤ R.frames ∧ 8 + (2 + 11) + w ≤ R.locals) : CallW R s args RX13 RX13 410 yX13_ringAt cX13_ringAt 2 (some .int) (ws_ yX13_ringAt cX13_ringAt 2 (some .int)) (mkRmC f w k j) k j 1 := cwV 1 hts (lw_V q1966 q1968 qs99 q129 q1969) rfl rfl rfl (by decide +kernel) hR
set_option maxHeartbeats 4000000 in
theorem met_X13_runFrom (l : Launch) (D : va_G) (dA : Nat → ClassId) {o : Nat} {V : GI} {L : GL} {Rf : GR} {H0 : Heap} (hG : gP D dA o dM V L Rf H0) {lv n : Nat} (hT : tM V lv n) (b : Nat) (hb9 : b < n) : Ctr l D dA yX13_runFrom cX13_runFrom 4 (some .int) (mkRm 2 41) [.ref o, .int (nI b)] H0 A0 (QI (fun r H1 => H0 = H1 ∧ r = nI (rnF (V 30) n (V 15 lv) b))) := by
  have hT1 := hT.1
  have hT2 := hT.2.1
  have hen := enF_gt (rg := V 15 lv) hb9
  refine ctr_I (by decide) (Nat.le_of_ble_eq_true rfl) ?_
  intro p e s m args below meth c ls QQ locs hx hb hml hown hts hK hend hS hl
  have hl : lv_has ls 4 [(0, .ref o), (1, .int (nI b))] := hl
  refine lv_aload_n hx hb dX13_runFrom_0 rfl (lv_at hl 0 rfl) ?_
  refine g_get hx hb hts hown hK hG 0 rfl rfl ok_X13 28 (by decide) q1499 rfl rfl dX13_runFrom_1 ?_
  refine lv_aload_n hx hb dX13_runFrom_4 rfl (lv_at hl 0 rfl) ?_
  refine g_get (v := .int (nI lv)) hx hb hts hown hK hG 0 rfl rfl ok_X13 18 (by decide) q1489 rfl (congrArg Value.int hT.2.2.1) dX13_runFrom_5 ?_
  refine n_iald hx hb hK hG 15 rfl (by omega) (by decide) dX13_runFrom_8 ?_
  refine lv_iconst (v := (nI 1)) hx hb dX13_runFrom_9 (by decide) ?_
  refine lv_icmp_ne (tgt := 22) hx hb dX13_runFrom_10 (by decide) (fun c10 => ?_) (fun c10 => ?_)
  · refine lv_aload_n hx hb dX13_runFrom_22 rfl (lv_at hl 0 rfl) ?_
    refine c_VI hx hb hml hts hown hK hl.1 hS ⟨Nat.le_refl _, Nat.le_refl _⟩ (met_X13_many l D dA hG hT) (cw_X13_304 hts ⟨by decide, by decide⟩) (hG 0 _ rfl) rfl rfl rfl rfl (Nat.le_of_ble_eq_true rfl) dX13_runFrom_23 (fun _ h => h.elim) (fun r H1 locs hq hF hS => ?_)
    obtain ⟨rfl, rfl⟩ := hq
    refine iv (y := nI (enF n b (V 15 lv))) (congrArg nI (by unfold enF; first | rw [if_pos c10] | rw [if_neg c10])) ?_
    refine lv_istore_n (lv' := [(2, .int (nI (enF n b (V 15 lv)))), (0, .ref o), (1, .int (nI b))]) hx hb dX13_runFrom_26 rfl hl (by decide) rfl (fun ls hl => ?_)
    refine lv_iload_n hx hb dX13_runFrom_27 rfl (lv_at hl 2 rfl) ?_
    refine lv_istore_n (lv' := [(3, .int (nI b)), (2, .int (nI (enF n b (V 15 lv)))), (0, .ref o), (1, .int (nI b))]) hx hb dX13_runFrom_28 rfl hl (by decide) rfl (fun ls hl => ?_)
    have loop1 : ∀ (fu1 : Nat) (k : Nat) (u : Nat) (locs : List Loc) (ls : Array Slot), u < fu1 → (k + u = enF n b (V 15 lv)) → (b ≤ k) → (rnG (V 30) n b u k = rnG (V 30) n b (enF n b (V 15 lv) - b) b) → va_S A0 H0 H0 locs → lv_has ls 4 [(3, .int (nI k)), (2, .int (nI (enF n b (V 15 lv)))), (0, .ref o), (1, .int (nI b))] → W p l e (mkRm 2 41) s m args below meth c H0 locs 0 0 QQ (F0 m 29 ls []) := by
      intro fu1
      induction fu1 with
      | zero => intro k u locs ls hfu; exact absurd hfu (Nat.not_lt_zero _)
      | succ fu1 ih1 =>
        intro k u locs ls hfu hk hbk hR hS hl
        refine lv_iload_n hx hb dX13_runFrom_29 rfl (lv_at hl 0 rfl) ?_
        refine lv_iload_n hx hb dX13_runFrom_30 rfl (lv_at hl 1 rfl) ?_
        refine n_icmp_ge (tgt := 54) hx hb dX13_runFrom_31 (by decide) (by omega) (by omega) (fun c31 => ?_) (fun c31 => ?_)
        · refine lv_iload_n hx hb dX13_runFrom_54 rfl (lv_at hl 0 rfl) ?_
          refine lv_iload_n hx hb dX13_runFrom_55 rfl (lv_at hl 3 rfl) ?_
          refine n_isub hx hb dX13_runFrom_56 (by omega) ?_
          refine hend _ _ _ _ _ hS dX13_runFrom_57 ?_
          exact ⟨_, rfl, rfl, by unfold rnF; rw [← hR]; first | (rw [rnG_f c45]; done) | (obtain rfl : u = 0 := (by omega); rfl)⟩
        obtain ⟨u, rfl⟩ : ∃ u1, u = u1 + 1 := ⟨u - 1, by omega⟩
        refine lv_aload_n hx hb dX13_runFrom_34 rfl (lv_at hl 2 rfl) ?_
        refine lv_iload_n hx hb dX13_runFrom_35 rfl (lv_at hl 0 rfl) ?_
        refine c_VI hx hb hml hts hown hK hl.1 hS ⟨Nat.le_refl _, Nat.le_refl _⟩ (met_X13_ringAt l D dA hG hT k (by omega) (by omega)) (cw_X13_410 hts ⟨by decide, by decide⟩) (hG 0 _ rfl) rfl rfl rfl rfl (Nat.le_of_ble_eq_true rfl) dX13_runFrom_36 (fun _ h => h.elim) (fun r H1 locs hq hF hS => ?_)
        obtain ⟨rfl, rfl⟩ := hq
        refine lv_aload_n hx hb dX13_runFrom_39 rfl (lv_at hl 2 rfl) ?_
        refine g_get hx hb hts hown hK hG 0 rfl rfl ok_X13 47 (by decide) q1518 rfl rfl dX13_runFrom_40 ?_
        refine lv_iload_n hx hb dX13_runFrom_43 rfl (lv_at hl 3 rfl) ?_
        refine n_iald hx hb hK hG 30 rfl (by omega) (by decide) dX13_runFrom_44 ?_
        refine lv_icmp_ne (tgt := 54) hx hb dX13_runFrom_45 (by decide) (fun c45 => ?_) (fun c45 => ?_)
        · refine lv_iload_n hx hb dX13_runFrom_54 rfl (lv_at hl 0 rfl) ?_
          refine lv_iload_n hx hb dX13_runFrom_55 rfl (lv_at hl 3 rfl) ?_
          refine n_isub hx hb dX13_runFrom_56 (by omega) ?_
          refine hend _ _ _ _ _ hS dX13_runFrom_57 ?_
          exact ⟨_, rfl, rfl, by unfold rnF; rw [← hR]; first | (rw [rnG_f c45]; done) | (obtain rfl : u = 0 := (by omega); rfl)⟩
        refine lv_iinc (v := (nI (k + 1))) (lv' := [(3, .int (nI (k + 1))), (2, .int (nI (enF n b (V 15 lv)))), (0, .ref o), (1, .int (nI b))]) hx hb dX13_runFrom_48 hl (k := 0) rfl (nI_add _ _) (by decide) rfl (fun ls hl => ?_)
        refine lv_goto (tgt := 29) hx hb dX13_runFrom_51 (by decide) ?_
        exact ih1 (k + 1) u _ _ (by omega) (by omega) (by omega) ((rnG_t c45).symm.trans hR) hS (lv_sub hl [0, 1, 2, 3] rfl)
    exact loop1 ((enF n b (V 15 lv) - b) + 1) b (enF n b (V 15 lv) - b) _ _ (Nat.lt_succ_self _) (by omega) (Nat.le_refl _) rfl hS (lv_sub hl [0, 1, 2, 3] rfl)
  refine lv_iload_n hx hb dX13_runFrom_13 rfl (lv_at hl 1 rfl) ?_
  refine lv_aload_n hx hb dX13_runFrom_14 rfl (lv_at hl 0 rfl) ?_
  refine c_VI hx hb hml hts hown hK hl.1 hS ⟨Nat.le_refl _, Nat.le_refl _⟩ (met_X13_many l D dA hG hT) (cw_X13_304 hts ⟨by decide, by decide⟩) (hG 0 _ rfl) rfl rfl rfl rfl (Nat.le_of_ble_eq_true rfl) dX13_runFrom_15 (fun _ h => h.elim) (fun r H1 locs hq hF hS => ?_)
  obtain ⟨rfl, rfl⟩ := hq
  refine n_iadd hx hb dX13_runFrom_18 ?_
  refine lv_goto (tgt := 26) hx hb dX13_runFrom_19 (by decide) ?_
  refine iv (y := nI (enF n b (V 15 lv))) (congrArg nI (by unfold enF; first | rw [if_pos c10] | rw [if_neg c10])) ?_
  refine lv_istore_n (lv' := [(2, .int (nI (enF n b (V 15 lv)))), (0, .ref o), (1, .int (nI b))]) hx hb dX13_runFrom_26 rfl hl (by decide) rfl (fun ls hl => ?_)
  refine lv_iload_n hx hb dX13_runFrom_27 rfl (lv_at hl 2 rfl) ?_
  refine lv_istore_n (lv' := [(3, .int (nI b)), (2, .int (nI (enF n b (V 15 lv)))), (0, .ref o), (1, .int (nI b))]) hx hb dX13_runFrom_28 rfl hl (by decide) rfl (fun ls hl => ?_)
  have loop2 : ∀ (fu2 : Nat) (k : Nat) (u : Nat) (locs : List Loc) (ls : Array Slot), u < fu2 → (k + u = enF n b (V 15 lv)) → (b ≤ k) → (rnG (V 30) n b u k = rnG (V 30) n b (enF n b (V 15 lv) - b) b) → va_S A0 H0 H0 locs → lv_has ls 4 [(3, .int (nI k)), (2, .int (nI (enF n b (V 15 lv)))), (0, .ref o), (1, .int (nI b))] → W p l e (mkRm 2 41) s m args below meth c H0 locs 0 0 QQ (F0 m 29 ls []) := by
    intro fu2
    induction fu2 with
    | zero => intro k u locs ls hfu; exact absurd hfu (Nat.not_lt_zero _)
    | succ fu2 ih2 =>
      intro k u locs ls hfu hk hbk hR hS hl
      refine lv_iload_n hx hb dX13_runFrom_29 rfl (lv_at hl 0 rfl) ?_
      refine lv_iload_n hx hb dX13_runFrom_30 rfl (lv_at hl 1 rfl) ?_
      refine n_icmp_ge (tgt := 54) hx hb dX13_runFrom_31 (by decide) (by omega) (by omega) (fun c31 => ?_) (fun c31 => ?_)
      · refine lv_iload_n hx hb dX13_runFrom_54 rfl (lv_at hl 0 rfl) ?_
        refine lv_iload_n hx hb dX13_runFrom_55 rfl (lv_at hl 3 rfl) ?_
        refine n_isub hx hb dX13_runFrom_56 (by omega) ?_
        refine hend _ _ _ _ _ hS dX13_runFrom_57 ?_
        exact ⟨_, rfl, rfl, by unfold rnF; rw [← hR]; first | (rw [rnG_f c45]; done) | (obtain rfl : u = 0 := (by omega); rfl)⟩
      obtain ⟨u, rfl⟩ : ∃ u1, u = u1 + 1 := ⟨u - 1, by omega⟩
      refine lv_aload_n hx hb dX13_runFrom_34 rfl (lv_at hl 2 rfl) ?_
      refine lv_iload_n hx hb dX13_runFrom_35 rfl (lv_at hl 0 rfl) ?_
      refine c_VI hx hb hml hts hown hK hl.1 hS ⟨Nat.le_refl _, Nat.le_refl _⟩ (met_X13_ringAt l D dA hG hT k (by omega) (by omega)) (cw_X13_410 hts ⟨by decide, by decide⟩) (hG 0 _ rfl) rfl rfl rfl rfl (Nat.le_of_ble_eq_true rfl) dX13_runFrom_36 (fun _ h => h.elim) (fun r H1 locs hq hF hS => ?_)
      obtain ⟨rfl, rfl⟩ := hq
      refine lv_aload_n hx hb dX13_runFrom_39 rfl (lv_at hl 2 rfl) ?_
      refine g_get hx hb hts hown hK hG 0 rfl rfl ok_X13 47 (by decide) q1518 rfl rfl dX13_runFrom_40 ?_
      refine lv_iload_n hx hb dX13_runFrom_43 rfl (lv_at hl 3 rfl) ?_
      refine n_iald hx hb hK hG 30 rfl (by omega) (by decide) dX13_runFrom_44 ?_
      refine lv_icmp_ne (tgt := 54) hx hb dX13_runFrom_45 (by decide) (fun c45 => ?_) (fun c45 => ?_)
      · refine lv_iload_n hx hb dX13_runFrom_54 rfl (lv_at hl 0 rfl) ?_
        refine lv_iload_n hx hb dX13_runFrom_55 rfl (lv_at hl 3 rfl) ?_
        refine n_isub hx hb dX13_runFrom_56 (by omega) ?_
        refine hend _ _ _ _ _ hS dX13_runFrom_57 ?_
        exact ⟨_, rfl, rfl, by unfold rnF; rw [← hR]; first | (rw [rnG_f c45]; done) | (obtain rfl : u = 0 := (by omega); rfl)⟩
      refine lv_iinc (v := (nI (k + 1))) (lv' := [(3, .int (nI (k + 1))), (2, .int (nI (enF n b (V 15 lv)))), (0, .ref o), (1, .int (nI b))]) hx hb dX13_runFrom_48 hl (k := 0) rfl (nI_add _ _) (by decide) rfl (fun ls hl => ?_)
      refine lv_goto (tgt := 29) hx hb dX13_runFrom_51 (by decide) ?_
      exact ih2 (k + 1) u _ _ (by omega) (by omega) (by omega) ((rnG_t c45).symm.trans hR) hS (lv_sub hl [0, 1, 2, 3] rfl)
  exact loop2 ((enF n b (V 15 lv) - b) + 1) b (enF n b (V 15 lv) - b) _ _ (Nat.lt_succ_self _) (by omega) (Nat.le_refl _) rfl hS (lv_sub hl [0, 1, 2, 3] rfl)
theorem cw_X13_413 {R : Room} {s : State} {args : Array Value} (hts : ∀ w ∈ lw_all, w.before args s = true) {f w k j : Nat} (hR : f + 1 ≤ R.frames ∧ 8 + (4 + 11) + w ≤ R.locals) : CallW R s args RX13 RX13 413 yX13_runFrom cX13_runFrom 4 (some .int) (ws_ yX13_runFrom cX13_runFrom 4 (some .int)) (mkRmC f w k j) k j 1 := cwV 1 hts (lw_V q1962 q1964 qs98 q129 q1965) rfl rfl rfl (by decide +kernel) hR
set_option maxHeartbeats 4000000 in
theorem met_X13_run (l : Launch) (D : va_G) (dA : Nat → ClassId) {o : Nat} {V : GI} {L : GL} {Rf : GR} {H0 : Heap} (hG : gP D dA o dM V L Rf H0) {lv : Nat} {t : Txt} (hX : txM V lv t) (hrv : RV (xN t) (V 30)) (v1 : Int32) : Ctr l D dA yX13_run cX13_run 6 (some .int) (mkRm 3 64) [.ref o, .int v1] H0 A0 (QI (fun r H1 => H0 = H1 ∧ r = runA t (V 30) v1)) := by
  have hT := hX.1
  have hT1 := hT.1
  have hT2 := hT.2.1
  have hp2 := two9 hT2
  have hpp := Nat.two_pow_pos (xN t)
  refine ctr_I (by decide) (Nat.le_of_ble_eq_true rfl) ?_
  intro p e s m args below meth c ls QQ locs hx hb hml hown hts hK hend hS hl
  have hl : lv_has ls 6 [(0, .ref o), (1, .int v1)] := hl
  refine lv_iload_n hx hb dX13_run_0 rfl (lv_at hl 1 rfl) ?_
  refine lv_iconst (v := (nI 0)) hx hb dX13_run_1 (by decide) ?_
  refine lv_iconst (v := (nI 1)) hx hb dX13_run_2 (by decide) ?_
  refine c_SI hx hb hml hts hown hK hl.1 hS ⟨Nat.le_refl _, Nat.le_refl _⟩ (met_X13_in l D dA v1 (nI 0) (nI 1)) (cw_X13_308 hts ⟨by decide, by decide⟩) rfl rfl (Nat.le_of_ble_eq_true rfl) dX13_run_3 (fun _ h => h.elim) (fun r H1 locs hq hF hS => ?_)
  obtain ⟨rfl, rfl⟩ := hq
  rcases (inZ_cases v1 0 1 (by decide) (by decide)).symm with ⟨hz3, ho3⟩ | ⟨x1, hlo_x1, hhi_x1, rfl, hz3⟩
  · refine iv (y := nI 0) hz3 ?_
    refine n_if_ne (tgt := 11) hx hb dX13_run_6 (by decide) (by decide) (fun z => absurd z (by decide)) (fun _ => ?_)
    refine lv_iconst (v := (-1)) hx hb dX13_run_9 (by decide) ?_
    refine hend _ _ _ _ _ hS dX13_run_10 ?_
    exact ⟨_, rfl, rfl, ((ho3.1 _ _)).symm⟩
  refine iv (y := nI 1) hz3 ?_
  have hl : lv_has ls 6 [(0, .ref o), (1, .int (nI x1))] := hl
  refine n_if_ne (tgt := 11) hx hb dX13_run_6 (by decide) (by decide) (fun _ => ?_) (fun z => absurd z (by decide))
  refine lv_bipush (v := (-2)) hx hb dX13_run_11 (by decide) ?_
  refine lv_istore_n (lv' := [(2, .int (-2)), (0, .ref o), (1, .int (nI x1))]) hx hb dX13_run_13 rfl hl (by decide) rfl (fun ls hl => ?_)
  refine lv_iconst (v := (nI 0)) hx hb dX13_run_14 (by decide) ?_
  refine lv_istore_n (lv' := [(3, .int (nI 0)), (2, .int (-2)), (0, .ref o), (1, .int (nI x1))]) hx hb dX13_run_15 rfl hl (by decide) rfl (fun ls hl => ?_)
  refine lv_iconst (v := (nI 0)) hx hb dX13_run_16 (by decide) ?_
  refine lv_istore (lv' := [(4, .int (nI 0)), (3, .int (nI 0)), (2, .int (-2)), (0, .ref o), (1, .int (nI x1))]) hx hb dX13_run_17 hl (by decide) rfl (fun ls hl => ?_)
  have loop1 : ∀ (fu1 : Nat) (b : Nat) (op : Option (Nat × Nat)) (locs : List Loc) (ls : Array Slot), xN t - b < fu1 → (b ≤ xN t) → (mxF (rnF (V 30) (xN t) (xR t)) b = op) → va_S A0 H0 H0 locs → lv_has ls 6 [(4, .int (nI b)), (3, .int (oV 0 op)), (2, .int (oI (-2) op)), (0, .ref o), (1, .int (nI x1))] → W p l e (mkRm 3 64) s m args below meth c H0 locs 0 0 QQ (F0 m 19 ls []) := by
    intro fu1
    induction fu1 with
    | zero => intro b op locs ls hfu; exact absurd hfu (Nat.not_lt_zero _)
    | succ fu1 ih1 =>
      intro b op locs ls hfu hbn hp hS hl
      refine lv_iload hx hb dX13_run_19 (lv_at hl 0 rfl) ?_
      refine lv_aload_n hx hb dX13_run_21 rfl (lv_at hl 3 rfl) ?_
      refine c_VI hx hb hml hts hown hK hl.1 hS ⟨Nat.le_refl _, Nat.le_refl _⟩ (met_X13_many l D dA hG hT) (cw_X13_304 hts ⟨by decide, by decide⟩) (hG 0 _ rfl) rfl rfl rfl rfl (Nat.le_of_ble_eq_true rfl) dX13_run_22 (fun _ h => h.elim) (fun r H1 locs hq hF hS => ?_)
      obtain ⟨rfl, rfl⟩ := hq
      refine n_icmp_ge (tgt := 57) hx hb dX13_run_25 (by decide) (by omega) (by omega) (fun c25 => ?_) (fun c25 => ?_)
      · obtain rfl : b = xN t := by omega
        refine lv_iload_n hx hb dX13_run_57 rfl (lv_at hl 4 rfl) ?_
        refine n_if_ne (tgt := 65) hx hb dX13_run_58 (by decide) (by omega) (fun c58 => ?_) (fun c58 => ?_)
        · refine lv_iload_n hx hb dX13_run_65 rfl (lv_at hl 2 rfl) ?_
          refine hend _ _ _ _ _ hS dX13_run_66 ?_
          exact ⟨_, rfl, rfl, ((rng_in hlo_x1 hhi_x1 (by omega)).trans (((if_neg (by omega)).trans (congrArg (oI (-2)) hp)))).symm⟩
        refine lv_iload_n hx hb dX13_run_61 rfl (lv_at hl 1 rfl) ?_
        refine lv_goto (tgt := 66) hx hb dX13_run_62 (by decide) ?_
        refine hend _ _ _ _ _ hS dX13_run_66 ?_
        exact ⟨_, rfl, rfl, ((rng_in hlo_x1 hhi_x1 (by omega)).trans (((if_pos c58).trans (congrArg (oV 0) hp)))).symm⟩
      rcases op with _ | ⟨i, v⟩
      · have hl : lv_has ls 6 [(4, .int (nI b)), (3, .int (nI 0)), (2, .int (-2)), (0, .ref o), (1, .int (nI x1))] := hl
        refine lv_aload_n hx hb dX13_run_28 rfl (lv_at hl 3 rfl) ?_
        refine lv_iload hx hb dX13_run_29 (lv_at hl 0 rfl) ?_
        refine c_VI hx hb hml hts hown hK hl.1 hS ⟨Nat.le_refl _, Nat.le_refl _⟩ (met_X13_runFrom l D dA hG hT b (by omega)) (cw_X13_413 hts ⟨by decide, by decide⟩) (hG 0 _ rfl) rfl rfl rfl rfl (Nat.le_of_ble_eq_true rfl) dX13_run_31 (fun _ h => h.elim) (fun r H1 locs hq hF hS => ?_)
        obtain ⟨rfl, rfl⟩ := hq
        refine iv (y := nI (rnF (V 30) (xN t) (xR t) b)) (congrArg (fun z => nI (rnF (V 30) (xN t) z b)) hX.2.1) ?_
        have hrp := rnF_pos (f := V 30) (rg := xR t) c25
        have hrl := rnF_le (f := V 30) (rg := xR t) c25
        refine lv_istore (lv' := [(5, .int (nI (rnF (V 30) (xN t) (xR t) b))), (4, .int (nI b)), (3, .int (nI 0)), (2, .int (-2)), (0, .ref o), (1, .int (nI x1))]) hx hb dX13_run_34 hl (by decide) rfl (fun ls hl => ?_)
        refine lv_iload hx hb dX13_run_36 (lv_at hl 0 rfl) ?_
        refine lv_iload_n hx hb dX13_run_38 rfl (lv_at hl 2 rfl) ?_
        refine n_icmp_gt (tgt := 45) hx hb dX13_run_39 (by decide) (by omega) (by omega) (fun c39 => ?_) (fun c39 => ?_)
        · refine lv_iload hx hb dX13_run_45 (lv_at hl 1 rfl) ?_
          refine lv_istore_n (lv' := [(2, .int (nI b)), (5, .int (nI (rnF (V 30) (xN t) (xR t) b))), (4, .int (nI b)), (3, .int (nI 0)), (0, .ref o), (1, .int (nI x1))]) hx hb dX13_run_47 rfl hl (by decide) rfl (fun ls hl => ?_)
          refine lv_iload hx hb dX13_run_48 (lv_at hl 1 rfl) ?_
          refine lv_istore_n (lv' := [(3, .int (nI (rnF (V 30) (xN t) (xR t) b))), (2, .int (nI b)), (5, .int (nI (rnF (V 30) (xN t) (xR t) b))), (4, .int (nI b)), (0, .ref o), (1, .int (nI x1))]) hx hb dX13_run_50 rfl hl (by decide) rfl (fun ls hl => ?_)
          refine lv_iinc (v := (nI (b + 1))) (lv' := [(4, .int (nI (b + 1))), (3, .int (nI (rnF (V 30) (xN t) (xR t) b))), (2, .int (nI b)), (5, .int (nI (rnF (V 30) (xN t) (xR t) b))), (0, .ref o), (1, .int (nI x1))]) hx hb dX13_run_51 hl (k := 3) rfl (nI_add _ _) (by decide) rfl (fun ls hl => ?_)
          refine lv_goto (tgt := 19) hx hb dX13_run_54 (by decide) ?_
          exact ih1 (b + 1) (some (b, rnF (V 30) (xN t) (xR t) b)) _ _ (by omega) (by omega) (mxF_n hp) hS (lv_sub hl [0, 1, 2, 4, 5] rfl)
        refine lv_goto (tgt := 51) hx hb dX13_run_42 (by decide) ?_
        refine lv_iinc (v := (nI (b + 1))) (lv' := [(4, .int (nI (b + 1))), (5, .int (nI (rnF (V 30) (xN t) (xR t) b))), (3, .int (nI 0)), (2, .int (-2)), (0, .ref o), (1, .int (nI x1))]) hx hb dX13_run_51 hl (k := 1) rfl (nI_add _ _) (by decide) rfl (fun ls hl => ?_)
        refine lv_goto (tgt := 19) hx hb dX13_run_54 (by decide) ?_
        exact absurd c39 (by omega)
      have hl : lv_has ls 6 [(4, .int (nI b)), (3, .int (nI v)), (2, .int (nI i)), (0, .ref o), (1, .int (nI x1))] := hl
      have hi9 := (mxF_lt hp).1
      have hv9 : v ≤ 9 := (mxF_lt hp).2 ▸ Nat.le_trans (rnF_le (by omega)) hT2
      refine lv_aload_n hx hb dX13_run_28 rfl (lv_at hl 3 rfl) ?_
      refine lv_iload hx hb dX13_run_29 (lv_at hl 0 rfl) ?_
      refine c_VI hx hb hml hts hown hK hl.1 hS ⟨Nat.le_refl _, Nat.le_refl _⟩ (met_X13_runFrom l D dA hG hT b (by omega)) (cw_X13_413 hts ⟨by decide, by decide⟩) (hG 0 _ rfl) rfl rfl rfl rfl (Nat.le_of_ble_eq_true rfl) dX13_run_31 (fun _ h => h.elim) (fun r H1 locs hq hF hS => ?_)
      obtain ⟨rfl, rfl⟩ := hq
      refine iv (y := nI (rnF (V 30) (xN t) (xR t) b)) (congrArg (fun z => nI (rnF (V 30) (xN t) z b)) hX.2.1) ?_
      have hrp := rnF_pos (f := V 30) (rg := xR t) c25
      have hrl := rnF_le (f := V 30) (rg := xR t) c25
      refine lv_istore (lv' := [(5, .int (nI (rnF (V 30) (xN t) (xR t) b))), (4, .int (nI b)), (3, .int (nI v)), (2, .int (nI i)), (0, .ref o), (1, .int (nI x1))]) hx hb dX13_run_34 hl (by decide) rfl (fun ls hl => ?_)
      refine lv_iload hx hb dX13_run_36 (lv_at hl 0 rfl) ?_
      refine lv_iload_n hx hb dX13_run_38 rfl (lv_at hl 2 rfl) ?_
      refine n_icmp_gt (tgt := 45) hx hb dX13_run_39 (by decide) (by omega) (by omega) (fun c39 => ?_) (fun c39 => ?_)
      · refine lv_iload hx hb dX13_run_45 (lv_at hl 1 rfl) ?_
        refine lv_istore_n (lv' := [(2, .int (nI b)), (5, .int (nI (rnF (V 30) (xN t) (xR t) b))), (4, .int (nI b)), (3, .int (nI v)), (0, .ref o), (1, .int (nI x1))]) hx hb dX13_run_47 rfl hl (by decide) rfl (fun ls hl => ?_)
        refine lv_iload hx hb dX13_run_48 (lv_at hl 1 rfl) ?_
        refine lv_istore_n (lv' := [(3, .int (nI (rnF (V 30) (xN t) (xR t) b))), (2, .int (nI b)), (5, .int (nI (rnF (V 30) (xN t) (xR t) b))), (4, .int (nI b)), (0, .ref o), (1, .int (nI x1))]) hx hb dX13_run_50 rfl hl (by decide) rfl (fun ls hl => ?_)
        refine lv_iinc (v := (nI (b + 1))) (lv' := [(4, .int (nI (b + 1))), (3, .int (nI (rnF (V 30) (xN t) (xR t) b))), (2, .int (nI b)), (5, .int (nI (rnF (V 30) (xN t) (xR t) b))), (0, .ref o), (1, .int (nI x1))]) hx hb dX13_run_51 hl (k := 3) rfl (nI_add _ _) (by decide) rfl (fun ls hl => ?_)
        refine lv_goto (tgt := 19) hx hb dX13_run_54 (by decide) ?_
        exact ih1 (b + 1) (some (b, rnF (V 30) (xN t) (xR t) b)) _ _ (by omega) (by omega) (mxF_t hp c39) hS (lv_sub hl [0, 1, 2, 4, 5] rfl)
      refine lv_goto (tgt := 51) hx hb dX13_run_42 (by decide) ?_
      refine lv_iinc (v := (nI (b + 1))) (lv' := [(4, .int (nI (b + 1))), (5, .int (nI (rnF (V 30) (xN t) (xR t) b))), (3, .int (nI v)), (2, .int (nI i)), (0, .ref o), (1, .int (nI x1))]) hx hb dX13_run_51 hl (k := 1) rfl (nI_add _ _) (by decide) rfl (fun ls hl => ?_)
      refine lv_goto (tgt := 19) hx hb dX13_run_54 (by decide) ?_
      exact ih1 (b + 1) (some (i, v)) _ _ (by omega) (by omega) (mxF_f hp c39) hS (lv_sub hl [0, 2, 3, 4, 5] rfl)
  exact loop1 ((xN t - 0) + 1) 0 none _ _ (Nat.lt_succ_self _) (by omega) rfl hS (lv_sub hl [0, 1, 2, 3, 4] rfl)
set_option maxHeartbeats 4000000 in
theorem met_X13_unlike (l : Launch) (D : va_G) (dA : Nat → ClassId) {o : Nat} {V : GI} {L : GL} {Rf : GR} {H0 : Heap} (hG : gP D dA o dM V L Rf H0) {lv : Nat} {t : Txt} (hX : txM V lv t) : Ctr l D dA yX13_unlike cX13_unlike 3 (some .int) (mkRm 1 20) [.ref o] H0 A0 (QI (fun r H1 => H0 = H1 ∧ r = unlikeA t (V 30))) := by
  have hT := hX.1
  have hT1 := hT.1
  have hT2 := hT.2.1
  refine ctr_I (by decide) (Nat.le_of_ble_eq_true rfl) ?_
  intro p e s m args below meth c ls QQ locs hx hb hml hown hts hK hend hS hl
  have hl : lv_has ls 3 [(0, .ref o)] := hl
  refine lv_iconst (v := (nI 0)) hx hb dX13_unlike_0 (by decide) ?_
  refine lv_istore_n (lv' := [(1, .int (nI 0)), (0, .ref o)]) hx hb dX13_unlike_1 rfl hl (by decide) rfl (fun ls hl => ?_)
  refine lv_iconst (v := (nI 1)) hx hb dX13_unlike_2 (by decide) ?_
  refine lv_istore_n (lv' := [(2, .int (nI 1)), (1, .int (nI 0)), (0, .ref o)]) hx hb dX13_unlike_3 rfl hl (by decide) rfl (fun ls hl => ?_)
  have loop1 : ∀ (fu1 : Nat) (b : Nat) (y : Nat) (locs : List Loc) (ls : Array Slot), xN t + 1 - b < fu1 → (b ≤ xN t ∨ b = 1) → (0 < b) → (ulF (V 30) b = y) → va_S A0 H0 H0 locs → lv_has ls 3 [(2, .int (nI b)), (1, .int (nI y)), (0, .ref o)] → W p l e (mkRm 1 20) s m args below meth c H0 locs 0 0 QQ (F0 m 4 ls []) := by
    intro fu1
    induction fu1 with
    | zero => intro b y locs ls hfu; exact absurd hfu (Nat.not_lt_zero _)
    | succ fu1 ih1 =>
      intro b y locs ls hfu hbn hb1 hy hS hl
      have hyl : y ≤ b := hy ▸ ulF_le (V 30) b
      refine lv_iload_n hx hb dX13_unlike_4 rfl (lv_at hl 0 rfl) ?_
      refine lv_aload_n hx hb dX13_unlike_5 rfl (lv_at hl 2 rfl) ?_
      refine c_VI hx hb hml hts hown hK hl.1 hS ⟨Nat.le_refl _, Nat.le_refl _⟩ (met_X13_many l D dA hG hT) (cw_X13_304 hts ⟨by decide, by decide⟩) (hG 0 _ rfl) rfl rfl rfl rfl (Nat.le_of_ble_eq_true rfl) dX13_unlike_6 (fun _ h => h.elim) (fun r H1 locs hq hF hS => ?_)
      obtain ⟨rfl, rfl⟩ := hq
      refine n_icmp_ge (tgt := 38) hx hb dX13_unlike_9 (by decide) (by omega) (by omega) (fun c9 => ?_) (fun c9 => ?_)
      · have hy : ulF (V 30) (xN t) = y := by
          rcases hbn with h | h
          · rw [show xN t = b by omega]; exact hy
          · subst h
            rcases (show xN t = 0 ∨ xN t = 1 by omega) with e | e
            · rw [e]; rw [← hy]; simp [ulF]
            · rw [e]; exact hy
        refine lv_aload_n hx hb dX13_unlike_38 rfl (lv_at hl 2 rfl) ?_
        refine g_get hx hb hts hown hK hG 0 rfl rfl ok_X13 28 (by decide) q1499 rfl rfl dX13_unlike_39 ?_
        refine lv_aload_n hx hb dX13_unlike_42 rfl (lv_at hl 2 rfl) ?_
        refine g_get (v := .int (nI lv)) hx hb hts hown hK hG 0 rfl rfl ok_X13 18 (by decide) q1489 rfl (congrArg Value.int hT.2.2.1) dX13_unlike_43 ?_
        refine n_iald hx hb hK hG 15 rfl (by omega) (by decide) dX13_unlike_46 ?_
        refine iv (y := (xR t)) hX.2.1 ?_
        refine lv_iconst (v := (nI 1)) hx hb dX13_unlike_47 (by decide) ?_
        refine lv_icmp_ne (tgt := 82) hx hb dX13_unlike_48 (by decide) (fun c48 => ?_) (fun c48 => ?_)
        · refine lv_iload_n hx hb dX13_unlike_82 rfl (lv_at hl 1 rfl) ?_
          refine hend _ _ _ _ _ hS dX13_unlike_83 ?_
          exact ⟨_, rfl, rfl, by unfold unlikeA; rw [if_neg (fun z => by first | exact c48 z.1 | exact z.2.2 c76 | omega), hy]⟩
        refine lv_aload_n hx hb dX13_unlike_51 rfl (lv_at hl 2 rfl) ?_
        refine c_VI hx hb hml hts hown hK hl.1 hS ⟨Nat.le_refl _, Nat.le_refl _⟩ (met_X13_many l D dA hG hT) (cw_X13_304 hts ⟨by decide, by decide⟩) (hG 0 _ rfl) rfl rfl rfl rfl (Nat.le_of_ble_eq_true rfl) dX13_unlike_52 (fun _ h => h.elim) (fun r H1 locs hq hF hS => ?_)
        obtain ⟨rfl, rfl⟩ := hq
        refine lv_iconst (v := (nI 2)) hx hb dX13_unlike_55 (by decide) ?_
        refine n_icmp_le (tgt := 82) hx hb dX13_unlike_56 (by decide) (by omega) (by omega) (fun c56 => ?_) (fun c56 => ?_)
        · refine lv_iload_n hx hb dX13_unlike_82 rfl (lv_at hl 1 rfl) ?_
          refine hend _ _ _ _ _ hS dX13_unlike_83 ?_
          exact ⟨_, rfl, rfl, by unfold unlikeA; rw [if_neg (fun z => by first | exact c48 z.1 | exact z.2.2 c76 | omega), hy]⟩
        refine lv_aload_n hx hb dX13_unlike_59 rfl (lv_at hl 2 rfl) ?_
        refine g_get hx hb hts hown hK hG 0 rfl rfl ok_X13 47 (by decide) q1518 rfl rfl dX13_unlike_60 ?_
        refine lv_iconst (v := (nI 0)) hx hb dX13_unlike_63 (by decide) ?_
        refine n_iald hx hb hK hG 30 rfl (by omega) (by decide) dX13_unlike_64 ?_
        refine lv_aload_n hx hb dX13_unlike_65 rfl (lv_at hl 2 rfl) ?_
        refine g_get hx hb hts hown hK hG 0 rfl rfl ok_X13 47 (by decide) q1518 rfl rfl dX13_unlike_66 ?_
        refine lv_aload_n hx hb dX13_unlike_69 rfl (lv_at hl 2 rfl) ?_
        refine c_VI hx hb hml hts hown hK hl.1 hS ⟨Nat.le_refl _, Nat.le_refl _⟩ (met_X13_many l D dA hG hT) (cw_X13_304 hts ⟨by decide, by decide⟩) (hG 0 _ rfl) rfl rfl rfl rfl (Nat.le_of_ble_eq_true rfl) dX13_unlike_70 (fun _ h => h.elim) (fun r H1 locs hq hF hS => ?_)
        obtain ⟨rfl, rfl⟩ := hq
        refine lv_iconst (v := (nI 1)) hx hb dX13_unlike_73 (by decide) ?_
        refine n_isub hx hb dX13_unlike_74 (by omega) ?_
        refine n_iald hx hb hK hG 30 rfl (by omega) (by decide) dX13_unlike_75 ?_
        refine lv_icmp_eq (tgt := 82) hx hb dX13_unlike_76 (by decide) (fun c76 => ?_) (fun c76 => ?_)
        · refine lv_iload_n hx hb dX13_unlike_82 rfl (lv_at hl 1 rfl) ?_
          refine hend _ _ _ _ _ hS dX13_unlike_83 ?_
          exact ⟨_, rfl, rfl, by unfold unlikeA; rw [if_neg (fun z => by first | exact c48 z.1 | exact z.2.2 c76 | omega), hy]⟩
        refine lv_iinc (v := (nI (y + 1))) (lv' := [(1, .int (nI (y + 1))), (2, .int (nI b)), (0, .ref o)]) hx hb dX13_unlike_79 hl (k := 1) rfl (nI_add _ _) (by decide) rfl (fun ls hl => ?_)
        refine lv_iload_n hx hb dX13_unlike_82 rfl (lv_at hl 0 rfl) ?_
        refine hend _ _ _ _ _ hS dX13_unlike_83 ?_
        exact ⟨_, rfl, rfl, by unfold unlikeA; rw [if_pos ⟨c48, c56, c76⟩, hy]⟩
      refine lv_aload_n hx hb dX13_unlike_12 rfl (lv_at hl 2 rfl) ?_
      refine g_get hx hb hts hown hK hG 0 rfl rfl ok_X13 47 (by decide) q1518 rfl rfl dX13_unlike_13 ?_
      refine lv_iload_n hx hb dX13_unlike_16 rfl (lv_at hl 0 rfl) ?_
      refine n_iald hx hb hK hG 30 rfl (by omega) (by decide) dX13_unlike_17 ?_
      refine lv_aload_n hx hb dX13_unlike_18 rfl (lv_at hl 2 rfl) ?_
      refine g_get hx hb hts hown hK hG 0 rfl rfl ok_X13 47 (by decide) q1518 rfl rfl dX13_unlike_19 ?_
      refine lv_iload_n hx hb dX13_unlike_22 rfl (lv_at hl 0 rfl) ?_
      refine lv_iconst (v := (nI 1)) hx hb dX13_unlike_23 (by decide) ?_
      refine n_isub hx hb dX13_unlike_24 (by omega) ?_
      refine n_iald hx hb hK hG 30 rfl (by omega) (by decide) dX13_unlike_25 ?_
      refine lv_icmp_eq (tgt := 32) hx hb dX13_unlike_26 (by decide) (fun c26 => ?_) (fun c26 => ?_)
      · refine lv_iinc (v := (nI (b + 1))) (lv' := [(2, .int (nI (b + 1))), (1, .int (nI y)), (0, .ref o)]) hx hb dX13_unlike_32 hl (k := 0) rfl (nI_add _ _) (by decide) rfl (fun ls hl => ?_)
        refine lv_goto (tgt := 4) hx hb dX13_unlike_35 (by decide) ?_
        exact ih1 (b + 1) y _ _ (by omega) (by omega) (by omega) ((ulF_t hb1 c26).trans hy) hS (lv_sub hl [0, 1, 2] rfl)
      refine lv_iinc (v := (nI (y + 1))) (lv' := [(1, .int (nI (y + 1))), (2, .int (nI b)), (0, .ref o)]) hx hb dX13_unlike_29 hl (k := 1) rfl (nI_add _ _) (by decide) rfl (fun ls hl => ?_)
      refine lv_iinc (v := (nI (b + 1))) (lv' := [(2, .int (nI (b + 1))), (1, .int (nI (y + 1))), (0, .ref o)]) hx hb dX13_unlike_32 hl (k := 1) rfl (nI_add _ _) (by decide) rfl (fun ls hl => ?_)
      refine lv_goto (tgt := 4) hx hb dX13_unlike_35 (by decide) ?_
      exact ih1 (b + 1) (y + 1) _ _ (by omega) (by omega) (by omega) ((ulF_f hb1 c26).trans (by rw [hy])) hS (lv_sub hl [0, 1, 2] rfl)
  exact loop1 ((xN t + 1 - 1) + 1) 1 0 _ _ (Nat.lt_succ_self _) (by omega) (by omega) (by simp [ulF]) hS (lv_sub hl [0, 1, 2] rfl)
