theorem fd_some {P : Nat → Bool} : ∀ {k : Nat}, cnF P k ≠ 0 → ∃ i, fdF P k = some i
  | 0, h => absurd rfl h
  | k + 1, h => by
    cases hf : fdF P k with
    | some i => exact ⟨i, by simp only [fdF, hf]⟩
    | none =>
      by_cases hp : P k = true
      · exact ⟨k, by simp only [fdF, hf, hp]; rfl⟩
      · exfalso
        have h0 : cnF P k = 0 := by
          apply Classical.byContradiction
          intro h1
          obtain ⟨i, hi⟩ := fd_some h1
          rw [hf] at hi; cases hi
        rw [cnF_f hp] at h
        exact h h0
theorem nI_andnot (z r : Nat) : nI z &&& (nI r ^^^ (-1)) = nI (z ^^^ (z &&& r)) := by
  apply Int32.toBitVec_inj.1
  show BitVec.ofNat 32 z &&& (BitVec.ofNat 32 r ^^^ BitVec.allOnes 32) = BitVec.ofNat 32 (z ^^^ (z &&& r))
  apply BitVec.eq_of_getLsbD_eq
  intro i hi
  simp only [BitVec.getLsbD_and, BitVec.getLsbD_xor, BitVec.getLsbD_ofNat, BitVec.getLsbD_allOnes, hi, decide_true, Bool.true_and, Nat.testBit_xor, Nat.testBit_and]
  cases z.testBit i <;> cases r.testBit i <;> rfl
/-- what all of a kind have, of the bits M; what none has -/
def laF (P : Nat → Bool) (M : Nat) : Nat → Nat
  | 0 => M
  | k + 1 => if P k = true then laF P M k &&& k else laF P M k
def lnnF (P : Nat → Bool) (M : Nat) : Nat → Nat
  | 0 => M
  | k + 1 => if P k = true then lnnF P M k ^^^ (lnnF P M k &&& k) else lnnF P M k
def laR (P : Nat → Bool) (M k : Nat) : Nat → Nat
  | 0 => M
  | m + 1 => if P k = true then laR P M (k + 1) m &&& k else laR P M (k + 1) m
def orF (P : Nat → Bool) : Nat → Nat
  | 0 => 0
  | k + 1 => if P k = true then orF P k ||| k else orF P k
def orR (P : Nat → Bool) (k : Nat) : Nat → Nat
  | 0 => 0
  | m + 1 => if P k = true then orR P (k + 1) m ||| k else orR P (k + 1) m
theorem la_sub (P : Nat → Bool) (M : Nat) : ∀ k, laF P M k &&& M = laF P M k
  | 0 => Nat.and_self M
  | k + 1 => by
    simp only [laF]
    split
    · rw [Nat.and_assoc, Nat.and_comm k, ← Nat.and_assoc, la_sub P M k]
    · exact la_sub P M k
theorem laR_eq (P : Nat → Bool) (M : Nat) : ∀ m k, laF P M (k + m) = laF P M k &&& laR P M k m := by
  intro m
  induction m with
  | zero => intro k; exact (la_sub P M k).symm
  | succ m ih =>
    intro k
    rw [show k + (m + 1) = (k + 1) + m by omega, ih (k + 1)]
    simp only [laF, laR]
    split
    · rw [Nat.and_assoc, Nat.and_comm k]
    · rfl
theorem laR_sub (P : Nat → Bool) (M : Nat) : ∀ m k, M &&& laR P M k m = laR P M k m := by
  intro m
  induction m with
  | zero => intro k; exact Nat.and_self M
  | succ m ih =>
    intro k
    simp only [laR]
    split
    · rw [← Nat.and_assoc, ih]
    · exact ih _
theorem laR_0 {P : Nat → Bool} {M : Nat} (N : Nat) : laR P M 0 N = laF P M N := by
  have h := laR_eq P M N 0
  rw [Nat.zero_add] at h
  rw [h]
  exact (laR_sub P M N 0).symm
theorem orR_eq (P : Nat → Bool) : ∀ m k, orF P (k + m) = orF P k ||| orR P k m := by
  intro m
  induction m with
  | zero => intro k; exact (Nat.or_zero _).symm
  | succ m ih =>
    intro k
    rw [show k + (m + 1) = (k + 1) + m by omega, ih (k + 1)]
    simp only [orF, orR]
    split
    · rw [Nat.or_assoc, Nat.or_comm k]
    · rfl
theorem orR_0 {P : Nat → Bool} (N : Nat) : orR P 0 N = orF P N := by
  have h := orR_eq P N 0
  rw [Nat.zero_add] at h
  rw [h]
  exact (Nat.zero_or _).symm
theorem lnn_eq (P : Nat → Bool) (M : Nat) : ∀ k, lnnF P M k = M ^^^ (M &&& orF P k)
  | 0 => by simp [lnnF, orF]
  | k + 1 => by
    simp only [lnnF, orF]
    split
    · rw [lnn_eq P M k]
      apply Nat.eq_of_testBit_eq
      intro i
      simp only [Nat.testBit_xor, Nat.testBit_and, Nat.testBit_or]
      cases M.testBit i <;> cases (orF P k).testBit i <;> cases k.testBit i <;> rfl
    · exact lnn_eq P M k
theorem laR_t {P : Nat → Bool} {M k m : Nat} (h : P k = true) : laR P M k (m + 1) = laR P M (k + 1) m &&& k := by simp only [laR]; rw [if_pos h]
theorem laR_f {P : Nat → Bool} {M k m : Nat} (h : ¬ P k = true) : laR P M k (m + 1) = laR P M (k + 1) m := by simp only [laR]; rw [if_neg h]
theorem orR_t {P : Nat → Bool} {k m : Nat} (h : P k = true) : orR P k (m + 1) = orR P (k + 1) m ||| k := by simp only [orR]; rw [if_pos h]
theorem orR_f {P : Nat → Bool} {k m : Nat} (h : ¬ P k = true) : orR P k (m + 1) = orR P (k + 1) m := by simp only [orR]; rw [if_neg h]
def layA (t : Txt) (f : Rw) (tl : List Tl) (k w : Int32) : Int32 := rng k 0 (tl.length + 1) (fun k => rng w 0 4 (fun w => if w = 0 then nI (cnF (lyB t f tl k) (2 ^ xN t)) else if cnF (lyB t f tl k) (2 ^ xN t) = 0 then -2 else if w = 1 then o1 (-1) (fdF (lyB t f tl k) (2 ^ xN t)) else if w = 2 then nI (laF (lyB t f tl k) (2 ^ xN t - 1) (2 ^ xN t)) else nI (lnnF (lyB t f tl k) (2 ^ xN t - 1) (2 ^ xN t))) (-1)) (-1)
/-- how many of the rows that may be leave one left in a bed -/
def lbF (P : Nat → Bool) (g : Nat → Nat) (b : Nat) : Nat → Nat
  | 0 => 0
  | x + 1 => if P x = true then lbF P g b x + g x / 2 ^ b % 2 else lbF P g b x
theorem lbF_le (P : Nat → Bool) (g : Nat → Nat) (b : Nat) : ∀ x, lbF P g b x ≤ cnF P x
  | 0 => Nat.le_refl _
  | x + 1 => by
    have := lbF_le P g b x
    have := Nat.mod_lt (g x / 2 ^ b) (by decide : 0 < 2)
    simp only [lbF, cnF]
    split <;> omega
theorem lb_t {P : Nat → Bool} {g : Nat → Nat} {b x : Nat} (h : P x = true) : lbF P g b (x + 1) = lbF P g b x + g x / 2 ^ b % 2 := by simp only [lbF]; rw [if_pos h]
theorem lb_f {P : Nat → Bool} {g : Nat → Nat} {b x : Nat} (h : ¬ P x = true) : lbF P g b (x + 1) = lbF P g b x := by simp only [lbF]; rw [if_neg h]
def wkF (c : Nat) (lb : Nat → Nat) (b : Nat) : Nat := if c - lb b < lb b then lb b else c - lb b
def lkB (t : Txt) (f : Rw) (tl : List Tl) (k q b : Nat) : Nat := lbF (lyB t f tl k) (fun x => raF t f x q) b (2 ^ xN t)
def lookA (t : Txt) (f : Rw) (tl : List Tl) (k q : Int32) : Int32 := rng k 0 (tl.length + 1) (fun k => rng q 0 25 (fun q => if cnF (lyB t f tl k) (2 ^ xN t) = 0 then -2 else oI (-2) (mnF (wkF (cnF (lyB t f tl k) (2 ^ xN t)) (lkB t f tl k q)) (xN t))) (-1)) (-1)
theorem lk_end {c n : Nat} {lb : Nat → Nat} {op : Option (Nat × Nat)} (hp : mnF (wkF c lb) n = op) (hop : op = none ∨ 0 < c) : (if c = 0 then (-2 : Int32) else oI (-2) (mnF (wkF c lb) n)) = oI (-2) op := by
  by_cases h : c = 0
  · rw [if_pos h]
    rcases hop with h1 | h1
    · rw [h1]; rfl
    · omega
  · rw [if_neg h, hp]
theorem lk_end0 {c : Nat} {x : Int32} {op : Option (Nat × Nat)} (h : c = 0) (hop : op = none ∨ 0 < c) : (if c = 0 then (-2 : Int32) else x) = oI (-2) op := by
  rw [if_pos h]
  rcases hop with h1 | h1
  · rw [h1]; rfl
  · omega
theorem wk_le {c : Nat} {lb : Nat → Nat} {b : Nat} (h : lb b ≤ c) : wkF c lb b ≤ c := by unfold wkF; split <;> omega
theorem cw_X13_431 {R : Room} {s : State} {args : Array Value} (hts : ∀ w ∈ lw_all, w.before args s = true) {f w k j : Nat} (hR : f + 1 ≤ R.frames ∧ 8 + (5 + 11) + w ≤ R.locals) : CallW R s args RX13 RX13 431 yX13_fillsLay cX13_fillsLay 5 (some .int) (ws_ yX13_fillsLay cX13_fillsLay 5 (some .int)) (mkRmC f w k j) k j 1 := cwV 1 hts (lw_V q2054 q2056 qs105 q129 q2057) rfl rfl rfl (by decide +kernel) hR
set_option maxHeartbeats 4000000 in
theorem met_X13_lay (l : Launch) (D : va_G) (dA : Nat → ClassId) {o : Nat} {V : GI} {L : GL} {Rf : GR} {H0 : Heap} (hG : gP D dA o dM V L Rf H0) {lv : Nat} {t : Txt} (hX : txM V lv t) (hrv : RV (xN t) (V 30)) (tl : List Tl) (htl : tlM V tl) (v1 v2 : Int32) : Ctr l D dA yX13_lay cX13_lay 8 (some .int) (mkRm 9 196) [.ref o, .int v1, .int v2] H0 (AM o) (QI (fun r H1 => ∃ V1, gP D dA o dM V1 L Rf H1 ∧ Eqx PLy V V1 ∧ r = layA t (V 30) tl v1 v2)) := by
  have hT := hX.1
  have hT1 := hT.1
  have hT2 := hT.2.1
  have hp2 := two9 hT2
  have hpp := Nat.two_pow_pos (xN t)
  have ht20 := htl.1
  refine ctr_I (by decide) (Nat.le_of_ble_eq_true rfl) ?_
  intro p e s m args below meth c ls QQ locs hx hb hml hown hts hK hend hS hl
  have hl : lv_has ls 8 [(0, .ref o), (1, .int v1), (2, .int v2)] := hl
  refine lv_iload_n hx hb dX13_lay_0 rfl (lv_at hl 1 rfl) ?_
  refine lv_iconst (v := (nI 0)) hx hb dX13_lay_1 (by decide) ?_
  refine lv_aload_n hx hb dX13_lay_2 rfl (lv_at hl 0 rfl) ?_
  refine g_get (v := .int (nI tl.length)) hx hb hts hown hK hG 0 rfl rfl ok_X13 58 (by decide) q1529 rfl (congrArg Value.int htl.2.1) dX13_lay_3 ?_
  refine c_SI hx hb hml hts hown hK hl.1 hS ⟨Nat.le_refl _, Nat.le_refl _⟩ (met_X13_in l D dA v1 (nI 0) (nI tl.length)) (cw_X13_308 hts ⟨by decide, by decide⟩) rfl rfl (Nat.le_of_ble_eq_true rfl) dX13_lay_6 (fun _ h => h.elim) (fun r H1 locs hq hF hS => ?_)
  obtain ⟨rfl, rfl⟩ := hq
  rcases (inZ_cases v1 0 tl.length (by decide) (by omega)).symm with ⟨hz6, ho6⟩ | ⟨x1, hlo_x1, hhi_x1, rfl, hz6⟩
  · refine iv (y := nI 0) hz6 ?_
    refine n_if_eq (tgt := 21) hx hb dX13_lay_9 (by decide) (by decide) (fun _ => ?_) (fun z => absurd z (by decide))
    refine lv_iconst (v := (-1)) hx hb dX13_lay_21 (by decide) ?_
    refine hend _ _ _ _ _ hS dX13_lay_22 ?_
    exact ⟨_, rfl, _, hG, Eqx.rf, ((ho6.1 _ _)).symm⟩
  refine iv (y := nI 1) hz6 ?_
  have hl : lv_has ls 8 [(0, .ref o), (1, .int (nI x1)), (2, .int v2)] := hl
  refine n_if_eq (tgt := 21) hx hb dX13_lay_9 (by decide) (by decide) (fun z => absurd z (by decide)) (fun _ => ?_)
  refine lv_iload_n hx hb dX13_lay_12 rfl (lv_at hl 2 rfl) ?_
  refine lv_iconst (v := (nI 0)) hx hb dX13_lay_13 (by decide) ?_
  refine lv_iconst (v := (nI 3)) hx hb dX13_lay_14 (by decide) ?_
  refine c_SI hx hb hml hts hown hK hl.1 hS ⟨Nat.le_refl _, Nat.le_refl _⟩ (met_X13_in l D dA v2 (nI 0) (nI 3)) (cw_X13_308 hts ⟨by decide, by decide⟩) rfl rfl (Nat.le_of_ble_eq_true rfl) dX13_lay_15 (fun _ h => h.elim) (fun r H1 locs hq hF hS => ?_)
  obtain ⟨rfl, rfl⟩ := hq
  rcases (inZ_cases v2 0 3 (by decide) (by decide)).symm with ⟨hz15, ho15⟩ | ⟨x2, hlo_x2, hhi_x2, rfl, hz15⟩
  · refine iv (y := nI 0) hz15 ?_
    refine n_if_ne (tgt := 23) hx hb dX13_lay_18 (by decide) (by decide) (fun z => absurd z (by decide)) (fun _ => ?_)
    refine lv_iconst (v := (-1)) hx hb dX13_lay_21 (by decide) ?_
    refine hend _ _ _ _ _ hS dX13_lay_22 ?_
    exact ⟨_, rfl, _, hG, Eqx.rf, ((rng_in hlo_x1 hhi_x1 (by omega)).trans ((ho15.1 _ _))).symm⟩
  refine iv (y := nI 1) hz15 ?_
  have hl : lv_has ls 8 [(0, .ref o), (1, .int (nI x1)), (2, .int (nI x2))] := hl
  refine n_if_ne (tgt := 23) hx hb dX13_lay_18 (by decide) (by decide) (fun _ => ?_) (fun z => absurd z (by decide))
  refine lv_aload_n hx hb dX13_lay_23 rfl (lv_at hl 0 rfl) ?_
  refine lv_iload_n hx hb dX13_lay_24 rfl (lv_at hl 1 rfl) ?_
  refine c_VI hx hb hml hts hown hK hl.1 hS ⟨Nat.le_refl _, Nat.le_refl _⟩ (met_X13_fillsLay l D dA hG hX tl htl x1 (by omega)) (cw_X13_431 hts ⟨by decide, by decide⟩) (hG 0 _ rfl) rfl rfl rfl rfl (Nat.le_of_ble_eq_true rfl) dX13_lay_25 (fun _ h => h) (fun r H1 locs hq hF hS => ?_)
  obtain ⟨V1, hG, hE1, hr1, hly⟩ := hq
  generalize hHe1 : H1 = H at hG hS ⊢
  clear hHe1
  subst hr1
  have hcl := cnF_le (lyB t (V 30) tl x1) (2 ^ xN t)
  refine lv_istore_n (lv' := [(3, .int (nI (cnF (lyB t (V 30) tl x1) (2 ^ xN t)))), (0, .ref o), (1, .int (nI x1)), (2, .int (nI x2))]) hx hb dX13_lay_28 rfl hl (by decide) rfl (fun ls hl => ?_)
  refine lv_iload_n hx hb dX13_lay_29 rfl (lv_at hl 3 rfl) ?_
  refine n_if_ne (tgt := 35) hx hb dX13_lay_30 (by decide) (by omega) (fun c30 => ?_) (fun c30 => ?_)
  · refine lv_iload_n hx hb dX13_lay_35 rfl (lv_at hl 0 rfl) ?_
    refine n_if_ne (tgt := 42) hx hb dX13_lay_36 (by decide) (by omega) (fun c36 => ?_) (fun c36 => ?_)
    · refine lv_iconst (v := (-1)) hx hb dX13_lay_42 (by decide) ?_
      refine lv_istore (lv' := [(4, .int (-1)), (3, .int (nI (cnF (lyB t (V 30) tl x1) (2 ^ xN t)))), (0, .ref o), (1, .int (nI x1)), (2, .int (nI x2))]) hx hb dX13_lay_43 hl (by decide) rfl (fun ls hl => ?_)
      refine lv_aload_n hx hb dX13_lay_45 rfl (lv_at hl 2 rfl) ?_
      refine c_VI hx hb hml hts hown hK hl.1 hS ⟨Nat.le_refl _, Nat.le_refl _⟩ (met_X13_allBits l D dA hG (tM_to hT (hE1 0 18 rfl) (hE1 9 lv rfl))) (cw_X13_312 hts ⟨by decide, by decide⟩) (hG 0 _ rfl) rfl rfl rfl rfl (Nat.le_of_ble_eq_true rfl) dX13_lay_46 (fun _ h => h.elim) (fun r H1 locs hq hF hS => ?_)
      obtain ⟨rfl, rfl⟩ := hq
      refine lv_istore (lv' := [(5, .int (nI (2 ^ (xN t) - 1))), (4, .int (-1)), (3, .int (nI (cnF (lyB t (V 30) tl x1) (2 ^ xN t)))), (0, .ref o), (1, .int (nI x1)), (2, .int (nI x2))]) hx hb dX13_lay_49 hl (by decide) rfl (fun ls hl => ?_)
      refine lv_iconst (v := (nI 0)) hx hb dX13_lay_51 (by decide) ?_
      refine lv_istore (lv' := [(6, .int (nI 0)), (5, .int (nI (2 ^ (xN t) - 1))), (4, .int (-1)), (3, .int (nI (cnF (lyB t (V 30) tl x1) (2 ^ xN t)))), (0, .ref o), (1, .int (nI x1)), (2, .int (nI x2))]) hx hb dX13_lay_52 hl (by decide) rfl (fun ls hl => ?_)
      refine lv_aload_n hx hb dX13_lay_54 rfl (lv_at hl 4 rfl) ?_
      refine c_VI hx hb hml hts hown hK hl.1 hS ⟨Nat.le_refl _, Nat.le_refl _⟩ (met_X13_allBits l D dA hG (tM_to hT (hE1 0 18 rfl) (hE1 9 lv rfl))) (cw_X13_312 hts ⟨by decide, by decide⟩) (hG 0 _ rfl) rfl rfl rfl rfl (Nat.le_of_ble_eq_true rfl) dX13_lay_55 (fun _ h => h.elim) (fun r H1 locs hq hF hS => ?_)
      obtain ⟨rfl, rfl⟩ := hq
      refine iv (y := dI (2 ^ xN t)) (by rw [show 2 ^ xN t = (2 ^ xN t - 1) + 1 by omega]; rfl) ?_
      refine lv_istore (lv' := [(7, .int (dI (2 ^ xN t))), (6, .int (nI 0)), (5, .int (nI (2 ^ (xN t) - 1))), (4, .int (-1)), (3, .int (nI (cnF (lyB t (V 30) tl x1) (2 ^ xN t)))), (0, .ref o), (1, .int (nI x1)), (2, .int (nI x2))]) hx hb dX13_lay_58 hl (by decide) rfl (fun ls hl => ?_)
      have loop2 : ∀ (fu2 : Nat) (x : Nat) (op : Option Nat) (z : Nat) (y : Nat) (locs : List Loc) (ls : Array Slot), x < fu2 → (x ≤ 2 ^ xN t) → (fdR (lyB t (V 30) tl x1) x (2 ^ xN t - x) = op) → (laR (lyB t (V 30) tl x1) (2 ^ xN t - 1) x (2 ^ xN t - x) = z) → (orR (lyB t (V 30) tl x1) x (2 ^ xN t - x) = y) → va_S (AM o) H0 H locs → lv_has ls 8 [(7, .int (dI x)), (6, .int (nI y)), (5, .int (nI z)), (4, .int (o1 (-1) op)), (3, .int (nI (cnF (lyB t (V 30) tl x1) (2 ^ xN t)))), (0, .ref o), (1, .int (nI x1)), (2, .int (nI x2))] → W p l e (mkRm 9 196) s m args below meth c H locs 0 0 QQ (F0 m 60 ls []) := by
        intro fu2
        induction fu2 with
        | zero => intro x op z y locs ls hfu; exact absurd hfu (Nat.not_lt_zero _)
        | succ fu2 ih2 =>
          intro x op z y locs ls hfu hx2 hop hz hy hS hl
          rcases x with _ | x
          · have hl : lv_has ls 8 [(7, .int (-1)), (6, .int (nI y)), (5, .int (nI z)), (4, .int (o1 (-1) op)), (3, .int (nI (cnF (lyB t (V 30) tl x1) (2 ^ xN t)))), (0, .ref o), (1, .int (nI x1)), (2, .int (nI x2))] := hl
            refine lv_iload hx hb dX13_lay_60 (lv_at hl 0 rfl) ?_
            refine lv_if_lt (tgt := 102) hx hb dX13_lay_62 (by decide) (fun _ => ?_) (fun z => absurd (by decide) z)
            refine lv_iload_n hx hb dX13_lay_102 rfl (lv_at hl 7 rfl) ?_
            refine lv_iconst (v := (nI 1)) hx hb dX13_lay_103 (by decide) ?_
            refine n_icmp_ne (tgt := 112) hx hb dX13_lay_104 (by decide) (by omega) (by omega) (fun c104 => ?_) (fun c104 => ?_)
            · refine lv_iload_n hx hb dX13_lay_112 rfl (lv_at hl 7 rfl) ?_
              refine lv_iconst (v := (nI 2)) hx hb dX13_lay_113 (by decide) ?_
              refine n_icmp_ne (tgt := 122) hx hb dX13_lay_114 (by decide) (by omega) (by omega) (fun c114 => ?_) (fun c114 => ?_)
              · refine lv_aload_n hx hb dX13_lay_122 rfl (lv_at hl 5 rfl) ?_
                refine c_VI hx hb hml hts hown hK hl.1 hS ⟨Nat.le_refl _, Nat.le_refl _⟩ (met_X13_allBits l D dA hG (tM_to hT (hE1 0 18 rfl) (hE1 9 lv rfl))) (cw_X13_312 hts ⟨by decide, by decide⟩) (hG 0 _ rfl) rfl rfl rfl rfl (Nat.le_of_ble_eq_true rfl) dX13_lay_123 (fun _ h => h.elim) (fun r H1 locs hq hF hS => ?_)
                obtain ⟨rfl, rfl⟩ := hq
                refine lv_iload hx hb dX13_lay_126 (lv_at hl 1 rfl) ?_
                refine lv_iconst (v := (-1)) hx hb dX13_lay_128 (by decide) ?_
                refine lv_ixor hx hb dX13_lay_129 ?_
                refine lv_iand hx hb dX13_lay_130 ?_
                refine iv (y := (nI ((2 ^ xN t - 1) ^^^ ((2 ^ xN t - 1) &&& y)))) (nI_andnot _ _) ?_
                refine hend _ _ _ _ _ hS dX13_lay_131 ?_
                exact ⟨_, rfl, _, hG, hE1, ((rng_in hlo_x1 hhi_x1 (by omega)).trans ((rng_in hlo_x2 hhi_x2 (by omega)).trans (((if_neg (by omega)).trans ((if_neg (by omega)).trans ((if_neg (by omega)).trans ((if_neg (by omega)).trans (congrArg nI (by rw [lnn_eq, ← orR_0, ← hy, Nat.sub_zero]))))))))).symm⟩
              refine lv_iload hx hb dX13_lay_117 (lv_at hl 2 rfl) ?_
              refine lv_goto (tgt := 131) hx hb dX13_lay_119 (by decide) ?_
              refine hend _ _ _ _ _ hS dX13_lay_131 ?_
              exact ⟨_, rfl, _, hG, hE1, ((rng_in hlo_x1 hhi_x1 (by omega)).trans ((rng_in hlo_x2 hhi_x2 (by omega)).trans (((if_neg (by omega)).trans ((if_neg (by omega)).trans ((if_neg (by omega)).trans ((if_pos c114).trans (congrArg nI ((laR_0 _).symm.trans hz))))))))).symm⟩
            refine lv_iload hx hb dX13_lay_107 (lv_at hl 3 rfl) ?_
            refine lv_goto (tgt := 131) hx hb dX13_lay_109 (by decide) ?_
            refine hend _ _ _ _ _ hS dX13_lay_131 ?_
            exact ⟨_, rfl, _, hG, hE1, ((rng_in hlo_x1 hhi_x1 (by omega)).trans ((rng_in hlo_x2 hhi_x2 (by omega)).trans (((if_neg (by omega)).trans ((if_neg (by omega)).trans ((if_pos c104).trans (congrArg (o1 (-1)) ((fdR_0 _).symm.trans hop)))))))).symm⟩
          have hl : lv_has ls 8 [(7, .int (nI x)), (6, .int (nI y)), (5, .int (nI z)), (4, .int (o1 (-1) op)), (3, .int (nI (cnF (lyB t (V 30) tl x1) (2 ^ xN t)))), (0, .ref o), (1, .int (nI x1)), (2, .int (nI x2))] := hl
          have hmk := hly x (by omega)
          rcases hpx : lyB t (V 30) tl x1 x with _ | _
          · rw [hpx] at hmk
            refine lv_iload hx hb dX13_lay_60 (lv_at hl 0 rfl) ?_
            refine n_if_lt (tgt := 102) hx hb dX13_lay_62 (by decide) (by omega) ?_
            refine lv_aload_n hx hb dX13_lay_65 rfl (lv_at hl 5 rfl) ?_
            refine g_get hx hb hts hown hK hG 0 rfl rfl ok_X13 62 (by decide) q1533 rfl rfl dX13_lay_66 ?_
            refine lv_iload hx hb dX13_lay_69 (lv_at hl 0 rfl) ?_
            refine n_zald hx hb hK hG 41 rfl (by omega) (by decide) dX13_lay_71 ?_
            refine iv (y := (nI 0)) hmk ?_
            refine n_if_ne (tgt := 78) hx hb dX13_lay_72 (by decide) (by decide) (fun z => absurd z (by decide)) (fun _ => ?_)
            refine lv_goto (tgt := 96) hx hb dX13_lay_75 (by decide) ?_
            refine lv_iinc (v := (dI x)) (lv' := [(7, .int (dI x)), (6, .int (nI y)), (5, .int (nI z)), (4, .int (o1 (-1) op)), (3, .int (nI (cnF (lyB t (V 30) tl x1) (2 ^ xN t)))), (0, .ref o), (1, .int (nI x1)), (2, .int (nI x2))]) hx hb dX13_lay_96 hl (k := 0) rfl (dI_dec x) (by decide) rfl (fun ls hl => ?_)
            refine lv_goto (tgt := 60) hx hb dX13_lay_99 (by decide) ?_
            exact ih2 x op z y _ _ (by omega) (by omega) (by rw [show 2 ^ xN t - x = (2 ^ xN t - (x + 1)) + 1 by omega, fdR_f (P := lyB t (V 30) tl x1) (by rw [hpx]; decide), hop]) (by rw [show 2 ^ xN t - x = (2 ^ xN t - (x + 1)) + 1 by omega, laR_f (P := lyB t (V 30) tl x1) (by rw [hpx]; decide), hz]) (by rw [show 2 ^ xN t - x = (2 ^ xN t - (x + 1)) + 1 by omega, orR_f (P := lyB t (V 30) tl x1) (by rw [hpx]; decide), hy]) hS (lv_sub hl [0, 1, 2, 3, 4, 5, 6, 7] rfl)
          rw [hpx] at hmk
          refine lv_iload hx hb dX13_lay_60 (lv_at hl 0 rfl) ?_
          refine n_if_lt (tgt := 102) hx hb dX13_lay_62 (by decide) (by omega) ?_
          refine lv_aload_n hx hb dX13_lay_65 rfl (lv_at hl 5 rfl) ?_
          refine g_get hx hb hts hown hK hG 0 rfl rfl ok_X13 62 (by decide) q1533 rfl rfl dX13_lay_66 ?_
          refine lv_iload hx hb dX13_lay_69 (lv_at hl 0 rfl) ?_
          refine n_zald hx hb hK hG 41 rfl (by omega) (by decide) dX13_lay_71 ?_
          refine iv (y := (nI 1)) hmk ?_
          refine n_if_ne (tgt := 78) hx hb dX13_lay_72 (by decide) (by decide) (fun _ => ?_) (fun z => absurd z (by decide))
          refine lv_iload hx hb dX13_lay_78 (lv_at hl 0 rfl) ?_
          refine lv_istore (lv' := [(4, .int (nI x)), (7, .int (nI x)), (6, .int (nI y)), (5, .int (nI z)), (3, .int (nI (cnF (lyB t (V 30) tl x1) (2 ^ xN t)))), (0, .ref o), (1, .int (nI x1)), (2, .int (nI x2))]) hx hb dX13_lay_80 hl (by decide) rfl (fun ls hl => ?_)
          refine lv_iload hx hb dX13_lay_82 (lv_at hl 3 rfl) ?_
          refine lv_iload hx hb dX13_lay_84 (lv_at hl 1 rfl) ?_
          refine n_iand hx hb dX13_lay_86 ?_
          refine lv_istore (lv' := [(5, .int (nI (z &&& x))), (4, .int (nI x)), (7, .int (nI x)), (6, .int (nI y)), (3, .int (nI (cnF (lyB t (V 30) tl x1) (2 ^ xN t)))), (0, .ref o), (1, .int (nI x1)), (2, .int (nI x2))]) hx hb dX13_lay_87 hl (by decide) rfl (fun ls hl => ?_)
          refine lv_iload hx hb dX13_lay_89 (lv_at hl 3 rfl) ?_
          refine lv_iload hx hb dX13_lay_91 (lv_at hl 2 rfl) ?_
          refine n_ior hx hb dX13_lay_93 ?_
          refine lv_istore (lv' := [(6, .int (nI (y ||| x))), (5, .int (nI (z &&& x))), (4, .int (nI x)), (7, .int (nI x)), (3, .int (nI (cnF (lyB t (V 30) tl x1) (2 ^ xN t)))), (0, .ref o), (1, .int (nI x1)), (2, .int (nI x2))]) hx hb dX13_lay_94 hl (by decide) rfl (fun ls hl => ?_)
          refine lv_iinc (v := (dI x)) (lv' := [(7, .int (dI x)), (6, .int (nI (y ||| x))), (5, .int (nI (z &&& x))), (4, .int (nI x)), (3, .int (nI (cnF (lyB t (V 30) tl x1) (2 ^ xN t)))), (0, .ref o), (1, .int (nI x1)), (2, .int (nI x2))]) hx hb dX13_lay_96 hl (k := 3) rfl (dI_dec x) (by decide) rfl (fun ls hl => ?_)
          refine lv_goto (tgt := 60) hx hb dX13_lay_99 (by decide) ?_
          exact ih2 x (some x) (z &&& x) (y ||| x) _ _ (by omega) (by omega) (by rw [show 2 ^ xN t - x = (2 ^ xN t - (x + 1)) + 1 by omega, fdR_t (P := lyB t (V 30) tl x1) hpx]) (by rw [show 2 ^ xN t - x = (2 ^ xN t - (x + 1)) + 1 by omega, laR_t (P := lyB t (V 30) tl x1) hpx, hz]) (by rw [show 2 ^ xN t - x = (2 ^ xN t - (x + 1)) + 1 by omega, orR_t (P := lyB t (V 30) tl x1) hpx, hy]) hS (lv_sub hl [0, 1, 2, 3, 4, 5, 6, 7] rfl)
      exact loop2 ((2 ^ xN t) + 1) (2 ^ xN t) none (2 ^ xN t - 1) 0 _ _ (Nat.lt_succ_self _) (Nat.le_refl _) (by rw [Nat.sub_self]; rfl) (by rw [Nat.sub_self]; rfl) (by rw [Nat.sub_self]; rfl) hS (lv_sub hl [0, 1, 2, 3, 4, 5, 6, 7] rfl)
    refine lv_bipush (v := (-2)) hx hb dX13_lay_39 (by decide) ?_
    refine hend _ _ _ _ _ hS dX13_lay_41 ?_
    exact ⟨_, rfl, _, hG, hE1, ((rng_in hlo_x1 hhi_x1 (by omega)).trans ((rng_in hlo_x2 hhi_x2 (by omega)).trans (((if_neg (by omega)).trans (if_pos c36))))).symm⟩
  refine lv_iload_n hx hb dX13_lay_33 rfl (lv_at hl 0 rfl) ?_
  refine hend _ _ _ _ _ hS dX13_lay_34 ?_
  exact ⟨_, rfl, _, hG, hE1, ((rng_in hlo_x1 hhi_x1 (by omega)).trans ((rng_in hlo_x2 hhi_x2 (by omega)).trans ((if_pos c30)))).symm⟩
set_option maxHeartbeats 4000000 in
theorem met_X13_look (l : Launch) (D : va_G) (dA : Nat → ClassId) {o : Nat} {V : GI} {L : GL} {Rf : GR} {H0 : Heap} (hG : gP D dA o dM V L Rf H0) {lv : Nat} {t : Txt} (hX : txM V lv t) (hrv : RV (xN t) (V 30)) (tl : List Tl) (htl : tlM V tl) (v1 v2 : Int32) : Ctr l D dA yX13_look cX13_look 8 (some .int) (mkRm 9 196) [.ref o, .int v1, .int v2] H0 (AM o) (QI (fun r H1 => ∃ V1, gP D dA o dM V1 L Rf H1 ∧ Eqx PLk V V1 ∧ r = lookA t (V 30) tl v1 v2)) := by
  have hT := hX.1
  have hT1 := hT.1
  have hT2 := hT.2.1
  have hp2 := two9 hT2
  have hpp := Nat.two_pow_pos (xN t)
  have ht20 := htl.1
  refine ctr_I (by decide) (Nat.le_of_ble_eq_true rfl) ?_
  intro p e s m args below meth c ls QQ locs hx hb hml hown hts hK hend hS hl
  have hl : lv_has ls 8 [(0, .ref o), (1, .int v1), (2, .int v2)] := hl
  refine lv_iload_n hx hb dX13_look_0 rfl (lv_at hl 1 rfl) ?_
  refine lv_iconst (v := (nI 0)) hx hb dX13_look_1 (by decide) ?_
  refine lv_aload_n hx hb dX13_look_2 rfl (lv_at hl 0 rfl) ?_
  refine g_get (v := .int (nI tl.length)) hx hb hts hown hK hG 0 rfl rfl ok_X13 58 (by decide) q1529 rfl (congrArg Value.int htl.2.1) dX13_look_3 ?_
  refine c_SI hx hb hml hts hown hK hl.1 hS ⟨Nat.le_refl _, Nat.le_refl _⟩ (met_X13_in l D dA v1 (nI 0) (nI tl.length)) (cw_X13_308 hts ⟨by decide, by decide⟩) rfl rfl (Nat.le_of_ble_eq_true rfl) dX13_look_6 (fun _ h => h.elim) (fun r H1 locs hq hF hS => ?_)
  obtain ⟨rfl, rfl⟩ := hq
  rcases (inZ_cases v1 0 tl.length (by decide) (by omega)).symm with ⟨hz6, ho6⟩ | ⟨x1, hlo_x1, hhi_x1, rfl, hz6⟩
  · refine iv (y := nI 0) hz6 ?_
    refine n_if_eq (tgt := 19) hx hb dX13_look_9 (by decide) (by decide) (fun _ => ?_) (fun z => absurd z (by decide))
    refine lv_iconst (v := (-1)) hx hb dX13_look_19 (by decide) ?_
    refine hend _ _ _ _ _ hS dX13_look_20 ?_
    exact ⟨_, rfl, _, hG, Eqx.rf, ((ho6.1 _ _)).symm⟩
  refine iv (y := nI 1) hz6 ?_
  have hl : lv_has ls 8 [(0, .ref o), (1, .int (nI x1)), (2, .int v2)] := hl
  refine n_if_eq (tgt := 19) hx hb dX13_look_9 (by decide) (by decide) (fun z => absurd z (by decide)) (fun _ => ?_)
  refine lv_iload_n hx hb dX13_look_12 rfl (lv_at hl 2 rfl) ?_
  refine c_SI hx hb hml hts hown hK hl.1 hS ⟨Nat.le_refl _, Nat.le_refl _⟩ (met_X13_isShort l D dA v2) (cw_X13_404 hts ⟨by decide, by decide⟩) rfl rfl (Nat.le_of_ble_eq_true rfl) dX13_look_13 (fun _ h => h.elim) (fun r H1 locs hq hF hS => ?_)
  obtain ⟨rfl, rfl⟩ := hq
  rcases (inZ_cases v2 0 24 (by decide) (by decide)).symm with ⟨hz13, ho13⟩ | ⟨x2, hlo_x2, hhi_x2, rfl, hz13⟩
  · refine iv (y := nI 0) hz13 ?_
    refine n_if_ne (tgt := 21) hx hb dX13_look_16 (by decide) (by decide) (fun z => absurd z (by decide)) (fun _ => ?_)
    refine lv_iconst (v := (-1)) hx hb dX13_look_19 (by decide) ?_
    refine hend _ _ _ _ _ hS dX13_look_20 ?_
    exact ⟨_, rfl, _, hG, Eqx.rf, ((rng_in hlo_x1 hhi_x1 (by omega)).trans ((ho13.1 _ _))).symm⟩
  refine iv (y := nI 1) hz13 ?_
  have hl : lv_has ls 8 [(0, .ref o), (1, .int (nI x1)), (2, .int (nI x2))] := hl
  refine n_if_ne (tgt := 21) hx hb dX13_look_16 (by decide) (by decide) (fun _ => ?_) (fun z => absurd z (by decide))
  refine lv_aload_n hx hb dX13_look_21 rfl (lv_at hl 0 rfl) ?_
  refine lv_iload_n hx hb dX13_look_22 rfl (lv_at hl 1 rfl) ?_
  refine c_VI hx hb hml hts hown hK hl.1 hS ⟨Nat.le_refl _, Nat.le_refl _⟩ (met_X13_fillsLay l D dA hG hX tl htl x1 (by omega)) (cw_X13_431 hts ⟨by decide, by decide⟩) (hG 0 _ rfl) rfl rfl rfl rfl (Nat.le_of_ble_eq_true rfl) dX13_look_23 (fun _ h => h) (fun r H1 locs hq hF hS => ?_)
  obtain ⟨V1, hG, hE1, hr1, hly⟩ := hq
  generalize hHe1 : H1 = H at hG hS ⊢
  clear hHe1
  subst hr1
  have hcl := cnF_le (lyB t (V 30) tl x1) (2 ^ xN t)
  refine lv_istore_n (lv' := [(3, .int (nI (cnF (lyB t (V 30) tl x1) (2 ^ xN t)))), (0, .ref o), (1, .int (nI x1)), (2, .int (nI x2))]) hx hb dX13_look_26 rfl hl (by decide) rfl (fun ls hl => ?_)
  refine lv_iconst (v := (nI 0)) hx hb dX13_look_27 (by decide) ?_
  refine lv_istore (lv' := [(4, .int (nI 0)), (3, .int (nI (cnF (lyB t (V 30) tl x1) (2 ^ xN t)))), (0, .ref o), (1, .int (nI x1)), (2, .int (nI x2))]) hx hb dX13_look_28 hl (by decide) rfl (fun ls hl => ?_)
  have loop2 : ∀ (fu2 : Nat) (b : Nat) (V2 : GI) (H : Heap) (locs : List Loc) (ls : Array Slot), xN t - b < fu2 → (b ≤ xN t) → (Eqx PK V1 V2) → (∀ j, j < b → V2 37 j = nI 0) → gP D dA o dM V2 L Rf H → va_S (AM o) H0 H locs → lv_has ls 8 [(4, .int (nI b)), (3, .int (nI (cnF (lyB t (V 30) tl x1) (2 ^ xN t)))), (0, .ref o), (1, .int (nI x1)), (2, .int (nI x2))] → W p l e (mkRm 9 196) s m args below meth c H locs 0 0 QQ (F0 m 30 ls []) := by
    intro fu2
    induction fu2 with
    | zero => intro b V2 H locs ls hfu; exact absurd hfu (Nat.not_lt_zero _)
    | succ fu2 ih2 =>
      intro b V2 H locs ls hfu hbn hE2 hz0 hG hS hl
      refine lv_iload hx hb dX13_look_30 (lv_at hl 0 rfl) ?_
      refine lv_aload_n hx hb dX13_look_32 rfl (lv_at hl 2 rfl) ?_
      refine c_VI hx hb hml hts hown hK hl.1 hS ⟨Nat.le_refl _, Nat.le_refl _⟩ (met_X13_many l D dA hG (tM_to hT ((hE2 0 18 rfl).trans (hE1 0 18 rfl)) ((hE2 9 lv rfl).trans (hE1 9 lv rfl)))) (cw_X13_304 hts ⟨by decide, by decide⟩) (hG 0 _ rfl) rfl rfl rfl rfl (Nat.le_of_ble_eq_true rfl) dX13_look_33 (fun _ h => h.elim) (fun r H1 locs hq hF hS => ?_)
      obtain ⟨rfl, rfl⟩ := hq
      refine n_icmp_ge (tgt := 53) hx hb dX13_look_36 (by decide) (by omega) (by omega) (fun c36 => ?_) (fun c36 => ?_)
      · obtain rfl : b = xN t := by omega
        refine lv_iconst (v := (nI 0)) hx hb dX13_look_53 (by decide) ?_
        refine lv_istore (lv' := [(4, .int (nI 0)), (3, .int (nI (cnF (lyB t (V 30) tl x1) (2 ^ xN t)))), (0, .ref o), (1, .int (nI x1)), (2, .int (nI x2))]) hx hb dX13_look_54 hl (by decide) rfl (fun ls hl => ?_)
        have loop3 : ∀ (fu3 : Nat) (x : Nat) (V3 : GI) (H : Heap) (locs : List Loc) (ls : Array Slot), 2 ^ xN t - x < fu3 → (x ≤ 2 ^ xN t) → (Eqx PB V2 V3) → (∀ j, j < xN t → V3 37 j = nI (lbF (lyB t (V 30) tl x1) (fun x => raF t (V 30) x x2) j x)) → gP D dA o dM V3 L Rf H → va_S (AM o) H0 H locs → lv_has ls 8 [(4, .int (nI x)), (3, .int (nI (cnF (lyB t (V 30) tl x1) (2 ^ xN t)))), (0, .ref o), (1, .int (nI x1)), (2, .int (nI x2))] → W p l e (mkRm 9 196) s m args below meth c H locs 0 0 QQ (F0 m 56 ls []) := by
          intro fu3
          induction fu3 with
          | zero => intro x V3 H locs ls hfu; exact absurd hfu (Nat.not_lt_zero _)
          | succ fu3 ih3 =>
            intro x V3 H locs ls hfu hx2 hE3 hlb hG hS hl
            refine lv_iload hx hb dX13_look_56 (lv_at hl 0 rfl) ?_
            refine lv_aload_n hx hb dX13_look_58 rfl (lv_at hl 2 rfl) ?_
            refine c_VI hx hb hml hts hown hK hl.1 hS ⟨Nat.le_refl _, Nat.le_refl _⟩ (met_X13_allBits l D dA hG (tM_to hT ((hE3 0 18 rfl).trans ((hE2 0 18 rfl).trans (hE1 0 18 rfl))) ((hE3 9 lv rfl).trans ((hE2 9 lv rfl).trans (hE1 9 lv rfl))))) (cw_X13_312 hts ⟨by decide, by decide⟩) (hG 0 _ rfl) rfl rfl rfl rfl (Nat.le_of_ble_eq_true rfl) dX13_look_59 (fun _ h => h.elim) (fun r H1 locs hq hF hS => ?_)
            obtain ⟨rfl, rfl⟩ := hq
            refine n_icmp_gt (tgt := 128) hx hb dX13_look_62 (by decide) (by omega) (by omega) (fun c62 => ?_) (fun c62 => ?_)
            · obtain rfl : x = 2 ^ xN t := by omega
              refine lv_bipush (v := (-2)) hx hb dX13_look_128 (by decide) ?_
              refine lv_istore (lv' := [(4, .int (-2)), (3, .int (nI (cnF (lyB t (V 30) tl x1) (2 ^ xN t)))), (0, .ref o), (1, .int (nI x1)), (2, .int (nI x2))]) hx hb dX13_look_130 hl (by decide) rfl (fun ls hl => ?_)
              refine lv_iconst (v := (nI 0)) hx hb dX13_look_132 (by decide) ?_
              refine lv_istore (lv' := [(5, .int (nI 0)), (4, .int (-2)), (3, .int (nI (cnF (lyB t (V 30) tl x1) (2 ^ xN t)))), (0, .ref o), (1, .int (nI x1)), (2, .int (nI x2))]) hx hb dX13_look_133 hl (by decide) rfl (fun ls hl => ?_)
              refine lv_iconst (v := (nI 0)) hx hb dX13_look_135 (by decide) ?_
              refine lv_istore (lv' := [(6, .int (nI 0)), (5, .int (nI 0)), (4, .int (-2)), (3, .int (nI (cnF (lyB t (V 30) tl x1) (2 ^ xN t)))), (0, .ref o), (1, .int (nI x1)), (2, .int (nI x2))]) hx hb dX13_look_136 hl (by decide) rfl (fun ls hl => ?_)
              have loop4 : ∀ (fu4 : Nat) (b : Nat) (op : Option (Nat × Nat)) (locs : List Loc) (ls : Array Slot), xN t - b < fu4 → (b ≤ xN t) → (mnF (wkF (cnF (lyB t (V 30) tl x1) (2 ^ xN t)) (lkB t (V 30) tl x1 x2)) b = op) → (op = none ∨ 0 < cnF (lyB t (V 30) tl x1) (2 ^ xN t)) → va_S (AM o) H0 H locs → lv_has ls 8 [(6, .int (nI b)), (5, .int (oV 0 op)), (4, .int (oI (-2) op)), (3, .int (nI (cnF (lyB t (V 30) tl x1) (2 ^ xN t)))), (0, .ref o), (1, .int (nI x1)), (2, .int (nI x2))] → W p l e (mkRm 9 196) s m args below meth c H locs 0 0 QQ (F0 m 138 ls []) := by
                intro fu4
                induction fu4 with
                | zero => intro b op locs ls hfu; exact absurd hfu (Nat.not_lt_zero _)
                | succ fu4 ih4 =>
                  intro b op locs ls hfu hbn hp hop9 hS hl
                  refine lv_iload hx hb dX13_look_138 (lv_at hl 0 rfl) ?_
                  refine lv_aload_n hx hb dX13_look_140 rfl (lv_at hl 4 rfl) ?_
                  refine c_VI hx hb hml hts hown hK hl.1 hS ⟨Nat.le_refl _, Nat.le_refl _⟩ (met_X13_many l D dA hG (tM_to hT ((hE3 0 18 rfl).trans ((hE2 0 18 rfl).trans (hE1 0 18 rfl))) ((hE3 9 lv rfl).trans ((hE2 9 lv rfl).trans (hE1 9 lv rfl))))) (cw_X13_304 hts ⟨by decide, by decide⟩) (hG 0 _ rfl) rfl rfl rfl rfl (Nat.le_of_ble_eq_true rfl) dX13_look_141 (fun _ h => h.elim) (fun r H1 locs hq hF hS => ?_)
                  obtain ⟨rfl, rfl⟩ := hq
                  refine n_icmp_ge (tgt := 220) hx hb dX13_look_144 (by decide) (by omega) (by omega) (fun c144 => ?_) (fun c144 => ?_)
                  · obtain rfl : b = xN t := by omega
                    refine lv_iload hx hb dX13_look_220 (lv_at hl 2 rfl) ?_
                    refine hend _ _ _ _ _ hS dX13_look_222 ?_
                    exact ⟨_, rfl, _, hG, (((hE1.mono PLy_PLk).trans (hE2.mono PK_PLk)).trans (hE3.mono PB_PLk)), ((rng_in hlo_x1 hhi_x1 (by omega)).trans ((rng_in hlo_x2 hhi_x2 (by omega)).trans ((lk_end hp hop9)))).symm⟩
                  have hlbl : lkB t (V 30) tl x1 x2 b ≤ cnF (lyB t (V 30) tl x1) (2 ^ xN t) := lbF_le _ _ _ _
                  refine lv_iload_n hx hb dX13_look_147 rfl (lv_at hl 3 rfl) ?_
                  refine n_if_le (tgt := 220) hx hb dX13_look_148 (by decide) (by omega) (fun c148 => ?_) (fun c148 => ?_)
                  · refine lv_iload hx hb dX13_look_220 (lv_at hl 2 rfl) ?_
                    refine hend _ _ _ _ _ hS dX13_look_222 ?_
                    exact ⟨_, rfl, _, hG, (((hE1.mono PLy_PLk).trans (hE2.mono PK_PLk)).trans (hE3.mono PB_PLk)), ((rng_in hlo_x1 hhi_x1 (by omega)).trans ((rng_in hlo_x2 hhi_x2 (by omega)).trans ((lk_end0 c148 hop9)))).symm⟩
                  rcases op with _ | ⟨i, v⟩
                  · have hl : lv_has ls 8 [(6, .int (nI b)), (5, .int (nI 0)), (4, .int (-2)), (3, .int (nI (cnF (lyB t (V 30) tl x1) (2 ^ xN t)))), (0, .ref o), (1, .int (nI x1)), (2, .int (nI x2))] := hl
                    refine lv_aload_n hx hb dX13_look_151 rfl (lv_at hl 4 rfl) ?_
                    refine g_get hx hb hts hown hK hG 0 rfl rfl ok_X13 57 (by decide) q1528 rfl rfl dX13_look_152 ?_
                    refine lv_iload hx hb dX13_look_155 (lv_at hl 0 rfl) ?_
                    refine n_iald hx hb hK hG 37 rfl (by omega) (by decide) dX13_look_157 ?_
                    refine iv (y := (nI (lkB t (V 30) tl x1 x2 b))) (hlb b (by omega)) ?_
                    refine lv_iload_n hx hb dX13_look_158 rfl (lv_at hl 3 rfl) ?_
                    refine lv_aload_n hx hb dX13_look_159 rfl (lv_at hl 4 rfl) ?_
                    refine g_get hx hb hts hown hK hG 0 rfl rfl ok_X13 57 (by decide) q1528 rfl rfl dX13_look_160 ?_
                    refine lv_iload hx hb dX13_look_163 (lv_at hl 0 rfl) ?_
                    refine n_iald hx hb hK hG 37 rfl (by omega) (by decide) dX13_look_165 ?_
                    refine iv (y := (nI (lkB t (V 30) tl x1 x2 b))) (hlb b (by omega)) ?_
                    refine n_isub hx hb dX13_look_166 (by omega) ?_
                    refine n_icmp_le (tgt := 180) hx hb dX13_look_167 (by decide) (by omega) (by omega) (fun c167 => ?_) (fun c167 => ?_)
                    · refine lv_iload_n hx hb dX13_look_180 rfl (lv_at hl 3 rfl) ?_
                      refine lv_aload_n hx hb dX13_look_181 rfl (lv_at hl 4 rfl) ?_
                      refine g_get hx hb hts hown hK hG 0 rfl rfl ok_X13 57 (by decide) q1528 rfl rfl dX13_look_182 ?_
                      refine lv_iload hx hb dX13_look_185 (lv_at hl 0 rfl) ?_
                      refine n_iald hx hb hK hG 37 rfl (by omega) (by decide) dX13_look_187 ?_
                      refine iv (y := (nI (lkB t (V 30) tl x1 x2 b))) (hlb b (by omega)) ?_
                      refine n_isub hx hb dX13_look_188 (by omega) ?_
                      have hwk : ((cnF (lyB t (V 30) tl x1) (2 ^ xN t)) - (lkB t (V 30) tl x1 x2 b)) = wkF (cnF (lyB t (V 30) tl x1) (2 ^ xN t)) (lkB t (V 30) tl x1 x2) b := (if_neg (by omega)).symm
                      refine iv (y := nI (wkF (cnF (lyB t (V 30) tl x1) (2 ^ xN t)) (lkB t (V 30) tl x1 x2) b)) (congrArg nI hwk) ?_
                      have hwl : wkF (cnF (lyB t (V 30) tl x1) (2 ^ xN t)) (lkB t (V 30) tl x1 x2) b ≤ 512 := by omega
                      refine lv_istore (lv' := [(7, .int (nI (wkF (cnF (lyB t (V 30) tl x1) (2 ^ xN t)) (lkB t (V 30) tl x1 x2) b))), (6, .int (nI b)), (5, .int (nI 0)), (4, .int (-2)), (3, .int (nI (cnF (lyB t (V 30) tl x1) (2 ^ xN t)))), (0, .ref o), (1, .int (nI x1)), (2, .int (nI x2))]) hx hb dX13_look_189 hl (by decide) rfl (fun ls hl => ?_)
                      refine lv_iload hx hb dX13_look_191 (lv_at hl 3 rfl) ?_
                      refine lv_if_lt (tgt := 206) hx hb dX13_look_193 (by decide) (fun _ => ?_) (fun z => absurd (by decide) z)
                      refine lv_iload hx hb dX13_look_206 (lv_at hl 1 rfl) ?_
                      refine lv_istore (lv' := [(4, .int (nI b)), (7, .int (nI (wkF (cnF (lyB t (V 30) tl x1) (2 ^ xN t)) (lkB t (V 30) tl x1 x2) b))), (6, .int (nI b)), (5, .int (nI 0)), (3, .int (nI (cnF (lyB t (V 30) tl x1) (2 ^ xN t)))), (0, .ref o), (1, .int (nI x1)), (2, .int (nI x2))]) hx hb dX13_look_208 hl (by decide) rfl (fun ls hl => ?_)
                      refine lv_iload hx hb dX13_look_210 (lv_at hl 1 rfl) ?_
                      refine lv_istore (lv' := [(5, .int (nI (wkF (cnF (lyB t (V 30) tl x1) (2 ^ xN t)) (lkB t (V 30) tl x1 x2) b))), (4, .int (nI b)), (7, .int (nI (wkF (cnF (lyB t (V 30) tl x1) (2 ^ xN t)) (lkB t (V 30) tl x1 x2) b))), (6, .int (nI b)), (3, .int (nI (cnF (lyB t (V 30) tl x1) (2 ^ xN t)))), (0, .ref o), (1, .int (nI x1)), (2, .int (nI x2))]) hx hb dX13_look_212 hl (by decide) rfl (fun ls hl => ?_)
                      refine lv_iinc (v := (nI (b + 1))) (lv' := [(6, .int (nI (b + 1))), (5, .int (nI (wkF (cnF (lyB t (V 30) tl x1) (2 ^ xN t)) (lkB t (V 30) tl x1 x2) b))), (4, .int (nI b)), (7, .int (nI (wkF (cnF (lyB t (V 30) tl x1) (2 ^ xN t)) (lkB t (V 30) tl x1 x2) b))), (3, .int (nI (cnF (lyB t (V 30) tl x1) (2 ^ xN t)))), (0, .ref o), (1, .int (nI x1)), (2, .int (nI x2))]) hx hb dX13_look_214 hl (k := 3) rfl (nI_add _ _) (by decide) rfl (fun ls hl => ?_)
                      refine lv_goto (tgt := 138) hx hb dX13_look_217 (by decide) ?_
                      exact ih4 (b + 1) (some (b, wkF (cnF (lyB t (V 30) tl x1) (2 ^ xN t)) (lkB t (V 30) tl x1 x2) b)) _ _ (by omega) (by omega) (mnF_n hp) (Or.inr c148) hS (lv_sub hl [0, 1, 2, 4, 5, 6, 7] rfl)
                    refine lv_aload_n hx hb dX13_look_170 rfl (lv_at hl 4 rfl) ?_
                    refine g_get hx hb hts hown hK hG 0 rfl rfl ok_X13 57 (by decide) q1528 rfl rfl dX13_look_171 ?_
                    refine lv_iload hx hb dX13_look_174 (lv_at hl 0 rfl) ?_
                    refine n_iald hx hb hK hG 37 rfl (by omega) (by decide) dX13_look_176 ?_
                    refine iv (y := (nI (lkB t (V 30) tl x1 x2 b))) (hlb b (by omega)) ?_
                    refine lv_goto (tgt := 189) hx hb dX13_look_177 (by decide) ?_
                    have hwk : (lkB t (V 30) tl x1 x2 b) = wkF (cnF (lyB t (V 30) tl x1) (2 ^ xN t)) (lkB t (V 30) tl x1 x2) b := (if_pos c167).symm
                    refine iv (y := nI (wkF (cnF (lyB t (V 30) tl x1) (2 ^ xN t)) (lkB t (V 30) tl x1 x2) b)) (congrArg nI hwk) ?_
                    have hwl : wkF (cnF (lyB t (V 30) tl x1) (2 ^ xN t)) (lkB t (V 30) tl x1 x2) b ≤ 512 := by omega
                    refine lv_istore (lv' := [(7, .int (nI (wkF (cnF (lyB t (V 30) tl x1) (2 ^ xN t)) (lkB t (V 30) tl x1 x2) b))), (6, .int (nI b)), (5, .int (nI 0)), (4, .int (-2)), (3, .int (nI (cnF (lyB t (V 30) tl x1) (2 ^ xN t)))), (0, .ref o), (1, .int (nI x1)), (2, .int (nI x2))]) hx hb dX13_look_189 hl (by decide) rfl (fun ls hl => ?_)
                    refine lv_iload hx hb dX13_look_191 (lv_at hl 3 rfl) ?_
                    refine lv_if_lt (tgt := 206) hx hb dX13_look_193 (by decide) (fun _ => ?_) (fun z => absurd (by decide) z)
                    refine lv_iload hx hb dX13_look_206 (lv_at hl 1 rfl) ?_
                    refine lv_istore (lv' := [(4, .int (nI b)), (7, .int (nI (wkF (cnF (lyB t (V 30) tl x1) (2 ^ xN t)) (lkB t (V 30) tl x1 x2) b))), (6, .int (nI b)), (5, .int (nI 0)), (3, .int (nI (cnF (lyB t (V 30) tl x1) (2 ^ xN t)))), (0, .ref o), (1, .int (nI x1)), (2, .int (nI x2))]) hx hb dX13_look_208 hl (by decide) rfl (fun ls hl => ?_)
                    refine lv_iload hx hb dX13_look_210 (lv_at hl 1 rfl) ?_
                    refine lv_istore (lv' := [(5, .int (nI (wkF (cnF (lyB t (V 30) tl x1) (2 ^ xN t)) (lkB t (V 30) tl x1 x2) b))), (4, .int (nI b)), (7, .int (nI (wkF (cnF (lyB t (V 30) tl x1) (2 ^ xN t)) (lkB t (V 30) tl x1 x2) b))), (6, .int (nI b)), (3, .int (nI (cnF (lyB t (V 30) tl x1) (2 ^ xN t)))), (0, .ref o), (1, .int (nI x1)), (2, .int (nI x2))]) hx hb dX13_look_212 hl (by decide) rfl (fun ls hl => ?_)
                    refine lv_iinc (v := (nI (b + 1))) (lv' := [(6, .int (nI (b + 1))), (5, .int (nI (wkF (cnF (lyB t (V 30) tl x1) (2 ^ xN t)) (lkB t (V 30) tl x1 x2) b))), (4, .int (nI b)), (7, .int (nI (wkF (cnF (lyB t (V 30) tl x1) (2 ^ xN t)) (lkB t (V 30) tl x1 x2) b))), (3, .int (nI (cnF (lyB t (V 30) tl x1) (2 ^ xN t)))), (0, .ref o), (1, .int (nI x1)), (2, .int (nI x2))]) hx hb dX13_look_214 hl (k := 3) rfl (nI_add _ _) (by decide) rfl (fun ls hl => ?_)
                    refine lv_goto (tgt := 138) hx hb dX13_look_217 (by decide) ?_
                    exact ih4 (b + 1) (some (b, wkF (cnF (lyB t (V 30) tl x1) (2 ^ xN t)) (lkB t (V 30) tl x1 x2) b)) _ _ (by omega) (by omega) (mnF_n hp) (Or.inr c148) hS (lv_sub hl [0, 1, 2, 4, 5, 6, 7] rfl)
                  have hl : lv_has ls 8 [(6, .int (nI b)), (5, .int (nI v)), (4, .int (nI i)), (3, .int (nI (cnF (lyB t (V 30) tl x1) (2 ^ xN t)))), (0, .ref o), (1, .int (nI x1)), (2, .int (nI x2))] := hl
                  have hi9 := (mnF_lt hp).1
                  have hv9 : v ≤ 512 := (mnF_lt hp).2 ▸ Nat.le_trans (wk_le (lbF_le _ _ _ _)) (Nat.le_trans (cnF_le _ _) hp2)
                  refine lv_aload_n hx hb dX13_look_151 rfl (lv_at hl 4 rfl) ?_
                  refine g_get hx hb hts hown hK hG 0 rfl rfl ok_X13 57 (by decide) q1528 rfl rfl dX13_look_152 ?_
                  refine lv_iload hx hb dX13_look_155 (lv_at hl 0 rfl) ?_
                  refine n_iald hx hb hK hG 37 rfl (by omega) (by decide) dX13_look_157 ?_
                  refine iv (y := (nI (lkB t (V 30) tl x1 x2 b))) (hlb b (by omega)) ?_
                  refine lv_iload_n hx hb dX13_look_158 rfl (lv_at hl 3 rfl) ?_
                  refine lv_aload_n hx hb dX13_look_159 rfl (lv_at hl 4 rfl) ?_
                  refine g_get hx hb hts hown hK hG 0 rfl rfl ok_X13 57 (by decide) q1528 rfl rfl dX13_look_160 ?_
                  refine lv_iload hx hb dX13_look_163 (lv_at hl 0 rfl) ?_
                  refine n_iald hx hb hK hG 37 rfl (by omega) (by decide) dX13_look_165 ?_
                  refine iv (y := (nI (lkB t (V 30) tl x1 x2 b))) (hlb b (by omega)) ?_
                  refine n_isub hx hb dX13_look_166 (by omega) ?_
                  refine n_icmp_le (tgt := 180) hx hb dX13_look_167 (by decide) (by omega) (by omega) (fun c167 => ?_) (fun c167 => ?_)
                  · refine lv_iload_n hx hb dX13_look_180 rfl (lv_at hl 3 rfl) ?_
                    refine lv_aload_n hx hb dX13_look_181 rfl (lv_at hl 4 rfl) ?_
                    refine g_get hx hb hts hown hK hG 0 rfl rfl ok_X13 57 (by decide) q1528 rfl rfl dX13_look_182 ?_
                    refine lv_iload hx hb dX13_look_185 (lv_at hl 0 rfl) ?_
                    refine n_iald hx hb hK hG 37 rfl (by omega) (by decide) dX13_look_187 ?_
                    refine iv (y := (nI (lkB t (V 30) tl x1 x2 b))) (hlb b (by omega)) ?_
                    refine n_isub hx hb dX13_look_188 (by omega) ?_
                    have hwk : ((cnF (lyB t (V 30) tl x1) (2 ^ xN t)) - (lkB t (V 30) tl x1 x2 b)) = wkF (cnF (lyB t (V 30) tl x1) (2 ^ xN t)) (lkB t (V 30) tl x1 x2) b := (if_neg (by omega)).symm
                    refine iv (y := nI (wkF (cnF (lyB t (V 30) tl x1) (2 ^ xN t)) (lkB t (V 30) tl x1 x2) b)) (congrArg nI hwk) ?_
                    have hwl : wkF (cnF (lyB t (V 30) tl x1) (2 ^ xN t)) (lkB t (V 30) tl x1 x2) b ≤ 512 := by omega
                    refine lv_istore (lv' := [(7, .int (nI (wkF (cnF (lyB t (V 30) tl x1) (2 ^ xN t)) (lkB t (V 30) tl x1 x2) b))), (6, .int (nI b)), (5, .int (nI v)), (4, .int (nI i)), (3, .int (nI (cnF (lyB t (V 30) tl x1) (2 ^ xN t)))), (0, .ref o), (1, .int (nI x1)), (2, .int (nI x2))]) hx hb dX13_look_189 hl (by decide) rfl (fun ls hl => ?_)
                    refine lv_iload hx hb dX13_look_191 (lv_at hl 3 rfl) ?_
                    refine n_if_lt (tgt := 206) hx hb dX13_look_193 (by decide) (by omega) ?_
                    refine lv_iload hx hb dX13_look_196 (lv_at hl 0 rfl) ?_
                    refine lv_iload hx hb dX13_look_198 (lv_at hl 2 rfl) ?_
                    refine n_icmp_lt (tgt := 206) hx hb dX13_look_200 (by decide) (by omega) (by omega) (fun c200 => ?_) (fun c200 => ?_)
                    · refine lv_iload hx hb dX13_look_206 (lv_at hl 1 rfl) ?_
                      refine lv_istore (lv' := [(4, .int (nI b)), (7, .int (nI (wkF (cnF (lyB t (V 30) tl x1) (2 ^ xN t)) (lkB t (V 30) tl x1 x2) b))), (6, .int (nI b)), (5, .int (nI v)), (3, .int (nI (cnF (lyB t (V 30) tl x1) (2 ^ xN t)))), (0, .ref o), (1, .int (nI x1)), (2, .int (nI x2))]) hx hb dX13_look_208 hl (by decide) rfl (fun ls hl => ?_)
                      refine lv_iload hx hb dX13_look_210 (lv_at hl 1 rfl) ?_
                      refine lv_istore (lv' := [(5, .int (nI (wkF (cnF (lyB t (V 30) tl x1) (2 ^ xN t)) (lkB t (V 30) tl x1 x2) b))), (4, .int (nI b)), (7, .int (nI (wkF (cnF (lyB t (V 30) tl x1) (2 ^ xN t)) (lkB t (V 30) tl x1 x2) b))), (6, .int (nI b)), (3, .int (nI (cnF (lyB t (V 30) tl x1) (2 ^ xN t)))), (0, .ref o), (1, .int (nI x1)), (2, .int (nI x2))]) hx hb dX13_look_212 hl (by decide) rfl (fun ls hl => ?_)
                      refine lv_iinc (v := (nI (b + 1))) (lv' := [(6, .int (nI (b + 1))), (5, .int (nI (wkF (cnF (lyB t (V 30) tl x1) (2 ^ xN t)) (lkB t (V 30) tl x1 x2) b))), (4, .int (nI b)), (7, .int (nI (wkF (cnF (lyB t (V 30) tl x1) (2 ^ xN t)) (lkB t (V 30) tl x1 x2) b))), (3, .int (nI (cnF (lyB t (V 30) tl x1) (2 ^ xN t)))), (0, .ref o), (1, .int (nI x1)), (2, .int (nI x2))]) hx hb dX13_look_214 hl (k := 3) rfl (nI_add _ _) (by decide) rfl (fun ls hl => ?_)
                      refine lv_goto (tgt := 138) hx hb dX13_look_217 (by decide) ?_
                      exact ih4 (b + 1) (some (b, wkF (cnF (lyB t (V 30) tl x1) (2 ^ xN t)) (lkB t (V 30) tl x1 x2) b)) _ _ (by omega) (by omega) (mnF_t hp c200) (Or.inr c148) hS (lv_sub hl [0, 1, 2, 4, 5, 6, 7] rfl)
                    refine lv_goto (tgt := 214) hx hb dX13_look_203 (by decide) ?_
                    refine lv_iinc (v := (nI (b + 1))) (lv' := [(6, .int (nI (b + 1))), (7, .int (nI (wkF (cnF (lyB t (V 30) tl x1) (2 ^ xN t)) (lkB t (V 30) tl x1 x2) b))), (5, .int (nI v)), (4, .int (nI i)), (3, .int (nI (cnF (lyB t (V 30) tl x1) (2 ^ xN t)))), (0, .ref o), (1, .int (nI x1)), (2, .int (nI x2))]) hx hb dX13_look_214 hl (k := 1) rfl (nI_add _ _) (by decide) rfl (fun ls hl => ?_)
                    refine lv_goto (tgt := 138) hx hb dX13_look_217 (by decide) ?_
                    exact ih4 (b + 1) (some (i, v)) _ _ (by omega) (by omega) (mnF_f hp c200) (Or.inr c148) hS (lv_sub hl [0, 2, 3, 4, 5, 6, 7] rfl)
                  refine lv_aload_n hx hb dX13_look_170 rfl (lv_at hl 4 rfl) ?_
                  refine g_get hx hb hts hown hK hG 0 rfl rfl ok_X13 57 (by decide) q1528 rfl rfl dX13_look_171 ?_
                  refine lv_iload hx hb dX13_look_174 (lv_at hl 0 rfl) ?_
                  refine n_iald hx hb hK hG 37 rfl (by omega) (by decide) dX13_look_176 ?_
                  refine iv (y := (nI (lkB t (V 30) tl x1 x2 b))) (hlb b (by omega)) ?_
                  refine lv_goto (tgt := 189) hx hb dX13_look_177 (by decide) ?_
                  have hwk : (lkB t (V 30) tl x1 x2 b) = wkF (cnF (lyB t (V 30) tl x1) (2 ^ xN t)) (lkB t (V 30) tl x1 x2) b := (if_pos c167).symm
                  refine iv (y := nI (wkF (cnF (lyB t (V 30) tl x1) (2 ^ xN t)) (lkB t (V 30) tl x1 x2) b)) (congrArg nI hwk) ?_
                  have hwl : wkF (cnF (lyB t (V 30) tl x1) (2 ^ xN t)) (lkB t (V 30) tl x1 x2) b ≤ 512 := by omega
                  refine lv_istore (lv' := [(7, .int (nI (wkF (cnF (lyB t (V 30) tl x1) (2 ^ xN t)) (lkB t (V 30) tl x1 x2) b))), (6, .int (nI b)), (5, .int (nI v)), (4, .int (nI i)), (3, .int (nI (cnF (lyB t (V 30) tl x1) (2 ^ xN t)))), (0, .ref o), (1, .int (nI x1)), (2, .int (nI x2))]) hx hb dX13_look_189 hl (by decide) rfl (fun ls hl => ?_)
                  refine lv_iload hx hb dX13_look_191 (lv_at hl 3 rfl) ?_
                  refine n_if_lt (tgt := 206) hx hb dX13_look_193 (by decide) (by omega) ?_
                  refine lv_iload hx hb dX13_look_196 (lv_at hl 0 rfl) ?_
                  refine lv_iload hx hb dX13_look_198 (lv_at hl 2 rfl) ?_
                  refine n_icmp_lt (tgt := 206) hx hb dX13_look_200 (by decide) (by omega) (by omega) (fun c200 => ?_) (fun c200 => ?_)
                  · refine lv_iload hx hb dX13_look_206 (lv_at hl 1 rfl) ?_
                    refine lv_istore (lv' := [(4, .int (nI b)), (7, .int (nI (wkF (cnF (lyB t (V 30) tl x1) (2 ^ xN t)) (lkB t (V 30) tl x1 x2) b))), (6, .int (nI b)), (5, .int (nI v)), (3, .int (nI (cnF (lyB t (V 30) tl x1) (2 ^ xN t)))), (0, .ref o), (1, .int (nI x1)), (2, .int (nI x2))]) hx hb dX13_look_208 hl (by decide) rfl (fun ls hl => ?_)
                    refine lv_iload hx hb dX13_look_210 (lv_at hl 1 rfl) ?_
                    refine lv_istore (lv' := [(5, .int (nI (wkF (cnF (lyB t (V 30) tl x1) (2 ^ xN t)) (lkB t (V 30) tl x1 x2) b))), (4, .int (nI b)), (7, .int (nI (wkF (cnF (lyB t (V 30) tl x1) (2 ^ xN t)) (lkB t (V 30) tl x1 x2) b))), (6, .int (nI b)), (3, .int (nI (cnF (lyB t (V 30) tl x1) (2 ^ xN t)))), (0, .ref o), (1, .int (nI x1)), (2, .int (nI x2))]) hx hb dX13_look_212 hl (by decide) rfl (fun ls hl => ?_)
                    refine lv_iinc (v := (nI (b + 1))) (lv' := [(6, .int (nI (b + 1))), (5, .int (nI (wkF (cnF (lyB t (V 30) tl x1) (2 ^ xN t)) (lkB t (V 30) tl x1 x2) b))), (4, .int (nI b)), (7, .int (nI (wkF (cnF (lyB t (V 30) tl x1) (2 ^ xN t)) (lkB t (V 30) tl x1 x2) b))), (3, .int (nI (cnF (lyB t (V 30) tl x1) (2 ^ xN t)))), (0, .ref o), (1, .int (nI x1)), (2, .int (nI x2))]) hx hb dX13_look_214 hl (k := 3) rfl (nI_add _ _) (by decide) rfl (fun ls hl => ?_)
                    refine lv_goto (tgt := 138) hx hb dX13_look_217 (by decide) ?_
                    exact ih4 (b + 1) (some (b, wkF (cnF (lyB t (V 30) tl x1) (2 ^ xN t)) (lkB t (V 30) tl x1 x2) b)) _ _ (by omega) (by omega) (mnF_t hp c200) (Or.inr c148) hS (lv_sub hl [0, 1, 2, 4, 5, 6, 7] rfl)
                  refine lv_goto (tgt := 214) hx hb dX13_look_203 (by decide) ?_
                  refine lv_iinc (v := (nI (b + 1))) (lv' := [(6, .int (nI (b + 1))), (7, .int (nI (wkF (cnF (lyB t (V 30) tl x1) (2 ^ xN t)) (lkB t (V 30) tl x1 x2) b))), (5, .int (nI v)), (4, .int (nI i)), (3, .int (nI (cnF (lyB t (V 30) tl x1) (2 ^ xN t)))), (0, .ref o), (1, .int (nI x1)), (2, .int (nI x2))]) hx hb dX13_look_214 hl (k := 1) rfl (nI_add _ _) (by decide) rfl (fun ls hl => ?_)
                  refine lv_goto (tgt := 138) hx hb dX13_look_217 (by decide) ?_
                  exact ih4 (b + 1) (some (i, v)) _ _ (by omega) (by omega) (mnF_f hp c200) (Or.inr c148) hS (lv_sub hl [0, 2, 3, 4, 5, 6, 7] rfl)
              exact loop4 ((xN t - 0) + 1) 0 none _ _ (Nat.lt_succ_self _) (by omega) rfl (Or.inl rfl) hS (lv_sub hl [0, 1, 2, 3, 4, 5, 6] rfl)
            have hmk := hly x (by omega)
            rcases hpx : lyB t (V 30) tl x1 x with _ | _
            · rw [hpx] at hmk
              refine lv_aload_n hx hb dX13_look_65 rfl (lv_at hl 2 rfl) ?_
              refine g_get hx hb hts hown hK hG 0 rfl rfl ok_X13 62 (by decide) q1533 rfl rfl dX13_look_66 ?_
              refine lv_iload hx hb dX13_look_69 (lv_at hl 0 rfl) ?_
              refine n_zald hx hb hK hG 41 rfl (by omega) (by decide) dX13_look_71 ?_
              refine iv (y := (nI 0)) (((hE3 41 x rfl).trans (hE2 41 x rfl)).trans hmk) ?_
              refine n_if_ne (tgt := 78) hx hb dX13_look_72 (by decide) (by decide) (fun z => absurd z (by decide)) (fun _ => ?_)
              refine lv_goto (tgt := 122) hx hb dX13_look_75 (by decide) ?_
              refine lv_iinc (v := (nI (x + 1))) (lv' := [(4, .int (nI (x + 1))), (3, .int (nI (cnF (lyB t (V 30) tl x1) (2 ^ xN t)))), (0, .ref o), (1, .int (nI x1)), (2, .int (nI x2))]) hx hb dX13_look_122 hl (k := 0) rfl (nI_add _ _) (by decide) rfl (fun ls hl => ?_)
              refine lv_goto (tgt := 56) hx hb dX13_look_125 (by decide) ?_
              exact ih3 (x + 1) V3 _ _ _ (by omega) (by omega) hE3 (fun j hj => (hlb j hj).trans (congrArg nI (lb_f (P := lyB t (V 30) tl x1) (g := (fun x => raF t (V 30) x x2)) (by rw [hpx]; decide)).symm)) hG hS (lv_sub hl [0, 1, 2, 3, 4] rfl)
            rw [hpx] at hmk
            refine lv_aload_n hx hb dX13_look_65 rfl (lv_at hl 2 rfl) ?_
            refine g_get hx hb hts hown hK hG 0 rfl rfl ok_X13 62 (by decide) q1533 rfl rfl dX13_look_66 ?_
            refine lv_iload hx hb dX13_look_69 (lv_at hl 0 rfl) ?_
            refine n_zald hx hb hK hG 41 rfl (by omega) (by decide) dX13_look_71 ?_
            refine iv (y := (nI 1)) (((hE3 41 x rfl).trans (hE2 41 x rfl)).trans hmk) ?_
            refine n_if_ne (tgt := 78) hx hb dX13_look_72 (by decide) (by decide) (fun _ => ?_) (fun z => absurd z (by decide))
            refine lv_aload_n hx hb dX13_look_78 rfl (lv_at hl 2 rfl) ?_
            refine lv_iload hx hb dX13_look_79 (lv_at hl 0 rfl) ?_
            refine lv_iload_n hx hb dX13_look_81 rfl (lv_at hl 4 rfl) ?_
            refine c_VI hx hb hml hts hown hK hl.1 hS ⟨Nat.le_refl _, Nat.le_refl _⟩ (met_X13_rowAfter l D dA hG (txM_PLk (((hE1.mono PLy_PLk).trans (hE2.mono PK_PLk)).trans (hE3.mono PB_PLk)) hX) x x2 (by omega) (by omega)) (cw_X13_389 hts ⟨by decide, by decide⟩) (hG 0 _ rfl) rfl rfl rfl rfl (Nat.le_of_ble_eq_true rfl) dX13_look_82 (fun _ h => h) (fun r H1 locs hq hF hS => ?_)
            obtain ⟨V5, hG, hE5, hr5⟩ := hq
            generalize hHe5 : H1 = H at hG hS ⊢
            clear hHe5
            have hr5 : r = nI (raF t (V 30) x x2) := hr5.trans (congrArg (fun z => nI (raF t z x x2)) (((funext (fun j => hE3 30 j rfl)).trans ((funext (fun j => hE2 30 j rfl)).trans (funext (fun j => hE1 30 j rfl))))))
            subst hr5
            have hra82 := raF_lt t (V 30) x x2
            refine lv_istore (lv' := [(5, .int (nI (raF t (V 30) x x2))), (4, .int (nI x)), (3, .int (nI (cnF (lyB t (V 30) tl x1) (2 ^ xN t)))), (0, .ref o), (1, .int (nI x1)), (2, .int (nI x2))]) hx hb dX13_look_85 hl (by decide) rfl (fun ls hl => ?_)
            refine lv_iconst (v := (nI 0)) hx hb dX13_look_87 (by decide) ?_
            refine lv_istore (lv' := [(6, .int (nI 0)), (5, .int (nI (raF t (V 30) x x2))), (4, .int (nI x)), (3, .int (nI (cnF (lyB t (V 30) tl x1) (2 ^ xN t)))), (0, .ref o), (1, .int (nI x1)), (2, .int (nI x2))]) hx hb dX13_look_88 hl (by decide) rfl (fun ls hl => ?_)
            have loop6 : ∀ (fu6 : Nat) (b : Nat) (V6 : GI) (H : Heap) (locs : List Loc) (ls : Array Slot), xN t - b < fu6 → (b ≤ xN t) → (Eqx PK V5 V6) → (∀ j, j < b → V6 37 j = nI (lbF (lyB t (V 30) tl x1) (fun x => raF t (V 30) x x2) j x + raF t (V 30) x x2 / 2 ^ j % 2)) → (∀ j, b ≤ j → j < xN t → V6 37 j = nI (lbF (lyB t (V 30) tl x1) (fun x => raF t (V 30) x x2) j x)) → gP D dA o dM V6 L Rf H → va_S (AM o) H0 H locs → lv_has ls 8 [(6, .int (nI b)), (5, .int (nI (raF t (V 30) x x2))), (4, .int (nI x)), (3, .int (nI (cnF (lyB t (V 30) tl x1) (2 ^ xN t)))), (0, .ref o), (1, .int (nI x1)), (2, .int (nI x2))] → W p l e (mkRm 9 196) s m args below meth c H locs 0 0 QQ (F0 m 90 ls []) := by
              intro fu6
              induction fu6 with
              | zero => intro b V6 H locs ls hfu; exact absurd hfu (Nat.not_lt_zero _)
              | succ fu6 ih6 =>
                intro b V6 H locs ls hfu hbn hE6 hlo hhi hG hS hl
                refine lv_iload hx hb dX13_look_90 (lv_at hl 0 rfl) ?_
                refine lv_aload_n hx hb dX13_look_92 rfl (lv_at hl 4 rfl) ?_
                refine c_VI hx hb hml hts hown hK hl.1 hS ⟨Nat.le_refl _, Nat.le_refl _⟩ (met_X13_many l D dA hG (tM_to hT ((hE6 0 18 rfl).trans ((hE5 0 18 rfl).trans ((hE3 0 18 rfl).trans ((hE2 0 18 rfl).trans (hE1 0 18 rfl))))) ((hE6 9 lv rfl).trans ((hE5 9 lv rfl).trans ((hE3 9 lv rfl).trans ((hE2 9 lv rfl).trans (hE1 9 lv rfl))))))) (cw_X13_304 hts ⟨by decide, by decide⟩) (hG 0 _ rfl) rfl rfl rfl rfl (Nat.le_of_ble_eq_true rfl) dX13_look_93 (fun _ h => h.elim) (fun r H1 locs hq hF hS => ?_)
                obtain ⟨rfl, rfl⟩ := hq
                refine n_icmp_ge (tgt := 122) hx hb dX13_look_96 (by decide) (by omega) (by omega) (fun c96 => ?_) (fun c96 => ?_)
                · obtain rfl : b = xN t := by omega
                  refine lv_iinc (v := (nI (x + 1))) (lv' := [(4, .int (nI (x + 1))), (6, .int (nI (xN t))), (5, .int (nI (raF t (V 30) x x2))), (3, .int (nI (cnF (lyB t (V 30) tl x1) (2 ^ xN t)))), (0, .ref o), (1, .int (nI x1)), (2, .int (nI x2))]) hx hb dX13_look_122 hl (k := 2) rfl (nI_add _ _) (by decide) rfl (fun ls hl => ?_)
                  refine lv_goto (tgt := 56) hx hb dX13_look_125 (by decide) ?_
                  exact ih3 (x + 1) V6 _ _ _ (by omega) (by omega) (Eqx.trans (Eqx.trans hE3 (hE5.mono PW_PB)) (hE6.mono PK_PB)) (fun j hj => (hlo j hj).trans (congrArg nI (lb_t (P := lyB t (V 30) tl x1) (g := (fun x => raF t (V 30) x x2)) hpx).symm)) hG hS (lv_sub hl [0, 3, 4, 5, 6] rfl)
                have hlbl := lbF_le (lyB t (V 30) tl x1) (fun x => raF t (V 30) x x2) b x
                have hcx := cnF_le (lyB t (V 30) tl x1) x
                refine lv_aload_n hx hb dX13_look_99 rfl (lv_at hl 4 rfl) ?_
                refine g_get hx hb hts hown hK hG 0 rfl rfl ok_X13 57 (by decide) q1528 rfl rfl dX13_look_100 ?_
                refine lv_iload hx hb dX13_look_103 (lv_at hl 0 rfl) ?_
                refine lv_dup2_11 hx hb dX13_look_105 rfl rfl ?_
                refine n_iald hx hb hK hG 37 rfl (by omega) (by decide) dX13_look_106 ?_
                refine iv (y := (nI (lbF (lyB t (V 30) tl x1) (fun x => raF t (V 30) x x2) b x))) (hhi b (Nat.le_refl _) (by omega)) ?_
                refine lv_iload hx hb dX13_look_107 (lv_at hl 1 rfl) ?_
                refine lv_iload hx hb dX13_look_109 (lv_at hl 0 rfl) ?_
                refine n_ishr hx hb dX13_look_111 (by omega) (by omega) ?_
                refine lv_iconst (v := (nI 1)) hx hb dX13_look_112 (by decide) ?_
                refine n_and1 hx hb dX13_look_113 ?_
                refine n_iadd hx hb dX13_look_114 ?_
                refine n_iast hx hb hK hG hS 37 (AM_in 37 (by decide)) rfl (by omega) (by decide) dX13_look_115 (fun H locs hG hO hS => ?_)
                refine lv_iinc (v := (nI (b + 1))) (lv' := [(6, .int (nI (b + 1))), (5, .int (nI (raF t (V 30) x x2))), (4, .int (nI x)), (3, .int (nI (cnF (lyB t (V 30) tl x1) (2 ^ xN t)))), (0, .ref o), (1, .int (nI x1)), (2, .int (nI x2))]) hx hb dX13_look_116 hl (k := 0) rfl (nI_add _ _) (by decide) rfl (fun ls hl => ?_)
                refine lv_goto (tgt := 90) hx hb dX13_look_119 (by decide) ?_
                have hc37_1 : (up2 V6 37 b (nI ((lbF (lyB t (V 30) tl x1) (fun x => raF t (V 30) x x2) b x) + (((raF t (V 30) x x2) / 2 ^ b) % 2)))) 37 = va_up (V6 37) b (nI ((lbF (lyB t (V 30) tl x1) (fun x => raF t (V 30) x x2) b x) + (((raF t (V 30) x x2) / 2 ^ b) % 2))) := rfl
                have hc37 : (up2 V6 37 b (nI ((lbF (lyB t (V 30) tl x1) (fun x => raF t (V 30) x x2) b x) + (((raF t (V 30) x x2) / 2 ^ b) % 2)))) 37 = va_up (V6 37) b (nI ((lbF (lyB t (V 30) tl x1) (fun x => raF t (V 30) x x2) b x) + (((raF t (V 30) x x2) / 2 ^ b) % 2))) := hc37_1
                exact ih6 (b + 1) (up2 V6 37 b (nI ((lbF (lyB t (V 30) tl x1) (fun x => raF t (V 30) x x2) b x) + (((raF t (V 30) x x2) / 2 ^ b) % 2)))) _ _ _ (by omega) (by omega) (Eqx.up hE6 rfl) (by rw [hc37]; exact va_step (f := fun j => nI (lbF (lyB t (V 30) tl x1) (fun x => raF t (V 30) x x2) j x + raF t (V 30) x x2 / 2 ^ j % 2)) hlo rfl) (by rw [hc37]; exact fun j h1 h2 => (va_up_n (by omega)).trans (hhi j (by omega) h2)) hG hS (lv_sub hl [0, 1, 2, 3, 4, 5, 6] rfl)
            exact loop6 ((xN t - 0) + 1) 0 V5 _ _ _ (Nat.lt_succ_self _) (by omega) Eqx.rf (fun j hj => absurd hj (Nat.not_lt_zero _)) (by rw [(funext (fun j => hE5 37 j rfl))]; exact fun j _ h => hlb j h) hG hS (lv_sub hl [0, 1, 2, 3, 4, 5, 6] rfl)
        exact loop3 ((2 ^ xN t - 0) + 1) 0 V2 _ _ _ (Nat.lt_succ_self _) (Nat.zero_le _) Eqx.rf hz0 hG hS (lv_sub hl [0, 1, 2, 3, 4] rfl)
      refine lv_aload_n hx hb dX13_look_39 rfl (lv_at hl 2 rfl) ?_
      refine g_get hx hb hts hown hK hG 0 rfl rfl ok_X13 57 (by decide) q1528 rfl rfl dX13_look_40 ?_
      refine lv_iload hx hb dX13_look_43 (lv_at hl 0 rfl) ?_
      refine lv_iconst (v := (nI 0)) hx hb dX13_look_45 (by decide) ?_
      refine n_iast hx hb hK hG hS 37 (AM_in 37 (by decide)) rfl (by omega) (by decide) dX13_look_46 (fun H locs hG hO hS => ?_)
      refine lv_iinc (v := (nI (b + 1))) (lv' := [(4, .int (nI (b + 1))), (3, .int (nI (cnF (lyB t (V 30) tl x1) (2 ^ xN t)))), (0, .ref o), (1, .int (nI x1)), (2, .int (nI x2))]) hx hb dX13_look_47 hl (k := 0) rfl (nI_add _ _) (by decide) rfl (fun ls hl => ?_)
      refine lv_goto (tgt := 30) hx hb dX13_look_50 (by decide) ?_
      have hc37_1 : (up2 V2 37 b (nI 0)) 37 = va_up (V2 37) b (nI 0) := rfl
      have hc37 : (up2 V2 37 b (nI 0)) 37 = va_up (V2 37) b (nI 0) := hc37_1
      exact ih2 (b + 1) (up2 V2 37 b (nI 0)) _ _ _ (by omega) (by omega) (Eqx.up hE2 rfl) (by rw [hc37]; exact va_step (f := fun _ => nI 0) hz0 rfl) hG hS (lv_sub hl [0, 1, 2, 3, 4] rfl)
  exact loop2 ((xN t - 0) + 1) 0 V1 _ _ _ (Nat.lt_succ_self _) (by omega) Eqx.rf (fun j hj => absurd hj (Nat.not_lt_zero _)) hG hS (lv_sub hl [0, 1, 2, 3, 4] rfl)
