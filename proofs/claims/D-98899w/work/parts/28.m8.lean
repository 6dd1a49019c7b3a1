/-! answers within ranges -/
def rng (v : Int32) (lo hi : Nat) (F : Nat → Int32) (e : Int32) : Int32 := if (lo : Int) ≤ v.toInt ∧ v.toInt < hi then F v.toNatClampNeg else e
/-- the same, of anything -/
def rnp {α : Type} (v : Int32) (lo hi : Nat) (F : Nat → α) (e : α) : α := if (lo : Int) ≤ v.toInt ∧ v.toInt < hi then F v.toNatClampNeg else e
theorem rnp_in {α : Type} {k lo hi : Nat} {F : Nat → α} {e : α} (h1 : lo ≤ k) (h2 : k < hi) (h3 : hi ≤ 2 ^ 30) : rnp (nI k) lo hi F e = F k := by
  unfold rnp
  rw [nI_toInt (by omega), if_pos ⟨by omega, by omega⟩, nI_clamp (by omega)]
/-- out of range -/
def rgO (v : Int32) (lo hi : Nat) : Prop := (∀ (F : Nat → Int32) (e : Int32), rng v lo hi F e = e) ∧ ∀ (α : Type) (F : Nat → α) (e : α), rnp v lo hi F e = e
theorem rgO_of {v : Int32} {lo hi : Nat} (h : ¬ ((lo : Int) ≤ v.toInt ∧ v.toInt < hi)) : rgO v lo hi := ⟨fun F e => by unfold rng; rw [if_neg h], fun α F e => by unfold rnp; rw [if_neg h]⟩
theorem rng_in {k lo hi : Nat} {F : Nat → Int32} {e : Int32} (h1 : lo ≤ k) (h2 : k < hi) (h3 : hi ≤ 2 ^ 30) : rng (nI k) lo hi F e = F k := by
  unfold rng
  rw [nI_toInt (by omega), if_pos ⟨by omega, by omega⟩, nI_clamp (by omega)]
theorem inZ_cases (v : Int32) (lo hi : Nat) (hl : lo ≤ 1000) (hh : hi ≤ 1000) : (∃ k, lo ≤ k ∧ k < hi + 1 ∧ v = nI k ∧ inZ v (nI lo) (nI hi) = nI 1) ∨ (inZ v (nI lo) (nI hi) = nI 0 ∧ rgO v lo (hi + 1)) := by
  have e1 : (nI lo).toInt = lo := nI_toInt (by omega)
  have e2 : (nI hi).toInt = hi := nI_toInt (by omega)
  have e0 : (0 : Int32).toInt = 0 := rfl
  by_cases h1 : (lo : Int) ≤ v.toInt
  · by_cases h2 : v.toInt ≤ hi
    · left
      obtain ⟨k, hk, rfl⟩ := nI_of (x := v) (by rw [Int32.lt_iff_toInt_lt]; omega)
      rw [nI_toInt hk] at h1 h2
      refine ⟨k, by omega, by omega, rfl, ?_⟩
      unfold inZ
      rw [if_pos ((nI_leI (by omega) hk).mpr (by omega)), if_pos ((nI_leI hk (by omega)).mpr (by omega))]
      rfl
    · right
      refine ⟨?_, rgO_of (by omega)⟩
      · unfold inZ
        rw [if_pos (by rw [Int32.le_iff_toInt_le]; omega), if_neg (by rw [Int32.le_iff_toInt_le]; omega)]
        rfl
  · right
    refine ⟨?_, rgO_of (by omega)⟩
    · unfold inZ
      rw [if_neg (by rw [Int32.le_iff_toInt_le]; omega)]
      rfl
theorem bed_rng {n : Nat} {b : Int32} (h : ¬ vp_in b n) : rgO b 0 n := rgO_of (fun z => h (vp_in_iff.mpr ⟨by have := z.1; omega, z.2⟩))
theorem bedN_cases {n : Nat} (hn : n ≤ 9) (b : Int32) : (∃ k, 0 ≤ k ∧ k < n ∧ b = nI k ∧ bedZ n b = nI 1) ∨ (bedZ n b = nI 0 ∧ rgO b 0 n) := by
  rcases bedZ_cases hn b with ⟨k, h1, h2, h3⟩ | ⟨h1, h2⟩
  · exact Or.inl ⟨k, Nat.zero_le _, h1, h2, h3⟩
  · exact Or.inr ⟨h1, bed_rng h2⟩
theorem rowN_cases {n : Nat} (hn : n ≤ 9) (b : Int32) : (∃ k, 0 ≤ k ∧ k < 2 ^ n ∧ b = nI k ∧ rowZ n b = nI 1) ∨ (rowZ n b = nI 0 ∧ rgO b 0 (2 ^ n)) := by
  have h2 := two9 hn
  have hp := Nat.two_pow_pos n
  have h := inZ_cases b 0 (2 ^ n - 1) (by omega) (by omega)
  rw [show 2 ^ n - 1 + 1 = 2 ^ n by omega] at h
  exact h
theorem x9 {x y : Nat} (hx : x < 512) (hy : y < 512) : x ^^^ y < 512 := Nat.xor_lt_two_pow (n := 9) hx hy
theorem p9 {b n : Nat} (hb : b < n) (hn : n ≤ 9) : 1 * 2 ^ b < 512 := by
  rw [Nat.one_mul]
  exact Nat.lt_of_lt_of_le (Nat.pow_lt_pow_right (a := 2) (by decide) (show b < 9 by omega)) (Nat.le_refl _)
theorem rb9 {f : Nat → Int32} {n : Nat} (hn : n ≤ 9) : rbF f n < 512 := Nat.lt_of_lt_of_le (rbF_lt f n) (two9 hn)
theorem raF_lt (t : Txt) (f : Nat → Int32) (x k : Nat) : raF t f x k < 2 ^ xN t := rbF_lt _ _
theorem ra9 {t : Txt} {f : Nat → Int32} {x k : Nat} (hn : xN t ≤ 9) : raF t f x k < 512 := rb9 hn
theorem bcN_le (x : Nat) : ∀ k, bcN x k ≤ k
  | 0 => Nat.le_refl _
  | k + 1 => by have := bcN_le x k; have := Nat.mod_lt (x / 2 ^ k) (by decide : 0 < 2); simp only [bcN]; omega
theorem bc9 (x : Nat) : bc x ≤ 9 := bcN_le x 9
/-! the answers -/
abbrev NONE_ : Int32 := -1
def afterA (t : Txt) (f : Nat → Int32) (x q : Int32) : Int32 := rng x 0 (2 ^ xN t) (fun x => rng q 0 49 (fun q => nI (raF t f x q)) (-1)) (-1)
def spreadA (t : Txt) (f : Nat → Int32) (b q : Int32) : Int32 := rng b 0 (xN t) (fun b => rng q 0 25 (fun q => nI (raF t f (rbF f (xN t)) q ^^^ raF t f (rbF f (xN t) ^^^ 1 * 2 ^ b) q)) (-1)) (-1)
/-- how many lie left behind hours -/
def lfF (t : Txt) (f : Nat → Int32) (q x : Nat) : Nat := bc (raF t f x q)
/-- the first least, the first most, of values: (which, how much) -/
def mnF (g : Nat → Nat) : Nat → Option (Nat × Nat)
  | 0 => none
  | b + 1 => match mnF g b with
    | none => some (b, g b)
    | some (i, v) => if g b < v then some (b, g b) else some (i, v)
def mxF (g : Nat → Nat) : Nat → Option (Nat × Nat)
  | 0 => none
  | b + 1 => match mxF g b with
    | none => some (b, g b)
    | some (i, v) => if v < g b then some (b, g b) else some (i, v)
def oI (d : Int32) : Option (Nat × Nat) → Int32
  | none => d
  | some p => nI p.1
def oV (d : Int32) : Option (Nat × Nat) → Int32
  | none => d
  | some p => nI p.2
theorem mnF_n {g : Nat → Nat} {b : Nat} (h : mnF g b = none) : mnF g (b + 1) = some (b, g b) := by simp only [mnF, h]
theorem mnF_t {g : Nat → Nat} {b i v : Nat} (h : mnF g b = some (i, v)) (hv : g b < v) : mnF g (b + 1) = some (b, g b) := by simp only [mnF, h, if_pos hv]
theorem mnF_f {g : Nat → Nat} {b i v : Nat} (h : mnF g b = some (i, v)) (hv : v ≤ g b) : mnF g (b + 1) = some (i, v) := by simp only [mnF, h, if_neg (Nat.not_lt.mpr hv)]
theorem mxF_n {g : Nat → Nat} {b : Nat} (h : mxF g b = none) : mxF g (b + 1) = some (b, g b) := by simp only [mxF, h]
theorem mxF_t {g : Nat → Nat} {b i v : Nat} (h : mxF g b = some (i, v)) (hv : v < g b) : mxF g (b + 1) = some (b, g b) := by simp only [mxF, h, if_pos hv]
theorem mxF_f {g : Nat → Nat} {b i v : Nat} (h : mxF g b = some (i, v)) (hv : g b ≤ v) : mxF g (b + 1) = some (i, v) := by simp only [mxF, h, if_neg (Nat.not_lt.mpr hv)]
theorem mnF_lt {g : Nat → Nat} : ∀ {b i v : Nat}, mnF g b = some (i, v) → i < b ∧ v = g i
  | b + 1, i, v, h => by
    cases hm : mnF g b with
    | none => rw [mnF_n hm] at h; cases h; exact ⟨by omega, rfl⟩
    | some p =>
      obtain ⟨j, w⟩ := p
      have := mnF_lt hm
      by_cases hv : g b < w
      · rw [mnF_t hm hv] at h; cases h; exact ⟨by omega, rfl⟩
      · rw [mnF_f hm (Nat.not_lt.mp hv)] at h; cases h; exact ⟨by omega, this.2⟩
theorem mxF_lt {g : Nat → Nat} : ∀ {b i v : Nat}, mxF g b = some (i, v) → i < b ∧ v = g i
  | b + 1, i, v, h => by
    cases hm : mxF g b with
    | none => rw [mxF_n hm] at h; cases h; exact ⟨by omega, rfl⟩
    | some p =>
      obtain ⟨j, w⟩ := p
      have := mxF_lt hm
      by_cases hv : w < g b
      · rw [mxF_t hm hv] at h; cases h; exact ⟨by omega, rfl⟩
      · rw [mxF_f hm (Nat.not_lt.mp hv)] at h; cases h; exact ⟨by omega, this.2⟩
/-- the most with one more turned, of the first b beds -/
def mwF (g : Nat → Nat) (x : Nat) : Nat → Nat
  | 0 => g x
  | b + 1 => if mwF g x b < g (x ^^^ 1 * 2 ^ b) then g (x ^^^ 1 * 2 ^ b) else mwF g x b
theorem mwF_le {g : Nat → Nat} {x N : Nat} (h : ∀ y, g y ≤ N) : ∀ b, mwF g x b ≤ N
  | 0 => h x
  | b + 1 => by simp only [mwF]; split; exact h _; exact mwF_le h b
def duelP (t : Txt) (f : Nat → Int32) (q : Nat) : Option (Nat × Nat) := mnF (fun b => mwF (lfF t f q) (rbF f (xN t) ^^^ 1 * 2 ^ b) (xN t)) (xN t)
def duelA (t : Txt) (f : Nat → Int32) (q w : Int32) : Int32 := rng q 0 25 (fun q => rng w 0 2 (fun w => if w = 0 then oV (-2) (duelP t f q) else oI (-2) (duelP t f q)) (-1)) (-1)
theorem cw_X13_386 {R : Room} {s : State} {args : Array Value} (hts : ∀ w ∈ lw_all, w.before args s = true) {f w k j : Nat} (hR : f + 1 ≤ R.frames ∧ 8 + (2 + 11) + w ≤ R.locals) : CallW R s args RX13 RX13 386 yX13_isRow cX13_isRow 2 (some .boolean) (ws_ yX13_isRow cX13_isRow 2 (some .boolean)) (mkRmC f w k j) k j 1 := cwV 1 hts (lw_V q1880 q1882 qs88 q129 q1883) rfl rfl rfl (by decide +kernel) hR
theorem cw_X13_383 {R : Room} {s : State} {args : Array Value} (hts : ∀ w ∈ lw_all, w.before args s = true) {f w k j : Nat} (hR : f + 1 ≤ R.frames ∧ 8 + (1 + 11) + w ≤ R.locals) : CallB R s args RX13 383 yX13_isLong cX13_isLong 1 (some .boolean) (ws_ yX13_isLong cX13_isLong 1 (some .boolean)) (mkRmC f w k j) k j 1 ∧ (Cond.static yX13_isLong).before args s = true := va_cwS 1 hts (lw_S q1853 q1854 q129 q1855) rfl rfl rfl (by decide +kernel) hR
theorem cw_X13_389 {R : Room} {s : State} {args : Array Value} (hts : ∀ w ∈ lw_all, w.before args s = true) {f w k j : Nat} (hR : f + 1 ≤ R.frames ∧ 8 + (3 + 11) + w ≤ R.locals) : CallW R s args RX13 RX13 389 yX13_rowAfter cX13_rowAfter 3 (some .int) (ws_ yX13_rowAfter cX13_rowAfter 3 (some .int)) (mkRmC f w k j) k j 2 := cwV 2 hts (lw_V q1888 q1890 qs90 q129 q1891) rfl rfl rfl (by decide +kernel) hR
set_option maxHeartbeats 4000000 in
theorem met_X13_after (l : Launch) (D : va_G) (dA : Nat → ClassId) {o : Nat} {V : GI} {L : GL} {Rf : GR} {H0 : Heap} (hG : gP D dA o dM V L Rf H0) {lv : Nat} {t : Txt} (hX : txM V lv t) (hrv : RV (xN t) (V 30)) (v1 v2 : Int32) : Ctr l D dA yX13_after cX13_after 3 (some .int) (mkRm 8 172) [.ref o, .int v1, .int v2] H0 (AM o) (QI (fun r H1 => ∃ V1, gP D dA o dM V1 L Rf H1 ∧ Eqx PW V V1 ∧ r = afterA t (V 30) v1 v2)) := by
  have hT := hX.1
  have hT1 := hT.1
  have hT2 := hT.2.1
  have hp2 := two9 hT2
  have hpp := Nat.two_pow_pos (xN t)
  refine ctr_I (by decide) (Nat.le_of_ble_eq_true rfl) ?_
  intro p e s m args below meth c ls QQ locs hx hb hml hown hts hK hend hS hl
  have hl : lv_has ls 3 [(0, .ref o), (1, .int v1), (2, .int v2)] := hl
  refine lv_aload_n hx hb dX13_after_0 rfl (lv_at hl 0 rfl) ?_
  refine lv_iload_n hx hb dX13_after_1 rfl (lv_at hl 1 rfl) ?_
  refine c_VI hx hb hml hts hown hK hl.1 hS ⟨Nat.le_refl _, Nat.le_refl _⟩ (met_X13_isRow l D dA hG hT v1) (cw_X13_386 hts ⟨by decide, by decide⟩) (hG 0 _ rfl) rfl rfl rfl rfl (Nat.le_of_ble_eq_true rfl) dX13_after_2 (fun _ h => h.elim) (fun r H1 locs hq hF hS => ?_)
  obtain ⟨rfl, rfl⟩ := hq
  rcases (rowN_cases hT2 v1).symm with ⟨hz2, ho2⟩ | ⟨x1, hlo_x1, hhi_x1, rfl, hz2⟩
  · refine iv (y := nI 0) hz2 ?_
    refine n_if_eq (tgt := 24) hx hb dX13_after_5 (by decide) (by decide) (fun _ => ?_) (fun z => absurd z (by decide))
    refine lv_iconst (v := (-1)) hx hb dX13_after_24 (by decide) ?_
    refine hend _ _ _ _ _ hS dX13_after_25 ?_
    exact ⟨_, rfl, _, hG, Eqx.rf, ((ho2.1 _ _)).symm⟩
  refine iv (y := nI 1) hz2 ?_
  have hl : lv_has ls 3 [(0, .ref o), (1, .int (nI x1)), (2, .int v2)] := hl
  refine n_if_eq (tgt := 24) hx hb dX13_after_5 (by decide) (by decide) (fun z => absurd z (by decide)) (fun _ => ?_)
  refine lv_iload_n hx hb dX13_after_8 rfl (lv_at hl 2 rfl) ?_
  refine c_SI hx hb hml hts hown hK hl.1 hS ⟨Nat.le_refl _, Nat.le_refl _⟩ (met_X13_isLong l D dA v2) (cw_X13_383 hts ⟨by decide, by decide⟩) rfl rfl (Nat.le_of_ble_eq_true rfl) dX13_after_9 (fun _ h => h.elim) (fun r H1 locs hq hF hS => ?_)
  obtain ⟨rfl, rfl⟩ := hq
  rcases (inZ_cases v2 0 48 (by decide) (by decide)).symm with ⟨hz9, ho9⟩ | ⟨x2, hlo_x2, hhi_x2, rfl, hz9⟩
  · refine iv (y := nI 0) hz9 ?_
    refine n_if_eq (tgt := 24) hx hb dX13_after_12 (by decide) (by decide) (fun _ => ?_) (fun z => absurd z (by decide))
    refine lv_iconst (v := (-1)) hx hb dX13_after_24 (by decide) ?_
    refine hend _ _ _ _ _ hS dX13_after_25 ?_
    exact ⟨_, rfl, _, hG, Eqx.rf, ((rng_in hlo_x1 hhi_x1 (by omega)).trans ((ho9.1 _ _))).symm⟩
  refine iv (y := nI 1) hz9 ?_
  have hl : lv_has ls 3 [(0, .ref o), (1, .int (nI x1)), (2, .int (nI x2))] := hl
  refine n_if_eq (tgt := 24) hx hb dX13_after_12 (by decide) (by decide) (fun z => absurd z (by decide)) (fun _ => ?_)
  refine lv_aload_n hx hb dX13_after_15 rfl (lv_at hl 0 rfl) ?_
  refine lv_iload_n hx hb dX13_after_16 rfl (lv_at hl 1 rfl) ?_
  refine lv_iload_n hx hb dX13_after_17 rfl (lv_at hl 2 rfl) ?_
  refine c_VI hx hb hml hts hown hK hl.1 hS ⟨Nat.le_refl _, Nat.le_refl _⟩ (met_X13_rowAfter l D dA hG hX x1 x2 (by omega) (by omega)) (cw_X13_389 hts ⟨by decide, by decide⟩) (hG 0 _ rfl) rfl rfl rfl rfl (Nat.le_of_ble_eq_true rfl) dX13_after_18 (fun _ h => h) (fun r H1 locs hq hF hS => ?_)
  obtain ⟨V1, hG, hE1, hr1⟩ := hq
  generalize hHe1 : H1 = H at hG hS ⊢
  clear hHe1
  have hr1 : r = nI (raF t (V 30) x1 x2) := hr1
  subst hr1
  have hra18 := raF_lt t (V 30) x1 x2
  refine lv_goto (tgt := 25) hx hb dX13_after_21 (by decide) ?_
  refine hend _ _ _ _ _ hS dX13_after_25 ?_
  exact ⟨_, rfl, _, hG, hE1, ((rng_in hlo_x1 hhi_x1 (by omega)).trans ((rng_in hlo_x2 hhi_x2 (by omega)).trans (rfl))).symm⟩
theorem cw_X13_404 {R : Room} {s : State} {args : Array Value} (hts : ∀ w ∈ lw_all, w.before args s = true) {f w k j : Nat} (hR : f + 1 ≤ R.frames ∧ 8 + (1 + 11) + w ≤ R.locals) : CallB R s args RX13 404 yX13_isShort cX13_isShort 1 (some .boolean) (ws_ yX13_isShort cX13_isShort 1 (some .boolean)) (mkRmC f w k j) k j 1 ∧ (Cond.static yX13_isShort).before args s = true := va_cwS 1 hts (lw_S q1908 q1909 q129 q1910) rfl rfl rfl (by decide +kernel) hR
theorem cw_X13_401 {R : Room} {s : State} {args : Array Value} (hts : ∀ w ∈ lw_all, w.before args s = true) {f w k j : Nat} (hR : f + 1 ≤ R.frames ∧ 8 + (3 + 11) + w ≤ R.locals) : CallW R s args RX13 RX13 401 yX13_rowNow cX13_rowNow 3 (some .int) (ws_ yX13_rowNow cX13_rowNow 3 (some .int)) (mkRmC f w k j) k j 0 := cwV 0 hts (lw_V q1926 q1928 qs97 q129 q1929) rfl rfl rfl (by decide +kernel) hR
set_option maxHeartbeats 4000000 in
theorem met_X13_spread (l : Launch) (D : va_G) (dA : Nat → ClassId) {o : Nat} {V : GI} {L : GL} {Rf : GR} {H0 : Heap} (hG : gP D dA o dM V L Rf H0) {lv : Nat} {t : Txt} (hX : txM V lv t) (hrv : RV (xN t) (V 30)) (v1 v2 : Int32) : Ctr l D dA yX13_spread cX13_spread 4 (some .int) (mkRm 8 172) [.ref o, .int v1, .int v2] H0 (AM o) (QI (fun r H1 => ∃ V1, gP D dA o dM V1 L Rf H1 ∧ Eqx PW V V1 ∧ r = spreadA t (V 30) v1 v2)) := by
  have hT := hX.1
  have hT1 := hT.1
  have hT2 := hT.2.1
  have hp2 := two9 hT2
  have hpp := Nat.two_pow_pos (xN t)
  refine ctr_I (by decide) (Nat.le_of_ble_eq_true rfl) ?_
  intro p e s m args below meth c ls QQ locs hx hb hml hown hts hK hend hS hl
  have hl : lv_has ls 4 [(0, .ref o), (1, .int v1), (2, .int v2)] := hl
  refine lv_aload_n hx hb dX13_spread_0 rfl (lv_at hl 0 rfl) ?_
  refine lv_iload_n hx hb dX13_spread_1 rfl (lv_at hl 1 rfl) ?_
  refine c_VI hx hb hml hts hown hK hl.1 hS ⟨Nat.le_refl _, Nat.le_refl _⟩ (met_X13_isBed l D dA hG hT v1) (cw_X13_328 hts ⟨by decide, by decide⟩) (hG 0 _ rfl) rfl rfl rfl rfl (Nat.le_of_ble_eq_true rfl) dX13_spread_2 (fun _ h => h.elim) (fun r H1 locs hq hF hS => ?_)
  obtain ⟨rfl, rfl⟩ := hq
  rcases (bedN_cases hT2 v1).symm with ⟨hz2, ho2⟩ | ⟨x1, hlo_x1, hhi_x1, rfl, hz2⟩
  · refine iv (y := nI 0) hz2 ?_
    refine n_if_eq (tgt := 15) hx hb dX13_spread_5 (by decide) (by decide) (fun _ => ?_) (fun z => absurd z (by decide))
    refine lv_iconst (v := (-1)) hx hb dX13_spread_15 (by decide) ?_
    refine hend _ _ _ _ _ hS dX13_spread_16 ?_
    exact ⟨_, rfl, _, hG, Eqx.rf, ((ho2.1 _ _)).symm⟩
  refine iv (y := nI 1) hz2 ?_
  have hl : lv_has ls 4 [(0, .ref o), (1, .int (nI x1)), (2, .int v2)] := hl
  refine n_if_eq (tgt := 15) hx hb dX13_spread_5 (by decide) (by decide) (fun z => absurd z (by decide)) (fun _ => ?_)
  refine lv_iload_n hx hb dX13_spread_8 rfl (lv_at hl 2 rfl) ?_
  refine c_SI hx hb hml hts hown hK hl.1 hS ⟨Nat.le_refl _, Nat.le_refl _⟩ (met_X13_isShort l D dA v2) (cw_X13_404 hts ⟨by decide, by decide⟩) rfl rfl (Nat.le_of_ble_eq_true rfl) dX13_spread_9 (fun _ h => h.elim) (fun r H1 locs hq hF hS => ?_)
  obtain ⟨rfl, rfl⟩ := hq
  rcases (inZ_cases v2 0 24 (by decide) (by decide)).symm with ⟨hz9, ho9⟩ | ⟨x2, hlo_x2, hhi_x2, rfl, hz9⟩
  · refine iv (y := nI 0) hz9 ?_
    refine n_if_ne (tgt := 17) hx hb dX13_spread_12 (by decide) (by decide) (fun z => absurd z (by decide)) (fun _ => ?_)
    refine lv_iconst (v := (-1)) hx hb dX13_spread_15 (by decide) ?_
    refine hend _ _ _ _ _ hS dX13_spread_16 ?_
    exact ⟨_, rfl, _, hG, Eqx.rf, ((rng_in hlo_x1 hhi_x1 (by omega)).trans ((ho9.1 _ _))).symm⟩
  refine iv (y := nI 1) hz9 ?_
  have hl : lv_has ls 4 [(0, .ref o), (1, .int (nI x1)), (2, .int (nI x2))] := hl
  refine n_if_ne (tgt := 17) hx hb dX13_spread_12 (by decide) (by decide) (fun _ => ?_) (fun z => absurd z (by decide))
  refine lv_aload_n hx hb dX13_spread_17 rfl (lv_at hl 0 rfl) ?_
  refine lv_aload_n hx hb dX13_spread_18 rfl (lv_at hl 0 rfl) ?_
  refine c_VI hx hb hml hts hown hK hl.1 hS ⟨Nat.le_refl _, Nat.le_refl _⟩ (met_X13_rowNow l D dA hG hX hrv) (cw_X13_401 hts ⟨by decide, by decide⟩) (hG 0 _ rfl) rfl rfl rfl rfl (Nat.le_of_ble_eq_true rfl) dX13_spread_19 (fun _ h => h.elim) (fun r H1 locs hq hF hS => ?_)
  obtain ⟨rfl, rfl⟩ := hq
  refine lv_iload_n hx hb dX13_spread_22 rfl (lv_at hl 2 rfl) ?_
  refine c_VI hx hb hml hts hown hK hl.1 hS ⟨Nat.le_refl _, Nat.le_refl _⟩ (met_X13_rowAfter l D dA hG hX (rbF (V 30) (xN t)) x2 (rb9 hT2) (by omega)) (cw_X13_389 hts ⟨by decide, by decide⟩) (hG 0 _ rfl) rfl rfl rfl rfl (Nat.le_of_ble_eq_true rfl) dX13_spread_23 (fun _ h => h) (fun r H1 locs hq hF hS => ?_)
  obtain ⟨V1, hG, hE1, hr1⟩ := hq
  generalize hHe1 : H1 = H at hG hS ⊢
  clear hHe1
  have hr1 : r = nI (raF t (V 30) (rbF (V 30) (xN t)) x2) := hr1
  subst hr1
  have hra23 := raF_lt t (V 30) (rbF (V 30) (xN t)) x2
  refine lv_istore_n (lv' := [(3, .int (nI (raF t (V 30) (rbF (V 30) (xN t)) x2))), (0, .ref o), (1, .int (nI x1)), (2, .int (nI x2))]) hx hb dX13_spread_26 rfl hl (by decide) rfl (fun ls hl => ?_)
  refine lv_iload_n hx hb dX13_spread_27 rfl (lv_at hl 0 rfl) ?_
  refine lv_aload_n hx hb dX13_spread_28 rfl (lv_at hl 1 rfl) ?_
  refine lv_aload_n hx hb dX13_spread_29 rfl (lv_at hl 1 rfl) ?_
  refine c_VI hx hb hml hts hown hK hl.1 hS ⟨Nat.le_refl _, Nat.le_refl _⟩ (met_X13_rowNow l D dA hG (txM_PW hE1 hX) (by rw [(funext (fun j => hE1 30 j rfl))]; exact hrv)) (cw_X13_401 hts ⟨by decide, by decide⟩) (hG 0 _ rfl) rfl rfl rfl rfl (Nat.le_of_ble_eq_true rfl) dX13_spread_30 (fun _ h => h.elim) (fun r H1 locs hq hF hS => ?_)
  obtain ⟨rfl, rfl⟩ := hq
  refine iv (y := nI (rbF (V 30) (xN t))) (by rw [(funext (fun j => hE1 30 j rfl))]) ?_
  refine lv_iconst (v := (nI 1)) hx hb dX13_spread_33 (by decide) ?_
  refine lv_iload_n hx hb dX13_spread_34 rfl (lv_at hl 2 rfl) ?_
  refine n_ishl hx hb dX13_spread_35 (by omega) ?_
  refine n_ixor hx hb dX13_spread_36 ?_
  refine lv_iload_n hx hb dX13_spread_37 rfl (lv_at hl 3 rfl) ?_
  refine c_VI hx hb hml hts hown hK hl.1 hS ⟨Nat.le_refl _, Nat.le_refl _⟩ (met_X13_rowAfter l D dA hG (txM_PW hE1 hX) ((rbF (V 30) (xN t)) ^^^ (1 * 2 ^ x1)) x2 (x9 (rb9 hT2) (p9 (by omega) hT2)) (by omega)) (cw_X13_389 hts ⟨by decide, by decide⟩) (hG 0 _ rfl) rfl rfl rfl rfl (Nat.le_of_ble_eq_true rfl) dX13_spread_38 (fun _ h => h) (fun r H1 locs hq hF hS => ?_)
  obtain ⟨V2, hG, hE2, hr2⟩ := hq
  generalize hHe2 : H1 = H at hG hS ⊢
  clear hHe2
  have hr2 : r = nI (raF t (V 30) ((rbF (V 30) (xN t)) ^^^ (1 * 2 ^ x1)) x2) := hr2.trans (congrArg (fun z => nI (raF t z ((rbF (V 30) (xN t)) ^^^ (1 * 2 ^ x1)) x2)) ((funext (fun j => hE1 30 j rfl))))
  subst hr2
  have hra38 := raF_lt t (V 30) ((rbF (V 30) (xN t)) ^^^ (1 * 2 ^ x1)) x2
  refine n_ixor hx hb dX13_spread_41 ?_
  refine hend _ _ _ _ _ hS dX13_spread_42 ?_
  exact ⟨_, rfl, _, hG, (hE1.trans hE2), ((rng_in hlo_x1 hhi_x1 (by omega)).trans ((rng_in hlo_x2 hhi_x2 (by omega)).trans (rfl))).symm⟩
theorem cw_X13_398 {R : Room} {s : State} {args : Array Value} (hts : ∀ w ∈ lw_all, w.before args s = true) {f w k j : Nat} (hR : f + 1 ≤ R.frames ∧ 8 + (3 + 11) + w ≤ R.locals) : CallB R s args RX13 398 yX13_bits cX13_bits 3 (some .int) (ws_ yX13_bits cX13_bits 3 (some .int)) (mkRmC f w k j) k j 1 ∧ (Cond.static yX13_bits).before args s = true := va_cwS 1 hts (lw_S q1923 q1924 q129 q1925) rfl rfl rfl (by decide +kernel) hR
set_option maxHeartbeats 4000000 in
theorem met_X13_mostWith (l : Launch) (D : va_G) (dA : Nat → ClassId) {o : Nat} {V : GI} {L : GL} {Rf : GR} {H0 : Heap} (hG : gP D dA o dM V L Rf H0) {lv : Nat} {t : Txt} (hX : txM V lv t) (x q : Nat) (hx9 : x < 512) (hq9 : q < 1000) : Ctr l D dA yX13_mostWith cX13_mostWith 6 (some .int) (mkRm 8 172) [.ref o, .int (nI x), .int (nI q)] H0 (AM o) (QI (fun r H1 => ∃ V1, gP D dA o dM V1 L Rf H1 ∧ Eqx PW V V1 ∧ r = nI (mwF (lfF t (V 30) q) x (xN t)))) := by
  have hT := hX.1
  have hT1 := hT.1
  have hT2 := hT.2.1
  refine ctr_I (by decide) (Nat.le_of_ble_eq_true rfl) ?_
  intro p e s m args below meth c ls QQ locs hx hb hml hown hts hK hend hS hl
  have hl : lv_has ls 6 [(0, .ref o), (1, .int (nI x)), (2, .int (nI q))] := hl
  refine lv_aload_n hx hb dX13_mostWith_0 rfl (lv_at hl 0 rfl) ?_
  refine lv_iload_n hx hb dX13_mostWith_1 rfl (lv_at hl 1 rfl) ?_
  refine lv_iload_n hx hb dX13_mostWith_2 rfl (lv_at hl 2 rfl) ?_
  refine c_VI hx hb hml hts hown hK hl.1 hS ⟨Nat.le_refl _, Nat.le_refl _⟩ (met_X13_rowAfter l D dA hG hX x q (by omega) (by omega)) (cw_X13_389 hts ⟨by decide, by decide⟩) (hG 0 _ rfl) rfl rfl rfl rfl (Nat.le_of_ble_eq_true rfl) dX13_mostWith_3 (fun _ h => h) (fun r H1 locs hq hF hS => ?_)
  obtain ⟨V1, hG, hE1, hr1⟩ := hq
  generalize hHe1 : H1 = H at hG hS ⊢
  clear hHe1
  have hr1 : r = nI (raF t (V 30) x q) := hr1
  subst hr1
  have hra3 := raF_lt t (V 30) x q
  refine c_SI hx hb hml hts hown hK hl.1 hS ⟨Nat.le_refl _, Nat.le_refl _⟩ (met_X13_bits l D dA (raF t (V 30) x q) (ra9 hT2)) (cw_X13_398 hts ⟨by decide, by decide⟩) rfl rfl (Nat.le_of_ble_eq_true rfl) dX13_mostWith_6 (fun _ h => h.elim) (fun r H1 locs hq hF hS => ?_)
  obtain ⟨rfl, rfl⟩ := hq
  have hbc6 := bc9 (raF t (V 30) x q)
  refine lv_istore_n (lv' := [(3, .int (nI (bc (raF t (V 30) x q)))), (0, .ref o), (1, .int (nI x)), (2, .int (nI q))]) hx hb dX13_mostWith_9 rfl hl (by decide) rfl (fun ls hl => ?_)
  refine lv_iconst (v := (nI 0)) hx hb dX13_mostWith_10 (by decide) ?_
  refine lv_istore (lv' := [(4, .int (nI 0)), (3, .int (nI (bc (raF t (V 30) x q)))), (0, .ref o), (1, .int (nI x)), (2, .int (nI q))]) hx hb dX13_mostWith_11 hl (by decide) rfl (fun ls hl => ?_)
  have loop2 : ∀ (fu2 : Nat) (b : Nat) (y : Nat) (V2 : GI) (H : Heap) (locs : List Loc) (ls : Array Slot), xN t - b < fu2 → (b ≤ xN t) → (mwF (lfF t (V 30) q) x b = y) → (Eqx PW V1 V2) → gP D dA o dM V2 L Rf H → va_S (AM o) H0 H locs → lv_has ls 6 [(4, .int (nI b)), (3, .int (nI y)), (0, .ref o), (1, .int (nI x)), (2, .int (nI q))] → W p l e (mkRm 8 172) s m args below meth c H locs 0 0 QQ (F0 m 13 ls []) := by
    intro fu2
    induction fu2 with
    | zero => intro b y V2 H locs ls hfu; exact absurd hfu (Nat.not_lt_zero _)
    | succ fu2 ih2 =>
      intro b y V2 H locs ls hfu hbn hy hE2 hG hS hl
      have hm9 : y ≤ 9 := by rw [← hy]; exact mwF_le (fun _ => bc9 _) b
      refine lv_iload hx hb dX13_mostWith_13 (lv_at hl 0 rfl) ?_
      refine lv_aload_n hx hb dX13_mostWith_15 rfl (lv_at hl 2 rfl) ?_
      refine c_VI hx hb hml hts hown hK hl.1 hS ⟨Nat.le_refl _, Nat.le_refl _⟩ (met_X13_many l D dA hG (tM_to hT ((hE2 0 18 rfl).trans (hE1 0 18 rfl)) ((hE2 9 lv rfl).trans (hE1 9 lv rfl)))) (cw_X13_304 hts ⟨by decide, by decide⟩) (hG 0 _ rfl) rfl rfl rfl rfl (Nat.le_of_ble_eq_true rfl) dX13_mostWith_16 (fun _ h => h.elim) (fun r H1 locs hq hF hS => ?_)
      obtain ⟨rfl, rfl⟩ := hq
      refine n_icmp_ge (tgt := 53) hx hb dX13_mostWith_19 (by decide) (by omega) (by omega) (fun c19 => ?_) (fun c19 => ?_)
      · refine lv_iload_n hx hb dX13_mostWith_53 rfl (lv_at hl 1 rfl) ?_
        refine hend _ _ _ _ _ hS dX13_mostWith_54 ?_
        obtain rfl : b = xN t := by omega
        exact ⟨_, rfl, _, hG, (hE1.trans hE2), by rw [hy]⟩
      refine lv_aload_n hx hb dX13_mostWith_22 rfl (lv_at hl 2 rfl) ?_
      refine lv_iload_n hx hb dX13_mostWith_23 rfl (lv_at hl 3 rfl) ?_
      refine lv_iconst (v := (nI 1)) hx hb dX13_mostWith_24 (by decide) ?_
      refine lv_iload hx hb dX13_mostWith_25 (lv_at hl 0 rfl) ?_
      refine n_ishl hx hb dX13_mostWith_27 (by omega) ?_
      refine n_ixor hx hb dX13_mostWith_28 ?_
      refine lv_iload_n hx hb dX13_mostWith_29 rfl (lv_at hl 4 rfl) ?_
      refine c_VI hx hb hml hts hown hK hl.1 hS ⟨Nat.le_refl _, Nat.le_refl _⟩ (met_X13_rowAfter l D dA hG (txM_PW (hE1.trans hE2) hX) (x ^^^ (1 * 2 ^ b)) q (x9 (by omega) (p9 (by omega) hT2)) (by omega)) (cw_X13_389 hts ⟨by decide, by decide⟩) (hG 0 _ rfl) rfl rfl rfl rfl (Nat.le_of_ble_eq_true rfl) dX13_mostWith_30 (fun _ h => h) (fun r H1 locs hq hF hS => ?_)
      obtain ⟨V3, hG, hE3, hr3⟩ := hq
      generalize hHe3 : H1 = H at hG hS ⊢
      clear hHe3
      have hr3 : r = nI (raF t (V 30) (x ^^^ (1 * 2 ^ b)) q) := hr3.trans (congrArg (fun z => nI (raF t z (x ^^^ (1 * 2 ^ b)) q)) (((funext (fun j => hE2 30 j rfl)).trans (funext (fun j => hE1 30 j rfl)))))
      subst hr3
      have hra30 := raF_lt t (V 30) (x ^^^ (1 * 2 ^ b)) q
      refine c_SI hx hb hml hts hown hK hl.1 hS ⟨Nat.le_refl _, Nat.le_refl _⟩ (met_X13_bits l D dA (raF t (V 30) (x ^^^ (1 * 2 ^ b)) q) (ra9 hT2)) (cw_X13_398 hts ⟨by decide, by decide⟩) rfl rfl (Nat.le_of_ble_eq_true rfl) dX13_mostWith_33 (fun _ h => h.elim) (fun r H1 locs hq hF hS => ?_)
      obtain ⟨rfl, rfl⟩ := hq
      have hbc33 := bc9 (raF t (V 30) (x ^^^ (1 * 2 ^ b)) q)
      refine lv_istore (lv' := [(5, .int (nI (bc (raF t (V 30) (x ^^^ (1 * 2 ^ b)) q)))), (4, .int (nI b)), (3, .int (nI y)), (0, .ref o), (1, .int (nI x)), (2, .int (nI q))]) hx hb dX13_mostWith_36 hl (by decide) rfl (fun ls hl => ?_)
      refine lv_iload hx hb dX13_mostWith_38 (lv_at hl 0 rfl) ?_
      refine lv_iload_n hx hb dX13_mostWith_40 rfl (lv_at hl 2 rfl) ?_
      refine n_icmp_le (tgt := 47) hx hb dX13_mostWith_41 (by decide) (by omega) (by omega) (fun c41 => ?_) (fun c41 => ?_)
      · refine lv_iinc (v := (nI (b + 1))) (lv' := [(4, .int (nI (b + 1))), (5, .int (nI (bc (raF t (V 30) (x ^^^ (1 * 2 ^ b)) q)))), (3, .int (nI y)), (0, .ref o), (1, .int (nI x)), (2, .int (nI q))]) hx hb dX13_mostWith_47 hl (k := 1) rfl (nI_add _ _) (by decide) rfl (fun ls hl => ?_)
        refine lv_goto (tgt := 13) hx hb dX13_mostWith_50 (by decide) ?_
        exact ih2 (b + 1) y V3 _ _ _ (by omega) (by omega) (by simp only [mwF]; rw [hy]; exact if_neg (Nat.not_lt.mpr c41)) (Eqx.trans hE2 hE3) hG hS (lv_sub hl [0, 2, 3, 4, 5] rfl)
      refine lv_iload hx hb dX13_mostWith_44 (lv_at hl 0 rfl) ?_
      refine lv_istore_n (lv' := [(3, .int (nI (bc (raF t (V 30) (x ^^^ (1 * 2 ^ b)) q)))), (5, .int (nI (bc (raF t (V 30) (x ^^^ (1 * 2 ^ b)) q)))), (4, .int (nI b)), (0, .ref o), (1, .int (nI x)), (2, .int (nI q))]) hx hb dX13_mostWith_46 rfl hl (by decide) rfl (fun ls hl => ?_)
      refine lv_iinc (v := (nI (b + 1))) (lv' := [(4, .int (nI (b + 1))), (3, .int (nI (bc (raF t (V 30) (x ^^^ (1 * 2 ^ b)) q)))), (5, .int (nI (bc (raF t (V 30) (x ^^^ (1 * 2 ^ b)) q)))), (0, .ref o), (1, .int (nI x)), (2, .int (nI q))]) hx hb dX13_mostWith_47 hl (k := 2) rfl (nI_add _ _) (by decide) rfl (fun ls hl => ?_)
      refine lv_goto (tgt := 13) hx hb dX13_mostWith_50 (by decide) ?_
      exact ih2 (b + 1) (bc (raF t (V 30) (x ^^^ (1 * 2 ^ b)) q)) V3 _ _ _ (by omega) (by omega) (by simp only [mwF]; rw [hy]; exact if_pos c41) (Eqx.trans hE2 hE3) hG hS (lv_sub hl [0, 1, 3, 4, 5] rfl)
  exact loop2 ((xN t - 0) + 1) 0 (lfF t (V 30) q x) V1 _ _ _ (Nat.lt_succ_self _) (by omega) rfl Eqx.rf hG hS (lv_sub hl [0, 1, 2, 3, 4] rfl)
