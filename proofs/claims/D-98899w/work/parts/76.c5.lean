def PG1 (k j : Nat) : Bool := k == 8 || k == 9 || k == 10 || (k == 0 && (j == 6))
def PG2 (k _ : Nat) : Bool := k == 2
def PGo2 (k j : Nat) : Bool := k == 2 || k == 8 || k == 9 || k == 10 || (k == 0 && (j == 4 || j == 5 || j == 6))
theorem PAs_PG1 : ∀ k j, PG1 k j = false → PAs k j = false := by intro k j h; simp only [PAs, PG1, Bool.or_eq_false_iff, Bool.and_eq_false_iff, beq_eq_false_iff_ne, ne_eq] at *; omega
theorem PAk_PG1 : ∀ k j, PG1 k j = false → PAk k j = false := by intro k j h; simp only [PAk, PG1, Bool.or_eq_false_iff, Bool.and_eq_false_iff, beq_eq_false_iff_ne, ne_eq] at *; omega
theorem PAs_PGo2 : ∀ k j, PGo2 k j = false → PAs k j = false := by intro k j h; simp only [PAs, PGo2, Bool.or_eq_false_iff, Bool.and_eq_false_iff, beq_eq_false_iff_ne, ne_eq] at *; omega
theorem PG1_PGo2 : ∀ k j, PGo2 k j = false → PG1 k j = false := by intro k j h; simp only [PG1, PGo2, Bool.or_eq_false_iff, Bool.and_eq_false_iff, beq_eq_false_iff_ne, ne_eq] at *; omega
theorem PG2_PGo2 : ∀ k j, PGo2 k j = false → PG2 k j = false := by intro k j h; simp only [PG2, PGo2, Bool.or_eq_false_iff, Bool.and_eq_false_iff, beq_eq_false_iff_ne, ne_eq] at *; omega
theorem wthn_m {v lo hi : Int32} (h : lo ≤ hi) : (if lo < (if v < hi then v else hi) then (if v < hi then v else hi) else lo) = wthn v lo hi := by
  unfold wthn
  rw [Int32.le_iff_toInt_le] at h
  by_cases h1 : v < hi
  · rw [if_pos h1]
    by_cases h2 : v < lo
    · rw [if_pos h2, if_neg (by rw [Int32.lt_iff_toInt_lt] at *; omega)]
    · rw [if_neg h2, if_neg (show ¬ hi < v by rw [Int32.lt_iff_toInt_lt] at *; omega)]
      by_cases h3 : lo < v
      · rw [if_pos h3]
      · rw [if_neg h3]; rw [Int32.lt_iff_toInt_lt] at h2 h3; exact Int32.toInt_inj.mp (by omega)
  · rw [if_neg h1]
    by_cases h2 : v < lo
    · rw [if_pos h2]
      by_cases h3 : lo < hi
      · rw [if_pos h3]; rw [Int32.lt_iff_toInt_lt] at h1 h2; exact Int32.toInt_inj.mp (by omega)
      · rw [if_neg h3]
    · rw [if_neg h2]
      by_cases h4 : hi < v
      · rw [if_pos h4]
        by_cases h3 : lo < hi
        · rw [if_pos h3]
        · rw [if_neg h3]; rw [Int32.lt_iff_toInt_lt] at h3; exact Int32.toInt_inj.mp (by omega)
      · rw [if_neg h4]
        have e : hi = v := by rw [Int32.lt_iff_toInt_lt] at h1 h4; exact Int32.toInt_inj.mp (by omega)
        by_cases h3 : lo < hi
        · rw [if_pos h3]; exact e
        · rw [if_neg h3]; rw [Int32.lt_iff_toInt_lt] at h3 h2; rw [← e] at h2 ⊢; exact Int32.toInt_inj.mp (by omega)
/-! a night: lots are drawn, or nobody is chilled -/
def niA (D : va_G) (H : Heap) (nd : Nat) (stl : Int32) : Prop := (stl = nI 0 ∧ va_at D CL (nd, .inr (15, [])) H) ∨ (stl = nI 1 ∧ va_at D CL (nd, .inr (16, [])) H)
theorem niA_kept {D : va_G} {H H1 : Heap} {nd : Nat} {stl : Int32} (h : niA D H nd stl) (hk : ∀ q, q < H.size → q = nd → H1[q]? = H[q]?) : niA D H1 nd stl := by
  rcases h with ⟨h, g⟩ | ⟨h, g⟩
  · exact Or.inl ⟨h, g.kept (hk _ g.lt rfl)⟩
  · exact Or.inr ⟨h, g.kept (hk _ g.lt rfl)⟩
theorem niA_S {D : va_G} {A : Nat → Prop} {H0 H : Heap} {locs : List Loc} {nd : Nat} {stl : Int32} (h : niA D H0 nd stl) (hS : va_S A H0 H locs) (hn : ¬ A nd) : niA D H nd stl := niA_kept h (fun q h1 h2 => hS.2.1 q h1 (by rw [h2]; exact hn))
theorem ch_still {T : Txt} {f : Rw} {lots : Int32} {k : Nat} : nI 0 = nI (bN (chB T f (nI 1) lots k)) := by
  have e : chB T f (nI 1) lots k = false := by
    unfold chB
    rw [show decide (nI 1 = 0) = false by decide]
    rfl
  rw [e]; rfl
theorem ch_drawn {T : Txt} {f : Rw} {lots : Int32} {k : Nat} : bN (chB T f (nI 0) lots k) = if ltF lots (nI 16 * f 45 + nI k) < chiF T f k then 1 else 0 := by
  unfold chB
  rw [show decide (nI 0 = 0) = true by decide, Bool.true_and]
  by_cases h : ltF lots (nI 16 * f 45 + nI k) < chiF T f k
  · rw [if_pos h, decide_eq_true h]; rfl
  · rw [if_neg h, decide_eq_false h]; rfl
/-! the next row's bits -/
def xoF (t : Txt) (f : Rw) (stl lots : Int32) : Nat → Nat
  | 0 => obF (liB t f) (xN t)
  | b + 1 => if chB t f stl lots b = true then xoF t f stl lots b ^^^ 1 * 2 ^ b else xoF t f stl lots b
theorem xoF_lt {t : Txt} {f : Rw} {stl lots : Int32} (hn : xN t ≤ 9) : ∀ b, b ≤ 9 → xoF t f stl lots b < 512
  | 0, _ => ob9 hn
  | b + 1, h => by
    have ih := xoF_lt (t := t) (f := f) (stl := stl) (lots := lots) hn b (by omega)
    unfold xoF
    split
    · exact x9 ih (p9 (show b < 9 by omega) (Nat.le_refl _))
    · exact ih
theorem ob_t {hit : Nat → Bool} {k y : Nat} (h : hit k = true) (hy : obF hit k = y) : obF hit (k + 1) = y ||| 1 * 2 ^ k := by simp only [obF]; rw [if_pos h, hy]
theorem ob_f {hit : Nat → Bool} {k y : Nat} (h : ¬ hit k = true) (hy : obF hit k = y) : obF hit (k + 1) = y ||| 0 := by simp only [obF]; rw [if_neg h, hy, Nat.or_zero]
theorem ob_tb {hit : Nat → Bool} {j : Nat} : ∀ n, (obF hit n).testBit j = (decide (j < n) && hit j)
  | 0 => by simp [obF]
  | n + 1 => by
    have ih := ob_tb (hit := hit) (j := j) n
    simp only [obF]
    by_cases h : hit n = true
    · rw [if_pos h, Nat.testBit_or, ih, Nat.one_mul, Nat.testBit_two_pow]
      by_cases e : n = j
      · subst e; simp [h]
      · simp only [e, decide_false, Bool.or_false]
        congr 1
        exact decide_eq_decide.mpr (by omega)
    · rw [if_neg h, ih]
      by_cases e : n = j
      · subst e; simp [h]
      · congr 1
        exact decide_eq_decide.mpr (by omega)
theorem rb_tb {f : Rw} {j : Nat} : ∀ n, (rbF f n).testBit j = (decide (j < n) && decide (b01 (f j) = 1))
  | 0 => by simp [rbF]
  | n + 1 => by
    have ih := rb_tb (f := f) (j := j) n
    have h2 := b01_lt (f n)
    show (rbF f n ||| b01 (f n) * 2 ^ n).testBit j = _
    rw [Nat.testBit_or, ih]
    rcases (show b01 (f n) = 0 ∨ b01 (f n) = 1 by omega) with h | h
    · rw [h, Nat.zero_mul, Nat.zero_testBit, Bool.or_false]
      by_cases e : n = j
      · subst e; simp [h]
      · congr 1
        exact decide_eq_decide.mpr (by omega)
    · rw [h, Nat.one_mul, Nat.testBit_two_pow]
      by_cases e : n = j
      · subst e; simp [h]
      · simp only [e, decide_false, Bool.or_false]
        congr 1
        exact decide_eq_decide.mpr (by omega)
theorem xo_tb {t : Txt} {f : Rw} {stl lots : Int32} {j : Nat} : ∀ b, (xoF t f stl lots b).testBit j = ((decide (j < xN t) && liB t f j) ^^ (decide (j < b) && chB t f stl lots j))
  | 0 => by
    show (obF (liB t f) (xN t)).testBit j = _
    rw [ob_tb]
    simp
  | b + 1 => by
    have ih := xo_tb (t := t) (f := f) (stl := stl) (lots := lots) (j := j) b
    unfold xoF
    by_cases h : chB t f stl lots b = true
    · rw [if_pos h, Nat.testBit_xor, ih, Nat.one_mul, Nat.testBit_two_pow]
      by_cases e : b = j
      · subst e; simp [h]
      · simp only [e, decide_false, Bool.xor_false]
        congr 2
        exact decide_eq_decide.mpr (by omega)
    · rw [if_neg h, ih]
      by_cases e : b = j
      · subst e; simp [h]
      · congr 2
        exact decide_eq_decide.mpr (by omega)
theorem xo_rb {t : Txt} {f : Rw} {stl lots : Int32} : xoF t f stl lots (xN t) = rbF (hourF t stl lots f) (xN t) := by
  apply Nat.eq_of_testBit_eq
  intro j
  rw [xo_tb, rb_tb]
  by_cases hj : j < xN t
  · have e : hourF t stl lots f j = lnF t f stl lots j := if_pos hj
    rw [decide_eq_true hj, Bool.true_and, Bool.true_and, Bool.true_and, e]
    unfold lnF
    rw [lie_b]
    cases chB t f stl lots j <;> cases liB t f j <;> decide
  · rw [decide_eq_false hj]
    simp
theorem hour_45 {t : Txt} {f : Rw} {stl lots : Int32} (hn : xN t ≤ 9) : hourF t stl lots f 45 = f 45 + nI 1 := by
  unfold hourF
  rw [if_neg (by omega), if_neg (by omega), if_pos rfl]
theorem hour_46 {t : Txt} {f : Rw} {stl lots : Int32} (hn : xN t ≤ 9) : hourF t stl lots f 46 = chN t f stl lots (xN t) (f 46) := by
  unfold hourF
  rw [if_neg (by omega), if_neg (by omega), if_neg (by decide), if_pos rfl]
theorem hour_o {t : Txt} {f : Rw} {stl lots : Int32} {j : Nat} (h1 : ¬ j < xN t) (h2 : ¬ (27 ≤ j ∧ j < 27 + xN t)) (h3 : j < 45) : hourF t stl lots f j = f j := by
  unfold hourF
  rw [if_neg h1, if_neg h2, if_neg (by omega), if_neg (by omega), if_neg (by omega)]
theorem hour_p {t : Txt} {f : Rw} {stl lots : Int32} {j : Nat} (hn : xN t ≤ 9) (h1 : j < xN t) : hourF t stl lots f (27 + j) = pnF t f j := by
  unfold hourF
  rw [if_neg (by omega), if_pos ⟨by omega, by omega⟩, show 27 + j - 27 = j by omega]
theorem pn_t {t : Txt} {f : Rw} {b : Nat} (h : f b = nI 1) : wthn (f (27 + b) + parF t f b) (-9999) (nI 9999) = pnF t f b := by unfold pnF; rw [if_pos h]
theorem pn_f {t : Txt} {f : Rw} {b : Nat} (h : ¬ f b = nI 1) : wthn (f (27 + b) + -parF t f b) (-9999) (nI 9999) = pnF t f b := by unfold pnF; rw [if_neg h]
theorem chN_t {t : Txt} {f : Rw} {stl lots x : Int32} {b : Nat} (h : chB t f stl lots b = true) : chN t f stl lots (b + 1) x = chN t f stl lots b x + nI 1 := by simp only [chN]; rw [if_pos h]
theorem chN_f {t : Txt} {f : Rw} {stl lots x : Int32} {b : Nat} (h : ¬ chB t f stl lots b = true) : chN t f stl lots (b + 1) x = chN t f stl lots b x := by simp only [chN]; rw [if_neg h]
theorem xo_t {t : Txt} {f : Rw} {stl lots : Int32} {b : Nat} (h : chB t f stl lots b = true) : xoF t f stl lots (b + 1) = xoF t f stl lots b ^^^ 1 * 2 ^ b := by rw [xoF]; rw [if_pos h]
theorem xo_f {t : Txt} {f : Rw} {stl lots : Int32} {b : Nat} (h : ¬ chB t f stl lots b = true) : xoF t f stl lots (b + 1) = xoF t f stl lots b := by rw [xoF]; rw [if_neg h]
set_option maxHeartbeats 4000000 in
theorem met_X0_within (l : Launch) (D : va_G) (dA : Nat → ClassId) {H0 : Heap} (v lo hi : Int32) (h : lo ≤ hi) : Ctr l D dA yX0_within cX0_within 3 (some .int) (mkRm 1 16) [.int v, .int lo, .int hi] H0 A0 (QI (fun r H1 => H0 = H1 ∧ r = wthn v lo hi)) := by
  refine ctr_I (by decide) (Nat.le_of_ble_eq_true rfl) ?_
  intro p e s m args below meth c ls QQ locs hx hb hml hown hts hK hend hS hl
  have hl : lv_has ls 3 [(0, .int v), (1, .int lo), (2, .int hi)] := hl
  refine lv_iload_n hx hb dX0_within_0 rfl (lv_at hl 1 rfl) ?_
  refine lv_iload_n hx hb dX0_within_1 rfl (lv_at hl 2 rfl) ?_
  refine lv_iload_n hx hb dX0_within_2 rfl (lv_at hl 0 rfl) ?_
  refine va_mmin hx hb (hml.trans hl.1.symm) hown (hts _ q1194) (hts _ q908) (hts _ q142) (hts _ q909) (Nat.le_of_ble_eq_true rfl) (Nat.le_of_ble_eq_true rfl) (Nat.le_refl _) (Nat.le_refl _) dX0_within_3 ?_
  refine va_mmax hx hb (hml.trans hl.1.symm) hown (hts _ q1259) (hts _ q890) (hts _ q142) (hts _ q891) (Nat.le_of_ble_eq_true rfl) (Nat.le_of_ble_eq_true rfl) (Nat.le_refl _) (Nat.le_refl _) dX0_within_6 ?_
  refine hend _ _ _ _ _ hS dX0_within_9 ?_
  exact ⟨_, rfl, rfl, wthn_m h⟩
set_option maxHeartbeats 4000000 in
theorem met_X0_mixed (l : Launch) (D : va_G) (dA : Nat → ClassId) {H0 : Heap} (h v : Int32) : Ctr l D dA yX0_mixed cX0_mixed 3 (some .int) (mkRm 0 0) [.int h, .int v] H0 A0 (QI (fun r H1 => H0 = H1 ∧ r = mixI h v)) := by
  refine ctr_I (by decide) (Nat.le_of_ble_eq_true rfl) ?_
  intro p e s m args below meth c ls QQ locs hx hb hml hown hts hK hend hS hl
  have hl : lv_has ls 3 [(0, .int h), (1, .int v)] := hl
  refine lv_iload_n hx hb dX0_mixed_0 rfl (lv_at hl 0 rfl) ?_
  refine lv_iload_n hx hb dX0_mixed_1 rfl (lv_at hl 1 rfl) ?_
  refine lv_ixor hx hb dX0_mixed_2 ?_
  refine lv_ldc (v := (nI 1103515245)) hx hb hown (hts _ q1251) dX0_mixed_3 ?_
  refine lv_imul hx hb dX0_mixed_5 ?_
  refine lv_sipush (v := (nI 12345)) hx hb dX0_mixed_6 (by decide) ?_
  refine lv_iadd hx hb dX0_mixed_9 ?_
  refine lv_istore_n (lv' := [(2, .int (((h ^^^ v) * (nI 1103515245)) + (nI 12345))), (0, .int h), (1, .int v)]) hx hb dX0_mixed_10 rfl hl (by decide) rfl (fun ls hl => ?_)
  refine lv_iload_n hx hb dX0_mixed_11 rfl (lv_at hl 0 rfl) ?_
  refine lv_iload_n hx hb dX0_mixed_12 rfl (lv_at hl 0 rfl) ?_
  refine lv_bipush (v := (nI 15)) hx hb dX0_mixed_13 (by decide) ?_
  refine lv_iushr (v := ((((h ^^^ v) * (nI 1103515245)) + (nI 12345)).toUInt32 >>> ((nI 15).toUInt32 &&& Int32.toUInt32 31)).toInt32) hx hb dX0_mixed_15 rfl ?_
  refine lv_ixor hx hb dX0_mixed_16 ?_
  refine hend _ _ _ _ _ hS dX0_mixed_17 ?_
  exact ⟨_, rfl, rfl, rfl⟩
theorem cw_X0_2 {R : Room} {s : State} {args : Array Value} (hts : ∀ w ∈ lw_all, w.before args s = true) {f w k j : Nat} (hR : f + 1 ≤ R.frames ∧ 8 + (3 + 11) + w ≤ R.locals) : CallB R s args RX0 2 yX0_mixed cX0_mixed 3 (some .int) (ws_ yX0_mixed cX0_mixed 3 (some .int)) (mkRmC f w k j) k j 2 ∧ (Cond.static yX0_mixed).before args s = true := va_cwS 2 hts (lw_S q1248 q1249 q108 q1250) rfl rfl rfl (by decide +kernel) hR
set_option maxHeartbeats 4000000 in
theorem met_X0_lot (l : Launch) (D : va_G) (dA : Nat → ClassId) {H0 : Heap} (x y : Int32) : Ctr l D dA yX0_lot cX0_lot 3 (some .int) (mkRm 1 22) [.int x, .int y, .int (nI 100)] H0 A0 (QI (fun r H1 => H0 = H1 ∧ r = ltF x y)) := by
  refine ctr_I (by decide) (Nat.le_of_ble_eq_true rfl) ?_
  intro p e s m args below meth c ls QQ locs hx hb hml hown hts hK hend hS hl
  have hl : lv_has ls 3 [(0, .int x), (1, .int y), (2, .int (nI 100))] := hl
  refine lv_iload_n hx hb dX0_lot_0 rfl (lv_at hl 0 rfl) ?_
  refine lv_sipush (v := (nI 139)) hx hb dX0_lot_1 (by decide) ?_
  refine c_SI hx hb hml hts hown hK hl.1 hS ⟨Nat.le_refl _, Nat.le_refl _⟩ (met_X0_mixed l D dA x (nI 139)) (cw_X0_2 hts ⟨Nat.le_of_ble_eq_true rfl, Nat.le_of_ble_eq_true rfl⟩) rfl rfl (Nat.le_of_ble_eq_true rfl) dX0_lot_4 (fun _ h => h.elim) (fun r H1 locs hq hF hS => ?_)
  obtain ⟨rfl, rfl⟩ := hq
  refine lv_iload_n hx hb dX0_lot_7 rfl (lv_at hl 1 rfl) ?_
  refine c_SI hx hb hml hts hown hK hl.1 hS ⟨Nat.le_refl _, Nat.le_refl _⟩ (met_X0_mixed l D dA (mixI x (nI 139)) y) (cw_X0_2 hts ⟨Nat.le_of_ble_eq_true rfl, Nat.le_of_ble_eq_true rfl⟩) rfl rfl (Nat.le_of_ble_eq_true rfl) dX0_lot_8 (fun _ h => h.elim) (fun r H1 locs hq hF hS => ?_)
  obtain ⟨rfl, rfl⟩ := hq
  refine lv_iconst (v := (nI 1)) hx hb dX0_lot_11 (by decide) ?_
  refine lv_iushr (v := ((mixI (mixI x (nI 139)) y).toUInt32 >>> ((nI 1).toUInt32 &&& Int32.toUInt32 31)).toInt32) hx hb dX0_lot_12 rfl ?_
  refine lv_iload_n hx hb dX0_lot_13 rfl (lv_at hl 2 rfl) ?_
  refine lv_irem hx hb dX0_lot_14 (by decide) ?_
  refine hend _ _ _ _ _ hS dX0_lot_15 ?_
  exact ⟨_, rfl, rfl, rfl⟩
theorem cw_X11_22 {R : Room} {s : State} {args : Array Value} (hts : ∀ w ∈ lw_all, w.before args s = true) {f w k j : Nat} (hR : f + 1 ≤ R.frames ∧ 8 + (3 + 11) + w ≤ R.locals) : CallW R s args RX11 RX5 22 yX5_chills cX5_chills 3 (some .int) (ws_ yX5_chills cX5_chills 3 (some .int)) (mkRmC f w k j) k j 2 := cwV 2 hts (lw_V q1252 q1171 q1172 q119 q1173) rfl rfl rfl (by decide +kernel) hR
set_option maxHeartbeats 4000000 in
theorem met_X11_chills (l : Launch) (D : va_G) (dA : Nat → ClassId) {b : Nat} {V : GI} {L : GL} {Rf : GR} {H0 : Heap} (hG : gP D dA b dB V L Rf H0) {O : Nat → Prop} {tx : Nat} {T : Txt} (hX : txA D dA H0 O tx T) (hOA : ∀ z, O z → ¬ AB b z) (hsd : sdB Rf b) {f : Rw} (hbk : bkA V (xN T) f) (hrv : RV (xN T) f) {lots : Int32} (h7 : V 0 7 = lots) {k nd : Nat} (hk : k < xN T) : Ctr l D dA yX11_chills cX11_chills 4 (some .boolean) (mkRm 404 9330) [.ref nd, .ref b, .ref tx, .int (nI k)] H0 (AB b) (QI (fun r H1 => r = nI (bN (chB T f (nI 0) lots k)) ∧ ∃ V1, gP D dA b dB V1 L Rf H1 ∧ Eqx PAs V V1)) := by
  have hX0 := hX
  obtain ⟨al, ls, cd, cb, gc, lw, mc, ea, nc, xo1, xo2, xo3, xo4, xh1, xh2, xh3, xh4, xh5, xh6, hn9⟩ := hX
  refine ctr_Z (by decide) (Nat.le_of_ble_eq_true rfl) ?_
  intro p e s m args below meth c ls QQ locs hx hb hml hown hts hK hend hS hl
  have hl : lv_has ls 4 [(0, .ref nd), (1, .ref b), (2, .ref tx), (3, .int (nI k))] := hl
  refine lv_aload_n hx hb dX11_chills_0 rfl (lv_at hl 1 rfl) ?_
  refine g_get (v := .int lots) hx hb hts hown hK hG 0 rfl rfl ok_X5 7 (by decide) q448 rfl (congrArg Value.int h7) dX11_chills_1 ?_
  refine lv_bipush (v := (nI 16)) hx hb dX11_chills_4 (by decide) ?_
  refine lv_aload_n hx hb dX11_chills_6 rfl (lv_at hl 1 rfl) ?_
  refine g_get (v := .int (f 45)) hx hb hts hown hK hG 0 rfl rfl ok_X5 5 (by decide) q443 rfl (congrArg Value.int hbk.2.1) dX11_chills_7 ?_
  refine lv_imul hx hb dX11_chills_10 ?_
  refine lv_iload_n hx hb dX11_chills_11 rfl (lv_at hl 3 rfl) ?_
  refine lv_iadd hx hb dX11_chills_12 ?_
  refine lv_bipush (v := (nI 100)) hx hb dX11_chills_13 (by decide) ?_
  refine c_SN (host := "PartedSide") hx hb hml hts hown hK hl.1 hS ⟨Nat.le_refl _, Nat.le_refl _⟩ (met_X0_lot l D dA lots (((nI 16) * (f 45)) + (nI k))) ⟨va_cnB 3 hts (lw_meth q1247) rfl rfl rfl (hK.2.1 _ q1245 rfl) (hts _ q108) (by decide +kernel) ⟨Nat.le_of_ble_eq_true rfl, Nat.le_of_ble_eq_true rfl⟩, hts _ q1246, trivial⟩ rfl rfl (Nat.le_of_ble_eq_true rfl) dX11_chills_15 (fun _ h => h.elim) (fun r H1 locs hq hF hS => ?_)
  obtain ⟨rfl, rfl⟩ := hq
  refine lv_aload_n hx hb dX11_chills_18 rfl (lv_at hl 1 rfl) ?_
  refine lv_aload_n hx hb dX11_chills_19 rfl (lv_at hl 2 rfl) ?_
  refine lv_iload_n hx hb dX11_chills_20 rfl (lv_at hl 3 rfl) ?_
  refine c_VI hx hb hml hts hown hK hl.1 hS ⟨Nat.le_refl _, Nat.le_refl _⟩ (met_X5_chills l D dA hG (txA_S hX0 hS hOA) hOA hsd hbk hrv hk) (cw_X11_22 hts ⟨Nat.le_of_ble_eq_true rfl, Nat.le_of_ble_eq_true rfl⟩) (hG 0 _ rfl) rfl rfl rfl rfl (Nat.le_of_ble_eq_true rfl) dX11_chills_21 (fun _ h => h) (fun r H1 locs hq hF hS => ?_)
  obtain ⟨rfl, V1, hG, hE1⟩ := hq
  generalize hHe1 : H1 = H at hG hS ⊢
  clear hHe1
  refine lv_icmp_ge (tgt := 31) hx hb dX11_chills_24 (by decide) (fun c24 => ?_) (fun c24 => ?_)
  · refine lv_iconst (v := (nI 0)) hx hb dX11_chills_31 (by decide) ?_
    refine hend _ _ _ _ _ hS dX11_chills_32 (by decide) ?_
    exact ⟨_, rfl, by rw [ch_drawn, if_neg (Int32.not_lt.mpr c24)], _, hG, hE1⟩
  refine lv_iconst (v := (nI 1)) hx hb dX11_chills_27 (by decide) ?_
  refine lv_goto (tgt := 32) hx hb dX11_chills_28 (by decide) ?_
  refine hend _ _ _ _ _ hS dX11_chills_32 (by decide) ?_
  exact ⟨_, rfl, by rw [ch_drawn, if_pos (Int32.not_le.mp c24)], _, hG, hE1⟩
set_option maxHeartbeats 4000000 in
theorem met_X12_chills (l : Launch) (D : va_G) (dA : Nat → ClassId) {b : Nat} {V : GI} {L : GL} {Rf : GR} {H0 : Heap} (hG : gP D dA b dB V L Rf H0) {O : Nat → Prop} {tx : Nat} {T : Txt} (hX : txA D dA H0 O tx T) (hOA : ∀ z, O z → ¬ AB b z) (hsd : sdB Rf b) {f : Rw} (hbk : bkA V (xN T) f) (hrv : RV (xN T) f) {lots : Int32} (h7 : V 0 7 = lots) {k nd : Nat} (hk : k < xN T) : Ctr l D dA yX12_chills cX12_chills 4 (some .boolean) (mkRm 404 9330) [.ref nd, .ref b, .ref tx, .int (nI k)] H0 (AB b) (QI (fun r H1 => r = nI (bN (chB T f (nI 1) lots k)) ∧ ∃ V1, gP D dA b dB V1 L Rf H1 ∧ Eqx PAs V V1)) := by
  refine ctr_Z (by decide) (Nat.le_of_ble_eq_true rfl) ?_
  intro p e s m args below meth c ls QQ locs hx hb hml hown hts hK hend hS hl
  have hl : lv_has ls 4 [(0, .ref nd), (1, .ref b), (2, .ref tx), (3, .int (nI k))] := hl
  refine lv_iconst (v := (nI 0)) hx hb dX12_chills_0 (by decide) ?_
  refine hend _ _ _ _ _ hS dX12_chills_1 (by decide) ?_
  exact ⟨_, rfl, ch_still, _, hG, Eqx.rf⟩
theorem cw_X5_133 {R : Room} {s : State} {args : Array Value} (hts : ∀ w ∈ lw_all, w.before args s = true) {f w k j : Nat} (hR : f + 1 ≤ R.frames ∧ 8 + (3 + 11) + w ≤ R.locals) : CallW R s args RX5 RX5 133 yX5_liesLeft cX5_liesLeft 3 (some .boolean) (ws_ yX5_liesLeft cX5_liesLeft 3 (some .boolean)) (mkRmC f w k j) k j 2 := cwV 2 hts (lw_V q1237 q1124 q1125 q119 q1126) rfl rfl rfl (by decide +kernel) hR
set_option maxHeartbeats 4000000 in
theorem met_X5_next (l : Launch) (D : va_G) (dA : Nat → ClassId) {b : Nat} {V : GI} {L : GL} {Rf : GR} {H0 : Heap} (hG : gP D dA b dB V L Rf H0) {O : Nat → Prop} {tx : Nat} {T : Txt} (hX : txA D dA H0 O tx T) (hOA : ∀ z, O z → ¬ AB b z) (hsd : sdB Rf b) {f : Rw} (hbk : bkA V (xN T) f) (hrv : RV (xN T) f) : Ctr l D dA yX5_next cX5_next 4 (some .int) (mkRm 404 9330) [.ref b, .ref tx] H0 (AB b) (QI (fun r H1 => r = nI (obF (liB T f) (xN T)) ∧ ∃ V1, gP D dA b dB V1 L Rf H1 ∧ Eqx PAs V V1)) := by
  have hX0 := hX
  obtain ⟨al, ls, cd, cb, gc, lw, mc, ea, nc, xo1, xo2, xo3, xo4, xh1, xh2, xh3, xh4, xh5, xh6, hn9⟩ := hX
  refine ctr_I (by decide) (Nat.le_of_ble_eq_true rfl) ?_
  intro p e s m args below meth c ls QQ locs hx hb hml hown hts hK hend hS hl
  have hl : lv_has ls 4 [(0, .ref b), (1, .ref tx)] := hl
  refine lv_iconst (v := (nI 0)) hx hb dX5_next_0 (by decide) ?_
  refine lv_istore_n (lv' := [(2, .int (nI 0)), (0, .ref b), (1, .ref tx)]) hx hb dX5_next_1 rfl hl (by decide) rfl (fun ls hl => ?_)
  refine lv_iconst (v := (nI 0)) hx hb dX5_next_2 (by decide) ?_
  refine lv_istore_n (lv' := [(3, .int (nI 0)), (2, .int (nI 0)), (0, .ref b), (1, .ref tx)]) hx hb dX5_next_3 rfl hl (by decide) rfl (fun ls hl => ?_)
  have loop1 : ∀ (fu1 : Nat) (k : Nat) (y : Nat) (V1 : GI) (H : Heap) (locs : List Loc) (ls : Array Slot), xN T - k < fu1 → (k ≤ xN T) → (obF (liB T f) k = y) → (Eqx PAs V V1) → gP D dA b dB V1 L Rf H → va_S (AB b) H0 H locs → lv_has ls 4 [(3, .int (nI k)), (2, .int (nI y)), (0, .ref b), (1, .ref tx)] → W p l e (mkRm 404 9330) s m args below meth c H locs 0 0 QQ (F0 m 4 ls []) := by
    intro fu1
    induction fu1 with
    | zero => intro k y V1 H locs ls hfu; exact absurd hfu (Nat.not_lt_zero _)
    | succ fu1 ih1 =>
      intro k y V1 H locs ls hfu hkn hy hE1 hG hS hl
      refine lv_iload_n hx hb dX5_next_4 rfl (lv_at hl 0 rfl) ?_
      refine lv_aload_n hx hb dX5_next_5 rfl (lv_at hl 3 rfl) ?_
      refine c_VI hx hb hml hts hown hK hl.1 hS ⟨Nat.le_refl _, Nat.le_refl _⟩ (met_X4_beds l D dA (txA_S hX0 hS hOA)) (cw_X5_50 hts ⟨Nat.le_of_ble_eq_true rfl, Nat.le_of_ble_eq_true rfl⟩) (va_at_S xh1 hS (hOA _ xo1)) rfl rfl rfl rfl (Nat.le_of_ble_eq_true rfl) dX5_next_6 (fun _ h => h.elim) (fun r H1 locs hq hF hS => ?_)
      obtain ⟨rfl, rfl⟩ := hq
      refine n_icmp_ge (tgt := 37) hx hb dX5_next_9 (by decide) (by omega) (by omega) (fun c9 => ?_) (fun c9 => ?_)
      · refine lv_iload_n hx hb dX5_next_37 rfl (lv_at hl 1 rfl) ?_
        refine hend _ _ _ _ _ hS dX5_next_38 ?_
        obtain rfl : k = xN T := by omega
        exact ⟨_, rfl, congrArg nI hy.symm, _, hG, hE1⟩
      refine lv_iload_n hx hb dX5_next_12 rfl (lv_at hl 1 rfl) ?_
      refine lv_aload_n hx hb dX5_next_13 rfl (lv_at hl 2 rfl) ?_
      refine lv_aload_n hx hb dX5_next_14 rfl (lv_at hl 3 rfl) ?_
      refine lv_iload_n hx hb dX5_next_15 rfl (lv_at hl 0 rfl) ?_
      refine c_VI hx hb hml hts hown hK hl.1 hS ⟨Nat.le_refl _, Nat.le_refl _⟩ (met_X5_liesLeft l D dA hG (txA_S hX0 hS hOA) hOA hsd (bkA_to (hE1 0 4 rfl) (hE1 0 5 rfl) (fun j => (hE1 1 j rfl)) (fun j => (hE1 2 j rfl)) hbk) hrv (by omega)) (cw_X5_133 hts ⟨Nat.le_of_ble_eq_true rfl, Nat.le_of_ble_eq_true rfl⟩) (hG 0 _ rfl) rfl rfl rfl rfl (Nat.le_of_ble_eq_true rfl) dX5_next_16 (fun _ h => h) (fun r H1 locs hq hF hS => ?_)
      obtain ⟨rfl, V2, hG, hE2⟩ := hq
      generalize hHe2 : H1 = H at hG hS ⊢
      clear hHe2
      refine iv (y := nI (bN (liB T f k))) (lie_b T f k) ?_
      have hbl := bN_lt (liB T f k)
      refine n_if_eq (tgt := 28) hx hb dX5_next_19 (by decide) (by omega) (fun c19 => ?_) (fun c19 => ?_)
      · refine lv_iconst (v := (nI 0)) hx hb dX5_next_28 (by decide) ?_
        refine n_ior hx hb dX5_next_29 ?_
        refine lv_istore_n (lv' := [(2, .int (nI (y ||| 0))), (3, .int (nI k)), (0, .ref b), (1, .ref tx)]) hx hb dX5_next_30 rfl hl (by decide) rfl (fun ls hl => ?_)
        refine lv_iinc (v := (nI (k + 1))) (lv' := [(3, .int (nI (k + 1))), (2, .int (nI (y ||| 0))), (0, .ref b), (1, .ref tx)]) hx hb dX5_next_31 hl (k := 1) rfl (nI_add _ _) (by decide) rfl (fun ls hl => ?_)
        refine lv_goto (tgt := 4) hx hb dX5_next_34 (by decide) ?_
        exact ih1 (k + 1) (y ||| 0) V2 _ _ _ (by omega) (by omega) (ob_f (bN0 (by omega)) hy) (Eqx.trans hE1 hE2) hG hS (lv_sub hl [0, 1, 2, 3] rfl)
      refine lv_iconst (v := (nI 1)) hx hb dX5_next_22 (by decide) ?_
      refine lv_iload_n hx hb dX5_next_23 rfl (lv_at hl 0 rfl) ?_
      refine n_ishl hx hb dX5_next_24 (by omega) ?_
      refine lv_goto (tgt := 29) hx hb dX5_next_25 (by decide) ?_
      refine n_ior hx hb dX5_next_29 ?_
      refine lv_istore_n (lv' := [(2, .int (nI (y ||| (1 * 2 ^ k)))), (3, .int (nI k)), (0, .ref b), (1, .ref tx)]) hx hb dX5_next_30 rfl hl (by decide) rfl (fun ls hl => ?_)
      refine lv_iinc (v := (nI (k + 1))) (lv' := [(3, .int (nI (k + 1))), (2, .int (nI (y ||| (1 * 2 ^ k)))), (0, .ref b), (1, .ref tx)]) hx hb dX5_next_31 hl (k := 1) rfl (nI_add _ _) (by decide) rfl (fun ls hl => ?_)
      refine lv_goto (tgt := 4) hx hb dX5_next_34 (by decide) ?_
      exact ih1 (k + 1) (y ||| (1 * 2 ^ k)) V2 _ _ _ (by omega) (by omega) (ob_t (bN1 (by omega)) hy) (Eqx.trans hE1 hE2) hG hS (lv_sub hl [0, 1, 2, 3] rfl)
  exact loop1 ((xN T - 0) + 1) 0 0 V _ _ _ (Nat.lt_succ_self _) (Nat.zero_le _) rfl Eqx.rf hG hS (lv_sub hl [0, 1, 2, 3] rfl)
