def PTk (k j : Nat) : Bool := k == 3 || k == 4 || k == 5 || (k == 0 && (j == 10))
theorem isT_PTk : ∀ k j, isT k j = true → PTk k j = false := by
  intro k j h
  simp only [isT, PTk, Bool.or_eq_true, Bool.and_eq_true, decide_eq_true_eq, beq_iff_eq, Bool.or_eq_false_iff, Bool.and_eq_false_iff, beq_eq_false_iff_ne, ne_eq] at *
  omega
theorem txM_PTk {V V1 : GI} {lv : Nat} {t : Txt} (h : Eqx PTk V V1) (hX : txM V lv t) : txM V1 lv t := txM_to (fun k j q => h k j (isT_PTk k j q)) hX
/-! tokens -/
/-- the byte at a place of the tape, 0 behind it -/
def chT (tp : List Int32) (i : Nat) : Nat := match tp[i]? with
  | some x => x.toBitVec.toNat % 256
  | none => 0
theorem chT_lt (tp : List Int32) (i : Nat) : chT tp i < 256 := by
  unfold chT
  split
  · exact Nat.mod_lt _ (by decide)
  · decide
theorem chT_0 {tp : List Int32} {i : Nat} (h : tp.length ≤ i) : chT tp i = 0 := by
  unfold chT
  rw [List.getElem?_eq_none_iff.mpr h]
theorem chT_at {tp : List Int32} {i : Nat} {V : GI} (h : i < tp.length) (hv : ∀ (i : Nat) (x : Int32), tp[i]? = some x → V 2 i = x) : V 2 i &&& nI 255 = nI (chT tp i) := by
  have e := List.getElem?_eq_getElem h
  rw [hv i _ e]
  unfold chT
  rw [e]
  exact pk_and _ 8 (by decide)
def isL (c : Nat) : Bool := decide (97 ≤ c) && decide (c ≤ 122)
def isD (c : Nat) : Bool := decide (48 ≤ c) && decide (c ≤ 57)
def isW (c : Nat) : Bool := decide (c = 9) || decide (c = 10) || decide (c = 13) || decide (c = 32)
theorem inZ_nat {c lo hi : Nat} (hc : c < 1000) (hl : lo < 1000) (hh : hi < 1000) : inZ (nI c) (nI lo) (nI hi) = nI (bN (decide (lo ≤ c) && decide (c ≤ hi))) := by
  unfold inZ
  by_cases h1 : lo ≤ c
  · rw [if_pos ((nI_leI (by omega) (by omega)).mpr h1), decide_eq_true h1]
    by_cases h2 : c ≤ hi
    · rw [if_pos ((nI_leI (by omega) (by omega)).mpr h2), decide_eq_true h2]; rfl
    · rw [if_neg (fun z => h2 ((nI_leI (by omega) (by omega)).mp z)), decide_eq_false h2]; rfl
  · rw [if_neg (fun z => h1 ((nI_leI (by omega) (by omega)).mp z)), decide_eq_false h1]; rfl
/-- one letter more of a name's number -/
def apN (x c : Nat) : Nat := if c = 0 then x else 27 * x + (c - 96)
theorem apL {x c : Nat} (hc : c < 256) (h : c = 0 ∨ 97 ≤ c) : (27 : Int64) * lN x + (nI c - nI 97 + nI 1).toInt64 = lN (27 * x + (c - 96)) ∨ c = 0 := by
  rcases h with h | h
  · exact Or.inr h
  · left
    rw [pk_sub h, nI_add, nI_l (by omega), show (27 : Int64) = lN 27 from rfl, lN_mul, lN_add]
    congr 1
    omega
/-- a name's number, of its first letters (eight at most) -/
def nmN (ch : Nat → Nat) (i : Nat) : Nat → Nat
  | 0 => 0
  | n + 1 => if n < 8 then apN (nmN ch i n) (ch (i + n)) else nmN ch i n
/-- a number's value, of its first digits (four at most) -/
def dgN (ch : Nat → Nat) (i : Nat) : Nat → Nat
  | 0 => 0
  | n + 1 => if n < 4 then 10 * dgN ch i n + ch (i + n) - 48 else dgN ch i n
/-- how many of a kind stand from i on -/
def rnN (p : Nat → Bool) (ch : Nat → Nat) : Nat → Nat → Nat
  | 0, _ => 0
  | u + 1, i => if p (ch i) = true then rnN p ch u (i + 1) + 1 else 0
/-- the words' numbers -/
def wdN (l : List Nat) : Nat := l.foldl apN 0
def kyW : List (List Nat) := [[115, 108, 101, 101, 112, 101, 114], [99, 111, 108, 100], [108, 105, 101, 115], [112, 97, 114, 116, 115], [99, 104, 105, 108, 108, 115], [99, 111, 115, 116, 115], [114, 105, 110, 103], [98, 101, 103, 105, 110, 115], [115, 101, 101, 100], [105, 102], [116, 104, 101, 110], [101, 108, 115, 101], [111, 119, 110], [98, 101, 102, 111, 114, 101], [98, 101, 104, 105, 110, 100], [104, 97, 98, 105, 116], [100, 114, 97, 102, 116], [104, 111, 117, 114], [98, 101, 100], [109, 97, 110, 121], [112, 97, 114, 116, 101, 100]]
def kyN (k : Nat) : Nat := wdN (kyW.getD k [])
def kwF (x : Nat) : Nat → Nat
  | 0 => 1
  | k + 1 => if kyN k = x then 20 + k else kwF x k
def sgK (c : Nat) : Nat := if c = 60 then 13 else if c = 47 then 15 else if c = 42 then 10 else if c = 45 then 9 else if c = 43 then 8 else if c = 59 then 4 else if c = 61 then 5 else if c = 40 then 6 else if c = 41 then 7 else 3
/-- a token: kind, value, name, how long -/
abbrev Tk : Type := Nat × Nat × Nat × Nat
def lxF (ch : Nat → Nat) (sz j : Nat) : Tk := if isL (ch j) = true then (if 8 < rnN isL ch (sz - j) j then 3 else kwF (nmN ch j (rnN isL ch (sz - j) j)) 21, 0, nmN ch j (rnN isL ch (sz - j) j), rnN isL ch (sz - j) j)
  else if isD (ch j) = true then (if 4 < rnN isD ch (sz - j) j then 3 else 2, dgN ch j (rnN isD ch (sz - j) j), 0, rnN isD ch (sz - j) j)
  else (sgK (ch j), 0, 0, 1)
/-- the first place from i on that isn't white -/
def skF (ch : Nat → Nat) : Nat → Nat → Nat
  | 0, i => i
  | u + 1, i => if isW (ch i) = true then skF ch u (i + 1) else i
def skp (ch : Nat → Nat) (sz i : Nat) : Nat := skF ch (sz - i) i
/-- where the k-th token is sought from; its place; it -/
def psF (ch : Nat → Nat) (sz : Nat) : Nat → Nat
  | 0 => 0
  | k + 1 => skp ch sz (psF ch sz k) + (lxF ch sz (skp ch sz (psF ch sz k))).2.2.2
def plF (ch : Nat → Nat) (sz k : Nat) : Nat := skp ch sz (psF ch sz k)
def tkF (ch : Nat → Nat) (sz k : Nat) : Tk := if sz ≤ plF ch sz k then (0, 0, 0, 0) else lxF ch sz (plF ch sz k)
def kdF (ch : Nat → Nat) (sz k : Nat) : Nat := (tkF ch sz k).1
def vlF (ch : Nat → Nat) (sz k : Nat) : Nat := (tkF ch sz k).2.1
def nmF (ch : Nat → Nat) (sz k : Nat) : Nat := (tkF ch sz k).2.2.1
set_option maxHeartbeats 4000000 in
theorem met_X13_byteAt (l : Launch) (D : va_G) (dA : Nat → ClassId) {o : Nat} {V : GI} {L : GL} {Rf : GR} {H0 : Heap} (hG : gP D dA o dM V L Rf H0) (tp : List Int32) (htp9 : tp.length ≤ 2000) (hsz : V 0 4 = nI tp.length) (htx : ∀ (i : Nat) (x : Int32), tp[i]? = some x → V 2 i = x) (i : Nat) (hi9 : i < 100000) : Ctr l D dA yX13_byteAt cX13_byteAt 2 (some .int) (mkRm 0 0) [.ref o, .int (nI i)] H0 A0 (QI (fun r H1 => H0 = H1 ∧ r = nI (chT tp i))) := by
  refine ctr_I (by decide) (Nat.le_of_ble_eq_true rfl) ?_
  intro p e s m args below meth c ls QQ locs hx hb hml hown hts hK hend hS hl
  have hl : lv_has ls 2 [(0, .ref o), (1, .int (nI i))] := hl
  refine lv_iload_n hx hb dX13_byteAt_0 rfl (lv_at hl 1 rfl) ?_
  refine lv_aload_n hx hb dX13_byteAt_1 rfl (lv_at hl 0 rfl) ?_
  refine g_get (v := .int (nI tp.length)) hx hb hts hown hK hG 0 rfl rfl ok_X13 4 (by decide) q1475 rfl (congrArg Value.int hsz) dX13_byteAt_2 ?_
  refine n_icmp_ge (tgt := 21) hx hb dX13_byteAt_5 (by decide) (by omega) (by omega) (fun c5 => ?_) (fun c5 => ?_)
  · refine lv_iconst (v := (nI 0)) hx hb dX13_byteAt_21 (by decide) ?_
    refine hend _ _ _ _ _ hS dX13_byteAt_22 ?_
    exact ⟨_, rfl, rfl, (congrArg nI (chT_0 (by omega))).symm⟩
  refine lv_aload_n hx hb dX13_byteAt_8 rfl (lv_at hl 0 rfl) ?_
  refine g_get hx hb hts hown hK hG 0 rfl rfl ok_X13 3 (by decide) q1474 rfl rfl dX13_byteAt_9 ?_
  refine lv_iload_n hx hb dX13_byteAt_12 rfl (lv_at hl 1 rfl) ?_
  refine n_bald hx hb hK hG 2 rfl (by omega) (by decide) dX13_byteAt_13 ?_
  refine lv_sipush (v := (nI 255)) hx hb dX13_byteAt_14 (by decide) ?_
  refine lv_iand hx hb dX13_byteAt_17 ?_
  refine iv (y := (nI (chT tp i))) (chT_at (by omega) htx) ?_
  refine lv_goto (tgt := 22) hx hb dX13_byteAt_18 (by decide) ?_
  refine hend _ _ _ _ _ hS dX13_byteAt_22 ?_
  exact ⟨_, rfl, rfl, rfl⟩
set_option maxHeartbeats 4000000 in
theorem met_X13_appends (l : Launch) (D : va_G) (dA : Nat → ClassId) {H0 : Heap} (x c0 : Nat) (hc9 : c0 < 256) (hc : c0 = 0 ∨ 97 ≤ c0) : Ctr l D dA yX13_appends cX13_appends 3 (some .long) (mkRm 0 0) [.long (lN x), .int (nI c0)] H0 A0 (QL (fun r H1 => H0 = H1 ∧ r = lN (apN x c0))) := by
  refine ctr_L (by decide) (Nat.le_of_ble_eq_true rfl) ?_
  intro p e s m args below meth c ls QQ locs hx hb hml hown hts hK hend hS hl
  have hl : lv_has ls 3 [(0, .long (lN x)), (2, .int (nI c0))] := hl
  refine lv_iload_n hx hb dX13_appends_0 rfl (lv_at hl 1 rfl) ?_
  refine n_if_ne (tgt := 8) hx hb dX13_appends_1 (by decide) (by omega) (fun c1 => ?_) (fun c1 => ?_)
  · refine lv_ldc2 (v := 27) hx hb hown (hts _ q1459) dX13_appends_8 ?_
    refine lv_lload_n hx hb dX13_appends_11 rfl (lv_at hl 0 rfl) ?_
    refine lv_lmul hx hb dX13_appends_12 ?_
    refine lv_iload_n hx hb dX13_appends_13 rfl (lv_at hl 1 rfl) ?_
    refine lv_bipush (v := (nI 97)) hx hb dX13_appends_14 (by decide) ?_
    refine lv_isub hx hb dX13_appends_16 ?_
    refine lv_iconst (v := (nI 1)) hx hb dX13_appends_17 (by decide) ?_
    refine lv_iadd hx hb dX13_appends_18 ?_
    refine lv_i2l (v := (((nI c0) - (nI 97)) + (nI 1)).toInt64) hx hb dX13_appends_19 rfl ?_
    refine lv_ladd hx hb dX13_appends_20 ?_
    refine hend _ _ _ _ _ hS dX13_appends_21 ?_
    exact ⟨_, rfl, rfl, by unfold apN; rw [if_neg (by omega)]; exact (apL hc9 hc).resolve_right (by omega)⟩
  refine lv_lload_n hx hb dX13_appends_4 rfl (lv_at hl 0 rfl) ?_
  refine lv_goto (tgt := 21) hx hb dX13_appends_5 (by decide) ?_
  refine hend _ _ _ _ _ hS dX13_appends_21 ?_
  exact ⟨_, rfl, rfl, by unfold apN; rw [if_pos c1]⟩
theorem cw_X13_174 {R : Room} {s : State} {args : Array Value} (hts : ∀ w ∈ lw_all, w.before args s = true) {f w k j : Nat} (hR : f + 1 ≤ R.frames ∧ 8 + (3 + 11) + w ≤ R.locals) : CallB R s args RX13 174 yX13_appends cX13_appends 3 (some .long) (ws_ yX13_appends cX13_appends 3 (some .long)) (mkRmC f w k j) k j 2 ∧ (Cond.static yX13_appends).before args s = true := va_cwS 2 hts (lw_S q1456 q1457 q129 q1458) rfl rfl rfl (by decide +kernel) hR
set_option maxHeartbeats 4000000 in
theorem met_X13_word (l : Launch) (D : va_G) (dA : Nat → ClassId) {H0 : Heap} (a0 : Nat) (ha0 : a0 < 256) (ka0 : a0 = 0 ∨ 97 ≤ a0) (a1 : Nat) (ha1 : a1 < 256) (ka1 : a1 = 0 ∨ 97 ≤ a1) (a2 : Nat) (ha2 : a2 < 256) (ka2 : a2 = 0 ∨ 97 ≤ a2) (a3 : Nat) (ha3 : a3 < 256) (ka3 : a3 = 0 ∨ 97 ≤ a3) (a4 : Nat) (ha4 : a4 < 256) (ka4 : a4 = 0 ∨ 97 ≤ a4) (a5 : Nat) (ha5 : a5 < 256) (ka5 : a5 = 0 ∨ 97 ≤ a5) (a6 : Nat) (ha6 : a6 < 256) (ka6 : a6 = 0 ∨ 97 ≤ a6) : Ctr l D dA yX13_word cX13_word 7 (some .long) (mkRm 1 22) [.int (nI a0), .int (nI a1), .int (nI a2), .int (nI a3), .int (nI a4), .int (nI a5), .int (nI a6)] H0 A0 (QL (fun r H1 => H0 = H1 ∧ r = lN (wdN [a0, a1, a2, a3, a4, a5, a6]))) := by
  refine ctr_L (by decide) (Nat.le_of_ble_eq_true rfl) ?_
  intro p e s m args below meth c ls QQ locs hx hb hml hown hts hK hend hS hl
  have hl : lv_has ls 7 [(0, .int (nI a0)), (1, .int (nI a1)), (2, .int (nI a2)), (3, .int (nI a3)), (4, .int (nI a4)), (5, .int (nI a5)), (6, .int (nI a6))] := hl
  refine lv_lconst (v := 0) hx hb dX13_word_0 (by decide) ?_
  refine lv_iload_n hx hb dX13_word_1 rfl (lv_at hl 0 rfl) ?_
  refine c_SL hx hb hml hts hown hK hl.1 hS ⟨Nat.le_refl _, Nat.le_refl _⟩ (met_X13_appends l D dA 0 a0 (by omega) (by omega)) (cw_X13_174 hts ⟨by decide, by decide⟩) rfl rfl (Nat.le_of_ble_eq_true rfl) dX13_word_2 (fun _ h => h.elim) (fun r H1 locs hq hF hS => ?_)
  obtain ⟨rfl, rfl⟩ := hq
  refine lv_iload_n hx hb dX13_word_5 rfl (lv_at hl 1 rfl) ?_
  refine c_SL hx hb hml hts hown hK hl.1 hS ⟨Nat.le_refl _, Nat.le_refl _⟩ (met_X13_appends l D dA (apN 0 a0) a1 (by omega) (by omega)) (cw_X13_174 hts ⟨by decide, by decide⟩) rfl rfl (Nat.le_of_ble_eq_true rfl) dX13_word_6 (fun _ h => h.elim) (fun r H1 locs hq hF hS => ?_)
  obtain ⟨rfl, rfl⟩ := hq
  refine lv_iload_n hx hb dX13_word_9 rfl (lv_at hl 2 rfl) ?_
  refine c_SL hx hb hml hts hown hK hl.1 hS ⟨Nat.le_refl _, Nat.le_refl _⟩ (met_X13_appends l D dA (apN (apN 0 a0) a1) a2 (by omega) (by omega)) (cw_X13_174 hts ⟨by decide, by decide⟩) rfl rfl (Nat.le_of_ble_eq_true rfl) dX13_word_10 (fun _ h => h.elim) (fun r H1 locs hq hF hS => ?_)
  obtain ⟨rfl, rfl⟩ := hq
  refine lv_iload_n hx hb dX13_word_13 rfl (lv_at hl 3 rfl) ?_
  refine c_SL hx hb hml hts hown hK hl.1 hS ⟨Nat.le_refl _, Nat.le_refl _⟩ (met_X13_appends l D dA (apN (apN (apN 0 a0) a1) a2) a3 (by omega) (by omega)) (cw_X13_174 hts ⟨by decide, by decide⟩) rfl rfl (Nat.le_of_ble_eq_true rfl) dX13_word_14 (fun _ h => h.elim) (fun r H1 locs hq hF hS => ?_)
  obtain ⟨rfl, rfl⟩ := hq
  refine lv_iload hx hb dX13_word_17 (lv_at hl 4 rfl) ?_
  refine c_SL hx hb hml hts hown hK hl.1 hS ⟨Nat.le_refl _, Nat.le_refl _⟩ (met_X13_appends l D dA (apN (apN (apN (apN 0 a0) a1) a2) a3) a4 (by omega) (by omega)) (cw_X13_174 hts ⟨by decide, by decide⟩) rfl rfl (Nat.le_of_ble_eq_true rfl) dX13_word_19 (fun _ h => h.elim) (fun r H1 locs hq hF hS => ?_)
  obtain ⟨rfl, rfl⟩ := hq
  refine lv_iload hx hb dX13_word_22 (lv_at hl 5 rfl) ?_
  refine c_SL hx hb hml hts hown hK hl.1 hS ⟨Nat.le_refl _, Nat.le_refl _⟩ (met_X13_appends l D dA (apN (apN (apN (apN (apN 0 a0) a1) a2) a3) a4) a5 (by omega) (by omega)) (cw_X13_174 hts ⟨by decide, by decide⟩) rfl rfl (Nat.le_of_ble_eq_true rfl) dX13_word_24 (fun _ h => h.elim) (fun r H1 locs hq hF hS => ?_)
  obtain ⟨rfl, rfl⟩ := hq
  refine lv_iload hx hb dX13_word_27 (lv_at hl 6 rfl) ?_
  refine c_SL hx hb hml hts hown hK hl.1 hS ⟨Nat.le_refl _, Nat.le_refl _⟩ (met_X13_appends l D dA (apN (apN (apN (apN (apN (apN 0 a0) a1) a2) a3) a4) a5) a6 (by omega) (by omega)) (cw_X13_174 hts ⟨by decide, by decide⟩) rfl rfl (Nat.le_of_ble_eq_true rfl) dX13_word_29 (fun _ h => h.elim) (fun r H1 locs hq hF hS => ?_)
  obtain ⟨rfl, rfl⟩ := hq
  refine hend _ _ _ _ _ hS dX13_word_32 ?_
  exact ⟨_, rfl, rfl, rfl⟩
set_option maxHeartbeats 4000000 in
theorem met_X13_token (l : Launch) (D : va_G) (dA : Nat → ClassId) {o : Nat} {V : GI} {L : GL} {Rf : GR} {H0 : Heap} (hG : gP D dA o dM V L Rf H0) (k : Nat) (hk : k < 403) (hV : V 0 10 = nI k) (kd pl vl : Int32) (nm : Int64) : Ctr l D dA yX13_token cX13_token 6 none (mkRm 0 0) [.ref o, .int kd, .int pl, .int vl, .long nm] H0 (AM o) (QV (fun H1 => ∃ V1 L1, gP D dA o dM V1 L1 Rf H1 ∧ V1 = up2 (up2 (up2 (up2 V 3 k kd) 4 k pl) 5 k vl) 0 10 (nI (k + 1)) ∧ L1 = up2 L 6 k nm)) := by
  refine ctr_V (by decide) (Nat.le_of_ble_eq_true rfl) ?_
  intro p e s m args below meth c ls QQ locs hx hb hml hown hts hK hend hS hl
  have hl : lv_has ls 6 [(0, .ref o), (1, .int kd), (2, .int pl), (3, .int vl), (4, .long nm)] := hl
  refine lv_aload_n hx hb dX13_token_0 rfl (lv_at hl 0 rfl) ?_
  refine g_get hx hb hts hown hK hG 0 rfl rfl ok_X13 5 (by decide) q1476 rfl rfl dX13_token_1 ?_
  refine lv_aload_n hx hb dX13_token_4 rfl (lv_at hl 0 rfl) ?_
  refine g_get (v := .int (nI k)) hx hb hts hown hK hG 0 rfl rfl ok_X13 10 (by decide) q1481 rfl (congrArg Value.int hV) dX13_token_5 ?_
  refine lv_iload_n hx hb dX13_token_8 rfl (lv_at hl 1 rfl) ?_
  refine n_iast hx hb hK hG hS 3 (AM_in 3 (by decide)) rfl (by omega) (by decide) dX13_token_9 (fun H locs hG hO hS => ?_)
  refine lv_aload_n hx hb dX13_token_10 rfl (lv_at hl 0 rfl) ?_
  refine g_get hx hb hts hown hK hG 0 rfl rfl ok_X13 6 (by decide) q1477 rfl rfl dX13_token_11 ?_
  refine lv_aload_n hx hb dX13_token_14 rfl (lv_at hl 0 rfl) ?_
  refine g_get (v := .int (nI k)) hx hb hts hown hK hG 0 rfl rfl ok_X13 10 (by decide) q1481 rfl (congrArg Value.int hV) dX13_token_15 ?_
  refine lv_iload_n hx hb dX13_token_18 rfl (lv_at hl 2 rfl) ?_
  refine n_iast hx hb hK hG hS 4 (AM_in 4 (by decide)) rfl (by omega) (by decide) dX13_token_19 (fun H locs hG hO hS => ?_)
  refine lv_aload_n hx hb dX13_token_20 rfl (lv_at hl 0 rfl) ?_
  refine g_get hx hb hts hown hK hG 0 rfl rfl ok_X13 7 (by decide) q1478 rfl rfl dX13_token_21 ?_
  refine lv_aload_n hx hb dX13_token_24 rfl (lv_at hl 0 rfl) ?_
  refine g_get (v := .int (nI k)) hx hb hts hown hK hG 0 rfl rfl ok_X13 10 (by decide) q1481 rfl (congrArg Value.int hV) dX13_token_25 ?_
  refine lv_iload_n hx hb dX13_token_28 rfl (lv_at hl 3 rfl) ?_
  refine n_iast hx hb hK hG hS 5 (AM_in 5 (by decide)) rfl (by omega) (by decide) dX13_token_29 (fun H locs hG hO hS => ?_)
  refine lv_aload_n hx hb dX13_token_30 rfl (lv_at hl 0 rfl) ?_
  refine g_get hx hb hts hown hK hG 0 rfl rfl ok_X13 8 (by decide) q1479 rfl rfl dX13_token_31 ?_
  refine lv_aload_n hx hb dX13_token_34 rfl (lv_at hl 0 rfl) ?_
  refine g_get (v := .int (nI k)) hx hb hts hown hK hG 0 rfl rfl ok_X13 10 (by decide) q1481 rfl (congrArg Value.int hV) dX13_token_35 ?_
  refine lv_lload hx hb dX13_token_38 (lv_at hl 4 rfl) ?_
  refine n_last hx hb hK hG hS 6 (AM_in 6 (by decide)) rfl (by omega) (by decide) dX13_token_40 (fun H locs hG hO hS => ?_)
  refine lv_aload_n hx hb dX13_token_41 rfl (lv_at hl 0 rfl) ?_
  refine lv_dup hx hb dX13_token_42 rfl ?_
  refine g_get (v := .int (nI k)) hx hb hts hown hK hG 0 rfl rfl ok_X13 10 (by decide) q1481 rfl (congrArg Value.int hV) dX13_token_43 ?_
  refine lv_iconst (v := (nI 1)) hx hb dX13_token_46 (by decide) ?_
  refine n_iadd hx hb dX13_token_47 ?_
  refine g_put hx hb hts hown hK hG hS 0 (AM_in 0 (by decide)) rfl rfl ok_X13 10 (by decide) q1481 rfl rfl rfl rfl dX13_token_48 (fun H locs hG hO hS => ?_)
  refine hend _ _ _ _ hS dX13_token_51 ?_
  exact ⟨rfl, _, _, hG, rfl, rfl⟩
