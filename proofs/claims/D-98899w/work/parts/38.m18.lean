/-! actions: answer, the row that stands, what is kept -/
abbrev Ac : Type := Int32 × Rw × List Rw
def tnF (b : Nat) (f : Rw) : Rw := va_up (va_up f b (nI 1 - f b)) (36 + b) (f (36 + b) + nI 1)
def whF (n : Nat) (f : Rw) : Rw := fun j => if j < n then nI 1 - f j else f j
def turnS (t : Txt) (f : Rw) (hs : List Rw) (v : Int32) : Ac := rnp v 0 (xN t) (fun b => (nI 1, tnF b f, phF hs f)) (nI 0, f, hs)
def whistleS (t : Txt) (f : Rw) (hs : List Rw) : Ac := if xN t = 0 then (nI 0, f, hs) else (nI 1, whF (xN t) f, phF hs f)
def changeS (t : Txt) (f : Rw) (hs : List Rw) (v w : Int32) : Ac := rnp v 0 (xN t) (fun a => rnp w 0 (xN t) (fun b => if a = b then (nI 0, f, hs) else (nI 1, swF a b f, phF hs f)) (nI 0, f, hs)) (nI 0, f, hs)
def hoursS (t : Txt) (f : Rw) (hs : List Rw) (v : Int32) : Ac := rnp v 0 49 (fun q => if q = 0 then (f 45, f, hs) else (goF t (nI 0) (xS t) q f 45, goF t (nI 0) (xS t) q f, phF hs f)) (-1, f, hs)
def undoS (f : Rw) (hs : List Rw) : Ac := match hs.getLast? with
  | none => (nI 0, f, hs)
  | some g => (nI 1, g, hs.dropLast)
/-- what is held -/
def hdM (V : GI) (hd : Nat → Option Rw) : Prop := ∀ s, s < 3 → V 42 s = bI (hd s).isSome ∧ ∀ g, hd s = some g → ∀ j, j < 48 → V 43 (48 * s + j) = g j
def holdS (f : Rw) (hd : Nat → Option Rw) (v : Int32) : Int32 × (Nat → Option Rw) := rnp v 0 3 (fun s => (nI 1, va_up hd s (some f))) (nI 0, hd)
def restoreS (f : Rw) (hs : List Rw) (hd : Nat → Option Rw) (v : Int32) : Ac := rnp v 0 3 (fun s => match hd s with
  | none => (nI 0, f, hs)
  | some g => (nI 1, g, [])) (nI 0, f, hs)
theorem narZ {v : Int32} (h : v = nI 0 ∨ v = nI 1) : narrow .boolean (.int v) = .int v := by rcases h with rfl | rfl <;> decide
/-- what is told of how one lay: bed, hours, left -/
abbrev Tl : Type := Nat × Nat × Nat
def tlM (V : GI) (tl : List Tl) : Prop := tl.length ≤ 20 ∧ V 0 58 = nI tl.length ∧ ∀ (i : Nat) (q : Tl), tl[i]? = some q → V 38 i = nI q.1 ∧ V 39 i = nI q.2.1 ∧ V 40 i = nI q.2.2 ∧ q.1 < 9 ∧ q.2.1 < 25 ∧ q.2.2 < 2
def tellS (t : Txt) (tl : List Tl) (v w x : Int32) : Int32 × List Tl := if tl.length = 20 then (-1, tl) else rnp v 0 (xN t) (fun b => rnp w 0 25 (fun q => (nI tl.length, tl ++ [(b, q, if x = 0 then 0 else 1)])) (-1, tl)) (-1, tl)
theorem tlM_app {V : GI} {tl : List Tl} {b q x : Nat} (h : tlM V tl) (hl : tl.length < 20) (hb : b < 9) (hq : q < 25) (hx : x < 2) {V1 : GI} (h0 : V1 0 58 = nI (tl.length + 1)) (h1 : V1 38 = va_up (V 38) tl.length (nI b)) (h2 : V1 39 = va_up (V 39) tl.length (nI q)) (h3 : V1 40 = va_up (V 40) tl.length (nI x)) : tlM V1 (tl ++ [(b, q, x)]) := by
  refine ⟨by simp; omega, by rw [h0]; simp, fun i p hi => ?_⟩
  rw [h1, h2, h3]
  by_cases e : i < tl.length
  · rw [List.getElem?_append_left e] at hi
    rw [va_up_n (by omega), va_up_n (by omega), va_up_n (by omega)]
    exact h.2.2 i p hi
  · rw [List.getElem?_append_right (by omega)] at hi
    have h0 : i - tl.length < 1 := (List.getElem?_eq_some_iff.mp hi).1
    obtain rfl : i = tl.length := by omega
    rw [Nat.sub_self] at hi
    cases hi
    rw [va_up_s2, va_up_s2, va_up_s2]
    exact ⟨rfl, rfl, rfl, hb, hq, hx⟩
/-- the tape -/
def tpM (V : GI) (tp : List Int32) : Prop := tp.length ≤ 2000 ∧ V 0 2 = nI tp.length ∧ ∀ (i : Nat) (x : Int32), tp[i]? = some x → V 1 i = x
def byF (w : Int32) (k : Nat) : Int32 := (w >>> (nI k &&& 31)).toInt8.toInt32
def by4 (w : Int32) : List Int32 := [byF w 24, byF w 16, byF w 8, byF w 0]
theorem tpM_app {V : GI} {tp : List Int32} {x : Int32} (h : tpM V tp) (hl : tp.length < 2000) : tpM (up2 (up2 V 1 tp.length x) 0 2 (nI (tp.length + 1))) (tp ++ [x]) := by
  refine ⟨by simp; omega, by rw [up2_s]; simp, fun i y hi => ?_⟩
  rw [up2_n (by omega)]
  by_cases e : i < tp.length
  · rw [List.getElem?_append_left e] at hi
    rw [up2_n (by omega)]
    exact h.2.2 i y hi
  · rw [List.getElem?_append_right (by omega)] at hi
    have h0 : i - tp.length < 1 := (List.getElem?_eq_some_iff.mp hi).1
    obtain rfl : i = tp.length := by omega
    rw [Nat.sub_self] at hi
    cases hi
    exact up2_s
def feedS (tp : List Int32) (a b c d e : Int32) : Int32 × List Int32 := if 1980 < tp.length then (-1, tp) else (nI (tp.length + 20), tp ++ by4 a ++ by4 b ++ by4 c ++ by4 d ++ by4 e)
def backS (tp : List Int32) (v : Int32) : Int32 × List Int32 := rnp v 0 (tp.length + 1) (fun k => (nI (tp.length - k), tp.take (tp.length - k))) (-1, tp)
theorem cw_X13_377 {R : Room} {s : State} {args : Array Value} (hts : ∀ w ∈ lw_all, w.before args s = true) {f w k j : Nat} (hR : f + 1 ≤ R.frames ∧ 8 + (2 + 11) + w ≤ R.locals) : CallW R s args RX13 RX13 377 yX13_records cX13_records 2 none (ws_ yX13_records cX13_records 2 none) (mkRmC f w k j) k j 0 := cwV 0 hts (lw_V q1833 q1835 qs83 q129 q1836) rfl rfl rfl (by decide +kernel) hR
set_option maxHeartbeats 4000000 in
theorem met_X13_turn (l : Launch) (D : va_G) (dA : Nat → ClassId) {o : Nat} {V : GI} {L : GL} {Rf : GR} {H0 : Heap} (hG : gP D dA o dM V L Rf H0) {lv : Nat} {t : Txt} (hX : txM V lv t) (hrv : RV (xN t) (V 30)) (hs : List Rw) (hh : hiM V hs) (v1 : Int32) : Ctr l D dA yX13_turn cX13_turn 2 (some .boolean) (mkRm 2 43) [.ref o, .int v1] H0 (AM o) (QI (fun r H1 => ∃ V1, gP D dA o dM V1 L Rf H1 ∧ Eqx PAW V V1 ∧ r = (turnS t (V 30) hs v1).1 ∧ V1 30 = (turnS t (V 30) hs v1).2.1 ∧ hiM V1 (turnS t (V 30) hs v1).2.2)) := by
  have hT := hX.1
  have hT1 := hT.1
  have hT2 := hT.2.1
  have hp2 := two9 hT2
  have hh40 := hh.1
  refine ctr_Z (by decide) (Nat.le_of_ble_eq_true rfl) ?_
  intro p e s m args below meth c ls QQ locs hx hb hml hown hts hK hend hS hl
  have hl : lv_has ls 2 [(0, .ref o), (1, .int v1)] := hl
  refine lv_aload_n hx hb dX13_turn_0 rfl (lv_at hl 0 rfl) ?_
  refine lv_iload_n hx hb dX13_turn_1 rfl (lv_at hl 1 rfl) ?_
  refine c_VI hx hb hml hts hown hK hl.1 hS ⟨Nat.le_refl _, Nat.le_refl _⟩ (met_X13_isBed l D dA hG hT v1) (cw_X13_328 hts ⟨by decide, by decide⟩) (hG 0 _ rfl) rfl rfl rfl rfl (Nat.le_of_ble_eq_true rfl) dX13_turn_2 (fun _ h => h.elim) (fun r H1 locs hq hF hS => ?_)
  obtain ⟨rfl, rfl⟩ := hq
  rcases (bedN_cases hT2 v1).symm with ⟨hz2, ho2⟩ | ⟨x1, hlo_x1, hhi_x1, rfl, hz2⟩
  · refine iv (y := nI 0) hz2 ?_
    refine n_if_ne (tgt := 10) hx hb dX13_turn_5 (by decide) (by decide) (fun z => absurd z (by decide)) (fun _ => ?_)
    refine lv_iconst (v := (nI 0)) hx hb dX13_turn_8 (by decide) ?_
    refine hend _ _ _ _ _ hS dX13_turn_9 (by decide) ?_
    have hR : turnS t (V 30) hs v1 = ((nI 0), V 30, hs) := (ho2.2 _ _ _)
    exact ⟨_, rfl, _, hG, Eqx.rf, (congrArg (fun z : Ac => z.1) hR).symm, Eq.trans rfl (congrArg (fun z : Ac => z.2.1) hR).symm, by rw [hR]; exact (hiM_to hh rfl (fun _ => rfl))⟩
  refine iv (y := nI 1) hz2 ?_
  have hl : lv_has ls 2 [(0, .ref o), (1, .int (nI x1))] := hl
  refine n_if_ne (tgt := 10) hx hb dX13_turn_5 (by decide) (by decide) (fun _ => ?_) (fun z => absurd z (by decide))
  refine lv_aload_n hx hb dX13_turn_10 rfl (lv_at hl 0 rfl) ?_
  refine c_VV hx hb hml hts hown hK hl.1 hS ⟨Nat.le_refl _, Nat.le_refl _⟩ (met_X13_copies l D dA hG hX) (cw_X13_321 hts ⟨by decide, by decide⟩) (hG 0 _ rfl) rfl rfl rfl rfl (Nat.le_of_ble_eq_true rfl) dX13_turn_11 (fun _ h => h) (fun H1 locs hq hF hS => ?_)
  obtain ⟨V1, hG, hE1, hr1, hl1, hs1⟩ := hq
  generalize hHe1 : H1 = H at hG hS ⊢
  clear hHe1
  refine lv_aload_n hx hb dX13_turn_14 rfl (lv_at hl 0 rfl) ?_
  refine g_get hx hb hts hown hK hG 0 rfl rfl ok_X13 48 (by decide) q1519 rfl rfl dX13_turn_15 ?_
  refine lv_iload_n hx hb dX13_turn_18 rfl (lv_at hl 1 rfl) ?_
  refine lv_iconst (v := (nI 1)) hx hb dX13_turn_19 (by decide) ?_
  refine lv_aload_n hx hb dX13_turn_20 rfl (lv_at hl 0 rfl) ?_
  refine g_get hx hb hts hown hK hG 0 rfl rfl ok_X13 48 (by decide) q1519 rfl rfl dX13_turn_21 ?_
  refine lv_iload_n hx hb dX13_turn_24 rfl (lv_at hl 1 rfl) ?_
  refine n_iald hx hb hK hG 31 rfl (by omega) (by decide) dX13_turn_25 ?_
  refine iv (y := (V 30 (x1))) (congrFun hr1 (x1)) ?_
  refine lv_isub hx hb dX13_turn_26 ?_
  refine n_iast hx hb hK hG hS 31 (AM_in 31 (by decide)) rfl (by omega) (by decide) dX13_turn_27 (fun H locs hG hO hS => ?_)
  refine lv_aload_n hx hb dX13_turn_28 rfl (lv_at hl 0 rfl) ?_
  refine g_get hx hb hts hown hK hG 0 rfl rfl ok_X13 48 (by decide) q1519 rfl rfl dX13_turn_29 ?_
  refine lv_bipush (v := (nI 36)) hx hb dX13_turn_32 (by decide) ?_
  refine lv_iload_n hx hb dX13_turn_34 rfl (lv_at hl 1 rfl) ?_
  refine n_iadd hx hb dX13_turn_35 ?_
  refine lv_dup2_11 hx hb dX13_turn_36 rfl rfl ?_
  refine n_iald hx hb hK hG 31 rfl (by omega) (by decide) dX13_turn_37 ?_
  refine iv (y := (V 30 (36 + x1))) ((up2_n (fun z => (fun e => absurd e (by omega)) z.2)).trans (congrFun hr1 (36 + x1))) ?_
  refine lv_iconst (v := (nI 1)) hx hb dX13_turn_38 (by decide) ?_
  refine lv_iadd hx hb dX13_turn_39 ?_
  refine n_iast hx hb hK hG hS 31 (AM_in 31 (by decide)) rfl (by omega) (by decide) dX13_turn_40 (fun H locs hG hO hS => ?_)
  have hc31_1 : (up2 V1 31 x1 ((nI 1) - (V 30 (x1)))) 31 = va_up (V1 31) x1 ((nI 1) - (V 30 (x1))) := rfl
  have hc31_2 : (up2 (up2 V1 31 x1 ((nI 1) - (V 30 (x1)))) 31 (36 + x1) ((V 30 (36 + x1)) + (nI 1))) 31 = va_up (va_up (V1 31) x1 ((nI 1) - (V 30 (x1)))) (36 + x1) ((V 30 (36 + x1)) + (nI 1)) := congrArg (fun g => va_up g (36 + x1) ((V 30 (36 + x1)) + (nI 1))) hc31_1
  have hc31 : (up2 (up2 V1 31 x1 ((nI 1) - (V 30 (x1)))) 31 (36 + x1) ((V 30 (36 + x1)) + (nI 1))) 31 = va_up (va_up (V1 31) x1 ((nI 1) - (V 30 (x1)))) (36 + x1) ((V 30 (36 + x1)) + (nI 1)) := hc31_2
  have hc31 : (up2 (up2 V1 31 x1 ((nI 1) - (V 30 (x1)))) 31 (36 + x1) ((V 30 (36 + x1)) + (nI 1))) 31 = tnF x1 (V 30) := hc31.trans (by rw [hr1]; rfl)
  refine lv_aload_n hx hb dX13_turn_41 rfl (lv_at hl 0 rfl) ?_
  refine c_VV hx hb hml hts hown hK hl.1 hS ⟨Nat.le_refl _, Nat.le_refl _⟩ (met_X13_records l D dA hG hs (hiM_to hh (hE1 0 53 rfl) (fun j => congrFun ((funext (fun j => hE1 34 j rfl))) j))) (cw_X13_377 hts ⟨by decide, by decide⟩) (hG 0 _ rfl) rfl rfl rfl rfl (Nat.le_of_ble_eq_true rfl) dX13_turn_42 (fun _ h => h) (fun H1 locs hq hF hS => ?_)
  obtain ⟨V2, hG, hE2, hn2, hk2⟩ := hq
  generalize hHe2 : H1 = H at hG hS ⊢
  clear hHe2
  have hn2 : V2 30 = tnF x1 (V 30) := hn2.trans (hc31)
  have hk2 : hiM V2 (phF hs (V 30)) := ((funext (fun j => hE1 30 j rfl))) ▸ hk2
  refine lv_iconst (v := (nI 1)) hx hb dX13_turn_45 (by decide) ?_
  refine hend _ _ _ _ _ hS dX13_turn_46 (by decide) ?_
  have hR : turnS t (V 30) hs (nI x1) = ((nI 1), tnF x1 (V 30), phF hs (V 30)) := (rnp_in hlo_x1 hhi_x1 (by omega)).trans (rfl)
  exact ⟨_, rfl, _, hG, ((((hE1.mono PC_PAW).up rfl).up rfl).trans (hE2.mono PA_PAW)), (congrArg (fun z : Ac => z.1) hR).symm, Eq.trans hn2 (congrArg (fun z : Ac => z.2.1) hR).symm, by rw [hR]; exact hk2⟩
set_option maxHeartbeats 4000000 in
theorem met_X13_whistle (l : Launch) (D : va_G) (dA : Nat → ClassId) {o : Nat} {V : GI} {L : GL} {Rf : GR} {H0 : Heap} (hG : gP D dA o dM V L Rf H0) {lv : Nat} {t : Txt} (hX : txM V lv t) (hrv : RV (xN t) (V 30)) (hs : List Rw) (hh : hiM V hs)  : Ctr l D dA yX13_whistle cX13_whistle 2 (some .boolean) (mkRm 2 42) [.ref o] H0 (AM o) (QI (fun r H1 => ∃ V1, gP D dA o dM V1 L Rf H1 ∧ Eqx PAW V V1 ∧ r = (whistleS t (V 30) hs).1 ∧ V1 30 = (whistleS t (V 30) hs).2.1 ∧ hiM V1 (whistleS t (V 30) hs).2.2)) := by
  have hT := hX.1
  have hT1 := hT.1
  have hT2 := hT.2.1
  have hp2 := two9 hT2
  have hh40 := hh.1
  refine ctr_Z (by decide) (Nat.le_of_ble_eq_true rfl) ?_
  intro p e s m args below meth c ls QQ locs hx hb hml hown hts hK hend hS hl
  have hl : lv_has ls 2 [(0, .ref o)] := hl
  refine lv_aload_n hx hb dX13_whistle_0 rfl (lv_at hl 0 rfl) ?_
  refine c_VI hx hb hml hts hown hK hl.1 hS ⟨Nat.le_refl _, Nat.le_refl _⟩ (met_X13_many l D dA hG hT) (cw_X13_304 hts ⟨by decide, by decide⟩) (hG 0 _ rfl) rfl rfl rfl rfl (Nat.le_of_ble_eq_true rfl) dX13_whistle_1 (fun _ h => h.elim) (fun r H1 locs hq hF hS => ?_)
  obtain ⟨rfl, rfl⟩ := hq
  refine n_if_ne (tgt := 9) hx hb dX13_whistle_4 (by decide) (by omega) (fun c4 => ?_) (fun c4 => ?_)
  · refine lv_aload_n hx hb dX13_whistle_9 rfl (lv_at hl 0 rfl) ?_
    refine c_VV hx hb hml hts hown hK hl.1 hS ⟨Nat.le_refl _, Nat.le_refl _⟩ (met_X13_copies l D dA hG hX) (cw_X13_321 hts ⟨by decide, by decide⟩) (hG 0 _ rfl) rfl rfl rfl rfl (Nat.le_of_ble_eq_true rfl) dX13_whistle_10 (fun _ h => h) (fun H1 locs hq hF hS => ?_)
    obtain ⟨V1, hG, hE1, hr1, hl1, hs1⟩ := hq
    generalize hHe1 : H1 = H at hG hS ⊢
    clear hHe1
    refine lv_iconst (v := (nI 0)) hx hb dX13_whistle_13 (by decide) ?_
    refine lv_istore_n (lv' := [(1, .int (nI 0)), (0, .ref o)]) hx hb dX13_whistle_14 rfl hl (by decide) rfl (fun ls hl => ?_)
    have loop2 : ∀ (fu2 : Nat) (b : Nat) (V2 : GI) (H : Heap) (locs : List Loc) (ls : Array Slot), xN t - b < fu2 → (b ≤ xN t) → (Eqx PR V1 V2) → (∀ j, j < b → V2 31 j = nI 1 - V 30 j) → (∀ j, b ≤ j → V2 31 j = V 30 j) → gP D dA o dM V2 L Rf H → va_S (AM o) H0 H locs → lv_has ls 2 [(1, .int (nI b)), (0, .ref o)] → W p l e (mkRm 2 42) s m args below meth c H locs 0 0 QQ (F0 m 15 ls []) := by
      intro fu2
      induction fu2 with
      | zero => intro b V2 H locs ls hfu; exact absurd hfu (Nat.not_lt_zero _)
      | succ fu2 ih2 =>
        intro b V2 H locs ls hfu hbn hE2 hlo hhi hG hS hl
        refine lv_iload_n hx hb dX13_whistle_15 rfl (lv_at hl 0 rfl) ?_
        refine lv_aload_n hx hb dX13_whistle_16 rfl (lv_at hl 1 rfl) ?_
        refine c_VI hx hb hml hts hown hK hl.1 hS ⟨Nat.le_refl _, Nat.le_refl _⟩ (met_X13_many l D dA hG (tM_to hT ((hE2 0 18 rfl).trans (hE1 0 18 rfl)) ((hE2 9 lv rfl).trans (hE1 9 lv rfl)))) (cw_X13_304 hts ⟨by decide, by decide⟩) (hG 0 _ rfl) rfl rfl rfl rfl (Nat.le_of_ble_eq_true rfl) dX13_whistle_17 (fun _ h => h.elim) (fun r H1 locs hq hF hS => ?_)
        obtain ⟨rfl, rfl⟩ := hq
        refine n_icmp_ge (tgt := 43) hx hb dX13_whistle_20 (by decide) (by omega) (by omega) (fun c20 => ?_) (fun c20 => ?_)
        · obtain rfl : b = xN t := by omega
          have hG := hG.setcell (k := 31) (f := whF (xN t) (V 30)) rfl (fun j _ => by unfold whF; split; exact hlo j (by assumption); exact hhi j (by omega))
          obtain ⟨VW3, hEW, hW31, hG⟩ : ∃ X, Eqx PR V2 X ∧ X 31 = whF (xN t) (V 30) ∧ gP D dA o dM X L Rf H := ⟨_, Eqx.cell Eqx.rf (fun _ => rfl), va_up_s, hG⟩
          refine lv_aload_n hx hb dX13_whistle_43 rfl (lv_at hl 1 rfl) ?_
          refine c_VV hx hb hml hts hown hK hl.1 hS ⟨Nat.le_refl _, Nat.le_refl _⟩ (met_X13_records l D dA hG hs (hiM_to hh ((hEW 0 53 rfl).trans ((hE2 0 53 rfl).trans (hE1 0 53 rfl))) (fun j => congrFun (((funext (fun j => hEW 34 j rfl)).trans ((funext (fun j => hE2 34 j rfl)).trans (funext (fun j => hE1 34 j rfl))))) j))) (cw_X13_377 hts ⟨by decide, by decide⟩) (hG 0 _ rfl) rfl rfl rfl rfl (Nat.le_of_ble_eq_true rfl) dX13_whistle_44 (fun _ h => h) (fun H1 locs hq hF hS => ?_)
          obtain ⟨V4, hG, hE4, hn4, hk4⟩ := hq
          generalize hHe4 : H1 = H at hG hS ⊢
          clear hHe4
          have hn4 : V4 30 = whF (xN t) (V 30) := hn4.trans (hW31)
          have hk4 : hiM V4 (phF hs (V 30)) := (((funext (fun j => hEW 30 j rfl)).trans ((funext (fun j => hE2 30 j rfl)).trans (funext (fun j => hE1 30 j rfl))))) ▸ hk4
          refine lv_iconst (v := (nI 1)) hx hb dX13_whistle_47 (by decide) ?_
          refine hend _ _ _ _ _ hS dX13_whistle_48 (by decide) ?_
          have hR : whistleS t (V 30) hs = ((nI 1), whF (xN t) (V 30), phF hs (V 30)) := (if_neg (by omega))
          exact ⟨_, rfl, _, hG, ((((hE1.mono PC_PAW).trans (hE2.mono PR_PAW)).trans (hEW.mono PR_PAW)).trans (hE4.mono PA_PAW)), (congrArg (fun z : Ac => z.1) hR).symm, Eq.trans hn4 (congrArg (fun z : Ac => z.2.1) hR).symm, by rw [hR]; exact hk4⟩
        refine lv_aload_n hx hb dX13_whistle_23 rfl (lv_at hl 1 rfl) ?_
        refine g_get hx hb hts hown hK hG 0 rfl rfl ok_X13 48 (by decide) q1519 rfl rfl dX13_whistle_24 ?_
        refine lv_iload_n hx hb dX13_whistle_27 rfl (lv_at hl 0 rfl) ?_
        refine lv_iconst (v := (nI 1)) hx hb dX13_whistle_28 (by decide) ?_
        refine lv_aload_n hx hb dX13_whistle_29 rfl (lv_at hl 1 rfl) ?_
        refine g_get hx hb hts hown hK hG 0 rfl rfl ok_X13 48 (by decide) q1519 rfl rfl dX13_whistle_30 ?_
        refine lv_iload_n hx hb dX13_whistle_33 rfl (lv_at hl 0 rfl) ?_
        refine n_iald hx hb hK hG 31 rfl (by omega) (by decide) dX13_whistle_34 ?_
        refine iv (y := (V 30 b)) (hhi b (by omega)) ?_
        refine lv_isub hx hb dX13_whistle_35 ?_
        refine n_iast hx hb hK hG hS 31 (AM_in 31 (by decide)) rfl (by omega) (by decide) dX13_whistle_36 (fun H locs hG hO hS => ?_)
        refine lv_iinc (v := (nI (b + 1))) (lv' := [(1, .int (nI (b + 1))), (0, .ref o)]) hx hb dX13_whistle_37 hl (k := 0) rfl (nI_add _ _) (by decide) rfl (fun ls hl => ?_)
        refine lv_goto (tgt := 15) hx hb dX13_whistle_40 (by decide) ?_
        have hc31_1 : (up2 V2 31 b ((nI 1) - (V 30 b))) 31 = va_up (V2 31) b ((nI 1) - (V 30 b)) := rfl
        have hc31 : (up2 V2 31 b ((nI 1) - (V 30 b))) 31 = va_up (V2 31) b ((nI 1) - (V 30 b)) := hc31_1
        exact ih2 (b + 1) (up2 V2 31 b ((nI 1) - (V 30 b))) _ _ _ (by omega) (by omega) (Eqx.up hE2 rfl) (by rw [hc31]; exact va_step (f := fun j => nI 1 - V 30 j) hlo rfl) (by rw [hc31]; exact fun j hj => (va_up_n (by omega)).trans (hhi j (by omega))) hG hS (lv_sub hl [0, 1] rfl)
    exact loop2 ((xN t - 0) + 1) 0 V1 _ _ _ (Nat.lt_succ_self _) (by omega) Eqx.rf (fun j hj => absurd hj (Nat.not_lt_zero _)) (fun j _ => congrFun hr1 j) hG hS (lv_sub hl [0, 1] rfl)
  refine lv_iconst (v := (nI 0)) hx hb dX13_whistle_7 (by decide) ?_
  refine hend _ _ _ _ _ hS dX13_whistle_8 (by decide) ?_
  have hR : whistleS t (V 30) hs = ((nI 0), V 30, hs) := (if_pos c4)
  exact ⟨_, rfl, _, hG, Eqx.rf, (congrArg (fun z : Ac => z.1) hR).symm, Eq.trans rfl (congrArg (fun z : Ac => z.2.1) hR).symm, by rw [hR]; exact (hiM_to hh rfl (fun _ => rfl))⟩
set_option maxHeartbeats 4000000 in
theorem met_X13_change (l : Launch) (D : va_G) (dA : Nat → ClassId) {o : Nat} {V : GI} {L : GL} {Rf : GR} {H0 : Heap} (hG : gP D dA o dM V L Rf H0) {lv : Nat} {t : Txt} (hX : txM V lv t) (hrv : RV (xN t) (V 30)) (hs : List Rw) (hh : hiM V hs) (v1 v2 : Int32) : Ctr l D dA yX13_change cX13_change 3 (some .boolean) (mkRm 2 43) [.ref o, .int v1, .int v2] H0 (AM o) (QI (fun r H1 => ∃ V1, gP D dA o dM V1 L Rf H1 ∧ Eqx PAW V V1 ∧ r = (changeS t (V 30) hs v1 v2).1 ∧ V1 30 = (changeS t (V 30) hs v1 v2).2.1 ∧ hiM V1 (changeS t (V 30) hs v1 v2).2.2)) := by
  have hT := hX.1
  have hT1 := hT.1
  have hT2 := hT.2.1
  have hp2 := two9 hT2
  have hh40 := hh.1
  refine ctr_Z (by decide) (Nat.le_of_ble_eq_true rfl) ?_
  intro p e s m args below meth c ls QQ locs hx hb hml hown hts hK hend hS hl
  have hl : lv_has ls 3 [(0, .ref o), (1, .int v1), (2, .int v2)] := hl
  refine lv_aload_n hx hb dX13_change_0 rfl (lv_at hl 0 rfl) ?_
  refine lv_iload_n hx hb dX13_change_1 rfl (lv_at hl 1 rfl) ?_
  refine c_VI hx hb hml hts hown hK hl.1 hS ⟨Nat.le_refl _, Nat.le_refl _⟩ (met_X13_isBed l D dA hG hT v1) (cw_X13_328 hts ⟨by decide, by decide⟩) (hG 0 _ rfl) rfl rfl rfl rfl (Nat.le_of_ble_eq_true rfl) dX13_change_2 (fun _ h => h.elim) (fun r H1 locs hq hF hS => ?_)
  obtain ⟨rfl, rfl⟩ := hq
  rcases (bedN_cases hT2 v1).symm with ⟨hz2, ho2⟩ | ⟨x1, hlo_x1, hhi_x1, rfl, hz2⟩
  · refine iv (y := nI 0) hz2 ?_
    refine n_if_eq (tgt := 21) hx hb dX13_change_5 (by decide) (by decide) (fun _ => ?_) (fun z => absurd z (by decide))
    refine lv_iconst (v := (nI 0)) hx hb dX13_change_21 (by decide) ?_
    refine hend _ _ _ _ _ hS dX13_change_22 (by decide) ?_
    have hR : changeS t (V 30) hs v1 v2 = ((nI 0), V 30, hs) := (ho2.2 _ _ _)
    exact ⟨_, rfl, _, hG, Eqx.rf, (congrArg (fun z : Ac => z.1) hR).symm, Eq.trans rfl (congrArg (fun z : Ac => z.2.1) hR).symm, by rw [hR]; exact (hiM_to hh rfl (fun _ => rfl))⟩
  refine iv (y := nI 1) hz2 ?_
  have hl : lv_has ls 3 [(0, .ref o), (1, .int (nI x1)), (2, .int v2)] := hl
  refine n_if_eq (tgt := 21) hx hb dX13_change_5 (by decide) (by decide) (fun z => absurd z (by decide)) (fun _ => ?_)
  refine lv_aload_n hx hb dX13_change_8 rfl (lv_at hl 0 rfl) ?_
  refine lv_iload_n hx hb dX13_change_9 rfl (lv_at hl 2 rfl) ?_
  refine c_VI hx hb hml hts hown hK hl.1 hS ⟨Nat.le_refl _, Nat.le_refl _⟩ (met_X13_isBed l D dA hG hT v2) (cw_X13_328 hts ⟨by decide, by decide⟩) (hG 0 _ rfl) rfl rfl rfl rfl (Nat.le_of_ble_eq_true rfl) dX13_change_10 (fun _ h => h.elim) (fun r H1 locs hq hF hS => ?_)
  obtain ⟨rfl, rfl⟩ := hq
  rcases (bedN_cases hT2 v2).symm with ⟨hz10, ho10⟩ | ⟨x2, hlo_x2, hhi_x2, rfl, hz10⟩
  · refine iv (y := nI 0) hz10 ?_
    refine n_if_eq (tgt := 21) hx hb dX13_change_13 (by decide) (by decide) (fun _ => ?_) (fun z => absurd z (by decide))
    refine lv_iconst (v := (nI 0)) hx hb dX13_change_21 (by decide) ?_
    refine hend _ _ _ _ _ hS dX13_change_22 (by decide) ?_
    have hR : changeS t (V 30) hs (nI x1) v2 = ((nI 0), V 30, hs) := (rnp_in hlo_x1 hhi_x1 (by omega)).trans ((ho10.2 _ _ _))
    exact ⟨_, rfl, _, hG, Eqx.rf, (congrArg (fun z : Ac => z.1) hR).symm, Eq.trans rfl (congrArg (fun z : Ac => z.2.1) hR).symm, by rw [hR]; exact (hiM_to hh rfl (fun _ => rfl))⟩
  refine iv (y := nI 1) hz10 ?_
  have hl : lv_has ls 3 [(0, .ref o), (1, .int (nI x1)), (2, .int (nI x2))] := hl
  refine n_if_eq (tgt := 21) hx hb dX13_change_13 (by decide) (by decide) (fun z => absurd z (by decide)) (fun _ => ?_)
  refine lv_iload_n hx hb dX13_change_16 rfl (lv_at hl 1 rfl) ?_
  refine lv_iload_n hx hb dX13_change_17 rfl (lv_at hl 2 rfl) ?_
  refine n_icmp_ne (tgt := 23) hx hb dX13_change_18 (by decide) (by omega) (by omega) (fun c18 => ?_) (fun c18 => ?_)
  · refine lv_aload_n hx hb dX13_change_23 rfl (lv_at hl 0 rfl) ?_
    refine c_VV hx hb hml hts hown hK hl.1 hS ⟨Nat.le_refl _, Nat.le_refl _⟩ (met_X13_copies l D dA hG hX) (cw_X13_321 hts ⟨by decide, by decide⟩) (hG 0 _ rfl) rfl rfl rfl rfl (Nat.le_of_ble_eq_true rfl) dX13_change_24 (fun _ h => h) (fun H1 locs hq hF hS => ?_)
    obtain ⟨V1, hG, hE1, hr1, hl1, hs1⟩ := hq
    generalize hHe1 : H1 = H at hG hS ⊢
    clear hHe1
    refine lv_aload_n hx hb dX13_change_27 rfl (lv_at hl 0 rfl) ?_
    refine lv_iload_n hx hb dX13_change_28 rfl (lv_at hl 1 rfl) ?_
    refine lv_iload_n hx hb dX13_change_29 rfl (lv_at hl 2 rfl) ?_
    refine c_VV hx hb hml hts hown hK hl.1 hS ⟨Nat.le_refl _, Nat.le_refl _⟩ (met_X13_changes l D dA hG x1 x2 (by omega) (by omega)) (cw_X13_380 hts ⟨by decide, by decide⟩) (hG 0 _ rfl) rfl rfl rfl rfl (Nat.le_of_ble_eq_true rfl) dX13_change_30 (fun _ h => h) (fun H1 locs hq hF hS => ?_)
    obtain ⟨V2, hG, hE2, hr2⟩ := hq
    generalize hHe2 : H1 = H at hG hS ⊢
    clear hHe2
    rw [hr1] at hr2
    refine lv_aload_n hx hb dX13_change_33 rfl (lv_at hl 0 rfl) ?_
    refine c_VV hx hb hml hts hown hK hl.1 hS ⟨Nat.le_refl _, Nat.le_refl _⟩ (met_X13_records l D dA hG hs (hiM_to hh ((hE2 0 53 rfl).trans (hE1 0 53 rfl)) (fun j => congrFun (((funext (fun j => hE2 34 j rfl)).trans (funext (fun j => hE1 34 j rfl)))) j))) (cw_X13_377 hts ⟨by decide, by decide⟩) (hG 0 _ rfl) rfl rfl rfl rfl (Nat.le_of_ble_eq_true rfl) dX13_change_34 (fun _ h => h) (fun H1 locs hq hF hS => ?_)
    obtain ⟨V3, hG, hE3, hn3, hk3⟩ := hq
    generalize hHe3 : H1 = H at hG hS ⊢
    clear hHe3
    have hn3 : V3 30 = swF x1 x2 (V 30) := hn3.trans (hr2)
    have hk3 : hiM V3 (phF hs (V 30)) := (((funext (fun j => hE2 30 j rfl)).trans (funext (fun j => hE1 30 j rfl)))) ▸ hk3
    refine lv_iconst (v := (nI 1)) hx hb dX13_change_37 (by decide) ?_
    refine hend _ _ _ _ _ hS dX13_change_38 (by decide) ?_
    have hR : changeS t (V 30) hs (nI x1) (nI x2) = ((nI 1), swF x1 x2 (V 30), phF hs (V 30)) := (rnp_in hlo_x1 hhi_x1 (by omega)).trans ((rnp_in hlo_x2 hhi_x2 (by omega)).trans ((if_neg c18)))
    exact ⟨_, rfl, _, hG, (((hE1.mono PC_PAW).trans (hE2.mono PR_PAW)).trans (hE3.mono PA_PAW)), (congrArg (fun z : Ac => z.1) hR).symm, Eq.trans hn3 (congrArg (fun z : Ac => z.2.1) hR).symm, by rw [hR]; exact hk3⟩
  refine lv_iconst (v := (nI 0)) hx hb dX13_change_21 (by decide) ?_
  refine hend _ _ _ _ _ hS dX13_change_22 (by decide) ?_
  have hR : changeS t (V 30) hs (nI x1) (nI x2) = ((nI 0), V 30, hs) := (rnp_in hlo_x1 hhi_x1 (by omega)).trans ((rnp_in hlo_x2 hhi_x2 (by omega)).trans ((if_pos c18)))
  exact ⟨_, rfl, _, hG, Eqx.rf, (congrArg (fun z : Ac => z.1) hR).symm, Eq.trans rfl (congrArg (fun z : Ac => z.2.1) hR).symm, by rw [hR]; exact (hiM_to hh rfl (fun _ => rfl))⟩
set_option maxHeartbeats 4000000 in
theorem met_X13_hours (l : Launch) (D : va_G) (dA : Nat → ClassId) {o : Nat} {V : GI} {L : GL} {Rf : GR} {H0 : Heap} (hG : gP D dA o dM V L Rf H0) {lv : Nat} {t : Txt} (hX : txM V lv t) (hrv : RV (xN t) (V 30)) (hs : List Rw) (hh : hiM V hs) (v1 : Int32) : Ctr l D dA yX13_hours cX13_hours 2 (some .int) (mkRm 7 150) [.ref o, .int v1] H0 (AM o) (QI (fun r H1 => ∃ V1, gP D dA o dM V1 L Rf H1 ∧ Eqx PAW V V1 ∧ r = (hoursS t (V 30) hs v1).1 ∧ V1 30 = (hoursS t (V 30) hs v1).2.1 ∧ hiM V1 (hoursS t (V 30) hs v1).2.2)) := by
  have hT := hX.1
  have hT1 := hT.1
  have hT2 := hT.2.1
  have hp2 := two9 hT2
  have hh40 := hh.1
  refine ctr_I (by decide) (Nat.le_of_ble_eq_true rfl) ?_
  intro p e s m args below meth c ls QQ locs hx hb hml hown hts hK hend hS hl
  have hl : lv_has ls 2 [(0, .ref o), (1, .int v1)] := hl
  refine lv_iload_n hx hb dX13_hours_0 rfl (lv_at hl 1 rfl) ?_
  refine c_SI hx hb hml hts hown hK hl.1 hS ⟨Nat.le_refl _, Nat.le_refl _⟩ (met_X13_isLong l D dA v1) (cw_X13_383 hts ⟨by decide, by decide⟩) rfl rfl (Nat.le_of_ble_eq_true rfl) dX13_hours_1 (fun _ h => h.elim) (fun r H1 locs hq hF hS => ?_)
  obtain ⟨rfl, rfl⟩ := hq
  rcases (inZ_cases v1 0 48 (by decide) (by decide)).symm with ⟨hz1, ho1⟩ | ⟨x1, hlo_x1, hhi_x1, rfl, hz1⟩
  · refine iv (y := nI 0) hz1 ?_
    refine n_if_ne (tgt := 9) hx hb dX13_hours_4 (by decide) (by decide) (fun z => absurd z (by decide)) (fun _ => ?_)
    refine lv_iconst (v := (-1)) hx hb dX13_hours_7 (by decide) ?_
    refine hend _ _ _ _ _ hS dX13_hours_8 ?_
    have hR : hoursS t (V 30) hs v1 = ((-1), V 30, hs) := (ho1.2 _ _ _)
    exact ⟨_, rfl, _, hG, Eqx.rf, (congrArg (fun z : Ac => z.1) hR).symm, Eq.trans rfl (congrArg (fun z : Ac => z.2.1) hR).symm, by rw [hR]; exact (hiM_to hh rfl (fun _ => rfl))⟩
  refine iv (y := nI 1) hz1 ?_
  have hl : lv_has ls 2 [(0, .ref o), (1, .int (nI x1))] := hl
  refine n_if_ne (tgt := 9) hx hb dX13_hours_4 (by decide) (by decide) (fun _ => ?_) (fun z => absurd z (by decide))
  refine lv_iload_n hx hb dX13_hours_9 rfl (lv_at hl 1 rfl) ?_
  refine n_if_ne (tgt := 21) hx hb dX13_hours_10 (by decide) (by omega) (fun c10 => ?_) (fun c10 => ?_)
  · refine lv_aload_n hx hb dX13_hours_21 rfl (lv_at hl 0 rfl) ?_
    refine c_VV hx hb hml hts hown hK hl.1 hS ⟨Nat.le_refl _, Nat.le_refl _⟩ (met_X13_copies l D dA hG hX) (cw_X13_321 hts ⟨by decide, by decide⟩) (hG 0 _ rfl) rfl rfl rfl rfl (Nat.le_of_ble_eq_true rfl) dX13_hours_22 (fun _ h => h) (fun H1 locs hq hF hS => ?_)
    obtain ⟨V1, hG, hE1, hr1, hl1, hs1⟩ := hq
    generalize hHe1 : H1 = H at hG hS ⊢
    clear hHe1
    refine lv_aload_n hx hb dX13_hours_25 rfl (lv_at hl 0 rfl) ?_
    refine lv_iload_n hx hb dX13_hours_26 rfl (lv_at hl 1 rfl) ?_
    refine c_VV hx hb hml hts hown hK hl.1 hS ⟨Nat.le_refl _, Nat.le_refl _⟩ (met_X13_goes l D dA hG (txM_PAW (hE1.mono PC_PAW) hX) x1 (by omega)) (cw_X13_367 hts ⟨by decide, by decide⟩) (hG 0 _ rfl) rfl rfl rfl rfl (Nat.le_of_ble_eq_true rfl) dX13_hours_27 (fun _ h => h) (fun H1 locs hq hF hS => ?_)
    obtain ⟨V2, hG, hE2, hr2⟩ := hq
    generalize hHe2 : H1 = H at hG hS ⊢
    clear hHe2
    have hr2 : V2 31 = goF t (nI 0) (xS t) x1 (V 30) := hr2.trans (go_cg hs1 hl1 hr1)
    refine lv_aload_n hx hb dX13_hours_30 rfl (lv_at hl 0 rfl) ?_
    refine c_VV hx hb hml hts hown hK hl.1 hS ⟨Nat.le_refl _, Nat.le_refl _⟩ (met_X13_records l D dA hG hs (hiM_to hh ((hE2 0 53 rfl).trans (hE1 0 53 rfl)) (fun j => congrFun (((funext (fun j => hE2 34 j rfl)).trans (funext (fun j => hE1 34 j rfl)))) j))) (cw_X13_377 hts ⟨by decide, by decide⟩) (hG 0 _ rfl) rfl rfl rfl rfl (Nat.le_of_ble_eq_true rfl) dX13_hours_31 (fun _ h => h) (fun H1 locs hq hF hS => ?_)
    obtain ⟨V3, hG, hE3, hn3, hk3⟩ := hq
    generalize hHe3 : H1 = H at hG hS ⊢
    clear hHe3
    have hn3 : V3 30 = goF t (nI 0) (xS t) x1 (V 30) := hn3.trans (hr2)
    have hk3 : hiM V3 (phF hs (V 30)) := (((funext (fun j => hE2 30 j rfl)).trans (funext (fun j => hE1 30 j rfl)))) ▸ hk3
    refine lv_aload_n hx hb dX13_hours_34 rfl (lv_at hl 0 rfl) ?_
    refine g_get hx hb hts hown hK hG 0 rfl rfl ok_X13 47 (by decide) q1518 rfl rfl dX13_hours_35 ?_
    refine lv_bipush (v := (nI 45)) hx hb dX13_hours_38 (by decide) ?_
    refine n_iald hx hb hK hG 30 rfl (by omega) (by decide) dX13_hours_40 ?_
    refine iv (y := (goF t (nI 0) (xS t) x1 (V 30) 45)) (congrFun hn3 45) ?_
    refine hend _ _ _ _ _ hS dX13_hours_41 ?_
    have hR : hoursS t (V 30) hs (nI x1) = ((goF t (nI 0) (xS t) x1 (V 30) 45), goF t (nI 0) (xS t) x1 (V 30), phF hs (V 30)) := (rnp_in hlo_x1 hhi_x1 (by omega)).trans ((if_neg (by omega)))
    exact ⟨_, rfl, _, hG, (((hE1.mono PC_PAW).trans (hE2.mono PH_PAW)).trans (hE3.mono PA_PAW)), (congrArg (fun z : Ac => z.1) hR).symm, Eq.trans hn3 (congrArg (fun z : Ac => z.2.1) hR).symm, by rw [hR]; exact hk3⟩
  refine lv_aload_n hx hb dX13_hours_13 rfl (lv_at hl 0 rfl) ?_
  refine g_get hx hb hts hown hK hG 0 rfl rfl ok_X13 47 (by decide) q1518 rfl rfl dX13_hours_14 ?_
  refine lv_bipush (v := (nI 45)) hx hb dX13_hours_17 (by decide) ?_
  refine n_iald hx hb hK hG 30 rfl (by omega) (by decide) dX13_hours_19 ?_
  refine hend _ _ _ _ _ hS dX13_hours_20 ?_
  have hR : hoursS t (V 30) hs (nI x1) = ((V 30 45), V 30, hs) := (rnp_in hlo_x1 hhi_x1 (by omega)).trans ((if_pos c10))
  exact ⟨_, rfl, _, hG, Eqx.rf, (congrArg (fun z : Ac => z.1) hR).symm, Eq.trans rfl (congrArg (fun z : Ac => z.2.1) hR).symm, by rw [hR]; exact (hiM_to hh rfl (fun _ => rfl))⟩
