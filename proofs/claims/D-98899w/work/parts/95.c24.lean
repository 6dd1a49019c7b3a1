section CASTS
variable {p : Program} {l : Launch} {e : Env} {R : Room} {s : State} {m : MethodId} {args : Array Value} {below : List Frame} {meth : Method} {c : Code} {H : Heap} {locs : List Loc} {cells slots : Nat} {Q : State → Prop}
variable {cc : ByteArray} {pc : Nat} {ls : Array Slot} {rest : List Value} {D : va_G} {dA : Nat → ClassId} {own : String} {index : Nat}
theorem x_cast (hx : p.tables.exec = Jvm.exec) (hb : c.code = cc) (hts : ∀ w ∈ lw_all, w.before args s = true) (hown : s.vm.findClass own = some m.cls) (hK : KK D dA s) {a ci : Nat} {fs : List Value} {q : vw_C} (hG : va_at D CL (a, .inr (ci, fs)) H) (hc : CL[ci]? = some q) (hlink : Cond.classLink own index q.1 ∈ lw_all) (hdg : decode cc pc = .ok (.checkcast index, 3))
    (kk : W p l e R s m args below meth c H locs cells slots Q (F0 m (pc + 3) ls (.ref a :: rest))) : W p l e R s m args below meth c H locs cells slots Q (F0 m pc ls (.ref a :: rest)) := by
  obtain ⟨r, h1, cell, q1, q2, q3, q4⟩ := hG
  have hr : r = q := Option.some.inj (h1.symm.trans hc)
  subst hr
  have hk := hK.1.1 ci _ hc
  exact va_castS hx hb hown (hts _ hlink) hk.2 ⟨cell, q1, by rw [q3]; rfl, by rw [q2]; exact hk.2.1⟩ hdg kk
end CASTS
/-- the sleepers of a text -/
def slpA (D : va_G) (dA : Nat → ClassId) (H : Heap) (O : Nat → Prop) (tx : Nat) (T : Txt) : Prop := ∃ (fs : List Value) (al : Nat) (mc : Int32) (ea cap : Nat) (g : Nat → Option Nat), O tx ∧ O al ∧ O ea ∧ va_at D CL (tx, .inr (4, .ref al :: fs)) H ∧ va_at D CL (al, .inr (17, [.int mc, .ref ea, .int (nI (xN T))])) H ∧ va_at D CL (ea, .inl (dA 10, cap, .inr (.inr (.inr (.inr g))))) H ∧ xN T ≤ cap ∧ cap < 2 ^ 31 ∧ ∀ k, k < xN T → ∃ (a : Nat) (nm : Value), O a ∧ g k = some a ∧ va_at D CL (a, .inr (12, [nm, .int (nI (b01 (xF T k))), .int (xH T k)])) H
def PBg (k j : Nat) : Bool := k == 1 || k == 2 || k == 3 || k == 4 || (k == 0 && (j == 4 || j == 5 || j == 6 || j == 7))
theorem up_fact {V V1 : GI} {c k : Nat} {x : Int32} {G : Nat → Int32} (h : ∀ j, j < k → V c j = G j) (e : ∀ j, V1 c j = up2 V c k x c j) (hx : x = G k) : ∀ j, j < k + 1 → V1 c j = G j := fun j hj => by
  rw [e]
  by_cases e2 : j = k
  · subst e2; exact up2_s.trans hx
  · exact (up2_n (fun z => e2 z.2)).trans (h j (by omega))
theorem bg_h {T : Txt} {k : Nat} (hk : k < xN T) (hn : xN T ≤ 9) : bgF T (9 + k) = xH T k := by
  unfold bgF
  rw [if_neg (by omega), if_pos (by omega), Nat.add_sub_cancel_left]
theorem bg_h0 {T : Txt} {k : Nat} (hk : xN T ≤ k) (hk9 : k < 9) : bgF T (9 + k) = nI 0 := by
  unfold bgF
  rw [if_neg (by omega), if_neg (by omega), if_neg (by omega), if_neg (by omega)]
theorem bg_27 {T : Txt} {k : Nat} (hk9 : k < 9) (hn : xN T ≤ 9) : bgF T (27 + k) = nI 0 := by
  unfold bgF
  rw [if_neg (by omega), if_neg (by omega), if_neg (by omega), if_neg (by omega)]
theorem bg_36 {T : Txt} {k : Nat} (hk9 : k < 9) (hn : xN T ≤ 9) : bgF T (36 + k) = nI 0 := by
  unfold bgF
  rw [if_neg (by omega), if_neg (by omega), if_neg (by omega), if_neg (by omega)]
theorem bg_18 {T : Txt} {k : Nat} (hk : k < xN T) (hn : xN T ≤ 9) : bgF T (18 + k) = nI k := by
  unfold bgF
  rw [if_neg (by omega), if_neg (by omega), if_pos (by omega), Nat.add_sub_cancel_left]
theorem bg_rb1 {T : Txt} {k y : Nat} (hk : k < xN T) (hy : rbF (bgF T) (min k (xN T)) = y) : rbF (bgF T) (min (k + 1) (xN T)) = y ||| b01 (xF T k) * 2 ^ k := by
  rw [Nat.min_eq_left (by omega)] at hy
  rw [Nat.min_eq_left (by omega), ← hy]
  have e : bgF T k = xF T k := if_pos hk
  show rbF (bgF T) k ||| b01 (bgF T k) * 2 ^ k = _
  rw [e]
theorem bg_rb0 {T : Txt} {k y : Nat} (hk : xN T ≤ k) (hy : rbF (bgF T) (min k (xN T)) = y) : rbF (bgF T) (min (k + 1) (xN T)) = y ||| 0 := by
  rw [Nat.min_eq_right (by omega)] at hy
  rw [Nat.min_eq_right (by omega), hy, Nat.or_zero]
theorem bg_fin {T : Txt} {V V1 : GI} {y : Nat} (hn : xN T ≤ 9) (hy : rbF (bgF T) (min 9 (xN T)) = y) (h4 : V 0 4 = nI y) (h1 : ∀ j, j < 9 → V 1 j = bgF T (9 + j)) (h2 : ∀ j, j < 9 → V 2 j = bgF T (27 + j)) (h3 : ∀ j, j < 9 → V 3 j = nI j) (h36 : ∀ j, j < 9 → V 4 j = nI 0) (e4 : V1 0 4 = V 0 4) (e1 : ∀ k j, 1 ≤ k → V1 k j = V k j) (e5 : V1 0 5 = xB T) (e6 : V1 0 6 = nI 0) (e7 : V1 0 7 = xS T) : bkM V1 (xN T) (bgF T) (xS T) := by
  rw [Nat.min_eq_right hn] at hy
  have h45 : bgF T 45 = xB T := by unfold bgF; rw [if_neg (by omega), if_neg (by omega), if_neg (by omega), if_pos rfl]
  have h46 : bgF T 46 = nI 0 := by unfold bgF; rw [if_neg (by omega), if_neg (by omega), if_neg (by omega), if_neg (by omega)]
  refine ⟨⟨e4.trans (h4.trans (congrArg nI hy.symm)), e5.trans h45.symm, ?_, ?_⟩, e6.trans h46.symm, e7, ?_, ?_⟩
  · intro j hj; exact (e1 1 j (by decide)).trans (h1 j (by omega))
  · intro j hj; exact (e1 2 j (by decide)).trans (h2 j (by omega))
  · intro j hj; exact (e1 3 j (by decide)).trans ((h3 j (by omega)).trans (bg_18 hj hn).symm)
  · intro j hj; exact (e1 4 j (by decide)).trans ((h36 j (by omega)).trans (bg_36 (by omega) hn).symm)
set_option maxHeartbeats 4000000 in
theorem met_J7_checkIndex (l : Launch) (D : va_G) (dA : Nat → ClassId) {H0 : Heap} {i n : Nat} (hi9 : i < n) (hn9 : n < 2 ^ 31) : Ctr l D dA yJ7_checkIndex cJ7_checkIndex 3 (some .int) (mkRm 0 0) [.int (nI i), .int (nI n), .null] H0 A0 (QI (fun r H1 => H0 = H1 ∧ r = nI i)) := by
  refine ctr_I (by decide) (Nat.le_of_ble_eq_true rfl) ?_
  intro p e s m args below meth c ls QQ locs hx hb hml hown hts hK hend hS hl
  have hl : lv_has ls 3 [(0, .int (nI i)), (1, .int (nI n)), (2, .null)] := hl
  refine lv_iload_n hx hb dJ7_checkIndex_0 rfl (lv_at hl 0 rfl) ?_
  refine n_if_lt (tgt := 9) hx hb dJ7_checkIndex_1 (by decide) (by omega) ?_
  refine lv_iload_n hx hb dJ7_checkIndex_4 rfl (lv_at hl 0 rfl) ?_
  refine lv_iload_n hx hb dJ7_checkIndex_5 rfl (lv_at hl 1 rfl) ?_
  refine n_icmp_lt (tgt := 16) hx hb dJ7_checkIndex_6 (by decide) (by omega) (by omega) (fun c6 => ?_) (fun c6 => ?_)
  · refine lv_iload_n hx hb dJ7_checkIndex_16 rfl (lv_at hl 0 rfl) ?_
    refine hend _ _ _ _ _ hS dJ7_checkIndex_17 ?_
    exact ⟨_, rfl, rfl, rfl⟩
  exact absurd hi9 (by omega)
theorem cw_J6_105 {R : Room} {s : State} {args : Array Value} (hts : ∀ w ∈ lw_all, w.before args s = true) {f w k j : Nat} (hR : f + 1 ≤ R.frames ∧ 8 + (3 + 11) + w ≤ R.locals) : CallB R s args RJ6 105 yJ7_checkIndex cJ7_checkIndex 3 (some .int) (ws_ yJ7_checkIndex cJ7_checkIndex 3 (some .int)) (mkRmC f w k j) k j 3 ∧ (Cond.static yJ7_checkIndex).before args s = true := va_cwS 3 hts (lw_S q514 q515 q128 q516) rfl rfl rfl (by decide +kernel) hR
set_option maxHeartbeats 4000000 in
theorem met_J6_checkIndex (l : Launch) (D : va_G) (dA : Nat → ClassId) {H0 : Heap} {i n : Nat} (hi9 : i < n) (hn9 : n < 2 ^ 31) : Ctr l D dA yJ6_checkIndex cJ6_checkIndex 2 (some .int) (mkRm 1 22) [.int (nI i), .int (nI n)] H0 A0 (QI (fun r H1 => H0 = H1 ∧ r = nI i)) := by
  refine ctr_I (by decide) (Nat.le_of_ble_eq_true rfl) ?_
  intro p e s m args below meth c ls QQ locs hx hb hml hown hts hK hend hS hl
  have hl : lv_has ls 2 [(0, .int (nI i)), (1, .int (nI n))] := hl
  refine lv_iload_n hx hb dJ6_checkIndex_0 rfl (lv_at hl 0 rfl) ?_
  refine lv_iload_n hx hb dJ6_checkIndex_1 rfl (lv_at hl 1 rfl) ?_
  refine lv_null hx hb dJ6_checkIndex_2 ?_
  refine c_SI hx hb hml hts hown hK hl.1 hS ⟨Nat.le_refl _, Nat.le_refl _⟩ (met_J7_checkIndex l D dA (i := i) (n := n) (by omega) (by omega)) (cw_J6_105 hts ⟨Nat.le_of_ble_eq_true rfl, Nat.le_of_ble_eq_true rfl⟩) rfl rfl (Nat.le_of_ble_eq_true rfl) dJ6_checkIndex_3 (fun _ h => h.elim) (fun r H1 locs hq hF hS => ?_)
  obtain ⟨rfl, rfl⟩ := hq
  refine hend _ _ _ _ _ hS dJ6_checkIndex_6 ?_
  exact ⟨_, rfl, rfl, rfl⟩
set_option maxHeartbeats 4000000 in
theorem met_J5_elementData (l : Launch) (D : va_G) (dA : Nat → ClassId) {H0 : Heap} {a ea cap n i x : Nat} {mc : Int32} {g : Nat → Option Nat} (hat : va_at D CL (a, .inr (17, [.int mc, .ref ea, .int (nI n)])) H0) (hea : va_at D CL (ea, .inl (dA 10, cap, .inr (.inr (.inr (.inr g))))) H0) (hi9 : i < n) (hnc : n ≤ cap) (hc9 : cap < 2 ^ 31) (hgx : g i = some x) : Ctr l D dA yJ5_elementData cJ5_elementData 2 (some (.object "java/lang/Object")) (mkRm 0 0) [.ref a, .int (nI i)] H0 A0 (QR (fun r H1 => H0 = H1 ∧ r = some x)) := by
  refine ctr_R (by decide) (Nat.le_of_ble_eq_true rfl) (Or.inl ⟨_, rfl⟩) ?_
  intro p e s m args below meth c ls QQ locs hx hb hml hown hts hK hend hS hl
  have hl : lv_has ls 2 [(0, .ref a), (1, .int (nI i))] := hl
  refine lv_aload_n hx hb dJ5_elementData_0 rfl (lv_at hl 0 rfl) ?_
  refine x_get hx hb hts hown hK hat rfl ok_J5 1 (by decide) q336 rfl dJ5_elementData_1 ?_
  refine lv_iload_n hx hb dJ5_elementData_4 rfl (lv_at hl 1 rfl) ?_
  refine xn_aald hx hb hK 10 hea rfl (by omega) (by omega) hgx dJ5_elementData_5 ?_
  refine hend _ _ _ _ _ hS dJ5_elementData_6 (Or.inr ⟨_, rfl⟩) ?_
  exact ⟨some x, rfl, rfl, rfl⟩
theorem cw_J5_118 {R : Room} {s : State} {args : Array Value} (hts : ∀ w ∈ lw_all, w.before args s = true) {f w k j : Nat} (hR : f + 1 ≤ R.frames ∧ 8 + (2 + 11) + w ≤ R.locals) : CallB R s args RJ5 118 yJ6_checkIndex cJ6_checkIndex 2 (some .int) (ws_ yJ6_checkIndex cJ6_checkIndex 2 (some .int)) (mkRmC f w k j) k j 2 ∧ (Cond.static yJ6_checkIndex).before args s = true := va_cwS 2 hts (lw_S q511 q512 q127 q513) rfl rfl rfl (by decide +kernel) hR
theorem cw_J5_123 {R : Room} {s : State} {args : Array Value} (hts : ∀ w ∈ lw_all, w.before args s = true) {f w k j : Nat} (hR : f + 1 ≤ R.frames ∧ 8 + (2 + 11) + w ≤ R.locals) : CallW R s args RJ5 RJ5 123 yJ5_elementData cJ5_elementData 2 (some (.object "java/lang/Object")) (ws_ yJ5_elementData cJ5_elementData 2 (some (.object "java/lang/Object"))) (mkRmC f w k j) k j 1 := cwV 1 hts (lw_V q517 q518 q519 q118 q520) rfl rfl rfl (by decide +kernel) hR
set_option maxHeartbeats 4000000 in
theorem met_J5_get (l : Launch) (D : va_G) (dA : Nat → ClassId) {H0 : Heap} {a ea cap n i x : Nat} {mc : Int32} {g : Nat → Option Nat} (hat : va_at D CL (a, .inr (17, [.int mc, .ref ea, .int (nI n)])) H0) (hea : va_at D CL (ea, .inl (dA 10, cap, .inr (.inr (.inr (.inr g))))) H0) (hi9 : i < n) (hnc : n ≤ cap) (hc9 : cap < 2 ^ 31) (hgx : g i = some x) : Ctr l D dA yJ5_get cJ5_get 2 (some (.object "java/lang/Object")) (mkRm 2 50) [.ref a, .int (nI i)] H0 A0 (QR (fun r H1 => H0 = H1 ∧ r = some x)) := by
  refine ctr_R (by decide) (Nat.le_of_ble_eq_true rfl) (Or.inl ⟨_, rfl⟩) ?_
  intro p e s m args below meth c ls QQ locs hx hb hml hown hts hK hend hS hl
  have hl : lv_has ls 2 [(0, .ref a), (1, .int (nI i))] := hl
  refine lv_iload_n hx hb dJ5_get_0 rfl (lv_at hl 1 rfl) ?_
  refine lv_aload_n hx hb dJ5_get_1 rfl (lv_at hl 0 rfl) ?_
  refine x_get hx hb hts hown hK hat rfl ok_J5 2 (by decide) q337 rfl dJ5_get_2 ?_
  refine c_SI hx hb hml hts hown hK hl.1 hS ⟨Nat.le_refl _, Nat.le_refl _⟩ (met_J6_checkIndex l D dA (i := i) (n := n) (by omega) (by omega)) (cw_J5_118 hts ⟨Nat.le_of_ble_eq_true rfl, Nat.le_of_ble_eq_true rfl⟩) rfl rfl (Nat.le_of_ble_eq_true rfl) dJ5_get_5 (fun _ h => h.elim) (fun r H1 locs hq hF hS => ?_)
  obtain ⟨rfl, rfl⟩ := hq
  refine lv_pop hx hb dJ5_get_8 rfl ?_
  refine lv_aload_n hx hb dJ5_get_9 rfl (lv_at hl 0 rfl) ?_
  refine lv_iload_n hx hb dJ5_get_10 rfl (lv_at hl 1 rfl) ?_
  refine c_VR hx hb hml hts hown hK hl.1 hS ⟨Nat.le_refl _, Nat.le_refl _⟩ (met_J5_elementData l D dA hat hea hi9 hnc hc9 hgx) (cw_J5_123 hts ⟨Nat.le_of_ble_eq_true rfl, Nat.le_of_ble_eq_true rfl⟩) hat rfl rfl rfl rfl (Nat.le_of_ble_eq_true rfl) dJ5_get_11 (fun _ h => h.elim) (fun r H1 locs hq hF hS => ?_)
  obtain ⟨rfl, rfl⟩ := hq
  refine hend _ _ _ _ _ hS dJ5_get_14 (Or.inr ⟨_, rfl⟩) ?_
  exact ⟨some x, rfl, rfl, rfl⟩
theorem cw_X5_60 {R : Room} {s : State} {args : Array Value} (hts : ∀ w ∈ lw_all, w.before args s = true) {f w k j : Nat} (hR : f + 1 ≤ R.frames ∧ 8 + (2 + 11) + w ≤ R.locals) : CallW R s args RX5 RJ5 60 yJ5_get cJ5_get 2 (some (.object "java/lang/Object")) (ws_ yJ5_get cJ5_get 2 (some (.object "java/lang/Object"))) (mkRmC f w k j) k j 1 := cwV 1 hts (lw_V q507 q508 q509 q118 q510) rfl rfl rfl (by decide +kernel) hR
set_option maxHeartbeats 4000000 in
theorem met_X5_begins (l : Launch) (D : va_G) (dA : Nat → ClassId) {b : Nat} {V : GI} {L : GL} {Rf : GR} {H0 : Heap} (hG : gP D dA b dB V L Rf H0) {O : Nat → Prop} {tx : Nat} {T : Txt} (hX : txA D dA H0 O tx T) (hsl : slpA D dA H0 O tx T) (hOA : ∀ z, O z → ¬ AB b z) : Ctr l D dA yX5_begins cX5_begins 3 none (mkRm 3 90) [.ref b, .ref tx] H0 (AB b) (QV (fun H1 => ∃ V1, gP D dA b dB V1 L Rf H1 ∧ Eqx PBg V V1 ∧ bkM V1 (xN T) (bgF T) (xS T))) := by
  have hX0 := hX
  obtain ⟨al, ls, cd, cb, gc, lw, mc, ea, nc, xo1, xo2, xo3, xo4, xh1, xh2, xh3, xh4, xh5, xh6, hn9⟩ := hX
  obtain ⟨fsl, al2, mc2, ea2, cap2, gs, so1, so2, so3, sh1, sh2, sh3, snc, scap, ssl⟩ := hsl
  refine ctr_V (by decide) (Nat.le_of_ble_eq_true rfl) ?_
  intro p e s m args below meth c ls QQ locs hx hb hml hown hts hK hend hS hl
  have hl : lv_has ls 3 [(0, .ref b), (1, .ref tx)] := hl
  refine lv_aload_n hx hb dX5_begins_0 rfl (lv_at hl 0 rfl) ?_
  refine lv_iconst (v := (nI 0)) hx hb dX5_begins_1 (by decide) ?_
  refine g_put hx hb hts hown hK hG hS 0 (AB_in 0 (by decide)) rfl rfl ok_X5 4 (by decide) q441 rfl rfl rfl rfl dX5_begins_2 (fun H locs hG hO hS => ?_)
  refine lv_iconst (v := (nI 0)) hx hb dX5_begins_5 (by decide) ?_
  refine lv_istore_n (lv' := [(2, .int (nI 0)), (0, .ref b), (1, .ref tx)]) hx hb dX5_begins_6 rfl hl (by decide) rfl (fun ls hl => ?_)
  have loop1 : ∀ (fu1 : Nat) (k : Nat) (y : Nat) (V1 : GI) (H : Heap) (locs : List Loc) (ls : Array Slot), 9 - k < fu1 → (k ≤ 9) → (rbF (bgF T) (min k (xN T)) = y) → (Eqx PBg (up2 V 0 4 (nI 0)) V1) → (V1 0 4 = nI y) → (∀ j, j < k → V1 1 j = bgF T (9 + j)) → (∀ j, j < k → V1 2 j = bgF T (27 + j)) → (∀ j, j < k → V1 3 j = nI j) → (∀ j, j < k → V1 4 j = nI 0) → gP D dA b dB V1 L Rf H → va_S (AB b) H0 H locs → lv_has ls 3 [(2, .int (nI k)), (0, .ref b), (1, .ref tx)] → W p l e (mkRm 3 90) s m args below meth c H locs 0 0 QQ (F0 m 7 ls []) := by
    intro fu1
    induction fu1 with
    | zero => intro k y V1 H locs ls hfu; exact absurd hfu (Nat.not_lt_zero _)
    | succ fu1 ih1 =>
      intro k y V1 H locs ls hfu hk9 hy hE1 h4 h1 h2 h3 h36 hG hS hl
      refine lv_iload_n hx hb dX5_begins_7 rfl (lv_at hl 0 rfl) ?_
      refine lv_bipush (v := (nI 9)) hx hb dX5_begins_8 (by decide) ?_
      refine n_icmp_ge (tgt := 109) hx hb dX5_begins_10 (by decide) (by omega) (by omega) (fun c10 => ?_) (fun c10 => ?_)
      · refine lv_aload_n hx hb dX5_begins_109 rfl (lv_at hl 1 rfl) ?_
        refine lv_aload_n hx hb dX5_begins_110 rfl (lv_at hl 2 rfl) ?_
        refine x_get hx hb hts hown hK (va_at_S xh1 hS (hOA _ xo1)) rfl ok_X4 6 (by decide) q368 rfl dX5_begins_111 ?_
        refine g_put hx hb hts hown hK hG hS 0 (AB_in 0 (by decide)) rfl rfl ok_X5 5 (by decide) q444 rfl rfl rfl rfl dX5_begins_114 (fun H locs hG hO hS => ?_)
        refine lv_aload_n hx hb dX5_begins_117 rfl (lv_at hl 1 rfl) ?_
        refine lv_iconst (v := (nI 0)) hx hb dX5_begins_118 (by decide) ?_
        refine g_put hx hb hts hown hK hG hS 0 (AB_in 0 (by decide)) rfl rfl ok_X5 6 (by decide) q446 rfl rfl rfl rfl dX5_begins_119 (fun H locs hG hO hS => ?_)
        refine lv_aload_n hx hb dX5_begins_122 rfl (lv_at hl 1 rfl) ?_
        refine lv_aload_n hx hb dX5_begins_123 rfl (lv_at hl 2 rfl) ?_
        refine x_get hx hb hts hown hK (va_at_S xh1 hS (hOA _ xo1)) rfl ok_X4 7 (by decide) q371 rfl dX5_begins_124 ?_
        refine g_put hx hb hts hown hK hG hS 0 (AB_in 0 (by decide)) rfl rfl ok_X5 7 (by decide) q449 rfl rfl rfl rfl dX5_begins_127 (fun H locs hG hO hS => ?_)
        refine hend _ _ _ _ hS dX5_begins_130 ?_
        obtain rfl : k = 9 := by omega
        exact ⟨rfl, _, hG, (((((Eqx.rf.up rfl).trans hE1).up rfl).up rfl).up rfl), bg_fin hn9 hy h4 h1 h2 h3 h36 rfl (fun k j hk => ((up2_n (fun z => by omega)).trans (up2_n (fun z => by omega))).trans (up2_n (fun z => by omega))) rfl rfl rfl⟩
      refine lv_aload_n hx hb dX5_begins_13 rfl (lv_at hl 1 rfl) ?_
      refine g_get hx hb hts hown hK hG 0 rfl rfl ok_X5 0 (by decide) q433 rfl rfl dX5_begins_14 ?_
      refine lv_iload_n hx hb dX5_begins_17 rfl (lv_at hl 0 rfl) ?_
      refine lv_iload_n hx hb dX5_begins_18 rfl (lv_at hl 0 rfl) ?_
      refine lv_aload_n hx hb dX5_begins_19 rfl (lv_at hl 2 rfl) ?_
      refine c_VI hx hb hml hts hown hK hl.1 hS ⟨Nat.le_refl _, Nat.le_refl _⟩ (met_X4_beds l D dA (txA_S hX0 hS hOA)) (cw_X5_50 hts ⟨Nat.le_of_ble_eq_true rfl, Nat.le_of_ble_eq_true rfl⟩) (va_at_S xh1 hS (hOA _ xo1)) rfl rfl rfl rfl (Nat.le_of_ble_eq_true rfl) dX5_begins_20 (fun _ h => h.elim) (fun r H1 locs hq hF hS => ?_)
      obtain ⟨rfl, rfl⟩ := hq
      refine n_icmp_ge (tgt := 43) hx hb dX5_begins_23 (by decide) (by omega) (by omega) (fun c23 => ?_) (fun c23 => ?_)
      · refine lv_iconst (v := (nI 0)) hx hb dX5_begins_43 (by decide) ?_
        refine n_iast hx hb hK hG hS 1 (AB_in 1 (by decide)) rfl (by omega) (by decide) dX5_begins_44 (fun H locs hG hO hS => ?_)
        refine lv_aload_n hx hb dX5_begins_45 rfl (lv_at hl 1 rfl) ?_
        refine g_get hx hb hts hown hK hG 0 rfl rfl ok_X5 1 (by decide) q435 rfl rfl dX5_begins_46 ?_
        refine lv_iload_n hx hb dX5_begins_49 rfl (lv_at hl 0 rfl) ?_
        refine lv_iconst (v := (nI 0)) hx hb dX5_begins_50 (by decide) ?_
        refine n_iast hx hb hK hG hS 2 (AB_in 2 (by decide)) rfl (by omega) (by decide) dX5_begins_51 (fun H locs hG hO hS => ?_)
        refine lv_aload_n hx hb dX5_begins_52 rfl (lv_at hl 1 rfl) ?_
        refine g_get hx hb hts hown hK hG 0 rfl rfl ok_X5 2 (by decide) q437 rfl rfl dX5_begins_53 ?_
        refine lv_iload_n hx hb dX5_begins_56 rfl (lv_at hl 0 rfl) ?_
        refine lv_iload_n hx hb dX5_begins_57 rfl (lv_at hl 0 rfl) ?_
        refine n_iast hx hb hK hG hS 3 (AB_in 3 (by decide)) rfl (by omega) (by decide) dX5_begins_58 (fun H locs hG hO hS => ?_)
        refine lv_aload_n hx hb dX5_begins_59 rfl (lv_at hl 1 rfl) ?_
        refine g_get hx hb hts hown hK hG 0 rfl rfl ok_X5 3 (by decide) q439 rfl rfl dX5_begins_60 ?_
        refine lv_iload_n hx hb dX5_begins_63 rfl (lv_at hl 0 rfl) ?_
        refine lv_iconst (v := (nI 0)) hx hb dX5_begins_64 (by decide) ?_
        refine n_iast hx hb hK hG hS 4 (AB_in 4 (by decide)) rfl (by omega) (by decide) dX5_begins_65 (fun H locs hG hO hS => ?_)
        refine lv_aload_n hx hb dX5_begins_66 rfl (lv_at hl 1 rfl) ?_
        refine lv_dup hx hb dX5_begins_67 rfl ?_
        refine g_get (v := .int (nI y)) hx hb hts hown hK hG 0 rfl rfl ok_X5 4 (by decide) q441 rfl (congrArg Value.int h4) dX5_begins_68 ?_
        refine lv_iload_n hx hb dX5_begins_71 rfl (lv_at hl 0 rfl) ?_
        refine lv_aload_n hx hb dX5_begins_72 rfl (lv_at hl 2 rfl) ?_
        refine c_VI hx hb hml hts hown hK hl.1 hS ⟨Nat.le_refl _, Nat.le_refl _⟩ (met_X4_beds l D dA (txA_S hX0 hS hOA)) (cw_X5_50 hts ⟨Nat.le_of_ble_eq_true rfl, Nat.le_of_ble_eq_true rfl⟩) (va_at_S xh1 hS (hOA _ xo1)) rfl rfl rfl rfl (Nat.le_of_ble_eq_true rfl) dX5_begins_73 (fun _ h => h.elim) (fun r H1 locs hq hF hS => ?_)
        obtain ⟨rfl, rfl⟩ := hq
        refine n_icmp_ge (tgt := 98) hx hb dX5_begins_76 (by decide) (by omega) (by omega) (fun c76 => ?_) (fun c76 => ?_)
        · refine lv_iconst (v := (nI 0)) hx hb dX5_begins_98 (by decide) ?_
          refine n_ior hx hb dX5_begins_99 ?_
          refine g_put hx hb hts hown hK hG hS 0 (AB_in 0 (by decide)) rfl rfl ok_X5 4 (by decide) q441 rfl rfl rfl rfl dX5_begins_100 (fun H locs hG hO hS => ?_)
          refine lv_iinc (v := (nI (k + 1))) (lv' := [(2, .int (nI (k + 1))), (0, .ref b), (1, .ref tx)]) hx hb dX5_begins_103 hl (k := 0) rfl (nI_add _ _) (by decide) rfl (fun ls hl => ?_)
          refine lv_goto (tgt := 7) hx hb dX5_begins_106 (by decide) ?_
          exact ih1 (k + 1) (y ||| 0) (up2 (up2 (up2 (up2 (up2 V1 1 k (nI 0)) 2 k (nI 0)) 3 k (nI k)) 4 k (nI 0)) 0 4 (nI (y ||| 0))) _ _ _ (by omega) (by omega) (bg_rb0 (by omega) hy) (Eqx.up (Eqx.up (Eqx.up (Eqx.up (Eqx.up hE1 rfl) rfl) rfl) rfl) rfl) rfl (up_fact h1 (fun _ => rfl) (bg_h0 (by omega) (by omega)).symm) (up_fact h2 (fun _ => rfl) (bg_27 (by omega) hn9).symm) (up_fact h3 (fun _ => rfl) rfl) (up_fact h36 (fun _ => rfl) rfl) hG hS (lv_sub hl [0, 1, 2] rfl)
        exact absurd c76 (by omega)
      obtain ⟨sa, nm, hsk⟩ := ssl k (by omega)
      have hb2 := b01_lt (xF T k)
      refine lv_aload_n hx hb dX5_begins_26 rfl (lv_at hl 2 rfl) ?_
      refine x_get hx hb hts hown hK (va_at_S sh1 hS (hOA _ so1)) rfl ok_X4 0 (by decide) q351 rfl dX5_begins_27 ?_
      refine lv_iload_n hx hb dX5_begins_30 rfl (lv_at hl 0 rfl) ?_
      refine c_VR hx hb hml hts hown hK hl.1 hS ⟨Nat.le_refl _, Nat.le_refl _⟩ (met_J5_get l D dA (va_at_S sh2 hS (hOA _ so2)) (va_at_S sh3 hS (hOA _ so3)) (i := k) (by omega) snc scap hsk.2.1) (cw_X5_60 hts ⟨Nat.le_of_ble_eq_true rfl, Nat.le_of_ble_eq_true rfl⟩) (va_at_S sh2 hS (hOA _ so2)) rfl rfl rfl rfl (Nat.le_of_ble_eq_true rfl) dX5_begins_31 (fun _ h => h.elim) (fun r H1 locs hq hF hS => ?_)
      obtain ⟨rfl, rfl⟩ := hq
      refine x_cast hx hb hts hown hK (va_at_S hsk.2.2 hS (hOA _ hsk.1)) rfl q521 dX5_begins_34 ?_
      refine x_get hx hb hts hown hK (va_at_S hsk.2.2 hS (hOA _ hsk.1)) rfl ok_X19 2 (by decide) q1029 rfl dX5_begins_37 ?_
      refine lv_goto (tgt := 44) hx hb dX5_begins_40 (by decide) ?_
      refine n_iast hx hb hK hG hS 1 (AB_in 1 (by decide)) rfl (by omega) (by decide) dX5_begins_44 (fun H locs hG hO hS => ?_)
      refine lv_aload_n hx hb dX5_begins_45 rfl (lv_at hl 1 rfl) ?_
      refine g_get hx hb hts hown hK hG 0 rfl rfl ok_X5 1 (by decide) q435 rfl rfl dX5_begins_46 ?_
      refine lv_iload_n hx hb dX5_begins_49 rfl (lv_at hl 0 rfl) ?_
      refine lv_iconst (v := (nI 0)) hx hb dX5_begins_50 (by decide) ?_
      refine n_iast hx hb hK hG hS 2 (AB_in 2 (by decide)) rfl (by omega) (by decide) dX5_begins_51 (fun H locs hG hO hS => ?_)
      refine lv_aload_n hx hb dX5_begins_52 rfl (lv_at hl 1 rfl) ?_
      refine g_get hx hb hts hown hK hG 0 rfl rfl ok_X5 2 (by decide) q437 rfl rfl dX5_begins_53 ?_
      refine lv_iload_n hx hb dX5_begins_56 rfl (lv_at hl 0 rfl) ?_
      refine lv_iload_n hx hb dX5_begins_57 rfl (lv_at hl 0 rfl) ?_
      refine n_iast hx hb hK hG hS 3 (AB_in 3 (by decide)) rfl (by omega) (by decide) dX5_begins_58 (fun H locs hG hO hS => ?_)
      refine lv_aload_n hx hb dX5_begins_59 rfl (lv_at hl 1 rfl) ?_
      refine g_get hx hb hts hown hK hG 0 rfl rfl ok_X5 3 (by decide) q439 rfl rfl dX5_begins_60 ?_
      refine lv_iload_n hx hb dX5_begins_63 rfl (lv_at hl 0 rfl) ?_
      refine lv_iconst (v := (nI 0)) hx hb dX5_begins_64 (by decide) ?_
      refine n_iast hx hb hK hG hS 4 (AB_in 4 (by decide)) rfl (by omega) (by decide) dX5_begins_65 (fun H locs hG hO hS => ?_)
      refine lv_aload_n hx hb dX5_begins_66 rfl (lv_at hl 1 rfl) ?_
      refine lv_dup hx hb dX5_begins_67 rfl ?_
      refine g_get (v := .int (nI y)) hx hb hts hown hK hG 0 rfl rfl ok_X5 4 (by decide) q441 rfl (congrArg Value.int h4) dX5_begins_68 ?_
      refine lv_iload_n hx hb dX5_begins_71 rfl (lv_at hl 0 rfl) ?_
      refine lv_aload_n hx hb dX5_begins_72 rfl (lv_at hl 2 rfl) ?_
      refine c_VI hx hb hml hts hown hK hl.1 hS ⟨Nat.le_refl _, Nat.le_refl _⟩ (met_X4_beds l D dA (txA_S hX0 hS hOA)) (cw_X5_50 hts ⟨Nat.le_of_ble_eq_true rfl, Nat.le_of_ble_eq_true rfl⟩) (va_at_S xh1 hS (hOA _ xo1)) rfl rfl rfl rfl (Nat.le_of_ble_eq_true rfl) dX5_begins_73 (fun _ h => h.elim) (fun r H1 locs hq hF hS => ?_)
      obtain ⟨rfl, rfl⟩ := hq
      refine n_icmp_ge (tgt := 98) hx hb dX5_begins_76 (by decide) (by omega) (by omega) (fun c76 => ?_) (fun c76 => ?_)
      · exact absurd c76 (by omega)
      refine lv_aload_n hx hb dX5_begins_79 rfl (lv_at hl 2 rfl) ?_
      refine x_get hx hb hts hown hK (va_at_S sh1 hS (hOA _ so1)) rfl ok_X4 0 (by decide) q351 rfl dX5_begins_80 ?_
      refine lv_iload_n hx hb dX5_begins_83 rfl (lv_at hl 0 rfl) ?_
      refine c_VR hx hb hml hts hown hK hl.1 hS ⟨Nat.le_refl _, Nat.le_refl _⟩ (met_J5_get l D dA (va_at_S sh2 hS (hOA _ so2)) (va_at_S sh3 hS (hOA _ so3)) (i := k) (by omega) snc scap hsk.2.1) (cw_X5_60 hts ⟨Nat.le_of_ble_eq_true rfl, Nat.le_of_ble_eq_true rfl⟩) (va_at_S sh2 hS (hOA _ so2)) rfl rfl rfl rfl (Nat.le_of_ble_eq_true rfl) dX5_begins_84 (fun _ h => h.elim) (fun r H1 locs hq hF hS => ?_)
      obtain ⟨rfl, rfl⟩ := hq
      refine x_cast hx hb hts hown hK (va_at_S hsk.2.2 hS (hOA _ hsk.1)) rfl q521 dX5_begins_87 ?_
      refine x_get hx hb hts hown hK (va_at_S hsk.2.2 hS (hOA _ hsk.1)) rfl ok_X19 1 (by decide) q1027 rfl dX5_begins_90 ?_
      refine lv_iload_n hx hb dX5_begins_93 rfl (lv_at hl 0 rfl) ?_
      refine n_ishl hx hb dX5_begins_94 (by omega) ?_
      refine lv_goto (tgt := 99) hx hb dX5_begins_95 (by decide) ?_
      refine n_ior hx hb dX5_begins_99 ?_
      refine g_put hx hb hts hown hK hG hS 0 (AB_in 0 (by decide)) rfl rfl ok_X5 4 (by decide) q441 rfl rfl rfl rfl dX5_begins_100 (fun H locs hG hO hS => ?_)
      refine lv_iinc (v := (nI (k + 1))) (lv' := [(2, .int (nI (k + 1))), (0, .ref b), (1, .ref tx)]) hx hb dX5_begins_103 hl (k := 0) rfl (nI_add _ _) (by decide) rfl (fun ls hl => ?_)
      refine lv_goto (tgt := 7) hx hb dX5_begins_106 (by decide) ?_
      exact ih1 (k + 1) (y ||| ((b01 (xF T k)) * 2 ^ k)) (up2 (up2 (up2 (up2 (up2 V1 1 k (xH T k)) 2 k (nI 0)) 3 k (nI k)) 4 k (nI 0)) 0 4 (nI (y ||| ((b01 (xF T k)) * 2 ^ k)))) _ _ _ (by omega) (by omega) (bg_rb1 (by omega) hy) (Eqx.up (Eqx.up (Eqx.up (Eqx.up (Eqx.up hE1 rfl) rfl) rfl) rfl) rfl) rfl (up_fact h1 (fun _ => rfl) (bg_h (by omega) hn9).symm) (up_fact h2 (fun _ => rfl) (bg_27 (by omega) hn9).symm) (up_fact h3 (fun _ => rfl) rfl) (up_fact h36 (fun _ => rfl) rfl) hG hS (lv_sub hl [0, 1, 2] rfl)
  exact loop1 ((9 - 0) + 1) 0 0 (up2 V 0 4 (nI 0)) _ _ _ (Nat.lt_succ_self _) (by decide) (by rw [Nat.zero_min]; rfl) Eqx.rf rfl (fun j hj => absurd hj (Nat.not_lt_zero _)) (fun j hj => absurd hj (Nat.not_lt_zero _)) (fun j hj => absurd hj (Nat.not_lt_zero _)) (fun j hj => absurd hj (Nat.not_lt_zero _)) hG hS (lv_sub hl [0, 1, 2] rfl)
