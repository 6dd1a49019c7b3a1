abbrev dT : List Dsc := [.inr (4, [.inl 1, .inl 2, .inl 3, .inl 4, .inr 0, .inr 0, .inr 0, .inr 0]), .inr (17, [.inr 0, .inr 1, .inr 0]), .inl (8, 4), .inl (0, 9), .inl (0, 9)]
def hasF (nm : Nat → Nat) (x : Nat) : Nat → Bool
  | 0 => false
  | k + 1 => hasF nm x k || decide (nm k = x)
theorem hasF_hit {nm : Nat → Nat} {x k : Nat} (h : nm k = x) : ∀ n, k < n → hasF nm x n = true
  | 0, hk => absurd hk (Nat.not_lt_zero _)
  | n + 1, hk => by
    unfold hasF
    rcases Nat.lt_succ_iff_lt_or_eq.mp hk with h2 | h2
    · rw [hasF_hit h n h2]; rfl
    · rw [← h2, h, decide_eq_true rfl, Bool.or_true]
theorem hasF_no {nm : Nat → Nat} {x k : Nat} (h1 : hasF nm x k = false) (h2 : nm k ≠ x) : hasF nm x (k + 1) = false := by
  unfold hasF
  rw [h1, decide_eq_false h2]; rfl
theorem hasF_ex {nm : Nat → Nat} {x : Nat} : ∀ n, hasF nm x n = false → ∀ k, k < n → nm k ≠ x
  | 0, _, k, hk => absurd hk (Nat.not_lt_zero _)
  | n + 1, h, k, hk => by
    unfold hasF at h
    rw [Bool.or_eq_false_iff] at h
    rcases Nat.lt_succ_iff_lt_or_eq.mp hk with h2 | h2
    · exact hasF_ex n h.1 k h2
    · rw [h2]; exact of_decide_eq_false h.2
def wlF (bs : Nat → Nat) (n : Nat) : Nat → Bool
  | 0 => true
  | k + 1 => wlF bs n k && decide (bs k < n)
theorem wlF_no {bs : Nat → Nat} {n k : Nat} (h : ¬ bs k < n) : ∀ m, k < m → wlF bs n m = false
  | 0, hk => absurd hk (Nat.not_lt_zero _)
  | m + 1, hk => by
    unfold wlF
    rcases Nat.lt_succ_iff_lt_or_eq.mp hk with h2 | h2
    · rw [wlF_no h m h2]; rfl
    · rw [← h2, decide_eq_false h, Bool.and_false]
theorem wlF_s {bs : Nat → Nat} {n k : Nat} (h1 : wlF bs n k = true) (h2 : bs k < n) : wlF bs n (k + 1) = true := by
  unfold wlF
  rw [h1, decide_eq_true h2]; rfl
theorem wlF_all {bs : Nat → Nat} {n : Nat} : ∀ m, wlF bs n m = true → ∀ k, k < m → bs k < n
  | 0, _, k, hk => absurd hk (Nat.not_lt_zero _)
  | m + 1, h, k, hk => by
    unfold wlF at h
    rw [Bool.and_eq_true] at h
    rcases Nat.lt_succ_iff_lt_or_eq.mp hk with h2 | h2
    · exact wlF_all m h.1 k h2
    · rw [h2]; exact of_decide_eq_true h.2
/-- a sleeper told: its name, its letters' number -/
def slN (D : va_G) (dA : Nat → ClassId) (H : Heap) (B : Nat → Prop) (a : Nat) (x : Nat) (nm : Nat) (vs : List Value) : Prop := va_at D CL (a, .inr (12, .ref nm :: vs)) H ∧ ∃ lt, strA D dA H B nm lt ∧ ltP lt ∧ wdN lt = x
set_option maxHeartbeats 4000000 in
theorem met_X19_init (l : Launch) (D : va_G) (dA : Nat → ClassId) {H0 : Heap} {a nm : Nat} (hat : va_at D CL (a, .inr (12, [.null, .int 0, .int 0])) H0) : Ctr l D dA yX19_init cX19_init 2 none (mkRm 1 40) [.ref a, .ref nm] H0 (fun z => z = a) (QV (fun H1 => va_at D CL (a, .inr (12, [.ref nm, .int 0, .int 0])) H1)) := by
  refine ctr_K (by decide) (Nat.le_of_ble_eq_true rfl) ?_
  intro p e s m args below meth c ls QQ locs hx hb hml hown hts hK hnm hend hS hl
  have hl : lv_has ls 2 [(0, .ref a), (1, .ref nm)] := hl
  refine lv_aload_n hx hb dX19_init_0 rfl (lv_at hl 0 rfl) ?_
  refine x_obj hx hb hml hts hown hl.1 q1024 q152 q153 (Nat.le_of_ble_eq_true rfl) ⟨Nat.le_of_ble_eq_true rfl, Nat.le_of_ble_eq_true rfl⟩ dX19_init_1 ?_
  refine lv_aload_n hx hb dX19_init_4 rfl (lv_at hl 0 rfl) ?_
  refine lv_aload_n hx hb dX19_init_5 rfl (lv_at hl 1 rfl) ?_
  refine x_put hx hb hts hown hK hat rfl ok_X19 0 (by decide) q1025 (Or.inr ⟨rfl, hnm, rfl⟩) rfl rfl (Nat.le_of_ble_eq_true rfl) dX19_init_6 (fun H i hat1 hO => ?_)
  have hS := hO.S (k := i) hS rfl
  refine hend _ _ _ _ hS dX19_init_9 ?_
  exact ⟨rfl, hat1⟩
set_option maxHeartbeats 4000000 in
theorem met_X4_init (l : Launch) (D : va_G) (dA : Nat → ClassId) {H0 : Heap} {tx ed : Nat} (hat : va_at D CL (tx, .inr (4, [.null, .null, .null, .null, .int 0, .int 0, .int 0, .int 0])) H0) (hz : H0.size = tx + 1) (hst : stH D H0 3 (.ref ed)) (hsal : D.2 100 3 < tx) : Ctr l D dA yX4_init cX4_init 1 none (mkRmC 4 140 4 25) [.ref tx] H0 (fun q => tx ≤ q) (QV (fun H1 => gP D dA tx dT (fun _ _ => 0) (fun _ _ => 0) (fun k _ => if k = 1 then some ed else none) H1 ∧ H1.size = tx + 5)) := by
  refine ctr_K (by decide) (Nat.le_of_ble_eq_true rfl) ?_
  intro p e s m args below meth c ls QQ locs hx hb hml hown hts hK hnm hend hS hl
  have hl : lv_has ls 1 [(0, .ref tx)] := hl
  refine lv_aload_n hx hb dX4_init_0 rfl (lv_at hl 0 rfl) ?_
  refine x_obj hx hb hml hts hown hl.1 q321 q152 q153 (Nat.le_of_ble_eq_true rfl) ⟨by show _ ≤ 4; omega, by show _ ≤ 140; omega⟩ dX4_init_1 ?_
  refine lv_aload_n hx hb dX4_init_4 rfl (lv_at hl 0 rfl) ?_
  refine x_new hx hb hts hown hK (ci := 17) (fs := [.int 0, .null, .int 0]) rfl ok_J5 q322 q323 q118 (by intro j hj; match j, hj with | 0, _ => rfl | 1, _ => rfl | 2, _ => rfl) hS (by show 0 + 1 ≤ 4; omega) (by show 0 + 3 ≤ 25; omega) dX4_init_5 hz (fun H hat1 hz1 hF hS => ?_)
  have hat := hat.kept (hF.2 _ hat.lt (fun z => z))
  have hz1 : H.size = tx + 2 := hz1
  refine lv_dup hx hb dX4_init_8 rfl ?_
  refine c_IV (rm := (mkRmC 3 80 0 0)) hx hb hml hts hown hK hl.1 hS (met_J5_init l D dA hat1 (stH_F hst hF (fun _ _ _ z => z)) (by omega)) (cwI 0 hts (lw_meth q326) rfl rfl rfl (hts _ q118) (hts _ q324) (hts _ q325) rfl (by decide +kernel) ⟨by show 3 + 1 ≤ 4; omega, by show 8 + (1 + 11) + 80 ≤ 140; omega⟩) rfl rfl (Nat.le_of_ble_eq_true rfl) dX4_init_9 (fun q hq => by have z : q = (tx + 1) := hq; show _ ≤ _; omega) ⟨by show 0 + 1 ≤ 4; omega, by show 0 + 3 ≤ 25; omega⟩ (fun H locs hq hF hS => ?_)
  obtain ⟨hat_l, hzl⟩ := hq
  have hat := hat.kept (hF.2 _ hat.lt (fun z => by have z : (tx : Nat) = (tx + 1) := z; omega))
  have hz1 := hzl.trans hz1
  refine x_put hx hb hts hown hK hat rfl ok_X4 0 (by decide) q350 (Or.inr ⟨rfl, hnm, rfl⟩) rfl rfl (Nat.le_of_ble_eq_true rfl) dX4_init_12 (fun H i hat2 hO => ?_)
  have hS := hO.S (k := i) hS (Nat.le_refl _)
  have hat_l := hat_l.kept (hO.2 _ (by show ((tx + 1) : Nat) ≠ tx; omega))
  have hz1 := hO.1.trans hz1
  refine lv_aload_n hx hb dX4_init_15 rfl (lv_at hl 0 rfl) ?_
  refine lv_iconst (v := (nI 4)) hx hb dX4_init_16 (by decide) ?_
  refine x_anewa hx hb hts hown hK 8 rfl q348 q349 (n := 4) (by decide) (by decide) hS (by show 0 + 1 + 1 ≤ 4; omega) (by show 0 + 3 + 4 ≤ 25; omega) dX4_init_17 hz1 (fun H hat3 hz3 hF hS => ?_)
  have hat2 := hat2.kept (hF.2 _ hat2.lt (fun z => z))
  have hat_l := hat_l.kept (hF.2 _ hat_l.lt (fun z => z))
  have hz3 : H.size = tx + 3 := hz3
  refine x_put hx hb hts hown hK hat2 rfl ok_X4 1 (by decide) q353 (Or.inr ⟨rfl, hnm, rfl⟩) rfl rfl (Nat.le_of_ble_eq_true rfl) dX4_init_20 (fun H i hat4 hO => ?_)
  have hS := hO.S (k := i) hS (Nat.le_refl _)
  have hat_l := hat_l.kept (hO.2 _ (by show ((tx + 1) : Nat) ≠ tx; omega))
  have hat3 := hat3.kept (hO.2 _ (by show ((tx + 2) : Nat) ≠ tx; omega))
  have hz3 := hO.1.trans hz3
  refine lv_aload_n hx hb dX4_init_23 rfl (lv_at hl 0 rfl) ?_
  refine lv_bipush (v := (nI 9)) hx hb dX4_init_24 (by decide) ?_
  refine x_newa hx hb hts hK 0 (ty := .int) rfl rfl q391 (n := 9) (by decide) (by decide) hS (by show 0 + 1 + 1 + 1 ≤ 4; omega) (by show 0 + 3 + 4 + 9 ≤ 25; omega) (a0 := (9, .inl (fun _ => 0))) rfl dX4_init_26 hz3 (fun H hat5 hz5 hF hS => ?_)
  have hat4 := hat4.kept (hF.2 _ hat4.lt (fun z => z))
  have hat_l := hat_l.kept (hF.2 _ hat_l.lt (fun z => z))
  have hat3 := hat3.kept (hF.2 _ hat3.lt (fun z => z))
  have hz5 : H.size = tx + 4 := hz5
  refine x_put hx hb hts hown hK hat4 rfl ok_X4 2 (by decide) q356 (Or.inr ⟨rfl, hnm, rfl⟩) rfl rfl (Nat.le_of_ble_eq_true rfl) dX4_init_28 (fun H i hat6 hO => ?_)
  have hS := hO.S (k := i) hS (Nat.le_refl _)
  have hat_l := hat_l.kept (hO.2 _ (by show ((tx + 1) : Nat) ≠ tx; omega))
  have hat3 := hat3.kept (hO.2 _ (by show ((tx + 2) : Nat) ≠ tx; omega))
  have hat5 := hat5.kept (hO.2 _ (by show ((tx + 3) : Nat) ≠ tx; omega))
  have hz5 := hO.1.trans hz5
  refine lv_aload_n hx hb dX4_init_31 rfl (lv_at hl 0 rfl) ?_
  refine lv_bipush (v := (nI 9)) hx hb dX4_init_32 (by decide) ?_
  refine x_newa hx hb hts hK 0 (ty := .int) rfl rfl q391 (n := 9) (by decide) (by decide) hS (by show 0 + 1 + 1 + 1 + 1 ≤ 4; omega) (by show 0 + 3 + 4 + 9 + 9 ≤ 25; omega) (a0 := (9, .inl (fun _ => 0))) rfl dX4_init_34 hz5 (fun H hat7 hz7 hF hS => ?_)
  have hat6 := hat6.kept (hF.2 _ hat6.lt (fun z => z))
  have hat_l := hat_l.kept (hF.2 _ hat_l.lt (fun z => z))
  have hat3 := hat3.kept (hF.2 _ hat3.lt (fun z => z))
  have hat5 := hat5.kept (hF.2 _ hat5.lt (fun z => z))
  have hz7 : H.size = tx + 5 := hz7
  refine x_put hx hb hts hown hK hat6 rfl ok_X4 3 (by decide) q360 (Or.inr ⟨rfl, hnm, rfl⟩) rfl rfl (Nat.le_of_ble_eq_true rfl) dX4_init_36 (fun H i hat8 hO => ?_)
  have hS := hO.S (k := i) hS (Nat.le_refl _)
  have hat_l := hat_l.kept (hO.2 _ (by show ((tx + 1) : Nat) ≠ tx; omega))
  have hat3 := hat3.kept (hO.2 _ (by show ((tx + 2) : Nat) ≠ tx; omega))
  have hat5 := hat5.kept (hO.2 _ (by show ((tx + 3) : Nat) ≠ tx; omega))
  have hat7 := hat7.kept (hO.2 _ (by show ((tx + 4) : Nat) ≠ tx; omega))
  have hz7 := hO.1.trans hz7
  refine W.widen (k := 4) (n := 25) (by show 0 + 1 + 1 + 1 + 1 ≤ 4; omega) (by show 0 + 3 + 4 + 9 + 9 ≤ 25; omega) ?_
  refine hend _ _ _ _ hS dX4_init_39 ?_
  have hg : gP D dA tx [] (fun _ _ => 0) (fun _ _ => 0) (fun k _ => if k = 1 then some ed else none) H := gP_nil
  have hg : gP D dA tx [.inr (4, [.inl 1, .inl 2, .inl 3, .inl 4, .inr 0, .inr 0, .inr 0, .inr 0])] (fun _ _ => 0) (fun _ _ => 0) (fun k _ => if k = 1 then some ed else none) H := gP_snoc (ds := []) (d := .inr (4, [.inl 1, .inl 2, .inl 3, .inl 4, .inr 0, .inr 0, .inr 0, .inr 0])) hg hat8
  have hg : gP D dA tx [.inr (4, [.inl 1, .inl 2, .inl 3, .inl 4, .inr 0, .inr 0, .inr 0, .inr 0]), .inr (17, [.inr 0, .inr 1, .inr 0])] (fun _ _ => 0) (fun _ _ => 0) (fun k _ => if k = 1 then some ed else none) H := gP_snoc (ds := [.inr (4, [.inl 1, .inl 2, .inl 3, .inl 4, .inr 0, .inr 0, .inr 0, .inr 0])]) (d := .inr (17, [.inr 0, .inr 1, .inr 0])) hg hat_l
  have hg : gP D dA tx [.inr (4, [.inl 1, .inl 2, .inl 3, .inl 4, .inr 0, .inr 0, .inr 0, .inr 0]), .inr (17, [.inr 0, .inr 1, .inr 0]), .inl (8, 4)] (fun _ _ => 0) (fun _ _ => 0) (fun k _ => if k = 1 then some ed else none) H := gP_snoc (ds := [.inr (4, [.inl 1, .inl 2, .inl 3, .inl 4, .inr 0, .inr 0, .inr 0, .inr 0]), .inr (17, [.inr 0, .inr 1, .inr 0])]) (d := .inl (8, 4)) hg hat3
  have hg : gP D dA tx [.inr (4, [.inl 1, .inl 2, .inl 3, .inl 4, .inr 0, .inr 0, .inr 0, .inr 0]), .inr (17, [.inr 0, .inr 1, .inr 0]), .inl (8, 4), .inl (0, 9)] (fun _ _ => 0) (fun _ _ => 0) (fun k _ => if k = 1 then some ed else none) H := gP_snoc (ds := [.inr (4, [.inl 1, .inl 2, .inl 3, .inl 4, .inr 0, .inr 0, .inr 0, .inr 0]), .inr (17, [.inr 0, .inr 1, .inr 0]), .inl (8, 4)]) (d := .inl (0, 9)) hg hat5
  have hg : gP D dA tx [.inr (4, [.inl 1, .inl 2, .inl 3, .inl 4, .inr 0, .inr 0, .inr 0, .inr 0]), .inr (17, [.inr 0, .inr 1, .inr 0]), .inl (8, 4), .inl (0, 9), .inl (0, 9)] (fun _ _ => 0) (fun _ _ => 0) (fun k _ => if k = 1 then some ed else none) H := gP_snoc (ds := [.inr (4, [.inl 1, .inl 2, .inl 3, .inl 4, .inr 0, .inr 0, .inr 0, .inr 0]), .inr (17, [.inr 0, .inr 1, .inr 0]), .inl (8, 4), .inl (0, 9)]) (d := .inl (0, 9)) hg hat7
  exact ⟨rfl, hg, hz7⟩
theorem cw_X4_35 {R : Room} {s : State} {args : Array Value} (hts : ∀ w ∈ lw_all, w.before args s = true) {f w k j : Nat} (hR : f + 1 ≤ R.frames ∧ 8 + (2 + 11) + w ≤ R.locals) : CallW R s args RX4 RJ5 35 yJ5_get cJ5_get 2 (some (.object "java/lang/Object")) (ws_ yJ5_get cJ5_get 2 (some (.object "java/lang/Object"))) (mkRmC f w k j) k j 1 := cwV 1 hts (lw_V q1007 q508 q509 q118 q510) rfl rfl rfl (by decide +kernel) hR
theorem cw_X4_45 {R : Room} {s : State} {args : Array Value} (hts : ∀ w ∈ lw_all, w.before args s = true) {f w k j : Nat} (hR : f + 1 ≤ R.frames ∧ 8 + (3 + 11) + w ≤ R.locals) : CallW R s args RX4 RJ8 45 yJ8_equals cJ8_equals 3 (some .boolean) (ws_ yJ8_equals cJ8_equals 3 (some .boolean)) (mkRmC f w k j) k j 1 := cwV 1 hts (lw_V q1009 q1010 q1011 q130 q1012) rfl rfl rfl (by decide +kernel) hR
set_option maxHeartbeats 4000000 in
theorem met_X4_has (l : Launch) (D : va_G) (dA : Nat → ClassId) {H0 : Heap} {tx al ea n cap sa x : Nat} {mc : Int32} {g : Nat → Option Nat} {fs : List Value} {nms : Nat → Nat} {lu : List Nat} {B B2 : Nat → Prop} (ht : va_at D CL (tx, .inr (4, .ref al :: fs)) H0) (hal : va_at D CL (al, .inr (17, [.int mc, .ref ea, .int (nI n)])) H0) (hea : va_at D CL (ea, .inl (dA 10, cap, .inr (.inr (.inr (.inr g))))) H0) (hnc : n ≤ cap) (hc9 : cap < 2 ^ 31) (hel : ∀ k, k < n → ∃ a nm vs, g k = some a ∧ slN D dA H0 B a (nms k) nm vs ∧ nm ≠ sa) (hsa : strA D dA H0 B2 sa lu) (hlu : ltP lu) (hx7 : wdN lu = x) (hc : stH D H0 0 (.int (nI 1))) : Ctr l D dA yX4_has cX4_has 3 (some .boolean) (mkRm 3 110) [.ref tx, .ref sa] H0 A0 (QI (fun r H1 => H0 = H1 ∧ r = nI (bN (hasF nms x n)))) := by
  obtain ⟨vu, hu1, hu2, ub1, ub2, hs2, hv2, hll2, hlx2⟩ := hsa
  refine ctr_Z (by decide) (Nat.le_of_ble_eq_true rfl) ?_
  intro p e s m args below meth c ls QQ locs hx hb hml hown hts hK hend hS hl
  have hl : lv_has ls 3 [(0, .ref tx), (1, .ref sa)] := hl
  refine lv_iconst (v := (nI 0)) hx hb dX4_has_0 (by decide) ?_
  refine lv_istore_n (lv' := [(2, .int (nI 0)), (0, .ref tx), (1, .ref sa)]) hx hb dX4_has_1 rfl hl (by decide) rfl (fun ls hl => ?_)
  have loop1 : ∀ (fu1 : Nat) (k : Nat) (locs : List Loc) (ls : Array Slot), n - k < fu1 → (k ≤ n) → (hasF nms x k = false) → va_S A0 H0 H0 locs → lv_has ls 3 [(2, .int (nI k)), (0, .ref tx), (1, .ref sa)] → W p l e (mkRm 3 110) s m args below meth c H0 locs 0 0 QQ (F0 m 2 ls []) := by
    intro fu1
    induction fu1 with
    | zero => intro k locs ls hfu; exact absurd hfu (Nat.not_lt_zero _)
    | succ fu1 ih1 =>
      intro k locs ls hfu hkn hno hS hl
      refine lv_iload_n hx hb dX4_has_2 rfl (lv_at hl 0 rfl) ?_
      refine lv_aload_n hx hb dX4_has_3 rfl (lv_at hl 1 rfl) ?_
      refine x_get hx hb hts hown hK ht rfl ok_X4 0 (by decide) q350 rfl dX4_has_4 ?_
      refine c_VI hx hb hml hts hown hK hl.1 hS ⟨Nat.le_refl _, Nat.le_refl _⟩ (met_J5_size l D dA hal) (cw_X4_31 hts ⟨Nat.le_of_ble_eq_true rfl, Nat.le_of_ble_eq_true rfl⟩) hal rfl rfl rfl rfl (Nat.le_of_ble_eq_true rfl) dX4_has_7 (fun _ h => h.elim) (fun r H1 locs hq hF hS => ?_)
      obtain ⟨rfl, rfl⟩ := hq
      refine n_icmp_ge (tgt := 42) hx hb dX4_has_10 (by decide) (by omega) (by omega) (fun c10 => ?_) (fun c10 => ?_)
      · refine lv_iconst (v := (nI 0)) hx hb dX4_has_42 (by decide) ?_
        refine hend _ _ _ _ _ hS dX4_has_43 (by decide) ?_
        obtain rfl : k = n := by omega
        exact ⟨_, rfl, rfl, (congrArg nI (bN_f hno)).symm⟩
      obtain ⟨ak, nmk, vsk, hgk, ⟨hak, ltk, hstk, hlpk, hwdk⟩, hnk⟩ := hel k (by omega)
      obtain ⟨vk, hk1, hk2, kb1, kb2, hs1, hv1, hll1, hlx1⟩ := hstk
      refine lv_aload_n hx hb dX4_has_13 rfl (lv_at hl 1 rfl) ?_
      refine x_get hx hb hts hown hK ht rfl ok_X4 0 (by decide) q350 rfl dX4_has_14 ?_
      refine lv_iload_n hx hb dX4_has_17 rfl (lv_at hl 0 rfl) ?_
      refine c_VR hx hb hml hts hown hK hl.1 hS ⟨Nat.le_refl _, Nat.le_refl _⟩ (met_J5_get l D dA hal hea (i := k) (by omega) hnc hc9 hgk) (cw_X4_35 hts ⟨Nat.le_of_ble_eq_true rfl, Nat.le_of_ble_eq_true rfl⟩) hal rfl rfl rfl rfl (Nat.le_of_ble_eq_true rfl) dX4_has_18 (fun _ h => h.elim) (fun r H1 locs hq hF hS => ?_)
      obtain ⟨rfl, rfl⟩ := hq
      refine x_cast hx hb hts hown hK hak rfl q1008 dX4_has_21 ?_
      refine x_get hx hb hts hown hK hak rfl ok_X19 0 (by decide) q1026 rfl dX4_has_24 ?_
      refine lv_aload_n hx hb dX4_has_27 rfl (lv_at hl 2 rfl) ?_
      refine c_VI hx hb hml hts hown hK hl.1 hS ⟨Nat.le_refl _, Nat.le_refl _⟩ (met_J8_equals l D dA hs1 hv1 hll1 hlx1 hc hs2 hv2 hll2 hlx2 hnk) (cw_X4_45 hts ⟨Nat.le_of_ble_eq_true rfl, Nat.le_of_ble_eq_true rfl⟩) hs1 rfl rfl rfl rfl (Nat.le_of_ble_eq_true rfl) dX4_has_28 (fun _ h => h.elim) (fun r H1 locs hq hF hS => ?_)
      obtain ⟨rfl, rfl⟩ := hq
      have hbe := bN_lt (decide (ltk = lu))
      refine n_if_eq (tgt := 36) hx hb dX4_has_31 (by decide) (by omega) (fun c31 => ?_) (fun c31 => ?_)
      · refine lv_iinc (v := (nI (k + 1))) (lv' := [(2, .int (nI (k + 1))), (0, .ref tx), (1, .ref sa)]) hx hb dX4_has_36 hl (k := 0) rfl (nI_add _ _) (by decide) rfl (fun ls hl => ?_)
        refine lv_goto (tgt := 2) hx hb dX4_has_39 (by decide) ?_
        exact ih1 (k + 1) _ _ (by omega) (by omega) (hasF_no hno (fun z => absurd (wdN_inj _ _ _ (Nat.le_refl _) hlpk hlu (hwdk.trans (z.trans hx7.symm))) (bN_z.mp (by omega)))) hS (lv_sub hl [0, 1, 2] rfl)
      refine lv_iconst (v := (nI 1)) hx hb dX4_has_34 (by decide) ?_
      refine hend _ _ _ _ _ hS dX4_has_35 (by decide) ?_
      exact ⟨_, rfl, rfl, (congrArg nI (bN_t (hasF_hit (k := k) (by have e : ltk = lu := bN_p.mp (by omega); rw [← hwdk, e, hx7]) _ (by omega)))).symm⟩
  exact loop1 ((n - 0) + 1) 0 _ _ (Nat.lt_succ_self _) (Nat.zero_le _) rfl hS (lv_sub hl [0, 1, 2] rfl)
set_option maxHeartbeats 4000000 in
theorem met_X4_isWhole (l : Launch) (D : va_G) (dA : Nat → ClassId) {H0 : Heap} {tx al ls cd cb n nc : Nat} {mc r1 r2 r3 : Int32} {ev : Value} {gc : Nat → Int32} {bs : Nat → Nat} (ht : va_at D CL (tx, .inr (4, [.ref al, .ref ls, .ref cd, .ref cb, .int (nI nc), .int r1, .int r2, .int r3])) H0) (hal : va_at D CL (al, .inr (17, [.int mc, ev, .int (nI n)])) H0) (hcb : va_at D CL (cb, .inl (dA 0, 9, .inl gc)) H0) (hnc : nc ≤ 9) (hn9 : n ≤ 9) (hgc : ∀ i, i < nc → gc i = nI (bs i) ∧ bs i < 16777216) : Ctr l D dA yX4_isWhole cX4_isWhole 2 (some .boolean) (mkRm 1 30) [.ref tx] H0 A0 (QI (fun r H1 => H0 = H1 ∧ r = nI (bN (wlF bs n nc)))) := by
  refine ctr_Z (by decide) (Nat.le_of_ble_eq_true rfl) ?_
  intro p e s m args below meth c ls QQ locs hx hb hml hown hts hK hend hS hl
  have hl : lv_has ls 2 [(0, .ref tx)] := hl
  refine lv_iconst (v := (nI 0)) hx hb dX4_isWhole_0 (by decide) ?_
  refine lv_istore_n (lv' := [(1, .int (nI 0)), (0, .ref tx)]) hx hb dX4_isWhole_1 rfl hl (by decide) rfl (fun ls hl => ?_)
  have loop1 : ∀ (fu1 : Nat) (k : Nat) (locs : List Loc) (ls : Array Slot), nc - k < fu1 → (k ≤ nc) → (wlF bs n k = true) → va_S A0 H0 H0 locs → lv_has ls 2 [(1, .int (nI k)), (0, .ref tx)] → W p l e (mkRm 1 30) s m args below meth c H0 locs 0 0 QQ (F0 m 2 ls []) := by
    intro fu1
    induction fu1 with
    | zero => intro k locs ls hfu; exact absurd hfu (Nat.not_lt_zero _)
    | succ fu1 ih1 =>
      intro k locs ls hfu hkn hall hS hl
      refine lv_iload_n hx hb dX4_isWhole_2 rfl (lv_at hl 0 rfl) ?_
      refine lv_aload_n hx hb dX4_isWhole_3 rfl (lv_at hl 1 rfl) ?_
      refine x_get hx hb hts hown hK ht rfl ok_X4 4 (by decide) q362 rfl dX4_isWhole_4 ?_
      refine n_icmp_ge (tgt := 34) hx hb dX4_isWhole_7 (by decide) (by omega) (by omega) (fun c7 => ?_) (fun c7 => ?_)
      · refine lv_iconst (v := (nI 1)) hx hb dX4_isWhole_34 (by decide) ?_
        refine hend _ _ _ _ _ hS dX4_isWhole_35 (by decide) ?_
        obtain rfl : k = nc := by omega
        exact ⟨_, rfl, rfl, (congrArg nI (bN_t hall)).symm⟩
      refine lv_aload_n hx hb dX4_isWhole_10 rfl (lv_at hl 1 rfl) ?_
      refine x_get hx hb hts hown hK ht rfl ok_X4 3 (by decide) q360 rfl dX4_isWhole_11 ?_
      refine lv_iload_n hx hb dX4_isWhole_14 rfl (lv_at hl 0 rfl) ?_
      obtain ⟨hgk, hbk⟩ := hgc k (by omega)
      refine xn_iald hx hb hK hcb (i := k) (by omega) (by omega) dX4_isWhole_15 ?_
      refine iv (y := nI (bs k)) hgk ?_
      refine lv_aload_n hx hb dX4_isWhole_16 rfl (lv_at hl 1 rfl) ?_
      refine x_get hx hb hts hown hK ht rfl ok_X4 0 (by decide) q350 rfl dX4_isWhole_17 ?_
      refine c_VI hx hb hml hts hown hK hl.1 hS ⟨Nat.le_refl _, Nat.le_refl _⟩ (met_J5_size l D dA hal) (cw_X4_31 hts ⟨Nat.le_of_ble_eq_true rfl, Nat.le_of_ble_eq_true rfl⟩) hal rfl rfl rfl rfl (Nat.le_of_ble_eq_true rfl) dX4_isWhole_20 (fun _ h => h.elim) (fun r H1 locs hq hF hS => ?_)
      obtain ⟨rfl, rfl⟩ := hq
      refine n_icmp_lt (tgt := 28) hx hb dX4_isWhole_23 (by decide) (by omega) (by omega) (fun c23 => ?_) (fun c23 => ?_)
      · refine lv_iinc (v := (nI (k + 1))) (lv' := [(1, .int (nI (k + 1))), (0, .ref tx)]) hx hb dX4_isWhole_28 hl (k := 0) rfl (nI_add _ _) (by decide) rfl (fun ls hl => ?_)
        refine lv_goto (tgt := 2) hx hb dX4_isWhole_31 (by decide) ?_
        exact ih1 (k + 1) _ _ (by omega) (by omega) (wlF_s hall (by omega)) hS (lv_sub hl [0, 1] rfl)
      refine lv_iconst (v := (nI 0)) hx hb dX4_isWhole_26 (by decide) ?_
      refine hend _ _ _ _ _ hS dX4_isWhole_27 (by decide) ?_
      exact ⟨_, rfl, rfl, (congrArg nI (bN_f (wlF_no (k := k) (by omega) _ (by omega)))).symm⟩
  exact loop1 ((nc - 0) + 1) 0 _ _ (Nat.lt_succ_self _) (Nat.zero_le _) rfl hS (lv_sub hl [0, 1] rfl)
