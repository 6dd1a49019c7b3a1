def PWt (k j : Nat) : Bool := (k == 9 && j == 5) || (k == 9 && j == 6)
theorem rmC_t {pl : Nat → Nat} {a b t : Nat} (h : a = b) : rmP pl a b t = (t, some (2, pl t)) := if_pos h
theorem rmC_f {pl : Nat → Nat} {a b t : Nat} (h : ¬ a = b) : rmP pl a b t = goP pl t none := if_neg h
def tkC (F : Nat → Nat × Nat × Nat × Nat) (y t : Nat) : Nat × Fo := if (F t).1 = y then goP (plC F) t none else (t, some (1, plC F t))
theorem tkC_t {F : Nat → Nat × Nat × Nat × Nat} {y t : Nat} (h : (F t).1 = y) : tkC F y t = goP (plC F) t none := if_pos h
theorem tkC_f {F : Nat → Nat × Nat × Nat × Nat} {y t : Nat} (h : ¬ (F t).1 = y) : tkC F y t = (t, some (1, plC F t)) := if_neg h
theorem go_ne {pl : Nat → Nat} {t : Nat} (h : (goP pl t none).2 = none) : t ≠ 400 := fun e => by rw [goC_4 e] at h; cases h
/-- the worst so far: number and token -/
def woC (wo : Fo) (n q : Nat) : Fo := match wo with
  | none => some (n, q)
  | some (a, b) => if b < q ∨ (q = b ∧ a ≤ n) then some (a, b) else some (n, q)
def woK (V : GI) : Fo → Prop
  | none => V 9 5 = nI 0
  | some (a, b) => V 9 5 = nI a ∧ V 9 6 = nI b ∧ 0 < a ∧ a < 100 ∧ b < 2001
set_option maxHeartbeats 4000000 in
theorem met_X3_begins (l : Launch) (D : va_G) (dA : Nat → ClassId) {o : Nat} {V : GI} {L : GL} {Rf : GR} {H0 : Heap} (hG : gP D dA o dS V L Rf H0) {F : Nat → Nat × Nat × Nat × Nat} {m0 : Nat} (hm : tcM V F m0) (hm9 : m0 ≤ 2001) {t : Nat} (ht : V 9 3 = nI t) (htm : t < m0) (ht4 : t ≤ 400) (a b : Nat) (ha9 : a < 1000) (hb9 : b < 1000) : CtrX l D dA yX3_begins cX3_begins 3 none (mkRm 4 120) [.ref (o + 9), .int (nI a), .int (nI b)] H0 (AS o) (QV (okQ D dA o V L Rf (rmP (plC F) a b t))) (fun q H1 => okX D dA o V L Rf (rmP (plC F) a b t) q H1) := by
  refine ctrX_V (by decide) (Nat.le_of_ble_eq_true rfl) ?_
  intro p e s m args below meth c ls QQ locs hx hb hml hown hts hK hend hthr hS hl
  have hl : lv_has ls 3 [(0, .ref (o + 9)), (1, .int (nI a)), (2, .int (nI b))] := hl
  refine lv_iload_n hx hb dX3_begins_0 rfl (lv_at hl 1 rfl) ?_
  refine lv_iload_n hx hb dX3_begins_1 rfl (lv_at hl 2 rfl) ?_
  refine n_icmp_ne (tgt := 11) hx hb dX3_begins_2 (by decide) (by omega) (by omega) (fun c2 => ?_) (fun c2 => ?_)
  · refine lv_aload_n hx hb dX3_begins_11 rfl (lv_at hl 0 rfl) ?_
    refine c_VXV hx hb hml hts hown hK hl.1 hS ⟨Nat.le_refl _, Nat.le_refl _⟩ (met_X3_pass l D dA hG hm hm9 ht htm ht4) (cw_X3_59 hts ⟨Nat.le_of_ble_eq_true rfl, Nat.le_of_ble_eq_true rfl⟩) (hG 9 _ rfl) rfl rfl rfl rfl (Nat.le_of_ble_eq_true rfl) dX3_begins_12 (fun _ h => h) (fun q H1 locs hq hF hS => hthr _ _ _ _ _ _ hS (okX_flt hq) (okX_tr hq Eqx.rf (by rw [rmC_f (by omega)]))) (fun H1 locs hq hF hS => ?_)
    obtain ⟨V1, hG, hE1, ho1, ht1⟩ := hq
    generalize hHe1 : H1 = H at hG hS ⊢
    clear hHe1 hF
    have hn1 := go_ne ho1
    have hu1 : V1 9 3 = nI (t + 1) := by have e := ht1; rw [goC_n hn1] at e; exact e
    refine hend _ _ _ _ hS dX3_begins_15 ?_
    exact ⟨rfl, _, hG, hE1, by rw [rmC_f (by omega)]; exact ho1, by rw [rmC_f (by omega)]; exact ht1⟩
  refine lv_aload_n hx hb dX3_begins_5 rfl (lv_at hl 0 rfl) ?_
  refine lv_iconst (v := (nI 2)) hx hb dX3_begins_6 (by decide) ?_
  refine c_VR hx hb hml hts hown hK hl.1 hS ⟨Nat.le_refl _, Nat.le_refl _⟩ (met_X3_wrong l D dA hG hm hm9 ht htm ht4 (nI 2)) (cw_X3_48 hts ⟨Nat.le_of_ble_eq_true rfl, Nat.le_of_ble_eq_true rfl⟩) (hG 9 _ rfl) rfl rfl rfl rfl (Nat.le_of_ble_eq_true rfl) dX3_begins_7 (fun _ h => h) (fun r H1 locs hq hF hS => ?_)
  obtain ⟨rfl, V2, hG, hE2, h6_2, h7_2⟩ := hq
  generalize hHe2 : H1 = H at hG hS ⊢
  clear hHe2 hF
  refine xq_athrow hx hb dX3_begins_10 ?_
  exact hthr _ _ _ _ _ _ hS ⟨_, hG 1 _ rfl⟩ ⟨rfl, _, _, hG, (hE2.mono PFt_PPx), fun _ _ _ => rfl, _, _, (by rw [rmC_t (by omega)]), h6_2, h7_2⟩
theorem cw_X3_65 {R : Room} {s : State} {args : Array Value} (hts : ∀ w ∈ lw_all, w.before args s = true) {f w k j : Nat} (hR : f + 1 ≤ R.frames ∧ 8 + (1 + 11) + w ≤ R.locals) : CallW R s args RX3 RX3 65 yX3_sort cX3_sort 1 (some .int) (ws_ yX3_sort cX3_sort 1 (some .int)) (mkRmC f w k j) k j 0 := cwV 0 hts (lw_V q698 q700 qs8 q114 q701) rfl rfl rfl (by decide +kernel) hR
set_option maxHeartbeats 4000000 in
theorem met_X3_take (l : Launch) (D : va_G) (dA : Nat → ClassId) {o : Nat} {V : GI} {L : GL} {Rf : GR} {H0 : Heap} (hG : gP D dA o dS V L Rf H0) {F : Nat → Nat × Nat × Nat × Nat} {m0 : Nat} (hm : tcM V F m0) (hm9 : m0 ≤ 2001) (hbF : bdF F m0) {t : Nat} (ht : V 9 3 = nI t) (htm : t < m0) (ht4 : t ≤ 400) (y : Nat) (hy : y < 5) : CtrX l D dA yX3_take cX3_take 2 (some .int) (mkRm 4 120) [.ref (o + 9), .int (nI y)] H0 (AS o) (QI (fun r H1 => r = nI t ∧ okQ D dA o V L Rf (tkC F y t) H1)) (fun q H1 => okX D dA o V L Rf (tkC F y t) q H1) := by
  have hFt := hbF t htm
  refine ctrX_I (by decide) (Nat.le_of_ble_eq_true rfl) ?_
  intro p e s m args below meth c ls QQ locs hx hb hml hown hts hK hend hthr hS hl
  have hl : lv_has ls 2 [(0, .ref (o + 9)), (1, .int (nI y))] := hl
  refine lv_aload_n hx hb dX3_take_0 rfl (lv_at hl 0 rfl) ?_
  refine c_VXI hx hb hml hts hown hK hl.1 hS ⟨Nat.le_refl _, Nat.le_refl _⟩ (met_X3_sort l D dA hG hm hm9 hbF ht htm ht4) (cw_X3_65 hts ⟨Nat.le_of_ble_eq_true rfl, Nat.le_of_ble_eq_true rfl⟩) (hG 9 _ rfl) rfl rfl rfl rfl (Nat.le_of_ble_eq_true rfl) dX3_take_1 (fun _ h => h) (fun q H1 locs hq hF hS => hthr _ _ _ _ _ _ hS (okX_flt hq.1) (okX_tr hq.1 Eqx.rf (by rw [tkC_f (fun z => by have := hq.2; omega)]))) (fun r H1 locs hq hF hS => ?_)
  obtain ⟨rfl, rfl, hn5⟩ := hq
  refine lv_iload_n hx hb dX3_take_4 rfl (lv_at hl 1 rfl) ?_
  refine n_icmp_eq (tgt := 14) hx hb dX3_take_5 (by decide) (by omega) (by omega) (fun c5 => ?_) (fun c5 => ?_)
  · refine lv_aload_n hx hb dX3_take_14 rfl (lv_at hl 0 rfl) ?_
    refine c_VXV hx hb hml hts hown hK hl.1 hS ⟨Nat.le_refl _, Nat.le_refl _⟩ (met_X3_pass l D dA hG hm hm9 ht htm ht4) (cw_X3_59 hts ⟨Nat.le_of_ble_eq_true rfl, Nat.le_of_ble_eq_true rfl⟩) (hG 9 _ rfl) rfl rfl rfl rfl (Nat.le_of_ble_eq_true rfl) dX3_take_15 (fun _ h => h) (fun q H1 locs hq hF hS => hthr _ _ _ _ _ _ hS (okX_flt hq) (okX_tr hq Eqx.rf (by rw [tkC_t (by omega)]))) (fun H1 locs hq hF hS => ?_)
    obtain ⟨V1, hG, hE1, ho1, ht1⟩ := hq
    generalize hHe1 : H1 = H at hG hS ⊢
    clear hHe1 hF
    have hn1 := go_ne ho1
    have hu1 : V1 9 3 = nI (t + 1) := by have e := ht1; rw [goC_n hn1] at e; exact e
    refine lv_aload_n hx hb dX3_take_18 rfl (lv_at hl 0 rfl) ?_
    refine g_get (v := .int (nI (t + 1))) hx hb hts hown hK hG 9 rfl rfl ok_X3 3 (by decide) q297 rfl (congrArg Value.int hu1) dX3_take_19 ?_
    refine lv_iconst (v := (nI 1)) hx hb dX3_take_22 (by decide) ?_
    refine n_isub hx hb dX3_take_23 (by omega) ?_
    refine hend _ _ _ _ _ hS dX3_take_24 ?_
    exact ⟨_, rfl, congrArg nI (by omega), _, hG, hE1, by rw [tkC_t (by omega)]; exact ho1, by rw [tkC_t (by omega)]; exact ht1⟩
  refine lv_aload_n hx hb dX3_take_8 rfl (lv_at hl 0 rfl) ?_
  refine lv_iconst (v := (nI 1)) hx hb dX3_take_9 (by decide) ?_
  refine c_VR hx hb hml hts hown hK hl.1 hS ⟨Nat.le_refl _, Nat.le_refl _⟩ (met_X3_wrong l D dA hG hm hm9 ht htm ht4 (nI 1)) (cw_X3_48 hts ⟨Nat.le_of_ble_eq_true rfl, Nat.le_of_ble_eq_true rfl⟩) (hG 9 _ rfl) rfl rfl rfl rfl (Nat.le_of_ble_eq_true rfl) dX3_take_10 (fun _ h => h) (fun r H1 locs hq hF hS => ?_)
  obtain ⟨rfl, V2, hG, hE2, h6_2, h7_2⟩ := hq
  generalize hHe2 : H1 = H at hG hS ⊢
  clear hHe2 hF
  refine xq_athrow hx hb dX3_take_13 ?_
  exact hthr _ _ _ _ _ _ hS ⟨_, hG 1 _ rfl⟩ ⟨rfl, _, _, hG, (hE2.mono PFt_PPx), fun _ _ _ => rfl, _, _, (by rw [tkC_f (by omega)]), h6_2, h7_2⟩
set_option maxHeartbeats 4000000 in
theorem met_X3_tell (l : Launch) (D : va_G) (dA : Nat → ClassId) {o : Nat} {V : GI} {L : GL} {Rf : GR} {H0 : Heap} (hG : gP D dA o dS V L Rf H0) {wo : Fo} (hwo : woK V wo) (n q : Nat) (hn9 : 0 < n) (hn8 : n < 100) (hq9 : q < 2001) : Ctr l D dA yX3_tell cX3_tell 3 none (mkRm 0 0) [.ref (o + 9), .int (nI n), .int (nI q)] H0 (AS o) (QV (fun H1 => ∃ V1, gP D dA o dS V1 L Rf H1 ∧ Eqx PWt V V1 ∧ woK V1 (woC wo n q))) := by
  refine ctr_V (by decide) (Nat.le_of_ble_eq_true rfl) ?_
  intro p e s m args below meth c ls QQ locs hx hb hml hown hts hK hend hS hl
  have hl : lv_has ls 3 [(0, .ref (o + 9)), (1, .int (nI n)), (2, .int (nI q))] := hl
  rcases wo with _ | ⟨a, b⟩
  · refine lv_aload_n hx hb dX3_tell_0 rfl (lv_at hl 0 rfl) ?_
    refine g_get (v := .int (nI 0)) hx hb hts hown hK hG 9 rfl rfl ok_X3 5 (by decide) q299 rfl (congrArg Value.int hwo) dX3_tell_1 ?_
    refine n_if_eq (tgt := 32) hx hb dX3_tell_4 (by decide) (by decide) (fun _ => ?_) (fun z => absurd z (by decide))
    refine lv_aload_n hx hb dX3_tell_32 rfl (lv_at hl 0 rfl) ?_
    refine lv_iload_n hx hb dX3_tell_33 rfl (lv_at hl 1 rfl) ?_
    refine g_put hx hb hts hown hK hG hS 9 (AS_in 9 (by decide)) rfl rfl ok_X3 5 (by decide) q299 rfl rfl rfl rfl dX3_tell_34 (fun H locs hG hO hS => ?_)
    refine lv_aload_n hx hb dX3_tell_37 rfl (lv_at hl 0 rfl) ?_
    refine lv_iload_n hx hb dX3_tell_38 rfl (lv_at hl 2 rfl) ?_
    refine g_put hx hb hts hown hK hG hS 9 (AS_in 9 (by decide)) rfl rfl ok_X3 6 (by decide) q300 rfl rfl rfl rfl dX3_tell_39 (fun H locs hG hO hS => ?_)
    refine hend _ _ _ _ hS dX3_tell_42 ?_
    exact ⟨rfl, _, hG, ((Eqx.rf.up rfl).up rfl), rfl, rfl, by omega, by omega, by omega⟩
  have hwo0 := hwo
  obtain ⟨hw1, hw2, hw3, hw4, hw5⟩ := hwo0
  refine lv_aload_n hx hb dX3_tell_0 rfl (lv_at hl 0 rfl) ?_
  refine g_get (v := .int (nI a)) hx hb hts hown hK hG 9 rfl rfl ok_X3 5 (by decide) q299 rfl (congrArg Value.int hw1) dX3_tell_1 ?_
  refine n_if_eq (tgt := 32) hx hb dX3_tell_4 (by decide) (by omega) (fun c4 => ?_) (fun c4 => ?_)
  · refine lv_aload_n hx hb dX3_tell_32 rfl (lv_at hl 0 rfl) ?_
    refine lv_iload_n hx hb dX3_tell_33 rfl (lv_at hl 1 rfl) ?_
    refine g_put hx hb hts hown hK hG hS 9 (AS_in 9 (by decide)) rfl rfl ok_X3 5 (by decide) q299 rfl rfl rfl rfl dX3_tell_34 (fun H locs hG hO hS => ?_)
    refine lv_aload_n hx hb dX3_tell_37 rfl (lv_at hl 0 rfl) ?_
    refine lv_iload_n hx hb dX3_tell_38 rfl (lv_at hl 2 rfl) ?_
    refine g_put hx hb hts hown hK hG hS 9 (AS_in 9 (by decide)) rfl rfl ok_X3 6 (by decide) q300 rfl rfl rfl rfl dX3_tell_39 (fun H locs hG hO hS => ?_)
    refine hend _ _ _ _ hS dX3_tell_42 ?_
    refine ⟨rfl, _, hG, ((Eqx.rf.up rfl).up rfl), ?_⟩
    show woK _ (if b < q ∨ (q = b ∧ a ≤ n) then some (a, b) else some (n, q))
    rw [if_neg (by omega)]
    exact ⟨rfl, rfl, by omega, by omega, by omega⟩
  refine lv_iload_n hx hb dX3_tell_7 rfl (lv_at hl 2 rfl) ?_
  refine lv_aload_n hx hb dX3_tell_8 rfl (lv_at hl 0 rfl) ?_
  refine g_get (v := .int (nI b)) hx hb hts hown hK hG 9 rfl rfl ok_X3 6 (by decide) q300 rfl (congrArg Value.int hw2) dX3_tell_9 ?_
  refine n_icmp_gt (tgt := 31) hx hb dX3_tell_12 (by decide) (by omega) (by omega) (fun c12 => ?_) (fun c12 => ?_)
  · refine hend _ _ _ _ hS dX3_tell_31 ?_
    refine ⟨rfl, _, hG, Eqx.rf, ?_⟩
    show woK V (if b < q ∨ (q = b ∧ a ≤ n) then some (a, b) else some (n, q))
    rw [if_pos (by omega)]
    exact hwo
  refine lv_iload_n hx hb dX3_tell_15 rfl (lv_at hl 2 rfl) ?_
  refine lv_aload_n hx hb dX3_tell_16 rfl (lv_at hl 0 rfl) ?_
  refine g_get (v := .int (nI b)) hx hb hts hown hK hG 9 rfl rfl ok_X3 6 (by decide) q300 rfl (congrArg Value.int hw2) dX3_tell_17 ?_
  refine n_icmp_ne (tgt := 32) hx hb dX3_tell_20 (by decide) (by omega) (by omega) (fun c20 => ?_) (fun c20 => ?_)
  · refine lv_aload_n hx hb dX3_tell_32 rfl (lv_at hl 0 rfl) ?_
    refine lv_iload_n hx hb dX3_tell_33 rfl (lv_at hl 1 rfl) ?_
    refine g_put hx hb hts hown hK hG hS 9 (AS_in 9 (by decide)) rfl rfl ok_X3 5 (by decide) q299 rfl rfl rfl rfl dX3_tell_34 (fun H locs hG hO hS => ?_)
    refine lv_aload_n hx hb dX3_tell_37 rfl (lv_at hl 0 rfl) ?_
    refine lv_iload_n hx hb dX3_tell_38 rfl (lv_at hl 2 rfl) ?_
    refine g_put hx hb hts hown hK hG hS 9 (AS_in 9 (by decide)) rfl rfl ok_X3 6 (by decide) q300 rfl rfl rfl rfl dX3_tell_39 (fun H locs hG hO hS => ?_)
    refine hend _ _ _ _ hS dX3_tell_42 ?_
    refine ⟨rfl, _, hG, ((Eqx.rf.up rfl).up rfl), ?_⟩
    show woK _ (if b < q ∨ (q = b ∧ a ≤ n) then some (a, b) else some (n, q))
    rw [if_neg (by omega)]
    exact ⟨rfl, rfl, by omega, by omega, by omega⟩
  refine lv_iload_n hx hb dX3_tell_23 rfl (lv_at hl 1 rfl) ?_
  refine lv_aload_n hx hb dX3_tell_24 rfl (lv_at hl 0 rfl) ?_
  refine g_get (v := .int (nI a)) hx hb hts hown hK hG 9 rfl rfl ok_X3 5 (by decide) q299 rfl (congrArg Value.int hw1) dX3_tell_25 ?_
  refine n_icmp_lt (tgt := 32) hx hb dX3_tell_28 (by decide) (by omega) (by omega) (fun c28 => ?_) (fun c28 => ?_)
  · refine lv_aload_n hx hb dX3_tell_32 rfl (lv_at hl 0 rfl) ?_
    refine lv_iload_n hx hb dX3_tell_33 rfl (lv_at hl 1 rfl) ?_
    refine g_put hx hb hts hown hK hG hS 9 (AS_in 9 (by decide)) rfl rfl ok_X3 5 (by decide) q299 rfl rfl rfl rfl dX3_tell_34 (fun H locs hG hO hS => ?_)
    refine lv_aload_n hx hb dX3_tell_37 rfl (lv_at hl 0 rfl) ?_
    refine lv_iload_n hx hb dX3_tell_38 rfl (lv_at hl 2 rfl) ?_
    refine g_put hx hb hts hown hK hG hS 9 (AS_in 9 (by decide)) rfl rfl ok_X3 6 (by decide) q300 rfl rfl rfl rfl dX3_tell_39 (fun H locs hG hO hS => ?_)
    refine hend _ _ _ _ hS dX3_tell_42 ?_
    refine ⟨rfl, _, hG, ((Eqx.rf.up rfl).up rfl), ?_⟩
    show woK _ (if b < q ∨ (q = b ∧ a ≤ n) then some (a, b) else some (n, q))
    rw [if_neg (by omega)]
    exact ⟨rfl, rfl, by omega, by omega, by omega⟩
  refine hend _ _ _ _ hS dX3_tell_31 ?_
  refine ⟨rfl, _, hG, Eqx.rf, ?_⟩
  show woK V (if b < q ∨ (q = b ∧ a ≤ n) then some (a, b) else some (n, q))
  rw [if_pos (by omega)]
  exact hwo
