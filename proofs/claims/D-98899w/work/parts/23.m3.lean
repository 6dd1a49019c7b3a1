/-! the model's laws -/
theorem segM_eqx {P : Nat → Nat → Bool} {V V1 : GI} {a b : Nat} {es : List Sg} (h : Eqx P V V1) (h1 : ∀ j, P 25 j = false) (h2 : ∀ j, P 26 j = false) (hs : segM V a b es) : segM V1 a b es :=
  ⟨hs.1, hs.2.1, fun i k v hi => by rw [h 25 _ (h1 _), h 26 _ (h2 _)]; exact hs.2.2 i k v hi⟩
/-- a law: its ifs (what must be less, than what, how much then), how much else -/
abbrev Ifs : Type := List (List Sg × List Sg × List Sg)
abbrev Lw : Type := Ifs × List Sg
def lwV (vars : Nat → Int32) (el : List Sg) : Ifs → Int32
  | [] => (tmV vars el).getD 0
  | (a, b, c) :: ifs => match tmV vars a, tmV vars b with
    | some u, some v => if u < v then (tmV vars c).getD 0 else lwV vars el ifs
    | _, _ => 0
/-- the branches from b on are a law's -/
def lawM (V : GI) (la : Nat) (el : List Sg) : Nat → Ifs → Prop
  | b, [] => la = b + 1 ∧ V 20 b = nI 0 ∧ ∃ x y, V 23 b = nI x ∧ V 24 b = nI y ∧ segM V x y el ∧ wfS el 0
  | b, (p, q, r) :: ifs => V 20 b = nI 1 ∧ (∃ x y z w, V 21 b = nI x ∧ V 22 b = nI y ∧ V 23 b = nI z ∧ V 24 b = nI w ∧ (segM V x y p ∧ wfS p 0) ∧ (segM V y z q ∧ wfS q 0) ∧ segM V z w r ∧ wfS r 0) ∧ lawM V la el (b + 1) ifs
theorem lawM_lt {V : GI} {la : Nat} {el : List Sg} : ∀ (ifs : Ifs) (b : Nat), lawM V la el b ifs → b < la
  | [], b, h => by have := h.1; omega
  | (p, q, r) :: ifs, b, h => by have := lawM_lt ifs (b + 1) h.2.2; omega
def lwM (V : GI) (lv k : Nat) : Option Lw → Prop
  | none => V 18 (4 * lv + k) = V 19 (4 * lv + k)
  | some w => ∃ f la, V 18 (4 * lv + k) = nI f ∧ V 19 (4 * lv + k) = nI la ∧ la ≤ 260 ∧ lawM V la w.2 f w.1
def lwO (vars : Nat → Int32) (plain : Int32) : Option Lw → Int32
  | none => plain
  | some w => lwV vars w.2 w.1
theorem brk_z {o : Option Int32} (h : ¬ brk 0 o = 0) : (0 : Int32) = o.getD 0 := by
  cases o with
  | none => rfl
  | some x => exact absurd rfl h
theorem brk_z' {f : Int32} {o : Option Int32} (hf : f = 0) (h : ¬ brk f o = 0) : (0 : Int32) = o.getD 0 := by subst hf; exact brk_z h
theorem lwV_cons {vars : Nat → Int32} {el p q r : List Sg} {ifs : Ifs} : lwV vars el ((p, q, r) :: ifs) = if ¬ brk (brk 0 (tmV vars p)) (tmV vars q) = 0 then 0 else if (tmV vars p).getD 0 < (tmV vars q).getD 0 then (tmV vars r).getD 0 else lwV vars el ifs := by
  show (match tmV vars p, tmV vars q with
    | some u, some v => if u < v then (tmV vars r).getD 0 else lwV vars el ifs
    | _, _ => 0) = _
  cases tmV vars p <;> cases tmV vars q <;> simp [brk]
set_option maxHeartbeats 4000000 in
theorem met_X13_lawTells_n (l : Launch) (D : va_G) (dA : Nat → ClassId) {o : Nat} {V : GI} {L : GL} {Rf : GR} {H0 : Heap} (hG : gP D dA o dM V L Rf H0) {lv n : Nat} (hT : tM V lv n) (k : Nat) (hk4 : k < 4) (pl : Int32) (hlw : lwM V lv k none) : Ctr l D dA yX13_lawTells cX13_lawTells 7 (some .int) (mkRm 1 27) [.ref o, .int (nI k), .int pl] H0 (AM o) (QI (fun r H1 => ∃ V1, gP D dA o dM V1 L Rf H1 ∧ Eqx PT V V1 ∧ r = lwO (V 28) pl none)) := by
  have hT1 := hT.1
  have hT2 := hT.2.1
  refine ctr_I (by decide) (Nat.le_of_ble_eq_true rfl) ?_
  intro p e s m args below meth c ls QQ locs hx hb hml hown hts hK hend hS hl
  have hl : lv_has ls 7 [(0, .ref o), (1, .int (nI k)), (2, .int pl)] := hl
  refine lv_iconst (v := (nI 4)) hx hb dX13_lawTells_0 (by decide) ?_
  refine lv_aload_n hx hb dX13_lawTells_1 rfl (lv_at hl 0 rfl) ?_
  refine g_get (v := .int (nI lv)) hx hb hts hown hK hG 0 rfl rfl ok_X13 18 (by decide) q1489 rfl (congrArg Value.int hT.2.2.1) dX13_lawTells_2 ?_
  refine n_imul hx hb dX13_lawTells_5 ?_
  refine lv_iload_n hx hb dX13_lawTells_6 rfl (lv_at hl 1 rfl) ?_
  refine n_iadd hx hb dX13_lawTells_7 ?_
  refine lv_istore_n (lv' := [(3, .int (nI ((4 * lv) + k))), (0, .ref o), (1, .int (nI k)), (2, .int pl)]) hx hb dX13_lawTells_8 rfl hl (by decide) rfl (fun ls hl => ?_)
  refine lv_aload_n hx hb dX13_lawTells_9 rfl (lv_at hl 1 rfl) ?_
  refine g_get hx hb hts hown hK hG 0 rfl rfl ok_X13 31 (by decide) q1502 rfl rfl dX13_lawTells_10 ?_
  refine lv_iload_n hx hb dX13_lawTells_13 rfl (lv_at hl 0 rfl) ?_
  refine n_iald hx hb hK hG 18 rfl (by omega) (by decide) dX13_lawTells_14 ?_
  refine lv_aload_n hx hb dX13_lawTells_15 rfl (lv_at hl 1 rfl) ?_
  refine g_get hx hb hts hown hK hG 0 rfl rfl ok_X13 32 (by decide) q1503 rfl rfl dX13_lawTells_16 ?_
  refine lv_iload_n hx hb dX13_lawTells_19 rfl (lv_at hl 0 rfl) ?_
  refine n_iald hx hb hK hG 19 rfl (by omega) (by decide) dX13_lawTells_20 ?_
  refine lv_icmp_ne (tgt := 26) hx hb dX13_lawTells_21 (by decide) (fun c21 => ?_) (fun c21 => ?_)
  · exact absurd hlw c21
  refine lv_iload_n hx hb dX13_lawTells_24 rfl (lv_at hl 3 rfl) ?_
  refine hend _ _ _ _ _ hS dX13_lawTells_25 ?_
  exact ⟨_, rfl, _, hG, Eqx.rf, rfl⟩
theorem cw_X13_334 {R : Room} {s : State} {args : Array Value} (hts : ∀ w ∈ lw_all, w.before args s = true) {f w k j : Nat} (hR : f + 1 ≤ R.frames ∧ 8 + (8 + 11) + w ≤ R.locals) : CallW R s args RX13 RX13 334 yX13_termOf cX13_termOf 8 (some .int) (ws_ yX13_termOf cX13_termOf 8 (some .int)) (mkRmC f w k j) k j 2 := cwV 2 hts (lw_V q1810 q1812 qs79 q129 q1813) rfl rfl rfl (by decide +kernel) hR
set_option maxHeartbeats 4000000 in
theorem met_X13_lawTells_s (l : Launch) (D : va_G) (dA : Nat → ClassId) {o : Nat} {V : GI} {L : GL} {Rf : GR} {H0 : Heap} (hG : gP D dA o dM V L Rf H0) {lv n : Nat} (hT : tM V lv n) (k : Nat) (hk4 : k < 4) (pl : Int32) (ifs0 : Ifs) (el : List Sg) (hlw0 : lwM V lv k (some (ifs0, el))) : Ctr l D dA yX13_lawTells cX13_lawTells 7 (some .int) (mkRm 1 27) [.ref o, .int (nI k), .int pl] H0 (AM o) (QI (fun r H1 => ∃ V1, gP D dA o dM V1 L Rf H1 ∧ Eqx PT V V1 ∧ r = lwO (V 28) pl (some (ifs0, el)))) := by
  have hT1 := hT.1
  have hT2 := hT.2.1
  obtain ⟨f, la, hf, hla, hla2, hlw0⟩ := hlw0
  have hfl := lawM_lt _ _ hlw0
  generalize hR : lwO (V 28) pl (some (ifs0, el)) = R
  refine ctr_I (by decide) (Nat.le_of_ble_eq_true rfl) ?_
  intro p e s m args below meth c ls QQ locs hx hb hml hown hts hK hend hS hl
  have hl : lv_has ls 7 [(0, .ref o), (1, .int (nI k)), (2, .int pl)] := hl
  refine lv_iconst (v := (nI 4)) hx hb dX13_lawTells_0 (by decide) ?_
  refine lv_aload_n hx hb dX13_lawTells_1 rfl (lv_at hl 0 rfl) ?_
  refine g_get (v := .int (nI lv)) hx hb hts hown hK hG 0 rfl rfl ok_X13 18 (by decide) q1489 rfl (congrArg Value.int hT.2.2.1) dX13_lawTells_2 ?_
  refine n_imul hx hb dX13_lawTells_5 ?_
  refine lv_iload_n hx hb dX13_lawTells_6 rfl (lv_at hl 1 rfl) ?_
  refine n_iadd hx hb dX13_lawTells_7 ?_
  refine lv_istore_n (lv' := [(3, .int (nI ((4 * lv) + k))), (0, .ref o), (1, .int (nI k)), (2, .int pl)]) hx hb dX13_lawTells_8 rfl hl (by decide) rfl (fun ls hl => ?_)
  refine lv_aload_n hx hb dX13_lawTells_9 rfl (lv_at hl 1 rfl) ?_
  refine g_get hx hb hts hown hK hG 0 rfl rfl ok_X13 31 (by decide) q1502 rfl rfl dX13_lawTells_10 ?_
  refine lv_iload_n hx hb dX13_lawTells_13 rfl (lv_at hl 0 rfl) ?_
  refine n_iald hx hb hK hG 18 rfl (by omega) (by decide) dX13_lawTells_14 ?_
  refine iv (y := (nI f)) hf ?_
  refine lv_aload_n hx hb dX13_lawTells_15 rfl (lv_at hl 1 rfl) ?_
  refine g_get hx hb hts hown hK hG 0 rfl rfl ok_X13 32 (by decide) q1503 rfl rfl dX13_lawTells_16 ?_
  refine lv_iload_n hx hb dX13_lawTells_19 rfl (lv_at hl 0 rfl) ?_
  refine n_iald hx hb hK hG 19 rfl (by omega) (by decide) dX13_lawTells_20 ?_
  refine iv (y := (nI la)) hla ?_
  refine n_icmp_ne (tgt := 26) hx hb dX13_lawTells_21 (by decide) (by omega) (by omega) (fun c21 => ?_) (fun c21 => ?_)
  · refine lv_aload_n hx hb dX13_lawTells_26 rfl (lv_at hl 1 rfl) ?_
    refine lv_iconst (v := (nI 0)) hx hb dX13_lawTells_27 (by decide) ?_
    refine g_put hx hb hts hown hK hG hS 0 (AM_in 0 (by decide)) rfl rfl ok_X13 46 (by decide) q1517 rfl rfl (by decide) (by decide) dX13_lawTells_28 (fun H locs hG hO hS => ?_)
    refine lv_aload_n hx hb dX13_lawTells_31 rfl (lv_at hl 1 rfl) ?_
    refine g_get hx hb hts hown hK hG 0 rfl rfl ok_X13 31 (by decide) q1502 rfl rfl dX13_lawTells_32 ?_
    refine lv_iload_n hx hb dX13_lawTells_35 rfl (lv_at hl 0 rfl) ?_
    refine n_iald hx hb hK hG 18 rfl (by omega) (by decide) dX13_lawTells_36 ?_
    refine iv (y := (nI f)) hf ?_
    refine lv_istore (lv' := [(4, .int (nI f)), (3, .int (nI ((4 * lv) + k))), (0, .ref o), (1, .int (nI k)), (2, .int pl)]) hx hb dX13_lawTells_37 hl (by decide) rfl (fun ls hl => ?_)
    have loop1 : ∀ (fu1 : Nat) (ifs : Ifs) (b : Nat) (V1 : GI) (H : Heap) (locs : List Loc) (ls : Array Slot), ifs.length < fu1 → (lawM V la el b ifs) → (lwV (V 28) el ifs = R) → (Eqx PT (up2 V 0 46 (nI 0)) V1) → (V1 0 46 = 0) → gP D dA o dM V1 L Rf H → va_S (AM o) H0 H locs → lv_has ls 7 [(4, .int (nI b)), (3, .int (nI ((4 * lv) + k))), (0, .ref o), (1, .int (nI k)), (2, .int pl)] → W p l e (mkRm 1 27) s m args below meth c H locs 0 0 QQ (F0 m 39 ls []) := by
      intro fu1
      induction fu1 with
      | zero => intro ifs b V1 H locs ls hfu; exact absurd hfu (Nat.not_lt_zero _)
      | succ fu1 ih1 =>
        intro ifs b V1 H locs ls hfu hlw hR hE1 hbk hG hS hl
        have hbl := lawM_lt _ _ hlw
        rcases ifs with _ | ⟨⟨p, q, rr⟩, ifs⟩
        · obtain ⟨hla1, hh, x, y, hx1, hy1, hsg, hwf⟩ := hlw
          have hp1 := hsg.2.1
          have hp2 := hsg.1
          refine lv_iload hx hb dX13_lawTells_39 (lv_at hl 0 rfl) ?_
          refine lv_aload_n hx hb dX13_lawTells_41 rfl (lv_at hl 2 rfl) ?_
          refine g_get hx hb hts hown hK hG 0 rfl rfl ok_X13 32 (by decide) q1503 rfl rfl dX13_lawTells_42 ?_
          refine lv_iload_n hx hb dX13_lawTells_45 rfl (lv_at hl 1 rfl) ?_
          refine n_iald hx hb hK hG 19 rfl (by omega) (by decide) dX13_lawTells_46 ?_
          refine iv (y := (nI la)) ((hE1 19 ((4 * lv) + k) rfl).trans hla) ?_
          refine n_icmp_ge (tgt := 159) hx hb dX13_lawTells_47 (by decide) (by omega) (by omega) (fun c47 => ?_) (fun c47 => ?_)
          · exact absurd c47 (by omega)
          refine lv_aload_n hx hb dX13_lawTells_50 rfl (lv_at hl 2 rfl) ?_
          refine g_get hx hb hts hown hK hG 0 rfl rfl ok_X13 34 (by decide) q1505 rfl rfl dX13_lawTells_51 ?_
          refine lv_iload hx hb dX13_lawTells_54 (lv_at hl 0 rfl) ?_
          refine n_zald hx hb hK hG 20 rfl (by omega) (by decide) dX13_lawTells_56 ?_
          refine iv (y := (nI 0)) ((hE1 20 b rfl).trans hh) ?_
          refine n_if_eq (tgt := 119) hx hb dX13_lawTells_57 (by decide) (by decide) (fun _ => ?_) (fun z => absurd z (by decide))
          refine lv_aload_n hx hb dX13_lawTells_119 rfl (lv_at hl 2 rfl) ?_
          refine lv_aload_n hx hb dX13_lawTells_120 rfl (lv_at hl 2 rfl) ?_
          refine g_get hx hb hts hown hK hG 0 rfl rfl ok_X13 37 (by decide) q1508 rfl rfl dX13_lawTells_121 ?_
          refine lv_iload hx hb dX13_lawTells_124 (lv_at hl 0 rfl) ?_
          refine n_iald hx hb hK hG 23 rfl (by omega) (by decide) dX13_lawTells_126 ?_
          refine iv (y := (nI x)) ((hE1 23 b rfl).trans hx1) ?_
          refine lv_aload_n hx hb dX13_lawTells_127 rfl (lv_at hl 2 rfl) ?_
          refine g_get hx hb hts hown hK hG 0 rfl rfl ok_X13 38 (by decide) q1509 rfl rfl dX13_lawTells_128 ?_
          refine lv_iload hx hb dX13_lawTells_131 (lv_at hl 0 rfl) ?_
          refine n_iald hx hb hK hG 24 rfl (by omega) (by decide) dX13_lawTells_133 ?_
          refine iv (y := (nI y)) ((hE1 24 b rfl).trans hy1) ?_
          refine c_VI hx hb hml hts hown hK hl.1 hS ⟨Nat.le_refl _, Nat.le_refl _⟩ (met_X13_termOf l D dA hG _ _ _ (segM_eqx ((Eqx.rf.up rfl).trans hE1) (fun _ => rfl) (fun _ => rfl) hsg) hwf) (cw_X13_334 hts ⟨by decide, by decide⟩) (hG 0 _ rfl) rfl rfl rfl rfl (Nat.le_of_ble_eq_true rfl) dX13_lawTells_134 (fun _ h => h) (fun r H1 locs hq hF hS => ?_)
          obtain ⟨V2, hG, hE2, hr134, hb134⟩ := hq
          generalize hHe2 : H1 = H at hG hS ⊢
          clear hHe2
          have hcell134 := (funext (fun j => hE1 28 j rfl))
          have hr134 : r = (tmV (V 28) el).getD 0 := by rw [hr134]; exact congrArg (fun z => (tmV z el).getD 0) hcell134
          have hb134 : V2 0 46 = brk 0 (tmV (V 28) el) := by rw [hb134]; exact congr (congrArg brk hbk) (congrArg (fun z => tmV z el) hcell134)
          subst hr134
          refine lv_istore (lv' := [(5, .int ((tmV (V 28) el).getD 0)), (4, .int (nI b)), (3, .int (nI ((4 * lv) + k))), (0, .ref o), (1, .int (nI k)), (2, .int pl)]) hx hb dX13_lawTells_137 hl (by decide) rfl (fun ls hl => ?_)
          refine lv_aload_n hx hb dX13_lawTells_139 rfl (lv_at hl 3 rfl) ?_
          refine g_get (v := .int (brk 0 (tmV (V 28) el))) hx hb hts hown hK hG 0 rfl rfl ok_X13 46 (by decide) q1517 rfl (congrArg Value.int hb134) dX13_lawTells_140 ?_
          refine lv_if_eq (tgt := 150) hx hb dX13_lawTells_143 (by decide) (fun c143 => ?_) (fun c143 => ?_)
          · refine lv_iload hx hb dX13_lawTells_150 (lv_at hl 0 rfl) ?_
            refine hend _ _ _ _ _ hS dX13_lawTells_152 ?_
            exact ⟨_, rfl, _, hG, (((Eqx.rf.up rfl).trans hE1).trans hE2), by rw [← hR]; exact rfl⟩
          refine lv_iconst (v := (nI 0)) hx hb dX13_lawTells_146 (by decide) ?_
          refine lv_goto (tgt := 152) hx hb dX13_lawTells_147 (by decide) ?_
          refine hend _ _ _ _ _ hS dX13_lawTells_152 ?_
          exact ⟨_, rfl, _, hG, (((Eqx.rf.up rfl).trans hE1).trans hE2), by rw [← hR]; exact brk_z c143⟩
        obtain ⟨hh, ⟨x, y, z, w1, hx1, hy1, hz1, hw1, ⟨hsp, hwp⟩, ⟨hsq, hwq⟩, hsr, hwr⟩, hlw⟩ := hlw
        have hlt2 := lawM_lt _ _ hlw
        refine lv_iload hx hb dX13_lawTells_39 (lv_at hl 0 rfl) ?_
        refine lv_aload_n hx hb dX13_lawTells_41 rfl (lv_at hl 2 rfl) ?_
        refine g_get hx hb hts hown hK hG 0 rfl rfl ok_X13 32 (by decide) q1503 rfl rfl dX13_lawTells_42 ?_
        refine lv_iload_n hx hb dX13_lawTells_45 rfl (lv_at hl 1 rfl) ?_
        refine n_iald hx hb hK hG 19 rfl (by omega) (by decide) dX13_lawTells_46 ?_
        refine iv (y := (nI la)) ((hE1 19 ((4 * lv) + k) rfl).trans hla) ?_
        refine n_icmp_ge (tgt := 159) hx hb dX13_lawTells_47 (by decide) (by omega) (by omega) (fun c47 => ?_) (fun c47 => ?_)
        · exact absurd c47 (by omega)
        refine lv_aload_n hx hb dX13_lawTells_50 rfl (lv_at hl 2 rfl) ?_
        refine g_get hx hb hts hown hK hG 0 rfl rfl ok_X13 34 (by decide) q1505 rfl rfl dX13_lawTells_51 ?_
        refine lv_iload hx hb dX13_lawTells_54 (lv_at hl 0 rfl) ?_
        refine n_zald hx hb hK hG 20 rfl (by omega) (by decide) dX13_lawTells_56 ?_
        refine iv (y := (nI 1)) ((hE1 20 b rfl).trans hh) ?_
        refine n_if_eq (tgt := 119) hx hb dX13_lawTells_57 (by decide) (by decide) (fun z => absurd z (by decide)) (fun _ => ?_)
        refine lv_aload_n hx hb dX13_lawTells_60 rfl (lv_at hl 2 rfl) ?_
        refine lv_aload_n hx hb dX13_lawTells_61 rfl (lv_at hl 2 rfl) ?_
        refine g_get hx hb hts hown hK hG 0 rfl rfl ok_X13 35 (by decide) q1506 rfl rfl dX13_lawTells_62 ?_
        refine lv_iload hx hb dX13_lawTells_65 (lv_at hl 0 rfl) ?_
        refine n_iald hx hb hK hG 21 rfl (by omega) (by decide) dX13_lawTells_67 ?_
        refine iv (y := (nI x)) ((hE1 21 b rfl).trans hx1) ?_
        refine lv_aload_n hx hb dX13_lawTells_68 rfl (lv_at hl 2 rfl) ?_
        refine g_get hx hb hts hown hK hG 0 rfl rfl ok_X13 36 (by decide) q1507 rfl rfl dX13_lawTells_69 ?_
        refine lv_iload hx hb dX13_lawTells_72 (lv_at hl 0 rfl) ?_
        refine n_iald hx hb hK hG 22 rfl (by omega) (by decide) dX13_lawTells_74 ?_
        refine iv (y := (nI y)) ((hE1 22 b rfl).trans hy1) ?_
        refine c_VI hx hb hml hts hown hK hl.1 hS ⟨Nat.le_refl _, Nat.le_refl _⟩ (met_X13_termOf l D dA hG _ _ _ (segM_eqx ((Eqx.rf.up rfl).trans hE1) (fun _ => rfl) (fun _ => rfl) hsp) hwp) (cw_X13_334 hts ⟨by decide, by decide⟩) (hG 0 _ rfl) rfl rfl rfl rfl (Nat.le_of_ble_eq_true rfl) dX13_lawTells_75 (fun _ h => h) (fun r H1 locs hq hF hS => ?_)
        obtain ⟨V3, hG, hE3, hr75, hb75⟩ := hq
        generalize hHe3 : H1 = H at hG hS ⊢
        clear hHe3
        have hcell75 := (funext (fun j => hE1 28 j rfl))
        have hr75 : r = (tmV (V 28) p).getD 0 := by rw [hr75]; exact congrArg (fun z => (tmV z p).getD 0) hcell75
        have hb75 : V3 0 46 = brk 0 (tmV (V 28) p) := by rw [hb75]; exact congr (congrArg brk hbk) (congrArg (fun z => tmV z p) hcell75)
        subst hr75
        refine lv_istore (lv' := [(5, .int ((tmV (V 28) p).getD 0)), (4, .int (nI b)), (3, .int (nI ((4 * lv) + k))), (0, .ref o), (1, .int (nI k)), (2, .int pl)]) hx hb dX13_lawTells_78 hl (by decide) rfl (fun ls hl => ?_)
        refine lv_aload_n hx hb dX13_lawTells_80 rfl (lv_at hl 3 rfl) ?_
        refine lv_aload_n hx hb dX13_lawTells_81 rfl (lv_at hl 3 rfl) ?_
        refine g_get hx hb hts hown hK hG 0 rfl rfl ok_X13 36 (by decide) q1507 rfl rfl dX13_lawTells_82 ?_
        refine lv_iload hx hb dX13_lawTells_85 (lv_at hl 1 rfl) ?_
        refine n_iald hx hb hK hG 22 rfl (by omega) (by decide) dX13_lawTells_87 ?_
        refine iv (y := (nI y)) (((hE3 22 b rfl).trans (hE1 22 b rfl)).trans hy1) ?_
        refine lv_aload_n hx hb dX13_lawTells_88 rfl (lv_at hl 3 rfl) ?_
        refine g_get hx hb hts hown hK hG 0 rfl rfl ok_X13 37 (by decide) q1508 rfl rfl dX13_lawTells_89 ?_
        refine lv_iload hx hb dX13_lawTells_92 (lv_at hl 1 rfl) ?_
        refine n_iald hx hb hK hG 23 rfl (by omega) (by decide) dX13_lawTells_94 ?_
        refine iv (y := (nI z)) (((hE3 23 b rfl).trans (hE1 23 b rfl)).trans hz1) ?_
        refine c_VI hx hb hml hts hown hK hl.1 hS ⟨Nat.le_refl _, Nat.le_refl _⟩ (met_X13_termOf l D dA hG _ _ _ (segM_eqx (((Eqx.rf.up rfl).trans hE1).trans hE3) (fun _ => rfl) (fun _ => rfl) hsq) hwq) (cw_X13_334 hts ⟨by decide, by decide⟩) (hG 0 _ rfl) rfl rfl rfl rfl (Nat.le_of_ble_eq_true rfl) dX13_lawTells_95 (fun _ h => h) (fun r H1 locs hq hF hS => ?_)
        obtain ⟨V4, hG, hE4, hr95, hb95⟩ := hq
        generalize hHe4 : H1 = H at hG hS ⊢
        clear hHe4
        have hcell95 := ((funext (fun j => hE3 28 j rfl)).trans (funext (fun j => hE1 28 j rfl)))
        have hr95 : r = (tmV (V 28) q).getD 0 := by rw [hr95]; exact congrArg (fun z => (tmV z q).getD 0) hcell95
        have hb95 : V4 0 46 = brk (brk 0 (tmV (V 28) p)) (tmV (V 28) q) := by rw [hb95]; exact congr (congrArg brk hb75) (congrArg (fun z => tmV z q) hcell95)
        subst hr95
        refine lv_istore (lv' := [(6, .int ((tmV (V 28) q).getD 0)), (5, .int ((tmV (V 28) p).getD 0)), (4, .int (nI b)), (3, .int (nI ((4 * lv) + k))), (0, .ref o), (1, .int (nI k)), (2, .int pl)]) hx hb dX13_lawTells_98 hl (by decide) rfl (fun ls hl => ?_)
        refine lv_aload_n hx hb dX13_lawTells_100 rfl (lv_at hl 4 rfl) ?_
        refine g_get (v := .int (brk (brk 0 (tmV (V 28) p)) (tmV (V 28) q))) hx hb hts hown hK hG 0 rfl rfl ok_X13 46 (by decide) q1517 rfl (congrArg Value.int hb95) dX13_lawTells_101 ?_
        refine lv_if_eq (tgt := 109) hx hb dX13_lawTells_104 (by decide) (fun c104 => ?_) (fun c104 => ?_)
        · refine lv_iload hx hb dX13_lawTells_109 (lv_at hl 1 rfl) ?_
          refine lv_iload hx hb dX13_lawTells_111 (lv_at hl 0 rfl) ?_
          refine lv_icmp_lt (tgt := 119) hx hb dX13_lawTells_113 (by decide) (fun c113 => ?_) (fun c113 => ?_)
          · refine lv_aload_n hx hb dX13_lawTells_119 rfl (lv_at hl 4 rfl) ?_
            refine lv_aload_n hx hb dX13_lawTells_120 rfl (lv_at hl 4 rfl) ?_
            refine g_get hx hb hts hown hK hG 0 rfl rfl ok_X13 37 (by decide) q1508 rfl rfl dX13_lawTells_121 ?_
            refine lv_iload hx hb dX13_lawTells_124 (lv_at hl 2 rfl) ?_
            refine n_iald hx hb hK hG 23 rfl (by omega) (by decide) dX13_lawTells_126 ?_
            refine iv (y := (nI z)) (((hE4 23 b rfl).trans ((hE3 23 b rfl).trans (hE1 23 b rfl))).trans hz1) ?_
            refine lv_aload_n hx hb dX13_lawTells_127 rfl (lv_at hl 4 rfl) ?_
            refine g_get hx hb hts hown hK hG 0 rfl rfl ok_X13 38 (by decide) q1509 rfl rfl dX13_lawTells_128 ?_
            refine lv_iload hx hb dX13_lawTells_131 (lv_at hl 2 rfl) ?_
            refine n_iald hx hb hK hG 24 rfl (by omega) (by decide) dX13_lawTells_133 ?_
            refine iv (y := (nI w1)) (((hE4 24 b rfl).trans ((hE3 24 b rfl).trans (hE1 24 b rfl))).trans hw1) ?_
            refine c_VI hx hb hml hts hown hK hl.1 hS ⟨Nat.le_refl _, Nat.le_refl _⟩ (met_X13_termOf l D dA hG _ _ _ (segM_eqx ((((Eqx.rf.up rfl).trans hE1).trans hE3).trans hE4) (fun _ => rfl) (fun _ => rfl) hsr) hwr) (cw_X13_334 hts ⟨by decide, by decide⟩) (hG 0 _ rfl) rfl rfl rfl rfl (Nat.le_of_ble_eq_true rfl) dX13_lawTells_134 (fun _ h => h) (fun r H1 locs hq hF hS => ?_)
            obtain ⟨V5, hG, hE5, hr134, hb134⟩ := hq
            generalize hHe5 : H1 = H at hG hS ⊢
            clear hHe5
            have hcell134 := ((funext (fun j => hE4 28 j rfl)).trans ((funext (fun j => hE3 28 j rfl)).trans (funext (fun j => hE1 28 j rfl))))
            have hr134 : r = (tmV (V 28) rr).getD 0 := by rw [hr134]; exact congrArg (fun z => (tmV z rr).getD 0) hcell134
            have hb134 : V5 0 46 = brk (brk (brk 0 (tmV (V 28) p)) (tmV (V 28) q)) (tmV (V 28) rr) := by rw [hb134]; exact congr (congrArg brk hb95) (congrArg (fun z => tmV z rr) hcell134)
            subst hr134
            refine lv_istore (lv' := [(5, .int ((tmV (V 28) rr).getD 0)), (6, .int ((tmV (V 28) q).getD 0)), (4, .int (nI b)), (3, .int (nI ((4 * lv) + k))), (0, .ref o), (1, .int (nI k)), (2, .int pl)]) hx hb dX13_lawTells_137 hl (by decide) rfl (fun ls hl => ?_)
            refine lv_aload_n hx hb dX13_lawTells_139 rfl (lv_at hl 4 rfl) ?_
            refine g_get (v := .int (brk (brk (brk 0 (tmV (V 28) p)) (tmV (V 28) q)) (tmV (V 28) rr))) hx hb hts hown hK hG 0 rfl rfl ok_X13 46 (by decide) q1517 rfl (congrArg Value.int hb134) dX13_lawTells_140 ?_
            refine lv_if_eq (tgt := 150) hx hb dX13_lawTells_143 (by decide) (fun c143 => ?_) (fun c143 => ?_)
            · refine lv_iload hx hb dX13_lawTells_150 (lv_at hl 0 rfl) ?_
              refine hend _ _ _ _ _ hS dX13_lawTells_152 ?_
              exact ⟨_, rfl, _, hG, (((((Eqx.rf.up rfl).trans hE1).trans hE3).trans hE4).trans hE5), by rw [← hR, lwV_cons]; rw [if_neg (fun z => z c104), if_pos c113]⟩
            refine lv_iconst (v := (nI 0)) hx hb dX13_lawTells_146 (by decide) ?_
            refine lv_goto (tgt := 152) hx hb dX13_lawTells_147 (by decide) ?_
            refine hend _ _ _ _ _ hS dX13_lawTells_152 ?_
            exact ⟨_, rfl, _, hG, (((((Eqx.rf.up rfl).trans hE1).trans hE3).trans hE4).trans hE5), by rw [← hR, lwV_cons]; rw [if_neg (fun z => z c104), if_pos c113]; exact brk_z' c104 c143⟩
          refine lv_goto (tgt := 153) hx hb dX13_lawTells_116 (by decide) ?_
          refine lv_iinc (v := (nI (b + 1))) (lv' := [(4, .int (nI (b + 1))), (6, .int ((tmV (V 28) q).getD 0)), (5, .int ((tmV (V 28) p).getD 0)), (3, .int (nI ((4 * lv) + k))), (0, .ref o), (1, .int (nI k)), (2, .int pl)]) hx hb dX13_lawTells_153 hl (k := 2) rfl (nI_add _ _) (by decide) rfl (fun ls hl => ?_)
          refine lv_goto (tgt := 39) hx hb dX13_lawTells_156 (by decide) ?_
          exact ih1 ifs (b + 1) V4 _ _ _ (by simp only [List.length_cons] at hfu; omega) hlw (by rw [← hR, lwV_cons, if_neg (fun z => z c104), if_neg c113]) (Eqx.trans (Eqx.trans hE1 hE3) hE4) (by rw [hb95]; exact c104) hG hS (lv_sub hl [0, 3, 4, 5, 6] rfl)
        refine lv_iconst (v := (nI 0)) hx hb dX13_lawTells_107 (by decide) ?_
        refine hend _ _ _ _ _ hS dX13_lawTells_108 ?_
        exact ⟨_, rfl, _, hG, ((((Eqx.rf.up rfl).trans hE1).trans hE3).trans hE4), by rw [← hR, lwV_cons]; rw [if_pos c104]; rfl⟩
    exact loop1 (ifs0.length + 1) ifs0 f (up2 V 0 46 (nI 0)) _ _ _ (Nat.lt_succ_self _) hlw0 hR Eqx.rf rfl hG hS (lv_sub hl [0, 1, 2, 3, 4] rfl)
  exact absurd c21 (by omega)
