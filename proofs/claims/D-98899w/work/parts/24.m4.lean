/-! the text that is told, and what one asks of it -/
theorem met_X13_lawTells (l : Launch) (D : va_G) (dA : Nat → ClassId) {o : Nat} {V : GI} {L : GL} {Rf : GR} {H0 : Heap} (hG : gP D dA o dM V L Rf H0) {lv n : Nat} (hT : tM V lv n) (k : Nat) (hk4 : k < 4) (pl : Int32) (law : Option Lw) (hlw : lwM V lv k law) : Ctr l D dA yX13_lawTells cX13_lawTells 7 (some .int) (mkRm 1 27) [.ref o, .int (nI k), .int pl] H0 (AM o) (QI (fun r H1 => ∃ V1, gP D dA o dM V1 L Rf H1 ∧ Eqx PT V V1 ∧ r = lwO (V 28) pl law)) := by
  cases law with
  | none => exact met_X13_lawTells_n l D dA hG hT k hk4 pl hlw
  | some w => exact met_X13_lawTells_s l D dA hG hT k hk4 pl w.1 w.2 hlw
theorem gP.setcell {D : va_G} {dA : Nat → ClassId} {o : Nat} {ds : List Dsc} {V : GI} {L : GL} {Rf : GR} {H : Heap} (h : gP D dA o ds V L Rf H) {k : Nat} {d : Dsc} (hd : ds[k]? = some d) {f : Nat → Int32} (hf : ∀ j, j < dLen d → V k j = f j) : gP D dA o ds (va_up V k f) L Rf H := by
  refine h.congr (fun k' d' hd' j hj => ?_) (fun _ _ _ _ _ => rfl) (fun _ _ _ _ _ => rfl)
  unfold va_up
  by_cases e : k' = k
  · subst e
    rw [if_pos rfl]
    rw [hd] at hd'
    cases hd'
    exact hf j hj
  · rw [if_neg e]
theorem Eqx.cell {P : Nat → Nat → Bool} {V V1 : GI} {k : Nat} {f : Nat → Int32} (h : Eqx P V V1) (hp : ∀ j, P k j = true) : Eqx P V (va_up V1 k f) := fun k' j q => by
  unfold va_up
  by_cases e : k' = k
  · subst e; rw [hp j] at q; cases q
  · rw [if_neg e]; exact h k' j q
theorem va_up_s {f : GI} {k : Nat} {v : Nat → Int32} : va_up f k v k = v := by unfold va_up; rw [if_pos rfl]
/-- the text: beds, ring, cold, laws, begins, seed, who lies left, habits -/
abbrev Txt : Type := Nat × Int32 × (Nat → Int32) × (Nat → Option Lw) × Int32 × Int32 × (Nat → Int32) × (Nat → Int32)
abbrev xN (t : Txt) : Nat := t.1
abbrev xR (t : Txt) : Int32 := t.2.1
abbrev xC (t : Txt) : Nat → Int32 := t.2.2.1
abbrev xL (t : Txt) : Nat → Option Lw := t.2.2.2.1
abbrev xB (t : Txt) : Int32 := t.2.2.2.2.1
abbrev xS (t : Txt) : Int32 := t.2.2.2.2.2.1
abbrev xF (t : Txt) : Nat → Int32 := t.2.2.2.2.2.2.1
abbrev xH (t : Txt) : Nat → Int32 := t.2.2.2.2.2.2.2
def txM (V : GI) (lv : Nat) (t : Txt) : Prop := tM V lv (xN t) ∧ V 15 lv = xR t ∧ (∀ b, b < 9 → V 12 (9 * lv + b) = xC t b) ∧ (∀ k, k < 4 → lwM V lv k (xL t k)) ∧ V 16 lv = xB t ∧ V 17 lv = xS t ∧ (∀ b, b < xN t → V 10 (9 * lv + b) = xF t b) ∧ ∀ b, b < xN t → V 11 (9 * lv + b) = xH t b
/-- the cells that tell the text -/
def isT (k j : Nat) : Bool := (k == 0 && j == 18) || (decide (9 ≤ k) && decide (k ≤ 12)) || (decide (15 ≤ k) && decide (k ≤ 26))
theorem lawM_to {V V1 : GI} (h : ∀ k j, 20 ≤ k → k ≤ 26 → V1 k j = V k j) {la : Nat} {el : List Sg} : ∀ (ifs : Ifs) (b : Nat), lawM V la el b ifs → lawM V1 la el b ifs := by
  have hs : ∀ {a b : Nat} {es : List Sg}, segM V a b es → segM V1 a b es := fun hs => ⟨hs.1, hs.2.1, fun i k v hi => by rw [h 25 _ (by decide) (by decide), h 26 _ (by decide) (by decide)]; exact hs.2.2 i k v hi⟩
  intro ifs
  induction ifs with
  | nil =>
    intro b hl
    obtain ⟨h1, h2, x, y, h3, h4, h5, h6⟩ := hl
    exact ⟨h1, (h 20 _ (by decide) (by decide)).trans h2, x, y, (h 23 _ (by decide) (by decide)).trans h3, (h 24 _ (by decide) (by decide)).trans h4, hs h5, h6⟩
  | cons q ifs ih =>
    intro b hl
    obtain ⟨p, q, r⟩ := q
    obtain ⟨h1, ⟨x, y, z, w, a1, a2, a3, a4, ⟨b1, b2⟩, ⟨c1, c2⟩, d1, d2⟩, h3⟩ := hl
    exact ⟨(h 20 _ (by decide) (by decide)).trans h1, ⟨x, y, z, w, (h 21 _ (by decide) (by decide)).trans a1, (h 22 _ (by decide) (by decide)).trans a2, (h 23 _ (by decide) (by decide)).trans a3, (h 24 _ (by decide) (by decide)).trans a4, ⟨hs b1, b2⟩, ⟨hs c1, c2⟩, hs d1, d2⟩, ih (b + 1) h3⟩
theorem lwM_to {V V1 : GI} (h : ∀ k j, 18 ≤ k → k ≤ 26 → V1 k j = V k j) {lv k : Nat} {w : Option Lw} (hw : lwM V lv k w) : lwM V1 lv k w := by
  cases w with
  | none =>
    show V1 18 _ = V1 19 _
    rw [h 18 _ (by decide) (by decide), h 19 _ (by decide) (by decide)]
    exact hw
  | some w =>
    obtain ⟨f, la, h1, h2, h3, h4⟩ := hw
    exact ⟨f, la, (h 18 _ (by decide) (by decide)).trans h1, (h 19 _ (by decide) (by decide)).trans h2, h3, lawM_to (fun k j a b => h k j (by omega) b) _ _ h4⟩
theorem txM_to {V V1 : GI} {lv : Nat} {t : Txt} (h : ∀ k j, isT k j = true → V1 k j = V k j) (hX : txM V lv t) : txM V1 lv t := by
  obtain ⟨h1, h2, h3, h4, h5, h6, h7, h8⟩ := hX
  refine ⟨tM_to h1 (h 0 18 rfl) (h 9 lv rfl), (h 15 lv rfl).trans h2, fun b hb => (h 12 _ rfl).trans (h3 b hb), fun k hk => lwM_to (fun k j a b => h k j ?_) (h4 k hk), (h 16 lv rfl).trans h5, (h 17 lv rfl).trans h6, fun b hb => (h 10 _ rfl).trans (h7 b hb), fun b hb => (h 11 _ rfl).trans (h8 b hb)⟩
  simp only [isT, Bool.or_eq_true, Bool.and_eq_true, decide_eq_true_eq]
  exact Or.inr ⟨by omega, b⟩
/-- the scratch: of asking; of an hour; of a trial -/
def PL (k _ : Nat) : Bool := k == 28
def PE (k j : Nat) : Bool := k == 28 || k == 29 || (k == 0 && j == 46)
theorem PT_PE : ∀ k j, PE k j = false → PT k j = false := by intro k j h; simp only [PE, PT, Bool.or_eq_false_iff] at *; simp_all
theorem PL_PE : ∀ k j, PE k j = false → PL k j = false := by intro k j h; simp only [PE, PL, Bool.or_eq_false_iff] at *; simp_all
theorem isT_PE : ∀ k j, isT k j = true → PE k j = false := by
  intro k j h
  simp only [isT, PE, Bool.or_eq_true, Bool.and_eq_true, decide_eq_true_eq, beq_iff_eq, Bool.or_eq_false_iff, beq_eq_false_iff_ne, Bool.and_eq_false_iff] at *
  omega
theorem txM_PE {V V1 : GI} {lv : Nat} {t : Txt} (h : Eqx PE V V1) (hX : txM V lv t) : txM V1 lv t := txM_to (fun k j q => h k j (isT_PE k j q)) hX
/-- what is asked of a bed of a row -/
def vrF (t : Txt) (f : Nat → Int32) (b : Nat) : Nat → Int32 := lookV f (xC t) (xR t) (xN t) b
def lieF (t : Txt) (f : Nat → Int32) (b : Nat) : Int32 := if 0 < lwO (vrF t f b) (f b) (xL t 0) then 1 else 0
def parF (t : Txt) (f : Nat → Int32) (b : Nat) : Int32 := wthn (lwO (vrF t f b) 1 (xL t 1)) 0 99
def chiF (t : Txt) (f : Nat → Int32) (b : Nat) : Int32 := wthn (lwO (vrF t f b) 0 (xL t 2)) 0 100
def cosF (t : Txt) (f : Nat → Int32) (b : Nat) : Int32 := wthn (lwO (vrF t f b) 1 (xL t 3)) 0 99
theorem cw_X13_331 {R : Room} {s : State} {args : Array Value} (hts : ∀ w ∈ lw_all, w.before args s = true) {f w k j : Nat} (hR : f + 1 ≤ R.frames ∧ 8 + (2 + 11) + w ≤ R.locals) : CallW R s args RX13 RX13 331 yX13_leftAt cX13_leftAt 2 (some .int) (ws_ yX13_leftAt cX13_leftAt 2 (some .int)) (mkRmC f w k j) k j 1 := cwV 1 hts (lw_V q1802 q1804 qs77 q129 q1805) rfl rfl rfl (by decide +kernel) hR
set_option maxHeartbeats 4000000 in
theorem met_X13_looks (l : Launch) (D : va_G) (dA : Nat → ClassId) {o : Nat} {V : GI} {L : GL} {Rf : GR} {H0 : Heap} (hG : gP D dA o dM V L Rf H0) {lv : Nat} {t : Txt} (hX : txM V lv t) (b : Nat) (hb9 : b < xN t) : Ctr l D dA yX13_looks cX13_looks 2 none (mkRm 3 64) [.ref o, .int (nI b)] H0 (AM o) (QV (fun H1 => ∃ V1, gP D dA o dM V1 L Rf H1 ∧ Eqx PL V V1 ∧ V1 28 = vrF t (V 31) b)) := by
  have hT := hX.1
  have hT1 := hT.1
  have hT2 := hT.2.1
  refine ctr_V (by decide) (Nat.le_of_ble_eq_true rfl) ?_
  intro p e s m args below meth c ls QQ locs hx hb hml hown hts hK hend hS hl
  have hl : lv_has ls 2 [(0, .ref o), (1, .int (nI b))] := hl
  refine lv_aload_n hx hb dX13_looks_0 rfl (lv_at hl 0 rfl) ?_
  refine g_get hx hb hts hown hK hG 0 rfl rfl ok_X13 44 (by decide) q1515 rfl rfl dX13_looks_1 ?_
  refine lv_iconst (v := (nI 0)) hx hb dX13_looks_4 (by decide) ?_
  refine lv_aload_n hx hb dX13_looks_5 rfl (lv_at hl 0 rfl) ?_
  refine g_get hx hb hts hown hK hG 0 rfl rfl ok_X13 48 (by decide) q1519 rfl rfl dX13_looks_6 ?_
  refine lv_iload_n hx hb dX13_looks_9 rfl (lv_at hl 1 rfl) ?_
  refine n_iald hx hb hK hG 31 rfl (by omega) (by decide) dX13_looks_10 ?_
  refine n_iast hx hb hK hG hS 28 (AM_in 28 (by decide)) rfl (by omega) (by decide) dX13_looks_11 (fun H locs hG hO hS => ?_)
  refine lv_aload_n hx hb dX13_looks_12 rfl (lv_at hl 0 rfl) ?_
  refine g_get hx hb hts hown hK hG 0 rfl rfl ok_X13 44 (by decide) q1515 rfl rfl dX13_looks_13 ?_
  refine lv_iconst (v := (nI 1)) hx hb dX13_looks_16 (by decide) ?_
  refine lv_aload_n hx hb dX13_looks_17 rfl (lv_at hl 0 rfl) ?_
  refine lv_iload_n hx hb dX13_looks_18 rfl (lv_at hl 1 rfl) ?_
  refine lv_iconst (v := (nI 1)) hx hb dX13_looks_19 (by decide) ?_
  refine lv_isub hx hb dX13_looks_20 ?_
  refine c_VI hx hb hml hts hown hK hl.1 hS ⟨Nat.le_refl _, Nat.le_refl _⟩ (met_X13_leftAt l D dA hG hT ((nI b) - (nI 1))) (cw_X13_331 hts ⟨by decide, by decide⟩) (hG 0 _ rfl) rfl rfl rfl rfl (Nat.le_of_ble_eq_true rfl) dX13_looks_21 (fun _ h => h.elim) (fun r H1 locs hq hF hS => ?_)
  obtain ⟨rfl, rfl⟩ := hq
  refine iv (y := lAt (V 31) (xR t) (xN t) ((nI b) - (nI 1))) (lAt_cg rfl hX.2.1) ?_
  refine n_iast hx hb hK hG hS 28 (AM_in 28 (by decide)) rfl (by omega) (by decide) dX13_looks_24 (fun H locs hG hO hS => ?_)
  refine lv_aload_n hx hb dX13_looks_25 rfl (lv_at hl 0 rfl) ?_
  refine g_get hx hb hts hown hK hG 0 rfl rfl ok_X13 44 (by decide) q1515 rfl rfl dX13_looks_26 ?_
  refine lv_iconst (v := (nI 2)) hx hb dX13_looks_29 (by decide) ?_
  refine lv_aload_n hx hb dX13_looks_30 rfl (lv_at hl 0 rfl) ?_
  refine lv_iload_n hx hb dX13_looks_31 rfl (lv_at hl 1 rfl) ?_
  refine lv_iconst (v := (nI 1)) hx hb dX13_looks_32 (by decide) ?_
  refine n_iadd hx hb dX13_looks_33 ?_
  refine c_VI hx hb hml hts hown hK hl.1 hS ⟨Nat.le_refl _, Nat.le_refl _⟩ (met_X13_leftAt l D dA hG hT (nI (b + 1))) (cw_X13_331 hts ⟨by decide, by decide⟩) (hG 0 _ rfl) rfl rfl rfl rfl (Nat.le_of_ble_eq_true rfl) dX13_looks_34 (fun _ h => h.elim) (fun r H1 locs hq hF hS => ?_)
  obtain ⟨rfl, rfl⟩ := hq
  refine iv (y := lAt (V 31) (xR t) (xN t) (nI (b + 1))) (lAt_cg rfl hX.2.1) ?_
  refine n_iast hx hb hK hG hS 28 (AM_in 28 (by decide)) rfl (by omega) (by decide) dX13_looks_37 (fun H locs hG hO hS => ?_)
  refine lv_aload_n hx hb dX13_looks_38 rfl (lv_at hl 0 rfl) ?_
  refine g_get hx hb hts hown hK hG 0 rfl rfl ok_X13 44 (by decide) q1515 rfl rfl dX13_looks_39 ?_
  refine lv_iconst (v := (nI 3)) hx hb dX13_looks_42 (by decide) ?_
  refine lv_aload_n hx hb dX13_looks_43 rfl (lv_at hl 0 rfl) ?_
  refine g_get hx hb hts hown hK hG 0 rfl rfl ok_X13 48 (by decide) q1519 rfl rfl dX13_looks_44 ?_
  refine lv_bipush (v := (nI 9)) hx hb dX13_looks_47 (by decide) ?_
  refine lv_iload_n hx hb dX13_looks_49 rfl (lv_at hl 1 rfl) ?_
  refine n_iadd hx hb dX13_looks_50 ?_
  refine n_iald hx hb hK hG 31 rfl (by omega) (by decide) dX13_looks_51 ?_
  refine iv (y := (V 31 (9 + b))) rfl ?_
  refine n_iast hx hb hK hG hS 28 (AM_in 28 (by decide)) rfl (by omega) (by decide) dX13_looks_52 (fun H locs hG hO hS => ?_)
  refine lv_aload_n hx hb dX13_looks_53 rfl (lv_at hl 0 rfl) ?_
  refine g_get hx hb hts hown hK hG 0 rfl rfl ok_X13 44 (by decide) q1515 rfl rfl dX13_looks_54 ?_
  refine lv_iconst (v := (nI 4)) hx hb dX13_looks_57 (by decide) ?_
  refine lv_aload_n hx hb dX13_looks_58 rfl (lv_at hl 0 rfl) ?_
  refine g_get hx hb hts hown hK hG 0 rfl rfl ok_X13 25 (by decide) q1496 rfl rfl dX13_looks_59 ?_
  refine lv_bipush (v := (nI 9)) hx hb dX13_looks_62 (by decide) ?_
  refine lv_aload_n hx hb dX13_looks_64 rfl (lv_at hl 0 rfl) ?_
  refine g_get (v := .int (nI lv)) hx hb hts hown hK hG 0 rfl rfl ok_X13 18 (by decide) q1489 rfl (congrArg Value.int hT.2.2.1) dX13_looks_65 ?_
  refine n_imul hx hb dX13_looks_68 ?_
  refine lv_iload_n hx hb dX13_looks_69 rfl (lv_at hl 1 rfl) ?_
  refine n_iadd hx hb dX13_looks_70 ?_
  refine n_iald hx hb hK hG 12 rfl (by omega) (by decide) dX13_looks_71 ?_
  refine iv (y := (xC t b)) (hX.2.2.1 b (by omega)) ?_
  refine n_iast hx hb hK hG hS 28 (AM_in 28 (by decide)) rfl (by omega) (by decide) dX13_looks_72 (fun H locs hG hO hS => ?_)
  refine lv_aload_n hx hb dX13_looks_73 rfl (lv_at hl 0 rfl) ?_
  refine g_get hx hb hts hown hK hG 0 rfl rfl ok_X13 44 (by decide) q1515 rfl rfl dX13_looks_74 ?_
  refine lv_iconst (v := (nI 5)) hx hb dX13_looks_77 (by decide) ?_
  refine lv_aload_n hx hb dX13_looks_78 rfl (lv_at hl 0 rfl) ?_
  refine g_get hx hb hts hown hK hG 0 rfl rfl ok_X13 48 (by decide) q1519 rfl rfl dX13_looks_79 ?_
  refine lv_bipush (v := (nI 45)) hx hb dX13_looks_82 (by decide) ?_
  refine n_iald hx hb hK hG 31 rfl (by omega) (by decide) dX13_looks_84 ?_
  refine iv (y := (V 31 45)) rfl ?_
  refine lv_bipush (v := (nI 24)) hx hb dX13_looks_85 (by decide) ?_
  refine lv_irem hx hb dX13_looks_87 (by decide) ?_
  refine n_iast hx hb hK hG hS 28 (AM_in 28 (by decide)) rfl (by omega) (by decide) dX13_looks_88 (fun H locs hG hO hS => ?_)
  refine lv_aload_n hx hb dX13_looks_89 rfl (lv_at hl 0 rfl) ?_
  refine g_get hx hb hts hown hK hG 0 rfl rfl ok_X13 44 (by decide) q1515 rfl rfl dX13_looks_90 ?_
  refine lv_bipush (v := (nI 6)) hx hb dX13_looks_93 (by decide) ?_
  refine lv_iload_n hx hb dX13_looks_95 rfl (lv_at hl 1 rfl) ?_
  refine n_iast hx hb hK hG hS 28 (AM_in 28 (by decide)) rfl (by omega) (by decide) dX13_looks_96 (fun H locs hG hO hS => ?_)
  refine lv_aload_n hx hb dX13_looks_97 rfl (lv_at hl 0 rfl) ?_
  refine g_get hx hb hts hown hK hG 0 rfl rfl ok_X13 44 (by decide) q1515 rfl rfl dX13_looks_98 ?_
  refine lv_bipush (v := (nI 7)) hx hb dX13_looks_101 (by decide) ?_
  refine lv_aload_n hx hb dX13_looks_103 rfl (lv_at hl 0 rfl) ?_
  refine c_VI hx hb hml hts hown hK hl.1 hS ⟨Nat.le_refl _, Nat.le_refl _⟩ (met_X13_many l D dA hG hT) (cw_X13_304 hts ⟨by decide, by decide⟩) (hG 0 _ rfl) rfl rfl rfl rfl (Nat.le_of_ble_eq_true rfl) dX13_looks_104 (fun _ h => h.elim) (fun r H1 locs hq hF hS => ?_)
  obtain ⟨rfl, rfl⟩ := hq
  refine n_iast hx hb hK hG hS 28 (AM_in 28 (by decide)) rfl (by omega) (by decide) dX13_looks_107 (fun H locs hG hO hS => ?_)
  refine lv_aload_n hx hb dX13_looks_108 rfl (lv_at hl 0 rfl) ?_
  refine g_get hx hb hts hown hK hG 0 rfl rfl ok_X13 44 (by decide) q1515 rfl rfl dX13_looks_109 ?_
  refine lv_bipush (v := (nI 8)) hx hb dX13_looks_112 (by decide) ?_
  refine lv_aload_n hx hb dX13_looks_114 rfl (lv_at hl 0 rfl) ?_
  refine g_get hx hb hts hown hK hG 0 rfl rfl ok_X13 48 (by decide) q1519 rfl rfl dX13_looks_115 ?_
  refine lv_bipush (v := (nI 27)) hx hb dX13_looks_118 (by decide) ?_
  refine lv_iload_n hx hb dX13_looks_120 rfl (lv_at hl 1 rfl) ?_
  refine n_iadd hx hb dX13_looks_121 ?_
  refine n_iald hx hb hK hG 31 rfl (by omega) (by decide) dX13_looks_122 ?_
  refine iv (y := (V 31 (27 + b))) rfl ?_
  refine n_iast hx hb hK hG hS 28 (AM_in 28 (by decide)) rfl (by omega) (by decide) dX13_looks_123 (fun H locs hG hO hS => ?_)
  refine hend _ _ _ _ hS dX13_looks_124 ?_
  exact ⟨rfl, _, hG.setcell (k := 28) (f := vrF t (V 31) b) rfl (fun j hj => by rcases (show j = 0 ∨ j = 1 ∨ j = 2 ∨ j = 3 ∨ j = 4 ∨ j = 5 ∨ j = 6 ∨ j = 7 ∨ j = 8 by have hj9 : j < 9 := hj; omega) with rfl | rfl | rfl | rfl | rfl | rfl | rfl | rfl | rfl <;> rfl), (Eqx.cell (((((((((Eqx.rf.up rfl).up rfl).up rfl).up rfl).up rfl).up rfl).up rfl).up rfl).up rfl) (fun _ => rfl)), va_up_s⟩
theorem cw_X13_337 {R : Room} {s : State} {args : Array Value} (hts : ∀ w ∈ lw_all, w.before args s = true) {f w k j : Nat} (hR : f + 1 ≤ R.frames ∧ 8 + (2 + 11) + w ≤ R.locals) : CallW R s args RX13 RX13 337 yX13_looks cX13_looks 2 none (ws_ yX13_looks cX13_looks 2 none) (mkRmC f w k j) k j 1 := cwV 1 hts (lw_V q1798 q1800 qs76 q129 q1801) rfl rfl rfl (by decide +kernel) hR
theorem cw_X13_340 {R : Room} {s : State} {args : Array Value} (hts : ∀ w ∈ lw_all, w.before args s = true) {f w k j : Nat} (hR : f + 1 ≤ R.frames ∧ 8 + (7 + 11) + w ≤ R.locals) : CallW R s args RX13 RX13 340 yX13_lawTells cX13_lawTells 7 (some .int) (ws_ yX13_lawTells cX13_lawTells 7 (some .int)) (mkRmC f w k j) k j 2 := cwV 2 hts (lw_V q1806 q1808 qs78 q129 q1809) rfl rfl rfl (by decide +kernel) hR
set_option maxHeartbeats 4000000 in
theorem met_X13_liesThen (l : Launch) (D : va_G) (dA : Nat → ClassId) {o : Nat} {V : GI} {L : GL} {Rf : GR} {H0 : Heap} (hG : gP D dA o dM V L Rf H0) {lv : Nat} {t : Txt} (hX : txM V lv t) (b : Nat) (hb9 : b < xN t) : Ctr l D dA yX13_liesThen cX13_liesThen 2 (some .int) (mkRm 4 85) [.ref o, .int (nI b)] H0 (AM o) (QI (fun r H1 => ∃ V1, gP D dA o dM V1 L Rf H1 ∧ Eqx PE V V1 ∧ r = lieF t (V 31) b)) := by
  have hT := hX.1
  have hT1 := hT.1
  have hT2 := hT.2.1
  refine ctr_I (by decide) (Nat.le_of_ble_eq_true rfl) ?_
  intro p e s m args below meth c ls QQ locs hx hb hml hown hts hK hend hS hl
  have hl : lv_has ls 2 [(0, .ref o), (1, .int (nI b))] := hl
  refine lv_aload_n hx hb dX13_liesThen_0 rfl (lv_at hl 0 rfl) ?_
  refine lv_iload_n hx hb dX13_liesThen_1 rfl (lv_at hl 1 rfl) ?_
  refine c_VV hx hb hml hts hown hK hl.1 hS ⟨Nat.le_refl _, Nat.le_refl _⟩ (met_X13_looks l D dA hG hX b (by omega)) (cw_X13_337 hts ⟨by decide, by decide⟩) (hG 0 _ rfl) rfl rfl rfl rfl (Nat.le_of_ble_eq_true rfl) dX13_liesThen_2 (fun _ h => h) (fun H1 locs hq hF hS => ?_)
  obtain ⟨V1, hG, hE1, hv1⟩ := hq
  generalize hHe1 : H1 = H at hG hS ⊢
  clear hHe1
  have hv1 : V1 28 = vrF t (V 31) b := hv1
  refine lv_aload_n hx hb dX13_liesThen_5 rfl (lv_at hl 0 rfl) ?_
  refine lv_iconst (v := (nI 0)) hx hb dX13_liesThen_6 (by decide) ?_
  refine lv_aload_n hx hb dX13_liesThen_7 rfl (lv_at hl 0 rfl) ?_
  refine g_get hx hb hts hown hK hG 0 rfl rfl ok_X13 44 (by decide) q1515 rfl rfl dX13_liesThen_8 ?_
  refine lv_iconst (v := (nI 0)) hx hb dX13_liesThen_11 (by decide) ?_
  refine n_iald hx hb hK hG 28 rfl (by omega) (by decide) dX13_liesThen_12 ?_
  refine iv (y := (V 31 b)) (by rw [hv1]; rfl) ?_
  refine c_VI hx hb hml hts hown hK hl.1 hS ⟨Nat.le_refl _, Nat.le_refl _⟩ (met_X13_lawTells l D dA hG (txM_PE (hE1.mono PL_PE) hX).1 0 (by decide) (V 31 b) (xL t 0) ((txM_PE (hE1.mono PL_PE) hX).2.2.2.1 0 (by decide))) (cw_X13_340 hts ⟨by decide, by decide⟩) (hG 0 _ rfl) rfl rfl rfl rfl (Nat.le_of_ble_eq_true rfl) dX13_liesThen_13 (fun _ h => h) (fun r H1 locs hq hF hS => ?_)
  obtain ⟨V2, hG, hE2, hr13⟩ := hq
  generalize hHe2 : H1 = H at hG hS ⊢
  clear hHe2
  have hr13 : r = lwO (vrF t (V 31) b) (V 31 b) (xL t 0) := by rw [hr13, hv1]
  subst hr13
  refine lv_if_le (tgt := 23) hx hb dX13_liesThen_16 (by decide) (fun c16 => ?_) (fun c16 => ?_)
  · refine lv_iconst (v := (nI 0)) hx hb dX13_liesThen_23 (by decide) ?_
    refine hend _ _ _ _ _ hS dX13_liesThen_24 ?_
    exact ⟨_, rfl, _, hG, ((hE1.mono PL_PE).trans (hE2.mono PT_PE)), (by unfold lieF; rw [if_neg (Int32.not_lt.mpr c16)]; rfl)⟩
  refine lv_iconst (v := (nI 1)) hx hb dX13_liesThen_19 (by decide) ?_
  refine lv_goto (tgt := 24) hx hb dX13_liesThen_20 (by decide) ?_
  refine hend _ _ _ _ _ hS dX13_liesThen_24 ?_
  exact ⟨_, rfl, _, hG, ((hE1.mono PL_PE).trans (hE2.mono PT_PE)), (by unfold lieF; rw [if_pos (Int32.not_le.mp c16)]; rfl)⟩
theorem cw_X13_343 {R : Room} {s : State} {args : Array Value} (hts : ∀ w ∈ lw_all, w.before args s = true) {f w k j : Nat} (hR : f + 1 ≤ R.frames ∧ 8 + (3 + 11) + w ≤ R.locals) : CallB R s args RX13 343 yX13_within cX13_within 3 (some .int) (ws_ yX13_within cX13_within 3 (some .int)) (mkRmC f w k j) k j 3 ∧ (Cond.static yX13_within).before args s = true := va_cwS 3 hts (lw_S q1818 q1819 q129 q1820) rfl rfl rfl (by decide +kernel) hR
set_option maxHeartbeats 4000000 in
theorem met_X13_partsOf (l : Launch) (D : va_G) (dA : Nat → ClassId) {o : Nat} {V : GI} {L : GL} {Rf : GR} {H0 : Heap} (hG : gP D dA o dM V L Rf H0) {lv : Nat} {t : Txt} (hX : txM V lv t) (b : Nat) (hb9 : b < xN t) : Ctr l D dA yX13_partsOf cX13_partsOf 2 (some .int) (mkRm 4 85) [.ref o, .int (nI b)] H0 (AM o) (QI (fun r H1 => ∃ V1, gP D dA o dM V1 L Rf H1 ∧ Eqx PE V V1 ∧ r = parF t (V 31) b)) := by
  have hT := hX.1
  have hT1 := hT.1
  have hT2 := hT.2.1
  refine ctr_I (by decide) (Nat.le_of_ble_eq_true rfl) ?_
  intro p e s m args below meth c ls QQ locs hx hb hml hown hts hK hend hS hl
  have hl : lv_has ls 2 [(0, .ref o), (1, .int (nI b))] := hl
  refine lv_aload_n hx hb dX13_partsOf_0 rfl (lv_at hl 0 rfl) ?_
  refine lv_iload_n hx hb dX13_partsOf_1 rfl (lv_at hl 1 rfl) ?_
  refine c_VV hx hb hml hts hown hK hl.1 hS ⟨Nat.le_refl _, Nat.le_refl _⟩ (met_X13_looks l D dA hG hX b (by omega)) (cw_X13_337 hts ⟨by decide, by decide⟩) (hG 0 _ rfl) rfl rfl rfl rfl (Nat.le_of_ble_eq_true rfl) dX13_partsOf_2 (fun _ h => h) (fun H1 locs hq hF hS => ?_)
  obtain ⟨V1, hG, hE1, hv1⟩ := hq
  generalize hHe1 : H1 = H at hG hS ⊢
  clear hHe1
  have hv1 : V1 28 = vrF t (V 31) b := hv1
  refine lv_aload_n hx hb dX13_partsOf_5 rfl (lv_at hl 0 rfl) ?_
  refine lv_iconst (v := (nI 1)) hx hb dX13_partsOf_6 (by decide) ?_
  refine lv_iconst (v := (nI 1)) hx hb dX13_partsOf_7 (by decide) ?_
  refine c_VI hx hb hml hts hown hK hl.1 hS ⟨Nat.le_refl _, Nat.le_refl _⟩ (met_X13_lawTells l D dA hG (txM_PE (hE1.mono PL_PE) hX).1 1 (by decide) (nI 1) (xL t 1) ((txM_PE (hE1.mono PL_PE) hX).2.2.2.1 1 (by decide))) (cw_X13_340 hts ⟨by decide, by decide⟩) (hG 0 _ rfl) rfl rfl rfl rfl (Nat.le_of_ble_eq_true rfl) dX13_partsOf_8 (fun _ h => h) (fun r H1 locs hq hF hS => ?_)
  obtain ⟨V2, hG, hE2, hr8⟩ := hq
  generalize hHe2 : H1 = H at hG hS ⊢
  clear hHe2
  have hr8 : r = lwO (vrF t (V 31) b) (nI 1) (xL t 1) := by rw [hr8, hv1]
  subst hr8
  refine lv_iconst (v := (nI 0)) hx hb dX13_partsOf_11 (by decide) ?_
  refine lv_bipush (v := (nI 99)) hx hb dX13_partsOf_12 (by decide) ?_
  refine c_SI hx hb hml hts hown hK hl.1 hS ⟨Nat.le_refl _, Nat.le_refl _⟩ (met_X13_within l D dA (lwO (vrF t (V 31) b) (nI 1) (xL t 1)) (nI 0) (nI 99)) (cw_X13_343 hts ⟨by decide, by decide⟩) rfl rfl (Nat.le_of_ble_eq_true rfl) dX13_partsOf_14 (fun _ h => h.elim) (fun r H1 locs hq hF hS => ?_)
  obtain ⟨rfl, rfl⟩ := hq
  refine hend _ _ _ _ _ hS dX13_partsOf_17 ?_
  exact ⟨_, rfl, _, hG, ((hE1.mono PL_PE).trans (hE2.mono PT_PE)), rfl⟩
set_option maxHeartbeats 4000000 in
theorem met_X13_chillsOf (l : Launch) (D : va_G) (dA : Nat → ClassId) {o : Nat} {V : GI} {L : GL} {Rf : GR} {H0 : Heap} (hG : gP D dA o dM V L Rf H0) {lv : Nat} {t : Txt} (hX : txM V lv t) (b : Nat) (hb9 : b < xN t) : Ctr l D dA yX13_chillsOf cX13_chillsOf 2 (some .int) (mkRm 4 85) [.ref o, .int (nI b)] H0 (AM o) (QI (fun r H1 => ∃ V1, gP D dA o dM V1 L Rf H1 ∧ Eqx PE V V1 ∧ r = chiF t (V 31) b)) := by
  have hT := hX.1
  have hT1 := hT.1
  have hT2 := hT.2.1
  refine ctr_I (by decide) (Nat.le_of_ble_eq_true rfl) ?_
  intro p e s m args below meth c ls QQ locs hx hb hml hown hts hK hend hS hl
  have hl : lv_has ls 2 [(0, .ref o), (1, .int (nI b))] := hl
  refine lv_aload_n hx hb dX13_chillsOf_0 rfl (lv_at hl 0 rfl) ?_
  refine lv_iload_n hx hb dX13_chillsOf_1 rfl (lv_at hl 1 rfl) ?_
  refine c_VV hx hb hml hts hown hK hl.1 hS ⟨Nat.le_refl _, Nat.le_refl _⟩ (met_X13_looks l D dA hG hX b (by omega)) (cw_X13_337 hts ⟨by decide, by decide⟩) (hG 0 _ rfl) rfl rfl rfl rfl (Nat.le_of_ble_eq_true rfl) dX13_chillsOf_2 (fun _ h => h) (fun H1 locs hq hF hS => ?_)
  obtain ⟨V1, hG, hE1, hv1⟩ := hq
  generalize hHe1 : H1 = H at hG hS ⊢
  clear hHe1
  have hv1 : V1 28 = vrF t (V 31) b := hv1
  refine lv_aload_n hx hb dX13_chillsOf_5 rfl (lv_at hl 0 rfl) ?_
  refine lv_iconst (v := (nI 2)) hx hb dX13_chillsOf_6 (by decide) ?_
  refine lv_iconst (v := (nI 0)) hx hb dX13_chillsOf_7 (by decide) ?_
  refine c_VI hx hb hml hts hown hK hl.1 hS ⟨Nat.le_refl _, Nat.le_refl _⟩ (met_X13_lawTells l D dA hG (txM_PE (hE1.mono PL_PE) hX).1 2 (by decide) (nI 0) (xL t 2) ((txM_PE (hE1.mono PL_PE) hX).2.2.2.1 2 (by decide))) (cw_X13_340 hts ⟨by decide, by decide⟩) (hG 0 _ rfl) rfl rfl rfl rfl (Nat.le_of_ble_eq_true rfl) dX13_chillsOf_8 (fun _ h => h) (fun r H1 locs hq hF hS => ?_)
  obtain ⟨V2, hG, hE2, hr8⟩ := hq
  generalize hHe2 : H1 = H at hG hS ⊢
  clear hHe2
  have hr8 : r = lwO (vrF t (V 31) b) (nI 0) (xL t 2) := by rw [hr8, hv1]
  subst hr8
  refine lv_iconst (v := (nI 0)) hx hb dX13_chillsOf_11 (by decide) ?_
  refine lv_bipush (v := (nI 100)) hx hb dX13_chillsOf_12 (by decide) ?_
  refine c_SI hx hb hml hts hown hK hl.1 hS ⟨Nat.le_refl _, Nat.le_refl _⟩ (met_X13_within l D dA (lwO (vrF t (V 31) b) (nI 0) (xL t 2)) (nI 0) (nI 100)) (cw_X13_343 hts ⟨by decide, by decide⟩) rfl rfl (Nat.le_of_ble_eq_true rfl) dX13_chillsOf_14 (fun _ h => h.elim) (fun r H1 locs hq hF hS => ?_)
  obtain ⟨rfl, rfl⟩ := hq
  refine hend _ _ _ _ _ hS dX13_chillsOf_17 ?_
  exact ⟨_, rfl, _, hG, ((hE1.mono PL_PE).trans (hE2.mono PT_PE)), rfl⟩
set_option maxHeartbeats 4000000 in
theorem met_X13_costsOf (l : Launch) (D : va_G) (dA : Nat → ClassId) {o : Nat} {V : GI} {L : GL} {Rf : GR} {H0 : Heap} (hG : gP D dA o dM V L Rf H0) {lv : Nat} {t : Txt} (hX : txM V lv t) (b : Nat) (hb9 : b < xN t) : Ctr l D dA yX13_costsOf cX13_costsOf 2 (some .int) (mkRm 4 85) [.ref o, .int (nI b)] H0 (AM o) (QI (fun r H1 => ∃ V1, gP D dA o dM V1 L Rf H1 ∧ Eqx PE V V1 ∧ r = cosF t (V 31) b)) := by
  have hT := hX.1
  have hT1 := hT.1
  have hT2 := hT.2.1
  refine ctr_I (by decide) (Nat.le_of_ble_eq_true rfl) ?_
  intro p e s m args below meth c ls QQ locs hx hb hml hown hts hK hend hS hl
  have hl : lv_has ls 2 [(0, .ref o), (1, .int (nI b))] := hl
  refine lv_aload_n hx hb dX13_costsOf_0 rfl (lv_at hl 0 rfl) ?_
  refine lv_iload_n hx hb dX13_costsOf_1 rfl (lv_at hl 1 rfl) ?_
  refine c_VV hx hb hml hts hown hK hl.1 hS ⟨Nat.le_refl _, Nat.le_refl _⟩ (met_X13_looks l D dA hG hX b (by omega)) (cw_X13_337 hts ⟨by decide, by decide⟩) (hG 0 _ rfl) rfl rfl rfl rfl (Nat.le_of_ble_eq_true rfl) dX13_costsOf_2 (fun _ h => h) (fun H1 locs hq hF hS => ?_)
  obtain ⟨V1, hG, hE1, hv1⟩ := hq
  generalize hHe1 : H1 = H at hG hS ⊢
  clear hHe1
  have hv1 : V1 28 = vrF t (V 31) b := hv1
  refine lv_aload_n hx hb dX13_costsOf_5 rfl (lv_at hl 0 rfl) ?_
  refine lv_iconst (v := (nI 3)) hx hb dX13_costsOf_6 (by decide) ?_
  refine lv_iconst (v := (nI 1)) hx hb dX13_costsOf_7 (by decide) ?_
  refine c_VI hx hb hml hts hown hK hl.1 hS ⟨Nat.le_refl _, Nat.le_refl _⟩ (met_X13_lawTells l D dA hG (txM_PE (hE1.mono PL_PE) hX).1 3 (by decide) (nI 1) (xL t 3) ((txM_PE (hE1.mono PL_PE) hX).2.2.2.1 3 (by decide))) (cw_X13_340 hts ⟨by decide, by decide⟩) (hG 0 _ rfl) rfl rfl rfl rfl (Nat.le_of_ble_eq_true rfl) dX13_costsOf_8 (fun _ h => h) (fun r H1 locs hq hF hS => ?_)
  obtain ⟨V2, hG, hE2, hr8⟩ := hq
  generalize hHe2 : H1 = H at hG hS ⊢
  clear hHe2
  have hr8 : r = lwO (vrF t (V 31) b) (nI 1) (xL t 3) := by rw [hr8, hv1]
  subst hr8
  refine lv_iconst (v := (nI 0)) hx hb dX13_costsOf_11 (by decide) ?_
  refine lv_bipush (v := (nI 99)) hx hb dX13_costsOf_12 (by decide) ?_
  refine c_SI hx hb hml hts hown hK hl.1 hS ⟨Nat.le_refl _, Nat.le_refl _⟩ (met_X13_within l D dA (lwO (vrF t (V 31) b) (nI 1) (xL t 3)) (nI 0) (nI 99)) (cw_X13_343 hts ⟨by decide, by decide⟩) rfl rfl (Nat.le_of_ble_eq_true rfl) dX13_costsOf_14 (fun _ h => h.elim) (fun r H1 locs hq hF hS => ?_)
  obtain ⟨rfl, rfl⟩ := hq
  refine hend _ _ _ _ _ hS dX13_costsOf_17 ?_
  exact ⟨_, rfl, _, hG, ((hE1.mono PL_PE).trans (hE2.mono PT_PE)), rfl⟩
