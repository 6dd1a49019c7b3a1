def PRc (k j : Nat) : Bool := k == 1 || k == 9 || k == 5 || k == 6 || k == 7 || k == 8 || (k == 2 && j == 7) || (k == 2 && j == 2) || (k == 0 && j == 4)
def PRn (k j : Nat) : Bool := k == 1 || k == 9 || k == 5 || k == 6 || k == 7 || k == 8 || (k == 2 && j == 7) || (k == 2 && j == 2) || (k == 0 && j == 4) || (k == 0 && j == 5) || (k == 0 && j == 15) || k == 74 || (decide (15 ≤ k) && decide (k < 15 + 11))
theorem PRd_PRc : ∀ k j, PRc k j = false → PRd k j = false := by intro k j h; simp only [PRd, PRc, Bool.or_eq_false_iff, Bool.and_eq_false_iff, beq_eq_false_iff_ne, ne_eq] at *; omega
theorem PRd_PRn : ∀ k j, PRn k j = false → PRd k j = false := by intro k j h; simp only [PRd, PRn, Bool.or_eq_false_iff, Bool.and_eq_false_iff, beq_eq_false_iff_ne, ne_eq] at *; omega
theorem PT15_PRn : ∀ k j, PRn k j = false → PT15 k j = false := by intro k j h; simp only [PT15, PBk, PRn, Bool.or_eq_false_iff, Bool.and_eq_false_iff, beq_eq_false_iff_ne, ne_eq, decide_eq_false_iff_not] at *; omega
theorem slpA_kept {D : va_G} {dA : Nat → ClassId} {H H1 : Heap} {O : Nat → Prop} {tx : Nat} {T : Txt} (hk : ∀ q, O q → q < H.size → H1[q]? = H[q]?) (h : slpA D dA H O tx T) : slpA D dA H1 O tx T := by
  obtain ⟨fs, al, mc, ea, cap, g, o1, o2, o3, h1, h2, h3, h4, h5, h6⟩ := h
  refine ⟨fs, al, mc, ea, cap, g, o1, o2, o3, h1.kept (hk _ o1 h1.lt), h2.kept (hk _ o2 h2.lt), h3.kept (hk _ o3 h3.lt), h4, h5, fun k hk2 => ?_⟩
  obtain ⟨a, nm, a1, a2, a3⟩ := h6 k hk2
  exact ⟨a, nm, a1, a2, a3.kept (hk _ a1 a3.lt)⟩
/-- what a reading makes of the class -/
def rdCQ (D : va_G) (dA : Nat → ClassId) (o : Nat) (V : GI) (L : GL) (Rf : GR) (F : Fo) (T : Rs) (r : Int32) (H1 : Heap) : Prop := match F with
  | some q => r = nI q.1 ∧ ∃ V1 Rf1, gP D dA o dS V1 L Rf1 H1 ∧ Eqx PRc V V1 ∧ (∀ k j, k ≠ 9 → Rf1 k j = Rf k j) ∧ V1 0 4 = nI q.2 ∧ V1 2 2 = nI 0
  | none => r = nI 0 ∧ ∃ tx V1 Rf1, gP D dA o dS V1 L Rf1 H1 ∧ Eqx PRn V V1 ∧ (∀ k j, k ≠ 9 → ¬ (k = 0 ∧ j = 3) → Rf1 k j = Rf k j) ∧ Rf1 0 3 = some tx ∧ txA D dA H1 (NS o) tx (txR T) ∧ slpA D dA H1 (NS o) tx (txR T) ∧ V1 0 4 = -1 ∧ V1 2 2 = nI 0 ∧ V1 0 5 = nI 0 ∧ V1 0 15 = nI 0 ∧ (∀ j, j < 3 → V1 74 j = nI 0) ∧ bkS V1 15 (xN (txR T)) (bgF (txR T)) (xS (txR T))
theorem cw_X0_127 {R : Room} {s : State} {args : Array Value} (hts : ∀ w ∈ lw_all, w.before args s = true) {f w k j : Nat} (hR : f + 1 ≤ R.frames ∧ 8 + (1 + 11) + w ≤ R.locals) : CallW R s args RX0 RX3 127 yX3_read cX3_read 1 (some (.object "PartedSide$Text")) (ws_ yX3_read cX3_read 1 (some (.object "PartedSide$Text"))) (mkRmC f w k j) k j 0 := cwV 0 hts (lw_V q618 q619 q620 q114 q621) rfl rfl rfl (by decide +kernel) hR
theorem cw_X0_112 {R : Room} {s : State} {args : Array Value} (hts : ∀ w ∈ lw_all, w.before args s = true) {f w k j : Nat} (hR : f + 1 ≤ R.frames ∧ 8 + (3 + 11) + w ≤ R.locals) : CallW R s args RX0 RX5 112 yX5_begins cX5_begins 3 none (ws_ yX5_begins cX5_begins 3 none) (mkRmC f w k j) k j 1 := cwV 1 hts (lw_V q495 q496 q497 q119 q498) rfl rfl rfl (by decide +kernel) hR
set_option maxHeartbeats 4000000 in
theorem met_X0_read (l : Launch) (D : va_G) (dA : Nat → ClassId) {o : Nat} {V : GI} {L : GL} {Rf : GR} {H0 : Heap} (hG : gP D dA o dS V L Rf H0) {tp : List Int32} (htp : tpP V tp) (hby : byT tp) {ed : Nat} (hbs : bsA D dA H0 o Rf ed) : CtrW l D dA yX0_read cX0_read 3 (some .int) [(7, 59, 62, 22)] (mkRmC 48 1300 2900 26000) [.ref o] H0 (AN o H0.size) (QI (fun r H1 => rdCQ D dA o V L Rf (rdF (kdT tp) (plT tp) (vlT tp) (nmT tp)) (rdT (kdT tp) (plT tp) (vlT tp) (nmT tp)) r H1)) := by
  have hlo := gP_sz hG
  refine ctrW_I (by decide) (Nat.le_of_ble_eq_true rfl) ?_
  intro p e s m args below meth c ls QQ locs hx hb hml hown hts hK htab hend hS hl
  have hl : lv_has ls 3 [(0, .ref o)] := hl
  refine lv_iconst (v := (nI 0)) hx hb dX0_read_0 (by decide) ?_
  refine lv_istore_n (lv' := [(1, .int (nI 0)), (0, .ref o)]) hx hb dX0_read_1 rfl hl (by decide) rfl (fun ls hl => ?_)
  refine lv_aload_n hx hb dX0_read_2 rfl (lv_at hl 1 rfl) ?_
  refine lv_iconst (v := (-1)) hx hb dX0_read_3 (by decide) ?_
  refine g_put hx hb hts hown hK hG hS 0 (Or.inl (AS_in 0 (by decide))) rfl rfl ok_X0 4 (by decide) q526 rfl rfl rfl rfl dX0_read_4 (fun H locs hG hO hS => ?_)
  have hF := hO.fr (A := AS o) (AS_in 0 (by decide))
  have hbs := bsA_F hbs hF (fun q _ z => by have := z.1; omega) (fun _ => rfl)
  refine lv_aload_n hx hb dX0_read_7 rfl (lv_at hl 1 rfl) ?_
  refine lv_aload_n hx hb dX0_read_8 rfl (lv_at hl 1 rfl) ?_
  refine g_get hx hb hts hown hK hG 0 rfl rfl ok_X0 2 (by decide) q524 rfl rfl dX0_read_9 ?_
  have htp1 : tpP (up2 V 0 4 (-1)) tp := ⟨htp.1, (up2_n (fun z => by omega)).trans htp.2.1, fun i x hx => (up2_n (fun z => by omega)).trans (htp.2.2 i x hx)⟩
  have hsz0 := hS.1
  refine c_VXRA (rm := mkRmC 46 1100 2900 26000) hx hb hml hts hown hK hl.1 hS (met_X3_read l D dA hG htp1 hby hbs) (cw_X0_127 hts ⟨by show _ ≤ 48; omega, by show _ ≤ 1300; omega⟩) (hG 9 _ rfl) rfl rfl rfl rfl (Nat.le_of_ble_eq_true rfl) dX0_read_12 (fun q h => by rcases h with h | h; exact Or.inl h; exact Or.inr (by omega)) ⟨by show 0 + 2900 ≤ 2900; omega, by show 0 + 26000 ≤ 26000; omega⟩ (fun q H1 locs hq hF hS => ?_) (fun r1 H locs hq hF hS => ?_)
  · obtain ⟨rfl, V1, Rf1, hG, hE1, hrk, n9, pl9, hF9, h6, h7⟩ := hq
    generalize hHe1 : H1 = H at hG hS hF ⊢
    clear hHe1
    have hbs := bsA_F (Rf1 := Rf1) hbs hF (fun q _ z => by rcases z with z | z; (have := z.1; omega); omega) (fun w9 => hrk 3 w9 (by decide))
    obtain ⟨ce, hce1, hce2, hce3⟩ := flt_cell hK ⟨_, hG 1 _ rfl⟩
    refine xq_catch hown (name := "PartedSide$Fault") [] ⟨7, 59, 62, 22⟩ [] htab (fun z hz => (nomatch hz)) rfl (by decide) (hts _ q154) (va_Nw.use rfl (hK.2.1 _ q156 rfl)) hce1 hce2 hce3 ?_
    refine lv_astore_n (lv' := [(2, .ref (o + 1)), (1, .int (nI 0)), (0, .ref o)]) hx hb dX0_read_62 rfl hl (by decide) rfl (fun ls hl => ?_)
    refine lv_aload_n hx hb dX0_read_63 rfl (lv_at hl 0 rfl) ?_
    refine g_get (v := .int (nI n9)) hx hb hts hown hK hG 1 rfl rfl ok_X1 6 (by decide) q207 rfl (congrArg Value.int h6) dX0_read_64 ?_
    refine lv_istore_n (lv' := [(1, .int (nI n9)), (2, .ref (o + 1)), (0, .ref o)]) hx hb dX0_read_67 rfl hl (by decide) rfl (fun ls hl => ?_)
    refine lv_aload_n hx hb dX0_read_68 rfl (lv_at hl 2 rfl) ?_
    refine lv_aload_n hx hb dX0_read_69 rfl (lv_at hl 1 rfl) ?_
    refine g_get (v := .int (nI pl9)) hx hb hts hown hK hG 1 rfl rfl ok_X1 7 (by decide) q209 rfl (congrArg Value.int h7) dX0_read_70 ?_
    refine g_put hx hb hts hown hK hG hS 0 (Or.inl (AS_in 0 (by decide))) rfl rfl ok_X0 4 (by decide) q526 rfl rfl rfl rfl dX0_read_73 (fun H locs hG hO hS => ?_)
    have hF := hO.fr (A := AS o) (AS_in 0 (by decide))
    have hbs := bsA_F hbs hF (fun q _ z => by have := z.1; omega) (fun _ => rfl)
    refine lv_aload_n hx hb dX0_read_76 rfl (lv_at hl 2 rfl) ?_
    refine g_get hx hb hts hown hK hG 0 rfl rfl ok_X0 1 (by decide) q523 rfl rfl dX0_read_77 ?_
    refine lv_iconst (v := (nI 0)) hx hb dX0_read_80 (by decide) ?_
    refine g_put hx hb hts hown hK hG hS 2 (Or.inl (AS_in 2 (by decide))) rfl rfl ok_X2 2 (by decide) q261 rfl rfl rfl rfl dX0_read_81 (fun H locs hG hO hS => ?_)
    have hF := hO.fr (A := AS o) (AS_in 2 (by decide))
    have hbs := bsA_F hbs hF (fun q _ z => by have := z.1; omega) (fun _ => rfl)
    refine lv_iload_n hx hb dX0_read_84 rfl (lv_at hl 0 rfl) ?_
    refine W.widen (k := 2900) (n := 26000) (by show (0 + 2900) ≤ 2900; omega) (by show (0 + 26000) ≤ 26000; omega) ?_
    refine hend _ _ _ _ _ hS dX0_read_85 ?_
    rw [hF9]
    exact ⟨_, rfl, rfl, _, _, hG, ((((Eqx.rf.up rfl).trans (hE1.mono PRd_PRc)).up rfl).up rfl), hrk, (up2_n (fun z => by omega)).trans up2_s, up2_s⟩
  obtain ⟨tx, V1, Rf1, rfl, hG, hE1, hrk, hF9, htx9, hsl9⟩ := hq
  have hbs := bsA_F (Rf1 := Rf1) hbs hF (fun q _ z => by rcases z with z | z; (have := z.1; omega); omega) (fun w9 => hrk 3 w9 (by decide))
  refine g_putR hx hb hts hown hK hG hS 0 (Or.inl (AS_in 0 (by decide))) rfl rfl ok_X0 3 (by decide) q525 rfl (Or.inl rfl) rfl rfl dX0_read_15 (fun H locs hG hO hS => ?_)
  have hF := hO.fr (A := AS o) (AS_in 0 (by decide))
  have hbs := bsA_F hbs hF (fun q _ z => by have := z.1; omega) (fun _ => rfl)
  have htx9 := txA_kept (fun q h1 h2 => hF.2 q h2 (fun z => h1 z)) htx9
  have hsl9 := slpA_kept (fun q h1 h2 => hF.2 q h2 (fun z => h1 z)) hsl9
  obtain ⟨Rf2, hRf2⟩ : ∃ x, x = up2 Rf1 0 3 (some tx) := ⟨_, rfl⟩
  rw [← hRf2] at hG
  have htx3 : Rf2 0 3 = some tx := by rw [hRf2]; exact up2_s
  have hrk2 : ∀ k j, k ≠ 9 → ¬ (k = 0 ∧ j = 3) → Rf2 k j = Rf k j := fun k j hk hz => by rw [hRf2]; exact (up2_n hz).trans (hrk k j hk)
  have hbs := bsA_F (Rf1 := Rf2) hbs (A := A0) ⟨Nat.le_refl _, fun _ _ _ => rfl⟩ (fun _ _ z => z.elim) (fun w9 => by rw [hRf2]; exact up2_n (fun z => by omega))
  refine lv_aload_n hx hb dX0_read_18 rfl (lv_at hl 1 rfl) ?_
  refine g_get hx hb hts hown hK hG 0 rfl rfl ok_X0 7 (by decide) q529 rfl rfl dX0_read_19 ?_
  refine lv_aload_n hx hb dX0_read_22 rfl (lv_at hl 1 rfl) ?_
  refine g_get (v := .ref tx) hx hb hts hown hK hG 0 rfl rfl ok_X0 3 (by decide) q525 rfl (congrArg va_rf htx3) dX0_read_23 ?_
  refine c_VV hx hb hml hts hown hK hl.1 hS ⟨by show (0 + 2900) ≤ 2900; omega, by show (0 + 26000) ≤ 26000; omega⟩ (met_X5_begins l D dA (gP_view hG isB15) htx9 hsl9 (fun z hz hb => hz (AB_AS isB15 z hb))) (cw_X0_112 hts ⟨by show _ ≤ 48; omega, by show _ ≤ 1300; omega⟩) (hG 15 _ rfl) rfl rfl rfl rfl (Nat.le_of_ble_eq_true rfl) dX0_read_26 (fun z hz => Or.inl (AB_AS isB15 z hz)) (fun H1 locs hq hF hS => ?_)
  obtain ⟨W2, hGv, hEv, hbk0⟩ := hq
  obtain ⟨V2, hV2⟩ : ∃ X, X = spl V1 15 W2 := ⟨_, rfl⟩
  have hGn := gP_back hG isB15 hF (fun q z => z) hGv
  rw [← hV2] at hGn
  replace hG := hGn
  have hE2 : Eqx PT15 V1 V2 := by rw [hV2]; exact spl_eqx
  have hbk : bkS V2 15 (xN (txR (rdT (kdT tp) (plT tp) (vlT tp) (nmT tp)))) (bgF (txR (rdT (kdT tp) (plT tp) (vlT tp) (nmT tp)))) (xS (txR (rdT (kdT tp) (plT tp) (vlT tp) (nmT tp)))) := by rw [hV2]; exact bkS_spl hbk0
  clear hGn hGv hEv hbk0 hV2
  generalize hHe2 : H1 = H at hG hS hF ⊢
  clear hHe2
  have hF := (⟨hF.1, fun q h1 h2 => hF.2 q h1 (fun z => h2 (AB_AS isB15 q z))⟩ : Fr (AS o) _ H)
  have hbs := bsA_F hbs hF (fun q _ z => by have := z.1; omega) (fun _ => rfl)
  have htx9 := txA_kept (fun q h1 h2 => hF.2 q h2 (fun z => h1 z)) htx9
  have hsl9 := slpA_kept (fun q h1 h2 => hF.2 q h2 (fun z => h1 z)) hsl9
  refine lv_aload_n hx hb dX0_read_29 rfl (lv_at hl 1 rfl) ?_
  refine lv_iconst (v := (nI 0)) hx hb dX0_read_30 (by decide) ?_
  refine g_put hx hb hts hown hK hG hS 0 (Or.inl (AS_in 0 (by decide))) rfl rfl ok_X0 5 (by decide) q527 rfl rfl rfl rfl dX0_read_31 (fun H locs hG hO hS => ?_)
  have hF := hO.fr (A := AS o) (AS_in 0 (by decide))
  have hbs := bsA_F hbs hF (fun q _ z => by have := z.1; omega) (fun _ => rfl)
  have htx9 := txA_kept (fun q h1 h2 => hF.2 q h2 (fun z => h1 z)) htx9
  have hsl9 := slpA_kept (fun q h1 h2 => hF.2 q h2 (fun z => h1 z)) hsl9
  refine lv_aload_n hx hb dX0_read_34 rfl (lv_at hl 1 rfl) ?_
  refine lv_iconst (v := (nI 0)) hx hb dX0_read_35 (by decide) ?_
  refine g_put hx hb hts hown hK hG hS 0 (Or.inl (AS_in 0 (by decide))) rfl rfl ok_X0 15 (by decide) q537 rfl rfl rfl rfl dX0_read_36 (fun H locs hG hO hS => ?_)
  have hF := hO.fr (A := AS o) (AS_in 0 (by decide))
  have hbs := bsA_F hbs hF (fun q _ z => by have := z.1; omega) (fun _ => rfl)
  have htx9 := txA_kept (fun q h1 h2 => hF.2 q h2 (fun z => h1 z)) htx9
  have hsl9 := slpA_kept (fun q h1 h2 => hF.2 q h2 (fun z => h1 z)) hsl9
  refine lv_iconst (v := (nI 0)) hx hb dX0_read_39 (by decide) ?_
  refine lv_istore_n (lv' := [(2, .int (nI 0)), (1, .int (nI 0)), (0, .ref o)]) hx hb dX0_read_40 rfl hl (by decide) rfl (fun ls hl => ?_)
  have hbk1 : bkS (up2 (up2 V2 0 5 (nI 0)) 0 15 (nI 0)) 15 (xN (txR (rdT (kdT tp) (plT tp) (vlT tp) (nmT tp)))) (bgF (txR (rdT (kdT tp) (plT tp) (vlT tp) (nmT tp)))) (xS (txR (rdT (kdT tp) (plT tp) (vlT tp) (nmT tp)))) := bkS_to (fun k j hk => (up2_n (fun z => by omega)).trans (up2_n (fun z => by omega))) hbk
  obtain ⟨VS, hVS⟩ : ∃ x, x = up2 (up2 V2 0 5 (nI 0)) 0 15 (nI 0) := ⟨_, rfl⟩
  rw [← hVS] at hG hbk1
  have h04 : VS 0 4 = -1 := by rw [hVS]; exact ((hE2 0 4 rfl).trans (hE1 0 4 rfl))
  have h05 : VS 0 5 = nI 0 := by rw [hVS]; exact (up2_n (fun z => by omega)).trans up2_s
  have h015 : VS 0 15 = nI 0 := by rw [hVS]; exact up2_s
  have hES : Eqx PRn V VS := by rw [hVS]; exact (((((Eqx.rf.up rfl).trans (hE1.mono PRd_PRn)).trans (hE2.mono PT15_PRn)).up rfl).up rfl)
  have loop3 : ∀ (fu3 : Nat) (k : Nat) (VL : GI) (H : Heap) (locs : List Loc) (ls : Array Slot), 3 - k < fu3 → (k ≤ 3) → (Eqx PRn VS VL) → (∀ j, j < k → VL 74 j = nI 0) → (bkS VL 15 (xN (txR (rdT (kdT tp) (plT tp) (vlT tp) (nmT tp)))) (bgF (txR (rdT (kdT tp) (plT tp) (vlT tp) (nmT tp)))) (xS (txR (rdT (kdT tp) (plT tp) (vlT tp) (nmT tp))))) → (VL 0 4 = -1) → (VL 0 5 = nI 0) → (VL 0 15 = nI 0) → (txA D dA H (NS o) tx (txR (rdT (kdT tp) (plT tp) (vlT tp) (nmT tp)))) → (slpA D dA H (NS o) tx (txR (rdT (kdT tp) (plT tp) (vlT tp) (nmT tp)))) → (bsA D dA H o Rf2 ed) → gP D dA o dS VL L Rf2 H → va_S (AN o H0.size) H0 H locs → lv_has ls 3 [(2, .int (nI k)), (1, .int (nI 0)), (0, .ref o)] → W p l e (mkRmC 48 1300 2900 26000) s m args below meth c H locs (0 + 2900) (0 + 26000) QQ (F0 m 41 ls []) := by
    intro fu3
    induction fu3 with
    | zero => intro k VL H locs ls hfu; exact absurd hfu (Nat.not_lt_zero _)
    | succ fu3 ih3 =>
      intro k VL H locs ls hfu hk3 hEL hz74 hbkL g04 g05 g015 htx9 hsl9 hbs hG hS hl
      refine lv_iload_n hx hb dX0_read_41 rfl (lv_at hl 0 rfl) ?_
      refine lv_iconst (v := (nI 3)) hx hb dX0_read_42 (by decide) ?_
      refine n_icmp_ge (tgt := 59) hx hb dX0_read_43 (by decide) (by omega) (by omega) (fun c43 => ?_) (fun c43 => ?_)
      · refine lv_goto (tgt := 76) hx hb dX0_read_59 (by decide) ?_
        refine lv_aload_n hx hb dX0_read_76 rfl (lv_at hl 2 rfl) ?_
        refine g_get hx hb hts hown hK hG 0 rfl rfl ok_X0 1 (by decide) q523 rfl rfl dX0_read_77 ?_
        refine lv_iconst (v := (nI 0)) hx hb dX0_read_80 (by decide) ?_
        refine g_put hx hb hts hown hK hG hS 2 (Or.inl (AS_in 2 (by decide))) rfl rfl ok_X2 2 (by decide) q261 rfl rfl rfl rfl dX0_read_81 (fun H locs hG hO hS => ?_)
        have hF := hO.fr (A := AS o) (AS_in 2 (by decide))
        have hbs := bsA_F hbs hF (fun q _ z => by have := z.1; omega) (fun _ => rfl)
        have htx9 := txA_kept (fun q h1 h2 => hF.2 q h2 (fun z => h1 z)) htx9
        have hsl9 := slpA_kept (fun q h1 h2 => hF.2 q h2 (fun z => h1 z)) hsl9
        refine lv_iload_n hx hb dX0_read_84 rfl (lv_at hl 1 rfl) ?_
        refine W.widen (k := 2900) (n := 26000) (by show (0 + 2900) ≤ 2900; omega) (by show (0 + 26000) ≤ 26000; omega) ?_
        refine hend _ _ _ _ _ hS dX0_read_85 ?_
        rw [hF9]
        exact ⟨_, rfl, rfl, tx, _, _, hG, ((hES.trans hEL).up rfl), hrk2, htx3, htx9, hsl9, (up2_n (fun z => by omega)).trans g04, up2_s, (up2_n (fun z => by omega)).trans g05, (up2_n (fun z => by omega)).trans g015, (fun j hj => (up2_n (fun z => by omega)).trans (hz74 j (by omega))), bkS_to (fun k2 j hk2 => up2_n (fun z => by omega)) hbkL⟩
      refine lv_aload_n hx hb dX0_read_46 rfl (lv_at hl 2 rfl) ?_
      refine g_get hx hb hts hown hK hG 0 rfl rfl ok_X0 13 (by decide) q535 rfl rfl dX0_read_47 ?_
      refine lv_iload_n hx hb dX0_read_50 rfl (lv_at hl 0 rfl) ?_
      refine lv_iconst (v := (nI 0)) hx hb dX0_read_51 (by decide) ?_
      refine n_zast (x2 := (nI 0)) hx hb hK hG hS 74 (Or.inl (AS_in 74 (by decide))) rfl (by omega) (by decide) (by decide) dX0_read_52 (fun H locs hG hO hS => ?_)
      have hF := hO.fr (A := AS o) (AS_in 74 (by decide))
      have hbs := bsA_F hbs hF (fun q _ z => by have := z.1; omega) (fun _ => rfl)
      have htx9 := txA_kept (fun q h1 h2 => hF.2 q h2 (fun z => h1 z)) htx9
      have hsl9 := slpA_kept (fun q h1 h2 => hF.2 q h2 (fun z => h1 z)) hsl9
      refine lv_iinc (v := (nI (k + 1))) (lv' := [(2, .int (nI (k + 1))), (1, .int (nI 0)), (0, .ref o)]) hx hb dX0_read_53 hl (k := 0) rfl (nI_add _ _) (by decide) rfl (fun ls hl => ?_)
      refine lv_goto (tgt := 41) hx hb dX0_read_56 (by decide) ?_
      exact ih3 (k + 1) (up2 VL 74 k (nI 0)) _ _ _ (by omega) (by omega) (Eqx.up hEL rfl) (fun j hj => by by_cases e : j = k; rw [e]; exact up2_s; exact (up2_n (fun z => e z.2)).trans (hz74 j (by omega))) (bkS_to (fun k2 j hk2 => up2_n (fun z => by omega)) hbkL) ((up2_n (fun z => by omega)).trans g04) ((up2_n (fun z => by omega)).trans g05) ((up2_n (fun z => by omega)).trans g015) htx9 hsl9 hbs hG hS (lv_sub hl [0, 1, 2] rfl)
  exact loop3 ((3 - 0) + 1) 0 VS _ _ _ (Nat.lt_succ_self _) (Nat.zero_le _) Eqx.rf (fun j hj => absurd hj (Nat.not_lt_zero _)) hbk1 h04 h05 h015 htx9 hsl9 hbs hG hS (lv_sub hl [0, 1, 2] rfl)
