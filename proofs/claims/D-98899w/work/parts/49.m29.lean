def PCo (k j : Nat) : Bool := k == 25 || k == 26 || (k == 0 && (j == 39 || j == 43))
/-- what comes out of the signs that wait (top first) -/
def opK (w : Nat) : Nat := if w = 8 then 2 else if w = 9 then 3 else if w = 10 then 4 else 5
def coO (x : Nat) : List Nat → List Sg → List Nat × List Sg
  | [], em => ([], em)
  | w :: ws, em => if w = 6 ∨ (¬ x = 0 ∧ (w = 8 ∨ w = 9)) then (w :: ws, em) else coO x ws (em ++ [(opK w, nI 0)])
def stM (V : GI) : List Nat → Prop
  | [] => True
  | w :: ws => V 27 ws.length = nI w ∧ w < 100 ∧ stM V ws
def wtM (V : GI) (ws : List Nat) : Prop := V 0 43 = nI ws.length ∧ ws.length ≤ 64 ∧ stM V ws
theorem stM_to {V V1 : GI} : ∀ (ws : List Nat), (∀ j, j < ws.length → V1 27 j = V 27 j) → stM V ws → stM V1 ws
  | [], _, _ => trivial
  | w :: ws, h, hm => ⟨(h ws.length (by simp)).trans hm.1, hm.2.1, stM_to ws (fun j hj => h j (by simp; omega)) hm.2.2⟩
theorem wtM_to {V V1 : GI} {ws : List Nat} (h : V1 0 43 = V 0 43) (h1 : ∀ j, V1 27 j = V 27 j) (hm : wtM V ws) : wtM V1 ws := ⟨h.trans hm.1, hm.2.1, stM_to ws (fun j _ => h1 j) hm.2.2⟩
theorem wt_top {V : GI} {ws wt : List Nat} {w : Nat} (hm : wtM V ws) (hw : ws = w :: wt) : V 27 (ws.length - 1) = nI w ∧ w < 100 ∧ wt.length + 1 = ws.length := by
  subst hw
  exact ⟨hm.2.2.1, hm.2.2.2.1, rfl⟩
theorem wt_pop {V V1 : GI} {ws wt : List Nat} {w : Nat} (hm : wtM V ws) (hw : ws = w :: wt) (h : V1 0 43 = nI (ws.length - 1)) (h1 : ∀ j, V1 27 j = V 27 j) : wtM V1 wt := by
  subst hw
  exact ⟨h, by have := hm.2.1; simp at this; omega, stM_to wt (fun j _ => h1 j) hm.2.2.2.2⟩
theorem ws_c (ws : List Nat) (h : ¬ ws.length = 0) : ∃ w wt, ws = w :: wt := by
  cases ws with
  | nil => exact absurd rfl h
  | cons w wt => exact ⟨w, wt, rfl⟩
set_option maxHeartbeats 4000000 in
theorem met_X13_comesOut (l : Launch) (D : va_G) (dA : Nat → ClassId) {o : Nat} {V : GI} {L : GL} {Rf : GR} {H0 : Heap} (hG : gP D dA o dM V L Rf H0) {c0 : Nat} {ws0 : List Nat} {em0 : List Sg} (hwt0 : wtM V ws0) (hem0 : emM V c0 em0) {cm : Nat} (hcm : cm ≤ 840 ∧ (c0 < 420 → cm ≤ 420)) (hc9 : c0 + em0.length + ws0.length ≤ cm) (x : Nat) (hx9 : x < 2) : Ctr l D dA yX13_comesOut cX13_comesOut 3 none (mkRm 1 22) [.ref o, .int (nI x)] H0 (AM o) (QV (fun H1 => ∃ V1, gP D dA o dM V1 L Rf H1 ∧ Eqx PCo V V1 ∧ wtM V1 (coO x ws0 em0).1 ∧ emM V1 c0 (coO x ws0 em0).2 ∧ loF V V1 c0)) := by
  refine ctr_V (by decide) (Nat.le_of_ble_eq_true rfl) ?_
  intro p e s m args below meth c ls QQ locs hx hb hml hown hts hK hend hS hl
  have hl : lv_has ls 3 [(0, .ref o), (1, .int (nI x))] := hl
  have loop1 : ∀ (fu1 : Nat) (ws : List Nat) (em : List Sg) (V1 : GI) (H : Heap) (locs : List Loc) (ls : Array Slot), ws.length < fu1 → (coO x ws em = coO x ws0 em0) → (c0 + em.length + ws.length ≤ cm) → (Eqx PCo V V1) → (wtM V1 ws) → (emM V1 c0 em) → (loF V V1 c0) → gP D dA o dM V1 L Rf H → va_S (AM o) H0 H locs → lv_has ls 3 [(0, .ref o), (1, .int (nI x))] → W p l e (mkRm 1 22) s m args below meth c H locs 0 0 QQ (F0 m 0 ls []) := by
    intro fu1
    induction fu1 with
    | zero => intro ws em V1 H locs ls hfu; exact absurd hfu (Nat.not_lt_zero _)
    | succ fu1 ih1 =>
      intro ws em V1 H locs ls hfu hR h84 hE1 hwt hem hlo hG hS hl
      have hwl := hwt.2.1
      refine lv_aload_n hx hb dX13_comesOut_0 rfl (lv_at hl 0 rfl) ?_
      refine g_get (v := .int (nI ws.length)) hx hb hts hown hK hG 0 rfl rfl ok_X13 43 (by decide) q1514 rfl (congrArg Value.int hwt.1) dX13_comesOut_1 ?_
      refine n_if_le (tgt := 91) hx hb dX13_comesOut_4 (by decide) (by omega) (fun c4 => ?_) (fun c4 => ?_)
      · refine hend _ _ _ _ hS dX13_comesOut_91 ?_
        have hR2 : coO x ws0 em0 = (ws, em) := by
          rw [← hR, List.eq_nil_of_length_eq_zero (l := ws) (by omega)]; rfl
        exact ⟨rfl, _, hG, hE1, by rw [hR2]; exact hwt, by rw [hR2]; exact hem, hlo⟩
      obtain ⟨w, wt, hws⟩ := ws_c ws (by omega)
      obtain ⟨hw1, hw2, hw3⟩ := wt_top hwt hws
      refine lv_aload_n hx hb dX13_comesOut_7 rfl (lv_at hl 0 rfl) ?_
      refine g_get hx hb hts hown hK hG 0 rfl rfl ok_X13 42 (by decide) q1513 rfl rfl dX13_comesOut_8 ?_
      refine lv_aload_n hx hb dX13_comesOut_11 rfl (lv_at hl 0 rfl) ?_
      refine g_get (v := .int (nI ws.length)) hx hb hts hown hK hG 0 rfl rfl ok_X13 43 (by decide) q1514 rfl (congrArg Value.int hwt.1) dX13_comesOut_12 ?_
      refine lv_iconst (v := (nI 1)) hx hb dX13_comesOut_15 (by decide) ?_
      refine n_isub hx hb dX13_comesOut_16 (by omega) ?_
      refine n_iald hx hb hK hG 27 rfl (by omega) (by decide) dX13_comesOut_17 ?_
      refine iv (y := (nI w)) ((hE1 27 (ws.length - 1) rfl).trans (Eq.trans (Eq.symm (hE1 27 (ws.length - 1) rfl)) hw1)) ?_
      refine lv_istore_n (lv' := [(2, .int (nI w)), (0, .ref o), (1, .int (nI x))]) hx hb dX13_comesOut_18 rfl hl (by decide) rfl (fun ls hl => ?_)
      refine lv_iload_n hx hb dX13_comesOut_19 rfl (lv_at hl 0 rfl) ?_
      refine lv_bipush (v := (nI 6)) hx hb dX13_comesOut_20 (by decide) ?_
      refine n_icmp_eq (tgt := 41) hx hb dX13_comesOut_22 (by decide) (by omega) (by omega) (fun c22 => ?_) (fun c22 => ?_)
      · refine hend _ _ _ _ hS dX13_comesOut_41 ?_
        have hR2 : coO x ws0 em0 = (ws, em) := by
          rw [← hR, hws]; exact if_pos (by omega)
        exact ⟨rfl, _, hG, hE1, by rw [hR2]; exact hwt, by rw [hR2]; exact hem, hlo⟩
      refine lv_iload_n hx hb dX13_comesOut_25 rfl (lv_at hl 2 rfl) ?_
      refine n_if_eq (tgt := 42) hx hb dX13_comesOut_26 (by decide) (by omega) (fun c26 => ?_) (fun c26 => ?_)
      · refine lv_aload_n hx hb dX13_comesOut_42 rfl (lv_at hl 1 rfl) ?_
        refine lv_dup hx hb dX13_comesOut_43 rfl ?_
        refine g_get (v := .int (nI ws.length)) hx hb hts hown hK hG 0 rfl rfl ok_X13 43 (by decide) q1514 rfl (congrArg Value.int hwt.1) dX13_comesOut_44 ?_
        refine lv_iconst (v := (nI 1)) hx hb dX13_comesOut_47 (by decide) ?_
        refine n_isub hx hb dX13_comesOut_48 (by omega) ?_
        refine g_put hx hb hts hown hK hG hS 0 (AM_in 0 (by decide)) rfl rfl ok_X13 43 (by decide) q1514 rfl rfl rfl rfl dX13_comesOut_49 (fun H locs hG hO hS => ?_)
        refine lv_aload_n hx hb dX13_comesOut_52 rfl (lv_at hl 1 rfl) ?_
        refine lv_iload_n hx hb dX13_comesOut_53 rfl (lv_at hl 0 rfl) ?_
        refine lv_bipush (v := (nI 8)) hx hb dX13_comesOut_54 (by decide) ?_
        refine n_icmp_ne (tgt := 63) hx hb dX13_comesOut_56 (by decide) (by omega) (by omega) (fun c56 => ?_) (fun c56 => ?_)
        · refine lv_iload_n hx hb dX13_comesOut_63 rfl (lv_at hl 0 rfl) ?_
          refine lv_bipush (v := (nI 9)) hx hb dX13_comesOut_64 (by decide) ?_
          refine n_icmp_ne (tgt := 73) hx hb dX13_comesOut_66 (by decide) (by omega) (by omega) (fun c66 => ?_) (fun c66 => ?_)
          · refine lv_iload_n hx hb dX13_comesOut_73 rfl (lv_at hl 0 rfl) ?_
            refine lv_bipush (v := (nI 10)) hx hb dX13_comesOut_74 (by decide) ?_
            refine n_icmp_ne (tgt := 83) hx hb dX13_comesOut_76 (by decide) (by omega) (by omega) (fun c76 => ?_) (fun c76 => ?_)
            · refine lv_iconst (v := (nI 5)) hx hb dX13_comesOut_83 (by decide) ?_
              have hop : opK w = 5 := by unfold opK; (repeat' split) <;> omega
              refine lv_iconst (v := (nI 0)) hx hb dX13_comesOut_84 (by decide) ?_
              refine c_VV hx hb hml hts hown hK hl.1 hS ⟨Nat.le_refl _, Nat.le_refl _⟩ (met_X13_emit l D dA hG (c0 + em.length) (by omega) ((emM_to (V := V1) rfl (fun j => rfl) (fun j => rfl) hem).1) 5 (nI 0)) (cw_X13_290 hts ⟨by decide, by decide⟩) (hG 0 _ rfl) rfl rfl rfl rfl (Nat.le_of_ble_eq_true rfl) dX13_comesOut_85 (fun _ h => h) (fun H1 locs hq hF hS => ?_)
              have hG := hq
              generalize hHe2 : H1 = H at hG hS ⊢
              clear hHe2 hq
              refine lv_goto (tgt := 0) hx hb dX13_comesOut_88 (by decide) ?_
              exact ih1 wt (em ++ [(5, nI 0)]) (up2 (up2 (up2 (up2 V1 0 43 (nI (ws.length - 1))) 25 (c0 + em.length) (nI 5)) 26 (c0 + em.length) (nI 0)) 0 39 (nI ((c0 + em.length) + 1))) _ _ _ (by omega) (by rw [← hR, hws, ← hop]; exact (if_neg (by omega)).symm) (by rw [List.length_append, List.length_singleton]; omega) (Eqx.up (Eqx.up (Eqx.up (Eqx.up hE1 rfl) rfl) rfl) rfl) (wt_pop hwt hws rfl (fun _ => rfl)) (emM_add (by omega) (emM_to rfl (fun _ => rfl) (fun _ => rfl) hem)) (hlo.trans (loF.trans (V1 := up2 _ 0 43 _) (fun _ _ => ⟨rfl, rfl⟩) (loF_up (by omega) (by omega)))) hG hS (lv_sub hl [1, 2] rfl)
            refine lv_iconst (v := (nI 4)) hx hb dX13_comesOut_79 (by decide) ?_
            refine lv_goto (tgt := 84) hx hb dX13_comesOut_80 (by decide) ?_
            have hop : opK w = 4 := by unfold opK; (repeat' split) <;> omega
            refine lv_iconst (v := (nI 0)) hx hb dX13_comesOut_84 (by decide) ?_
            refine c_VV hx hb hml hts hown hK hl.1 hS ⟨Nat.le_refl _, Nat.le_refl _⟩ (met_X13_emit l D dA hG (c0 + em.length) (by omega) ((emM_to (V := V1) rfl (fun j => rfl) (fun j => rfl) hem).1) 4 (nI 0)) (cw_X13_290 hts ⟨by decide, by decide⟩) (hG 0 _ rfl) rfl rfl rfl rfl (Nat.le_of_ble_eq_true rfl) dX13_comesOut_85 (fun _ h => h) (fun H1 locs hq hF hS => ?_)
            have hG := hq
            generalize hHe3 : H1 = H at hG hS ⊢
            clear hHe3 hq
            refine lv_goto (tgt := 0) hx hb dX13_comesOut_88 (by decide) ?_
            exact ih1 wt (em ++ [(4, nI 0)]) (up2 (up2 (up2 (up2 V1 0 43 (nI (ws.length - 1))) 25 (c0 + em.length) (nI 4)) 26 (c0 + em.length) (nI 0)) 0 39 (nI ((c0 + em.length) + 1))) _ _ _ (by omega) (by rw [← hR, hws, ← hop]; exact (if_neg (by omega)).symm) (by rw [List.length_append, List.length_singleton]; omega) (Eqx.up (Eqx.up (Eqx.up (Eqx.up hE1 rfl) rfl) rfl) rfl) (wt_pop hwt hws rfl (fun _ => rfl)) (emM_add (by omega) (emM_to rfl (fun _ => rfl) (fun _ => rfl) hem)) (hlo.trans (loF.trans (V1 := up2 _ 0 43 _) (fun _ _ => ⟨rfl, rfl⟩) (loF_up (by omega) (by omega)))) hG hS (lv_sub hl [1, 2] rfl)
          refine lv_iconst (v := (nI 3)) hx hb dX13_comesOut_69 (by decide) ?_
          refine lv_goto (tgt := 84) hx hb dX13_comesOut_70 (by decide) ?_
          have hop : opK w = 3 := by unfold opK; (repeat' split) <;> omega
          refine lv_iconst (v := (nI 0)) hx hb dX13_comesOut_84 (by decide) ?_
          refine c_VV hx hb hml hts hown hK hl.1 hS ⟨Nat.le_refl _, Nat.le_refl _⟩ (met_X13_emit l D dA hG (c0 + em.length) (by omega) ((emM_to (V := V1) rfl (fun j => rfl) (fun j => rfl) hem).1) 3 (nI 0)) (cw_X13_290 hts ⟨by decide, by decide⟩) (hG 0 _ rfl) rfl rfl rfl rfl (Nat.le_of_ble_eq_true rfl) dX13_comesOut_85 (fun _ h => h) (fun H1 locs hq hF hS => ?_)
          have hG := hq
          generalize hHe4 : H1 = H at hG hS ⊢
          clear hHe4 hq
          refine lv_goto (tgt := 0) hx hb dX13_comesOut_88 (by decide) ?_
          exact ih1 wt (em ++ [(3, nI 0)]) (up2 (up2 (up2 (up2 V1 0 43 (nI (ws.length - 1))) 25 (c0 + em.length) (nI 3)) 26 (c0 + em.length) (nI 0)) 0 39 (nI ((c0 + em.length) + 1))) _ _ _ (by omega) (by rw [← hR, hws, ← hop]; exact (if_neg (by omega)).symm) (by rw [List.length_append, List.length_singleton]; omega) (Eqx.up (Eqx.up (Eqx.up (Eqx.up hE1 rfl) rfl) rfl) rfl) (wt_pop hwt hws rfl (fun _ => rfl)) (emM_add (by omega) (emM_to rfl (fun _ => rfl) (fun _ => rfl) hem)) (hlo.trans (loF.trans (V1 := up2 _ 0 43 _) (fun _ _ => ⟨rfl, rfl⟩) (loF_up (by omega) (by omega)))) hG hS (lv_sub hl [1, 2] rfl)
        refine lv_iconst (v := (nI 2)) hx hb dX13_comesOut_59 (by decide) ?_
        refine lv_goto (tgt := 84) hx hb dX13_comesOut_60 (by decide) ?_
        have hop : opK w = 2 := by unfold opK; (repeat' split) <;> omega
        refine lv_iconst (v := (nI 0)) hx hb dX13_comesOut_84 (by decide) ?_
        refine c_VV hx hb hml hts hown hK hl.1 hS ⟨Nat.le_refl _, Nat.le_refl _⟩ (met_X13_emit l D dA hG (c0 + em.length) (by omega) ((emM_to (V := V1) rfl (fun j => rfl) (fun j => rfl) hem).1) 2 (nI 0)) (cw_X13_290 hts ⟨by decide, by decide⟩) (hG 0 _ rfl) rfl rfl rfl rfl (Nat.le_of_ble_eq_true rfl) dX13_comesOut_85 (fun _ h => h) (fun H1 locs hq hF hS => ?_)
        have hG := hq
        generalize hHe5 : H1 = H at hG hS ⊢
        clear hHe5 hq
        refine lv_goto (tgt := 0) hx hb dX13_comesOut_88 (by decide) ?_
        exact ih1 wt (em ++ [(2, nI 0)]) (up2 (up2 (up2 (up2 V1 0 43 (nI (ws.length - 1))) 25 (c0 + em.length) (nI 2)) 26 (c0 + em.length) (nI 0)) 0 39 (nI ((c0 + em.length) + 1))) _ _ _ (by omega) (by rw [← hR, hws, ← hop]; exact (if_neg (by omega)).symm) (by rw [List.length_append, List.length_singleton]; omega) (Eqx.up (Eqx.up (Eqx.up (Eqx.up hE1 rfl) rfl) rfl) rfl) (wt_pop hwt hws rfl (fun _ => rfl)) (emM_add (by omega) (emM_to rfl (fun _ => rfl) (fun _ => rfl) hem)) (hlo.trans (loF.trans (V1 := up2 _ 0 43 _) (fun _ _ => ⟨rfl, rfl⟩) (loF_up (by omega) (by omega)))) hG hS (lv_sub hl [1, 2] rfl)
      refine lv_iload_n hx hb dX13_comesOut_29 rfl (lv_at hl 0 rfl) ?_
      refine lv_bipush (v := (nI 8)) hx hb dX13_comesOut_30 (by decide) ?_
      refine n_icmp_eq (tgt := 41) hx hb dX13_comesOut_32 (by decide) (by omega) (by omega) (fun c32 => ?_) (fun c32 => ?_)
      · refine hend _ _ _ _ hS dX13_comesOut_41 ?_
        have hR2 : coO x ws0 em0 = (ws, em) := by
          rw [← hR, hws]; exact if_pos (by omega)
        exact ⟨rfl, _, hG, hE1, by rw [hR2]; exact hwt, by rw [hR2]; exact hem, hlo⟩
      refine lv_iload_n hx hb dX13_comesOut_35 rfl (lv_at hl 0 rfl) ?_
      refine lv_bipush (v := (nI 9)) hx hb dX13_comesOut_36 (by decide) ?_
      refine n_icmp_ne (tgt := 42) hx hb dX13_comesOut_38 (by decide) (by omega) (by omega) (fun c38 => ?_) (fun c38 => ?_)
      · refine lv_aload_n hx hb dX13_comesOut_42 rfl (lv_at hl 1 rfl) ?_
        refine lv_dup hx hb dX13_comesOut_43 rfl ?_
        refine g_get (v := .int (nI ws.length)) hx hb hts hown hK hG 0 rfl rfl ok_X13 43 (by decide) q1514 rfl (congrArg Value.int hwt.1) dX13_comesOut_44 ?_
        refine lv_iconst (v := (nI 1)) hx hb dX13_comesOut_47 (by decide) ?_
        refine n_isub hx hb dX13_comesOut_48 (by omega) ?_
        refine g_put hx hb hts hown hK hG hS 0 (AM_in 0 (by decide)) rfl rfl ok_X13 43 (by decide) q1514 rfl rfl rfl rfl dX13_comesOut_49 (fun H locs hG hO hS => ?_)
        refine lv_aload_n hx hb dX13_comesOut_52 rfl (lv_at hl 1 rfl) ?_
        refine lv_iload_n hx hb dX13_comesOut_53 rfl (lv_at hl 0 rfl) ?_
        refine lv_bipush (v := (nI 8)) hx hb dX13_comesOut_54 (by decide) ?_
        refine n_icmp_ne (tgt := 63) hx hb dX13_comesOut_56 (by decide) (by omega) (by omega) (fun c56 => ?_) (fun c56 => ?_)
        · refine lv_iload_n hx hb dX13_comesOut_63 rfl (lv_at hl 0 rfl) ?_
          refine lv_bipush (v := (nI 9)) hx hb dX13_comesOut_64 (by decide) ?_
          refine n_icmp_ne (tgt := 73) hx hb dX13_comesOut_66 (by decide) (by omega) (by omega) (fun c66 => ?_) (fun c66 => ?_)
          · refine lv_iload_n hx hb dX13_comesOut_73 rfl (lv_at hl 0 rfl) ?_
            refine lv_bipush (v := (nI 10)) hx hb dX13_comesOut_74 (by decide) ?_
            refine n_icmp_ne (tgt := 83) hx hb dX13_comesOut_76 (by decide) (by omega) (by omega) (fun c76 => ?_) (fun c76 => ?_)
            · refine lv_iconst (v := (nI 5)) hx hb dX13_comesOut_83 (by decide) ?_
              have hop : opK w = 5 := by unfold opK; (repeat' split) <;> omega
              refine lv_iconst (v := (nI 0)) hx hb dX13_comesOut_84 (by decide) ?_
              refine c_VV hx hb hml hts hown hK hl.1 hS ⟨Nat.le_refl _, Nat.le_refl _⟩ (met_X13_emit l D dA hG (c0 + em.length) (by omega) ((emM_to (V := V1) rfl (fun j => rfl) (fun j => rfl) hem).1) 5 (nI 0)) (cw_X13_290 hts ⟨by decide, by decide⟩) (hG 0 _ rfl) rfl rfl rfl rfl (Nat.le_of_ble_eq_true rfl) dX13_comesOut_85 (fun _ h => h) (fun H1 locs hq hF hS => ?_)
              have hG := hq
              generalize hHe6 : H1 = H at hG hS ⊢
              clear hHe6 hq
              refine lv_goto (tgt := 0) hx hb dX13_comesOut_88 (by decide) ?_
              exact ih1 wt (em ++ [(5, nI 0)]) (up2 (up2 (up2 (up2 V1 0 43 (nI (ws.length - 1))) 25 (c0 + em.length) (nI 5)) 26 (c0 + em.length) (nI 0)) 0 39 (nI ((c0 + em.length) + 1))) _ _ _ (by omega) (by rw [← hR, hws, ← hop]; exact (if_neg (by omega)).symm) (by rw [List.length_append, List.length_singleton]; omega) (Eqx.up (Eqx.up (Eqx.up (Eqx.up hE1 rfl) rfl) rfl) rfl) (wt_pop hwt hws rfl (fun _ => rfl)) (emM_add (by omega) (emM_to rfl (fun _ => rfl) (fun _ => rfl) hem)) (hlo.trans (loF.trans (V1 := up2 _ 0 43 _) (fun _ _ => ⟨rfl, rfl⟩) (loF_up (by omega) (by omega)))) hG hS (lv_sub hl [1, 2] rfl)
            refine lv_iconst (v := (nI 4)) hx hb dX13_comesOut_79 (by decide) ?_
            refine lv_goto (tgt := 84) hx hb dX13_comesOut_80 (by decide) ?_
            have hop : opK w = 4 := by unfold opK; (repeat' split) <;> omega
            refine lv_iconst (v := (nI 0)) hx hb dX13_comesOut_84 (by decide) ?_
            refine c_VV hx hb hml hts hown hK hl.1 hS ⟨Nat.le_refl _, Nat.le_refl _⟩ (met_X13_emit l D dA hG (c0 + em.length) (by omega) ((emM_to (V := V1) rfl (fun j => rfl) (fun j => rfl) hem).1) 4 (nI 0)) (cw_X13_290 hts ⟨by decide, by decide⟩) (hG 0 _ rfl) rfl rfl rfl rfl (Nat.le_of_ble_eq_true rfl) dX13_comesOut_85 (fun _ h => h) (fun H1 locs hq hF hS => ?_)
            have hG := hq
            generalize hHe7 : H1 = H at hG hS ⊢
            clear hHe7 hq
            refine lv_goto (tgt := 0) hx hb dX13_comesOut_88 (by decide) ?_
            exact ih1 wt (em ++ [(4, nI 0)]) (up2 (up2 (up2 (up2 V1 0 43 (nI (ws.length - 1))) 25 (c0 + em.length) (nI 4)) 26 (c0 + em.length) (nI 0)) 0 39 (nI ((c0 + em.length) + 1))) _ _ _ (by omega) (by rw [← hR, hws, ← hop]; exact (if_neg (by omega)).symm) (by rw [List.length_append, List.length_singleton]; omega) (Eqx.up (Eqx.up (Eqx.up (Eqx.up hE1 rfl) rfl) rfl) rfl) (wt_pop hwt hws rfl (fun _ => rfl)) (emM_add (by omega) (emM_to rfl (fun _ => rfl) (fun _ => rfl) hem)) (hlo.trans (loF.trans (V1 := up2 _ 0 43 _) (fun _ _ => ⟨rfl, rfl⟩) (loF_up (by omega) (by omega)))) hG hS (lv_sub hl [1, 2] rfl)
          refine lv_iconst (v := (nI 3)) hx hb dX13_comesOut_69 (by decide) ?_
          refine lv_goto (tgt := 84) hx hb dX13_comesOut_70 (by decide) ?_
          have hop : opK w = 3 := by unfold opK; (repeat' split) <;> omega
          refine lv_iconst (v := (nI 0)) hx hb dX13_comesOut_84 (by decide) ?_
          refine c_VV hx hb hml hts hown hK hl.1 hS ⟨Nat.le_refl _, Nat.le_refl _⟩ (met_X13_emit l D dA hG (c0 + em.length) (by omega) ((emM_to (V := V1) rfl (fun j => rfl) (fun j => rfl) hem).1) 3 (nI 0)) (cw_X13_290 hts ⟨by decide, by decide⟩) (hG 0 _ rfl) rfl rfl rfl rfl (Nat.le_of_ble_eq_true rfl) dX13_comesOut_85 (fun _ h => h) (fun H1 locs hq hF hS => ?_)
          have hG := hq
          generalize hHe8 : H1 = H at hG hS ⊢
          clear hHe8 hq
          refine lv_goto (tgt := 0) hx hb dX13_comesOut_88 (by decide) ?_
          exact ih1 wt (em ++ [(3, nI 0)]) (up2 (up2 (up2 (up2 V1 0 43 (nI (ws.length - 1))) 25 (c0 + em.length) (nI 3)) 26 (c0 + em.length) (nI 0)) 0 39 (nI ((c0 + em.length) + 1))) _ _ _ (by omega) (by rw [← hR, hws, ← hop]; exact (if_neg (by omega)).symm) (by rw [List.length_append, List.length_singleton]; omega) (Eqx.up (Eqx.up (Eqx.up (Eqx.up hE1 rfl) rfl) rfl) rfl) (wt_pop hwt hws rfl (fun _ => rfl)) (emM_add (by omega) (emM_to rfl (fun _ => rfl) (fun _ => rfl) hem)) (hlo.trans (loF.trans (V1 := up2 _ 0 43 _) (fun _ _ => ⟨rfl, rfl⟩) (loF_up (by omega) (by omega)))) hG hS (lv_sub hl [1, 2] rfl)
        refine lv_iconst (v := (nI 2)) hx hb dX13_comesOut_59 (by decide) ?_
        refine lv_goto (tgt := 84) hx hb dX13_comesOut_60 (by decide) ?_
        have hop : opK w = 2 := by unfold opK; (repeat' split) <;> omega
        refine lv_iconst (v := (nI 0)) hx hb dX13_comesOut_84 (by decide) ?_
        refine c_VV hx hb hml hts hown hK hl.1 hS ⟨Nat.le_refl _, Nat.le_refl _⟩ (met_X13_emit l D dA hG (c0 + em.length) (by omega) ((emM_to (V := V1) rfl (fun j => rfl) (fun j => rfl) hem).1) 2 (nI 0)) (cw_X13_290 hts ⟨by decide, by decide⟩) (hG 0 _ rfl) rfl rfl rfl rfl (Nat.le_of_ble_eq_true rfl) dX13_comesOut_85 (fun _ h => h) (fun H1 locs hq hF hS => ?_)
        have hG := hq
        generalize hHe9 : H1 = H at hG hS ⊢
        clear hHe9 hq
        refine lv_goto (tgt := 0) hx hb dX13_comesOut_88 (by decide) ?_
        exact ih1 wt (em ++ [(2, nI 0)]) (up2 (up2 (up2 (up2 V1 0 43 (nI (ws.length - 1))) 25 (c0 + em.length) (nI 2)) 26 (c0 + em.length) (nI 0)) 0 39 (nI ((c0 + em.length) + 1))) _ _ _ (by omega) (by rw [← hR, hws, ← hop]; exact (if_neg (by omega)).symm) (by rw [List.length_append, List.length_singleton]; omega) (Eqx.up (Eqx.up (Eqx.up (Eqx.up hE1 rfl) rfl) rfl) rfl) (wt_pop hwt hws rfl (fun _ => rfl)) (emM_add (by omega) (emM_to rfl (fun _ => rfl) (fun _ => rfl) hem)) (hlo.trans (loF.trans (V1 := up2 _ 0 43 _) (fun _ _ => ⟨rfl, rfl⟩) (loF_up (by omega) (by omega)))) hG hS (lv_sub hl [1, 2] rfl)
      refine hend _ _ _ _ hS dX13_comesOut_41 ?_
      have hR2 : coO x ws0 em0 = (ws, em) := by
        rw [← hR, hws]; exact if_pos (by omega)
      exact ⟨rfl, _, hG, hE1, by rw [hR2]; exact hwt, by rw [hR2]; exact hem, hlo⟩
  exact loop1 (ws0.length + 1) ws0 em0 V _ _ _ (Nat.lt_succ_self _) rfl hc9 Eqx.rf hwt0 hem0 loF.rf hG hS (lv_sub hl [0, 1] rfl)
