theorem tmV_some {vars : Nat → Int32} {es : List Sg} {x : Int32} {st : List Int32} (h : evS vars es [] = some (x :: st)) : tmV vars es = some x := by unfold tmV; rw [h]
theorem tmV_none {vars : Nat → Int32} {es : List Sg} (h : evS vars es [] = none) : tmV vars es = none := by unfold tmV; rw [h]
def brk (f : Int32) : Option Int32 → Int32
  | none => 1
  | some _ => f
/-! the model's terms and laws -/
/-- the scratch of a term's evaluation: the pile, the flag -/
def PT (k j : Nat) : Bool := k == 29 || (k == 0 && j == 46)
/-- from a to b the model's code has just these signs -/
def segM (V : GI) (a b : Nat) (es : List Sg) : Prop := b = a + es.length ∧ b ≤ 840 ∧ ∀ (i k : Nat) (v : Int32), es[i]? = some (k, v) → V 25 (a + i) = nI k ∧ V 26 (a + i) = v
theorem segM_tl {V : GI} {a b : Nat} {q : Sg} {es : List Sg} (h : segM V a b (q :: es)) : segM V (a + 1) b es :=
  ⟨by have := h.1; simp only [List.length_cons] at this; omega, h.2.1, fun i k v hi => by rw [show a + 1 + i = a + (i + 1) by omega]; exact h.2.2 (i + 1) k v hi⟩
set_option maxHeartbeats 4000000 in
theorem met_X13_termOf (l : Launch) (D : va_G) (dA : Nat → ClassId) {o : Nat} {V : GI} {L : GL} {Rf : GR} {H0 : Heap} (hG : gP D dA o dM V L Rf H0) (a b : Nat) (es0 : List Sg) (hsg0 : segM V a b es0) (hwf0 : wfS es0 0) : Ctr l D dA yX13_termOf cX13_termOf 8 (some .int) (mkRm 0 0) [.ref o, .int (nI a), .int (nI b)] H0 (AM o) (QI (fun r H1 => ∃ V1, gP D dA o dM V1 L Rf H1 ∧ Eqx PT V V1 ∧ r = (tmV (V 28) es0).getD 0 ∧ V1 0 46 = brk (V 0 46) (tmV (V 28) es0))) := by
  have hb840 := hsg0.2.1
  have hab := hsg0.1
  generalize hR : evS (V 28) es0 [] = R
  refine ctr_I (by decide) (Nat.le_of_ble_eq_true rfl) ?_
  intro p e s m args below meth c ls QQ locs hx hb hml hown hts hK hend hS hl
  have hl : lv_has ls 8 [(0, .ref o), (1, .int (nI a)), (2, .int (nI b))] := hl
  refine lv_iconst (v := (nI 0)) hx hb dX13_termOf_0 (by decide) ?_
  refine lv_istore_n (lv' := [(3, .int (nI 0)), (0, .ref o), (1, .int (nI a)), (2, .int (nI b))]) hx hb dX13_termOf_1 rfl hl (by decide) rfl (fun ls hl => ?_)
  refine lv_iload_n hx hb dX13_termOf_2 rfl (lv_at hl 2 rfl) ?_
  refine lv_istore (lv' := [(4, .int (nI a)), (3, .int (nI 0)), (0, .ref o), (1, .int (nI a)), (2, .int (nI b))]) hx hb dX13_termOf_3 hl (by decide) rfl (fun ls hl => ?_)
  have loop1 : ∀ (fu1 : Nat) (es : List Sg) (st : List Int32) (cp : Nat) (t : Nat) (V1 : GI) (H : Heap) (locs : List Loc) (ls : Array Slot), es.length < fu1 → (segM V cp b es) → (wfS es st.length) → (evS (V 28) es st = R) → (t = st.length) → (t ≤ 400) → (Eqx PT V V1) → (pileOK (V1 29) st) → (V1 0 46 = V 0 46) → gP D dA o dM V1 L Rf H → va_S (AM o) H0 H locs → lv_has ls 8 [(4, .int (nI cp)), (3, .int (nI t)), (0, .ref o), (1, .int (nI a)), (2, .int (nI b))] → W p l e (mkRm 0 0) s m args below meth c H locs 0 0 QQ (F0 m 5 ls []) := by
    intro fu1
    induction fu1 with
    | zero => intro es st cp t V1 H locs ls hfu; exact absurd hfu (Nat.not_lt_zero _)
    | succ fu1 ih1 =>
      intro es st cp t V1 H locs ls hfu hsg hwf hev ht ht4 hE1 hpl hbk hG hS hl
      have hb840 := hsg.2.1
      have hcb := hsg.1
      refine lv_iload hx hb dX13_termOf_5 (lv_at hl 0 rfl) ?_
      refine lv_iload_n hx hb dX13_termOf_7 rfl (lv_at hl 4 rfl) ?_
      refine n_icmp_ge (tgt := 165) hx hb dX13_termOf_8 (by decide) (by omega) (by omega) (fun c8 => ?_) (fun c8 => ?_)
      · have hes : es = [] := by
          cases es with
          | nil => rfl
          | cons q es1 => exact absurd hsg.1 (by simp only [List.length_cons]; omega)
        subst hes
        obtain ⟨x, rfl⟩ : ∃ x, st = [x] := by
          have h1 : st.length = 1 := hwf
          rcases st with _ | ⟨x, _ | ⟨y, st⟩⟩
          · simp at h1
          · exact ⟨x, rfl⟩
          · simp at h1
        refine lv_aload_n hx hb dX13_termOf_165 rfl (lv_at hl 2 rfl) ?_
        refine g_get hx hb hts hown hK hG 0 rfl rfl ok_X13 45 (by decide) q1516 rfl rfl dX13_termOf_166 ?_
        refine lv_iconst (v := (nI 0)) hx hb dX13_termOf_169 (by decide) ?_
        refine n_iald hx hb hK hG 29 rfl (by omega) (by decide) dX13_termOf_170 ?_
        refine iv (y := x) hpl.1 ?_
        refine hend _ _ _ _ _ hS dX13_termOf_171 ?_
        have hn : evS (V 28) es0 [] = some [x] := by rw [hR, ← hev]; rfl
        exact ⟨_, rfl, _, hG, hE1, (by rw [tmV_some hn]; rfl), (by rw [tmV_some hn]; exact hbk)⟩
      obtain ⟨⟨k, v⟩, es, rfl⟩ : ∃ q es1, es = q :: es1 := by
        cases es with
        | nil => exact absurd hsg.1 (by simp only [List.length_nil]; omega)
        | cons q es1 => exact ⟨q, es1, rfl⟩
      have hb840 := hsg.2.1
      have hcb := hsg.1
      simp only [List.length_cons] at hcb
      have hk := (hsg.2.2 0 k v rfl).1
      have hv := (hsg.2.2 0 k v rfl).2
      have hk5 : k ≤ 5 := by
        rcases k with _ | _ | k
        · omega
        · omega
        · have := hwf.1; omega
      refine lv_aload_n hx hb dX13_termOf_11 rfl (lv_at hl 2 rfl) ?_
      refine g_get hx hb hts hown hK hG 0 rfl rfl ok_X13 40 (by decide) q1511 rfl rfl dX13_termOf_12 ?_
      refine lv_iload hx hb dX13_termOf_15 (lv_at hl 0 rfl) ?_
      refine n_iald hx hb hK hG 25 rfl (by omega) (by decide) dX13_termOf_17 ?_
      refine iv (y := (nI k)) ((hE1 25 cp rfl).trans hk) ?_
      refine lv_istore (lv' := [(5, .int (nI k)), (4, .int (nI cp)), (3, .int (nI t)), (0, .ref o), (1, .int (nI a)), (2, .int (nI b))]) hx hb dX13_termOf_18 hl (by decide) rfl (fun ls hl => ?_)
      refine lv_iload hx hb dX13_termOf_20 (lv_at hl 0 rfl) ?_
      refine lv_iconst (v := (nI 2)) hx hb dX13_termOf_22 (by decide) ?_
      refine n_icmp_ge (tgt := 65) hx hb dX13_termOf_23 (by decide) (by omega) (by omega) (fun c23 => ?_) (fun c23 => ?_)
      · obtain ⟨k, rfl⟩ : ∃ k1, k = k1 + 2 := ⟨k - 2, by omega⟩
        obtain ⟨y, x, st, rfl⟩ : ∃ y x st1, st = y :: x :: st1 := by
          have h2 := hwf.2.1
          rcases st with _ | ⟨y, _ | ⟨x, st⟩⟩
          · simp at h2
          · simp at h2
          · exact ⟨y, x, st, rfl⟩
        have ht2 : t = st.length + 2 := by rw [ht]; simp only [List.length_cons]
        have hpy := hpl.1
        have hpx := hpl.2.1
        simp only [List.length_cons] at hpy
        have hpy : V1 29 (t - 1) = y := by rw [show t - 1 = st.length + 1 by omega]; exact hpy
        have hpx : V1 29 ((t - 1) - 1) = x := by rw [show (t - 1) - 1 = st.length by omega]; exact hpx
        refine lv_iinc (v := (nI (t - 1))) (lv' := [(3, .int (nI (t - 1))), (5, .int (nI (k + 2))), (4, .int (nI cp)), (0, .ref o), (1, .int (nI a)), (2, .int (nI b))]) hx hb dX13_termOf_65 hl (k := 2) rfl (nI_dec (by omega)) (by decide) rfl (fun ls hl => ?_)
        refine lv_aload_n hx hb dX13_termOf_68 rfl (lv_at hl 3 rfl) ?_
        refine g_get hx hb hts hown hK hG 0 rfl rfl ok_X13 45 (by decide) q1516 rfl rfl dX13_termOf_69 ?_
        refine lv_iload_n hx hb dX13_termOf_72 rfl (lv_at hl 0 rfl) ?_
        refine lv_iconst (v := (nI 1)) hx hb dX13_termOf_73 (by decide) ?_
        refine n_isub hx hb dX13_termOf_74 (by omega) ?_
        refine n_iald hx hb hK hG 29 rfl (by omega) (by decide) dX13_termOf_75 ?_
        refine iv (y := x) hpx ?_
        refine lv_istore (lv' := [(6, .int x), (3, .int (nI (t - 1))), (5, .int (nI (k + 2))), (4, .int (nI cp)), (0, .ref o), (1, .int (nI a)), (2, .int (nI b))]) hx hb dX13_termOf_76 hl (by decide) rfl (fun ls hl => ?_)
        refine lv_aload_n hx hb dX13_termOf_78 rfl (lv_at hl 4 rfl) ?_
        refine g_get hx hb hts hown hK hG 0 rfl rfl ok_X13 45 (by decide) q1516 rfl rfl dX13_termOf_79 ?_
        refine lv_iload_n hx hb dX13_termOf_82 rfl (lv_at hl 1 rfl) ?_
        refine n_iald hx hb hK hG 29 rfl (by omega) (by decide) dX13_termOf_83 ?_
        refine iv (y := y) hpy ?_
        refine lv_istore (lv' := [(7, .int y), (6, .int x), (3, .int (nI (t - 1))), (5, .int (nI (k + 2))), (4, .int (nI cp)), (0, .ref o), (1, .int (nI a)), (2, .int (nI b))]) hx hb dX13_termOf_84 hl (by decide) rfl (fun ls hl => ?_)
        refine lv_iload hx hb dX13_termOf_86 (lv_at hl 3 rfl) ?_
        refine lv_iconst (v := (nI 5)) hx hb dX13_termOf_88 (by decide) ?_
        refine n_icmp_ne (tgt := 104) hx hb dX13_termOf_89 (by decide) (by omega) (by omega) (fun c89 => ?_) (fun c89 => ?_)
        · refine lv_aload_n hx hb dX13_termOf_104 rfl (lv_at hl 5 rfl) ?_
          refine g_get hx hb hts hown hK hG 0 rfl rfl ok_X13 45 (by decide) q1516 rfl rfl dX13_termOf_105 ?_
          refine lv_iload_n hx hb dX13_termOf_108 rfl (lv_at hl 2 rfl) ?_
          refine lv_iconst (v := (nI 1)) hx hb dX13_termOf_109 (by decide) ?_
          refine n_isub hx hb dX13_termOf_110 (by omega) ?_
          refine lv_iload hx hb dX13_termOf_111 (lv_at hl 3 rfl) ?_
          refine lv_iconst (v := (nI 2)) hx hb dX13_termOf_113 (by decide) ?_
          refine n_icmp_ne (tgt := 125) hx hb dX13_termOf_114 (by decide) (by omega) (by omega) (fun c114 => ?_) (fun c114 => ?_)
          · refine lv_iload hx hb dX13_termOf_125 (lv_at hl 3 rfl) ?_
            refine lv_iconst (v := (nI 3)) hx hb dX13_termOf_127 (by decide) ?_
            refine n_icmp_ne (tgt := 139) hx hb dX13_termOf_128 (by decide) (by omega) (by omega) (fun c128 => ?_) (fun c128 => ?_)
            · refine lv_iload hx hb dX13_termOf_139 (lv_at hl 3 rfl) ?_
              refine lv_iconst (v := (nI 4)) hx hb dX13_termOf_141 (by decide) ?_
              refine n_icmp_ne (tgt := 153) hx hb dX13_termOf_142 (by decide) (by omega) (by omega) (fun c142 => ?_) (fun c142 => ?_)
              · refine lv_iload hx hb dX13_termOf_153 (lv_at hl 1 rfl) ?_
                refine lv_iload hx hb dX13_termOf_155 (lv_at hl 0 rfl) ?_
                refine lv_idiv hx hb dX13_termOf_157 (by first | exact c94 | (exfalso; omega)) ?_
                refine iv (y := (opI k x y)) (opI_3 (by omega)) ?_
                refine n_iast hx hb hK hG hS 29 (AM_in 29 (by decide)) rfl (by omega) (by decide) dX13_termOf_158 (fun H locs hG hO hS => ?_)
                refine lv_iinc (v := (nI (cp + 1))) (lv' := [(4, .int (nI (cp + 1))), (7, .int y), (6, .int x), (3, .int (nI (t - 1))), (5, .int (nI (k + 2))), (0, .ref o), (1, .int (nI a)), (2, .int (nI b))]) hx hb dX13_termOf_159 hl (k := 4) rfl (nI_add _ _) (by decide) rfl (fun ls hl => ?_)
                refine lv_goto (tgt := 5) hx hb dX13_termOf_162 (by decide) ?_
                exact ih1 es (opI k x y :: st) (cp + 1) (t - 1) (up2 V1 29 ((t - 1) - 1) (opI k x y)) _ _ _ (by simp only [List.length_cons] at hfu; omega) (segM_tl hsg) (by have h := hwf.2.2; simp only [List.length_cons] at h ⊢; exact h) (by have h := hev; simp only [evS] at h; rw [if_neg (fun z => by first | exact c94 z.2 | exact c89 (by omega))] at h; exact h) (by simp only [List.length_cons]; omega) (by omega) (Eqx.up hE1 rfl) (⟨(by rw [show st.length = (t - 1) - 1 by omega]; exact up2_s), pileOK_keep st (fun j hj => up2_n (by omega)) hpl.2.2⟩) hbk hG hS (lv_sub hl [0, 3, 5, 6, 7] rfl)
              refine lv_iload hx hb dX13_termOf_145 (lv_at hl 1 rfl) ?_
              refine lv_iload hx hb dX13_termOf_147 (lv_at hl 0 rfl) ?_
              refine lv_imul hx hb dX13_termOf_149 ?_
              refine iv (y := (opI k x y)) (opI_2 (by omega)) ?_
              refine lv_goto (tgt := 158) hx hb dX13_termOf_150 (by decide) ?_
              refine n_iast hx hb hK hG hS 29 (AM_in 29 (by decide)) rfl (by omega) (by decide) dX13_termOf_158 (fun H locs hG hO hS => ?_)
              refine lv_iinc (v := (nI (cp + 1))) (lv' := [(4, .int (nI (cp + 1))), (7, .int y), (6, .int x), (3, .int (nI (t - 1))), (5, .int (nI (k + 2))), (0, .ref o), (1, .int (nI a)), (2, .int (nI b))]) hx hb dX13_termOf_159 hl (k := 4) rfl (nI_add _ _) (by decide) rfl (fun ls hl => ?_)
              refine lv_goto (tgt := 5) hx hb dX13_termOf_162 (by decide) ?_
              exact ih1 es (opI k x y :: st) (cp + 1) (t - 1) (up2 V1 29 ((t - 1) - 1) (opI k x y)) _ _ _ (by simp only [List.length_cons] at hfu; omega) (segM_tl hsg) (by have h := hwf.2.2; simp only [List.length_cons] at h ⊢; exact h) (by have h := hev; simp only [evS] at h; rw [if_neg (fun z => by first | exact c94 z.2 | exact c89 (by omega))] at h; exact h) (by simp only [List.length_cons]; omega) (by omega) (Eqx.up hE1 rfl) (⟨(by rw [show st.length = (t - 1) - 1 by omega]; exact up2_s), pileOK_keep st (fun j hj => up2_n (by omega)) hpl.2.2⟩) hbk hG hS (lv_sub hl [0, 3, 5, 6, 7] rfl)
            refine lv_iload hx hb dX13_termOf_131 (lv_at hl 1 rfl) ?_
            refine lv_iload hx hb dX13_termOf_133 (lv_at hl 0 rfl) ?_
            refine lv_isub hx hb dX13_termOf_135 ?_
            refine iv (y := (opI k x y)) (opI_1 (by omega)) ?_
            refine lv_goto (tgt := 158) hx hb dX13_termOf_136 (by decide) ?_
            refine n_iast hx hb hK hG hS 29 (AM_in 29 (by decide)) rfl (by omega) (by decide) dX13_termOf_158 (fun H locs hG hO hS => ?_)
            refine lv_iinc (v := (nI (cp + 1))) (lv' := [(4, .int (nI (cp + 1))), (7, .int y), (6, .int x), (3, .int (nI (t - 1))), (5, .int (nI (k + 2))), (0, .ref o), (1, .int (nI a)), (2, .int (nI b))]) hx hb dX13_termOf_159 hl (k := 4) rfl (nI_add _ _) (by decide) rfl (fun ls hl => ?_)
            refine lv_goto (tgt := 5) hx hb dX13_termOf_162 (by decide) ?_
            exact ih1 es (opI k x y :: st) (cp + 1) (t - 1) (up2 V1 29 ((t - 1) - 1) (opI k x y)) _ _ _ (by simp only [List.length_cons] at hfu; omega) (segM_tl hsg) (by have h := hwf.2.2; simp only [List.length_cons] at h ⊢; exact h) (by have h := hev; simp only [evS] at h; rw [if_neg (fun z => by first | exact c94 z.2 | exact c89 (by omega))] at h; exact h) (by simp only [List.length_cons]; omega) (by omega) (Eqx.up hE1 rfl) (⟨(by rw [show st.length = (t - 1) - 1 by omega]; exact up2_s), pileOK_keep st (fun j hj => up2_n (by omega)) hpl.2.2⟩) hbk hG hS (lv_sub hl [0, 3, 5, 6, 7] rfl)
          refine lv_iload hx hb dX13_termOf_117 (lv_at hl 1 rfl) ?_
          refine lv_iload hx hb dX13_termOf_119 (lv_at hl 0 rfl) ?_
          refine lv_iadd hx hb dX13_termOf_121 ?_
          refine iv (y := (opI k x y)) (opI_0 (by omega)) ?_
          refine lv_goto (tgt := 158) hx hb dX13_termOf_122 (by decide) ?_
          refine n_iast hx hb hK hG hS 29 (AM_in 29 (by decide)) rfl (by omega) (by decide) dX13_termOf_158 (fun H locs hG hO hS => ?_)
          refine lv_iinc (v := (nI (cp + 1))) (lv' := [(4, .int (nI (cp + 1))), (7, .int y), (6, .int x), (3, .int (nI (t - 1))), (5, .int (nI (k + 2))), (0, .ref o), (1, .int (nI a)), (2, .int (nI b))]) hx hb dX13_termOf_159 hl (k := 4) rfl (nI_add _ _) (by decide) rfl (fun ls hl => ?_)
          refine lv_goto (tgt := 5) hx hb dX13_termOf_162 (by decide) ?_
          exact ih1 es (opI k x y :: st) (cp + 1) (t - 1) (up2 V1 29 ((t - 1) - 1) (opI k x y)) _ _ _ (by simp only [List.length_cons] at hfu; omega) (segM_tl hsg) (by have h := hwf.2.2; simp only [List.length_cons] at h ⊢; exact h) (by have h := hev; simp only [evS] at h; rw [if_neg (fun z => by first | exact c94 z.2 | exact c89 (by omega))] at h; exact h) (by simp only [List.length_cons]; omega) (by omega) (Eqx.up hE1 rfl) (⟨(by rw [show st.length = (t - 1) - 1 by omega]; exact up2_s), pileOK_keep st (fun j hj => up2_n (by omega)) hpl.2.2⟩) hbk hG hS (lv_sub hl [0, 3, 5, 6, 7] rfl)
        refine lv_iload hx hb dX13_termOf_92 (lv_at hl 0 rfl) ?_
        refine lv_if_ne (tgt := 104) hx hb dX13_termOf_94 (by decide) (fun c94 => ?_) (fun c94 => ?_)
        · refine lv_aload_n hx hb dX13_termOf_104 rfl (lv_at hl 5 rfl) ?_
          refine g_get hx hb hts hown hK hG 0 rfl rfl ok_X13 45 (by decide) q1516 rfl rfl dX13_termOf_105 ?_
          refine lv_iload_n hx hb dX13_termOf_108 rfl (lv_at hl 2 rfl) ?_
          refine lv_iconst (v := (nI 1)) hx hb dX13_termOf_109 (by decide) ?_
          refine n_isub hx hb dX13_termOf_110 (by omega) ?_
          refine lv_iload hx hb dX13_termOf_111 (lv_at hl 3 rfl) ?_
          refine lv_iconst (v := (nI 2)) hx hb dX13_termOf_113 (by decide) ?_
          refine n_icmp_ne (tgt := 125) hx hb dX13_termOf_114 (by decide) (by omega) (by omega) (fun c114 => ?_) (fun c114 => ?_)
          · refine lv_iload hx hb dX13_termOf_125 (lv_at hl 3 rfl) ?_
            refine lv_iconst (v := (nI 3)) hx hb dX13_termOf_127 (by decide) ?_
            refine n_icmp_ne (tgt := 139) hx hb dX13_termOf_128 (by decide) (by omega) (by omega) (fun c128 => ?_) (fun c128 => ?_)
            · refine lv_iload hx hb dX13_termOf_139 (lv_at hl 3 rfl) ?_
              refine lv_iconst (v := (nI 4)) hx hb dX13_termOf_141 (by decide) ?_
              refine n_icmp_ne (tgt := 153) hx hb dX13_termOf_142 (by decide) (by omega) (by omega) (fun c142 => ?_) (fun c142 => ?_)
              · refine lv_iload hx hb dX13_termOf_153 (lv_at hl 1 rfl) ?_
                refine lv_iload hx hb dX13_termOf_155 (lv_at hl 0 rfl) ?_
                refine lv_idiv hx hb dX13_termOf_157 (by first | exact c94 | (exfalso; omega)) ?_
                refine iv (y := (opI k x y)) (opI_3 (by omega)) ?_
                refine n_iast hx hb hK hG hS 29 (AM_in 29 (by decide)) rfl (by omega) (by decide) dX13_termOf_158 (fun H locs hG hO hS => ?_)
                refine lv_iinc (v := (nI (cp + 1))) (lv' := [(4, .int (nI (cp + 1))), (7, .int y), (6, .int x), (3, .int (nI (t - 1))), (5, .int (nI (k + 2))), (0, .ref o), (1, .int (nI a)), (2, .int (nI b))]) hx hb dX13_termOf_159 hl (k := 4) rfl (nI_add _ _) (by decide) rfl (fun ls hl => ?_)
                refine lv_goto (tgt := 5) hx hb dX13_termOf_162 (by decide) ?_
                exact ih1 es (opI k x y :: st) (cp + 1) (t - 1) (up2 V1 29 ((t - 1) - 1) (opI k x y)) _ _ _ (by simp only [List.length_cons] at hfu; omega) (segM_tl hsg) (by have h := hwf.2.2; simp only [List.length_cons] at h ⊢; exact h) (by have h := hev; simp only [evS] at h; rw [if_neg (fun z => by first | exact c94 z.2 | exact c89 (by omega))] at h; exact h) (by simp only [List.length_cons]; omega) (by omega) (Eqx.up hE1 rfl) (⟨(by rw [show st.length = (t - 1) - 1 by omega]; exact up2_s), pileOK_keep st (fun j hj => up2_n (by omega)) hpl.2.2⟩) hbk hG hS (lv_sub hl [0, 3, 5, 6, 7] rfl)
              refine lv_iload hx hb dX13_termOf_145 (lv_at hl 1 rfl) ?_
              refine lv_iload hx hb dX13_termOf_147 (lv_at hl 0 rfl) ?_
              refine lv_imul hx hb dX13_termOf_149 ?_
              refine iv (y := (opI k x y)) (opI_2 (by omega)) ?_
              refine lv_goto (tgt := 158) hx hb dX13_termOf_150 (by decide) ?_
              refine n_iast hx hb hK hG hS 29 (AM_in 29 (by decide)) rfl (by omega) (by decide) dX13_termOf_158 (fun H locs hG hO hS => ?_)
              refine lv_iinc (v := (nI (cp + 1))) (lv' := [(4, .int (nI (cp + 1))), (7, .int y), (6, .int x), (3, .int (nI (t - 1))), (5, .int (nI (k + 2))), (0, .ref o), (1, .int (nI a)), (2, .int (nI b))]) hx hb dX13_termOf_159 hl (k := 4) rfl (nI_add _ _) (by decide) rfl (fun ls hl => ?_)
              refine lv_goto (tgt := 5) hx hb dX13_termOf_162 (by decide) ?_
              exact ih1 es (opI k x y :: st) (cp + 1) (t - 1) (up2 V1 29 ((t - 1) - 1) (opI k x y)) _ _ _ (by simp only [List.length_cons] at hfu; omega) (segM_tl hsg) (by have h := hwf.2.2; simp only [List.length_cons] at h ⊢; exact h) (by have h := hev; simp only [evS] at h; rw [if_neg (fun z => by first | exact c94 z.2 | exact c89 (by omega))] at h; exact h) (by simp only [List.length_cons]; omega) (by omega) (Eqx.up hE1 rfl) (⟨(by rw [show st.length = (t - 1) - 1 by omega]; exact up2_s), pileOK_keep st (fun j hj => up2_n (by omega)) hpl.2.2⟩) hbk hG hS (lv_sub hl [0, 3, 5, 6, 7] rfl)
            refine lv_iload hx hb dX13_termOf_131 (lv_at hl 1 rfl) ?_
            refine lv_iload hx hb dX13_termOf_133 (lv_at hl 0 rfl) ?_
            refine lv_isub hx hb dX13_termOf_135 ?_
            refine iv (y := (opI k x y)) (opI_1 (by omega)) ?_
            refine lv_goto (tgt := 158) hx hb dX13_termOf_136 (by decide) ?_
            refine n_iast hx hb hK hG hS 29 (AM_in 29 (by decide)) rfl (by omega) (by decide) dX13_termOf_158 (fun H locs hG hO hS => ?_)
            refine lv_iinc (v := (nI (cp + 1))) (lv' := [(4, .int (nI (cp + 1))), (7, .int y), (6, .int x), (3, .int (nI (t - 1))), (5, .int (nI (k + 2))), (0, .ref o), (1, .int (nI a)), (2, .int (nI b))]) hx hb dX13_termOf_159 hl (k := 4) rfl (nI_add _ _) (by decide) rfl (fun ls hl => ?_)
            refine lv_goto (tgt := 5) hx hb dX13_termOf_162 (by decide) ?_
            exact ih1 es (opI k x y :: st) (cp + 1) (t - 1) (up2 V1 29 ((t - 1) - 1) (opI k x y)) _ _ _ (by simp only [List.length_cons] at hfu; omega) (segM_tl hsg) (by have h := hwf.2.2; simp only [List.length_cons] at h ⊢; exact h) (by have h := hev; simp only [evS] at h; rw [if_neg (fun z => by first | exact c94 z.2 | exact c89 (by omega))] at h; exact h) (by simp only [List.length_cons]; omega) (by omega) (Eqx.up hE1 rfl) (⟨(by rw [show st.length = (t - 1) - 1 by omega]; exact up2_s), pileOK_keep st (fun j hj => up2_n (by omega)) hpl.2.2⟩) hbk hG hS (lv_sub hl [0, 3, 5, 6, 7] rfl)
          refine lv_iload hx hb dX13_termOf_117 (lv_at hl 1 rfl) ?_
          refine lv_iload hx hb dX13_termOf_119 (lv_at hl 0 rfl) ?_
          refine lv_iadd hx hb dX13_termOf_121 ?_
          refine iv (y := (opI k x y)) (opI_0 (by omega)) ?_
          refine lv_goto (tgt := 158) hx hb dX13_termOf_122 (by decide) ?_
          refine n_iast hx hb hK hG hS 29 (AM_in 29 (by decide)) rfl (by omega) (by decide) dX13_termOf_158 (fun H locs hG hO hS => ?_)
          refine lv_iinc (v := (nI (cp + 1))) (lv' := [(4, .int (nI (cp + 1))), (7, .int y), (6, .int x), (3, .int (nI (t - 1))), (5, .int (nI (k + 2))), (0, .ref o), (1, .int (nI a)), (2, .int (nI b))]) hx hb dX13_termOf_159 hl (k := 4) rfl (nI_add _ _) (by decide) rfl (fun ls hl => ?_)
          refine lv_goto (tgt := 5) hx hb dX13_termOf_162 (by decide) ?_
          exact ih1 es (opI k x y :: st) (cp + 1) (t - 1) (up2 V1 29 ((t - 1) - 1) (opI k x y)) _ _ _ (by simp only [List.length_cons] at hfu; omega) (segM_tl hsg) (by have h := hwf.2.2; simp only [List.length_cons] at h ⊢; exact h) (by have h := hev; simp only [evS] at h; rw [if_neg (fun z => by first | exact c94 z.2 | exact c89 (by omega))] at h; exact h) (by simp only [List.length_cons]; omega) (by omega) (Eqx.up hE1 rfl) (⟨(by rw [show st.length = (t - 1) - 1 by omega]; exact up2_s), pileOK_keep st (fun j hj => up2_n (by omega)) hpl.2.2⟩) hbk hG hS (lv_sub hl [0, 3, 5, 6, 7] rfl)
        refine lv_aload_n hx hb dX13_termOf_97 rfl (lv_at hl 5 rfl) ?_
        refine lv_iconst (v := (nI 1)) hx hb dX13_termOf_98 (by decide) ?_
        refine g_put hx hb hts hown hK hG hS 0 (AM_in 0 (by decide)) rfl rfl ok_X13 46 (by decide) q1517 rfl rfl (by decide) (by decide) dX13_termOf_99 (fun H locs hG hO hS => ?_)
        refine lv_iconst (v := (nI 0)) hx hb dX13_termOf_102 (by decide) ?_
        refine hend _ _ _ _ _ hS dX13_termOf_103 ?_
        have hn : evS (V 28) es0 [] = none := by rw [hR, ← hev]; simp only [evS]; rw [if_pos ⟨by omega, c94⟩]
        exact ⟨_, rfl, _, hG, (hE1.up rfl), (by rw [tmV_none hn]; rfl), (by rw [tmV_none hn]; rfl)⟩
      have hwd : t < 400 := by
        rcases k with _ | _ | k
        · rw [ht]; exact hwf.1
        · rw [ht]; exact hwf.1
        · omega
      refine lv_aload_n hx hb dX13_termOf_26 rfl (lv_at hl 3 rfl) ?_
      refine g_get hx hb hts hown hK hG 0 rfl rfl ok_X13 45 (by decide) q1516 rfl rfl dX13_termOf_27 ?_
      refine lv_iload_n hx hb dX13_termOf_30 rfl (lv_at hl 2 rfl) ?_
      refine lv_iload hx hb dX13_termOf_31 (lv_at hl 0 rfl) ?_
      refine n_if_ne (tgt := 46) hx hb dX13_termOf_33 (by decide) (by omega) (fun c33 => ?_) (fun c33 => ?_)
      · refine lv_aload_n hx hb dX13_termOf_46 rfl (lv_at hl 3 rfl) ?_
        refine g_get hx hb hts hown hK hG 0 rfl rfl ok_X13 44 (by decide) q1515 rfl rfl dX13_termOf_47 ?_
        refine lv_aload_n hx hb dX13_termOf_50 rfl (lv_at hl 3 rfl) ?_
        refine g_get hx hb hts hown hK hG 0 rfl rfl ok_X13 41 (by decide) q1512 rfl rfl dX13_termOf_51 ?_
        refine lv_iload hx hb dX13_termOf_54 (lv_at hl 1 rfl) ?_
        refine n_iald hx hb hK hG 26 rfl (by omega) (by decide) dX13_termOf_56 ?_
        refine iv (y := v) ((hE1 26 cp rfl).trans hv) ?_
        refine g_iald hx hb hK hG 28 rfl (by obtain rfl : k = 1 := (by omega); exact hwf.2.1) dX13_termOf_57 ?_
        refine iv (y := (V 28 v.toNatClampNeg)) (hE1 28 v.toNatClampNeg rfl) ?_
        refine n_iast hx hb hK hG hS 29 (AM_in 29 (by decide)) rfl (by omega) (by decide) dX13_termOf_58 (fun H locs hG hO hS => ?_)
        refine lv_iinc (v := (nI (t + 1))) (lv' := [(3, .int (nI (t + 1))), (5, .int (nI k)), (4, .int (nI cp)), (0, .ref o), (1, .int (nI a)), (2, .int (nI b))]) hx hb dX13_termOf_59 hl (k := 2) rfl (nI_add _ _) (by decide) rfl (fun ls hl => ?_)
        refine lv_goto (tgt := 159) hx hb dX13_termOf_62 (by decide) ?_
        refine lv_iinc (v := (nI (cp + 1))) (lv' := [(4, .int (nI (cp + 1))), (3, .int (nI (t + 1))), (5, .int (nI k)), (0, .ref o), (1, .int (nI a)), (2, .int (nI b))]) hx hb dX13_termOf_159 hl (k := 2) rfl (nI_add _ _) (by decide) rfl (fun ls hl => ?_)
        refine lv_goto (tgt := 5) hx hb dX13_termOf_162 (by decide) ?_
        exact ih1 es ((V 28 v.toNatClampNeg) :: st) (cp + 1) (t + 1) (up2 V1 29 t (V 28 v.toNatClampNeg)) _ _ _ (by simp only [List.length_cons] at hfu; omega) (segM_tl hsg) (by obtain rfl : k = 1 := (by omega); exact hwf.2.2) (by obtain rfl : k = 1 := (by omega); exact hev) (by rw [ht]; rfl) (by omega) (Eqx.up hE1 rfl) (⟨(by rw [← ht]; exact up2_s), pileOK_keep st (fun j hj => up2_n (by omega)) hpl⟩) hbk hG hS (lv_sub hl [0, 1, 3, 4, 5] rfl)
      refine lv_aload_n hx hb dX13_termOf_36 rfl (lv_at hl 3 rfl) ?_
      refine g_get hx hb hts hown hK hG 0 rfl rfl ok_X13 41 (by decide) q1512 rfl rfl dX13_termOf_37 ?_
      refine lv_iload hx hb dX13_termOf_40 (lv_at hl 1 rfl) ?_
      refine n_iald hx hb hK hG 26 rfl (by omega) (by decide) dX13_termOf_42 ?_
      refine iv (y := v) ((hE1 26 cp rfl).trans hv) ?_
      refine lv_goto (tgt := 58) hx hb dX13_termOf_43 (by decide) ?_
      refine n_iast hx hb hK hG hS 29 (AM_in 29 (by decide)) rfl (by omega) (by decide) dX13_termOf_58 (fun H locs hG hO hS => ?_)
      refine lv_iinc (v := (nI (t + 1))) (lv' := [(3, .int (nI (t + 1))), (5, .int (nI k)), (4, .int (nI cp)), (0, .ref o), (1, .int (nI a)), (2, .int (nI b))]) hx hb dX13_termOf_59 hl (k := 2) rfl (nI_add _ _) (by decide) rfl (fun ls hl => ?_)
      refine lv_goto (tgt := 159) hx hb dX13_termOf_62 (by decide) ?_
      refine lv_iinc (v := (nI (cp + 1))) (lv' := [(4, .int (nI (cp + 1))), (3, .int (nI (t + 1))), (5, .int (nI k)), (0, .ref o), (1, .int (nI a)), (2, .int (nI b))]) hx hb dX13_termOf_159 hl (k := 2) rfl (nI_add _ _) (by decide) rfl (fun ls hl => ?_)
      refine lv_goto (tgt := 5) hx hb dX13_termOf_162 (by decide) ?_
      exact ih1 es (v :: st) (cp + 1) (t + 1) (up2 V1 29 t v) _ _ _ (by simp only [List.length_cons] at hfu; omega) (segM_tl hsg) (by obtain rfl : k = 0 := c33; exact hwf.2) (by obtain rfl : k = 0 := c33; exact hev) (by rw [ht]; rfl) (by omega) (Eqx.up hE1 rfl) (⟨(by rw [← ht]; exact up2_s), pileOK_keep st (fun j hj => up2_n (by omega)) hpl⟩) hbk hG hS (lv_sub hl [0, 1, 3, 4, 5] rfl)
  exact loop1 (es0.length + 1) es0 ([]) a 0 V _ _ _ (Nat.lt_succ_self _) hsg0 hwf0 hR rfl (by omega) Eqx.rf trivial rfl hG hS (lv_sub hl [0, 1, 2, 3, 4] rfl)
