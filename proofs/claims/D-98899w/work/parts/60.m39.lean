def PLw (k j : Nat) : Bool := k == 18 || k == 19 || k == 20 || k == 21 || k == 22 || k == 23 || k == 24 || k == 25 || k == 26 || k == 27 || (k == 0 && (j == 11 || j == 12 || j == 13 || j == 14 || j == 33 || j == 39 || j == 43))
def PLl (k j : Nat) : Bool := k == 20 || k == 21 || k == 22 || k == 23 || k == 24 || k == 25 || k == 26 || k == 27 || (k == 0 && (j == 11 || j == 12 || j == 13 || j == 14 || j == 33 || j == 39 || j == 43))
theorem PFl_PLw : ∀ k j, PLw k j = false → PFl k j = false := by intro k j h; simp only [PFl, PLw, Bool.or_eq_false_iff, Bool.and_eq_false_iff, beq_eq_false_iff_ne, ne_eq] at *; omega
theorem PFl_PLl : ∀ k j, PLl k j = false → PFl k j = false := by intro k j h; simp only [PFl, PLl, Bool.or_eq_false_iff, Bool.and_eq_false_iff, beq_eq_false_iff_ne, ne_eq] at *; omega
theorem PGo_PLw : ∀ k j, PLw k j = false → PGo k j = false := by intro k j h; simp only [PGo, PLw, Bool.or_eq_false_iff, Bool.and_eq_false_iff, beq_eq_false_iff_ne, ne_eq] at *; omega
theorem PGo_PLl : ∀ k j, PLl k j = false → PGo k j = false := by intro k j h; simp only [PGo, PLl, Bool.or_eq_false_iff, Bool.and_eq_false_iff, beq_eq_false_iff_ne, ne_eq] at *; omega
theorem PEx_PLw : ∀ k j, PLw k j = false → PEx k j = false := by intro k j h; simp only [PEx, PLw, Bool.or_eq_false_iff, Bool.and_eq_false_iff, beq_eq_false_iff_ne, ne_eq] at *; omega
theorem PEx_PLl : ∀ k j, PLl k j = false → PEx k j = false := by intro k j h; simp only [PEx, PLl, Bool.or_eq_false_iff, Bool.and_eq_false_iff, beq_eq_false_iff_ne, ne_eq] at *; omega
theorem PTe_PLw : ∀ k j, PLw k j = false → PTe k j = false := by intro k j h; simp only [PTe, PLw, Bool.or_eq_false_iff, Bool.and_eq_false_iff, beq_eq_false_iff_ne, ne_eq] at *; omega
theorem PTe_PLl : ∀ k j, PLl k j = false → PTe k j = false := by intro k j h; simp only [PTe, PLl, Bool.or_eq_false_iff, Bool.and_eq_false_iff, beq_eq_false_iff_ne, ne_eq] at *; omega
theorem PLl_PLw : ∀ k j, PLw k j = false → PLl k j = false := by intro k j h; simp only [PLl, PLw, Bool.or_eq_false_iff, Bool.and_eq_false_iff, beq_eq_false_iff_ne, ne_eq] at *; omega
/-! conditions behind a name (omega would split them) -/
def fzI (n : Nat) (fo : Fo) : Prop := n = 0 ↔ fo = none
def ifN (fo : Fo) (P : Prop) : Prop := fo = none → P
def imP (P Q : Prop) : Prop := P → Q
theorem goP_g {pl : Nat → Nat} {t t1 : Nat} {fo fo1 : Fo} (h : goP pl t fo = (t1, fo1)) : t ≤ t1 ∧ t1 ≤ t + 1 ∧ ifN fo1 (fo = none ∧ t1 = t + 1) := goP_f h
/-! a law told, in the rows of the side that is read -/
/-- outside the rows from b on (of its side) nothing has changed -/
def brF (V V1 : GI) (b : Nat) : Prop := ∀ k j, 20 ≤ k → k ≤ 24 → (j < b ∨ (b < 130 ∧ 130 ≤ j)) → V1 k j = V k j
theorem brF.rf {V : GI} {b : Nat} : brF V V b := fun _ _ _ _ _ => rfl
theorem brF_at {V Vl Vc : GI} {b bx : Nat} (h : brF V Vl b) (h1 : b ≤ bx) (h2 : b < 130 → bx < 130) (hrw : ∀ k j, 20 ≤ k → k ≤ 24 → j ≠ bx → Vc k j = Vl k j) : brF V Vc b := fun k j a c hj => (hrw k j a c (by omega)).trans (h k j a c hj)
theorem loF_mono {V V1 : GI} {c c2 : Nat} (h1 : c ≤ c2) (h2 : c < 420 → c2 < 420) (h : loF V V1 c2) : loF V V1 c := fun j hj => h j (by omega)
/-- the branches from b on, their codes below ce -/
def acM (V : GI) (b c0 ce : Nat) (ac : Ifs) : Prop := ∀ (i : Nat) (p q r : List Sg), ac[i]? = some (p, q, r) → V 20 (b + i) = nI 1 ∧ ∃ x y z w, V 21 (b + i) = nI x ∧ V 22 (b + i) = nI y ∧ V 23 (b + i) = nI z ∧ V 24 (b + i) = nI w ∧ (segM V x y p ∧ wfS p 0) ∧ (segM V y z q ∧ wfS q 0) ∧ (segM V z w r ∧ wfS r 0) ∧ c0 ≤ x ∧ w ≤ ce
theorem acM_nil {V : GI} {b c0 ce : Nat} : acM V b c0 ce [] := fun i p q r h => by simp at h
theorem segM_fr {V V1 : GI} {x y c0 c : Nat} {es : List Sg} (h : segM V x y es) (h0 : c0 ≤ x) (hy : y ≤ c) (hl : ∀ j, c0 ≤ j → j < c → V1 25 j = V 25 j ∧ V1 26 j = V 26 j) : segM V1 x y es :=
  ⟨h.1, h.2.1, fun i k v hi => by
    have hlt := (List.getElem?_eq_some_iff.mp hi).1
    have hx := h.1
    obtain ⟨a1, a2⟩ := hl (x + i) (by omega) (by omega)
    obtain ⟨b1, b2⟩ := h.2.2 i k v hi
    exact ⟨a1.trans b1, a2.trans b2⟩⟩
theorem seg_of {V V1 : GI} {x : Nat} {es : List Sg} (h : emM V x es) (hl : loF V V1 (x + es.length)) : segM V1 x (x + es.length) es :=
  segM_fr (V := V) (c0 := x) ⟨rfl, h.2.1, h.2.2⟩ (Nat.le_refl _) (Nat.le_refl _) (fun j _ hj => hl j (Or.inl hj))
theorem segM_y {V : GI} {x y : Nat} {es : List Sg} (h : segM V x y es) : x ≤ y := by have := h.1; omega
theorem acM_fr {V V1 : GI} {b c0 c : Nat} {ac : Ifs} (h : acM V b c0 c ac) (hr : ∀ k j, 20 ≤ k → k ≤ 24 → b ≤ j → j < b + ac.length → V1 k j = V k j) (hl : ∀ j, c0 ≤ j → j < c → V1 25 j = V 25 j ∧ V1 26 j = V 26 j) : acM V1 b c0 c ac := fun i p q r hi => by
  have hlt := (List.getElem?_eq_some_iff.mp hi).1
  obtain ⟨a1, x, y, z, w, a2, a3, a4, a5, ⟨a6, a7⟩, ⟨a8, a9⟩, ⟨b1, b2⟩, b4, b3⟩ := h i p q r hi
  have y0 := segM_y a6
  have y1 := segM_y a8
  have y2 := segM_y b1
  exact ⟨(hr 20 _ (by decide) (by decide) (by omega) (by omega)).trans a1, x, y, z, w, (hr 21 _ (by decide) (by decide) (by omega) (by omega)).trans a2, (hr 22 _ (by decide) (by decide) (by omega) (by omega)).trans a3, (hr 23 _ (by decide) (by decide) (by omega) (by omega)).trans a4, (hr 24 _ (by decide) (by decide) (by omega) (by omega)).trans a5, ⟨segM_fr a6 (by omega) (by omega) hl, a7⟩, ⟨segM_fr a8 (by omega) (by omega) hl, a9⟩, ⟨segM_fr b1 (by omega) (by omega) hl, b2⟩, b4, b3⟩
theorem acM_up {V : GI} {b c0 c c2 : Nat} {ac : Ifs} (hc : c ≤ c2) (h : acM V b c0 c ac) : acM V b c0 c2 ac := fun i p q r hi => by
  obtain ⟨a1, x, y, z, w, a2, a3, a4, a5, a6, a8, b1, b4, b3⟩ := h i p q r hi
  exact ⟨a1, x, y, z, w, a2, a3, a4, a5, a6, a8, b1, b4, Nat.le_trans b3 hc⟩
theorem acM_snoc {V : GI} {b c0 c bx x y z : Nat} {ac : Ifs} {p q r : List Sg} (h : acM V b c0 c ac) (hb : bx = b + ac.length) (h20 : V 20 bx = nI 1) (h21 : V 21 bx = nI x) (h22 : V 22 bx = nI y) (h23 : V 23 bx = nI z) {w : Nat} (h24 : V 24 bx = nI w) (hp : segM V x y p) (hp2 : wfS p 0) (hq : segM V y z q) (hq2 : wfS q 0) (hr : segM V z w r) (hr2 : wfS r 0) (hc : c ≤ w) (hcx : c0 ≤ x) : acM V b c0 w (ac ++ [(p, q, r)]) := fun i p' q' r' hi => by
  by_cases e : i < ac.length
  · rw [List.getElem?_append_left e] at hi
    exact acM_up hc h i p' q' r' hi
  · rw [List.getElem?_append_right (by omega)] at hi
    have h0 : i - ac.length < 1 := (List.getElem?_eq_some_iff.mp hi).1
    obtain rfl : i = ac.length := by omega
    rw [Nat.sub_self] at hi
    cases hi
    rw [← hb]
    exact ⟨h20, x, y, z, w, h21, h22, h23, h24, ⟨hp, hp2⟩, ⟨hq, hq2⟩, ⟨hr, hr2⟩, hcx, Nat.le_refl _⟩
def lwN (V : GI) (b c0 ce : Nat) (w : Lw) : Prop := acM V b c0 ce w.1 ∧ V 20 (b + w.1.length) = nI 0 ∧ ∃ x y, V 23 (b + w.1.length) = nI x ∧ V 24 (b + w.1.length) = nI y ∧ segM V x y w.2 ∧ wfS w.2 0 ∧ c0 ≤ x ∧ y ≤ ce
def lwK (V V1 : GI) (sd kq b c0 b1 ce1 o1 cm bs t1 : Nat) (w : Lw) : Prop := o1 = 0 ∧ cbM cm ce1 t1 none ∧ 4 * b1 ≤ 4 * bs + t1 ∧ c0 ≤ ce1 ∧ V1 18 (4 * sd + kq) = nI b ∧ V1 19 (4 * sd + kq) = nI b1 ∧ atM V V1 18 (4 * sd + kq) ∧ atM V V1 19 (4 * sd + kq) ∧ b1 = b + w.1.length + 1 ∧ lwN V1 b c0 ce1 w
theorem tmP_ex {kd pl vl : Nat → Nat} {t : Nat} {fo : Fo} : tmP kd pl vl t fo = exM kd pl vl 402 t fo 0 [] [] := by
  cases fo with
  | none => exact if_pos rfl
  | some q => rw [exM_f (fo := some q) (fun z => nomatch z)]; exact if_neg (fun z => nomatch z)
theorem muP_n {kd pl : Nat → Nat} {k t t1 : Nat} {fo fo1 : Fo} (h : muP kd pl k t fo = (t1, fo1)) : t ≤ t1 ∧ t1 ≤ t + 1 ∧ (fo1 = none → fo = none ∧ t1 = t + 1 ∧ kd t = k) := by
  unfold muP at h
  split at h
  · next hk =>
    obtain ⟨a1, a2, a3⟩ := goP_f h
    exact ⟨a1, a2, fun z => ⟨(a3 z).1, (a3 z).2, by unfold isP at hk; simp only [Bool.and_eq_true, decide_eq_true_eq] at hk; exact hk.2⟩⟩
  · injection h with h1 h2
    subst h1 h2
    exact ⟨Nat.le_refl _, Nat.le_succ _, fun z => by cases fo <;> cases z⟩
theorem tmP_n3 {kd pl vl : Nat → Nat} {t t1 : Nat} {es : List Sg} {fo fo1 : Fo} (h : tmP kd pl vl t fo = (t1, fo1, es)) (ht : t ≤ 400) (h4 : t1 ≤ 400) (hf : fo1 = none) : fo = none ∧ t < t1 ∧ wfS es 0 := by
  subst hf
  exact tmP_ok ht h h4
theorem muP_g {kd pl : Nat → Nat} {k t t1 : Nat} {fo fo1 : Fo} (h : muP kd pl k t fo = (t1, fo1)) : t ≤ t1 ∧ t1 ≤ t + 1 ∧ ifN fo1 (fo = none ∧ t1 = t + 1 ∧ kd t = k) := muP_n h
theorem cbM_go {cm ce t t1 : Nat} {pl : Nat → Nat} {fo fo1 : Fo} (hc : cbM cm ce t fo) (h : goP pl t fo = (t1, fo1)) : cbM cm ce t1 fo1 := by
  obtain ⟨a1, a2, a3⟩ := goP_f h
  have c1 := hc.1
  refine ⟨by omega, fun z => ?_⟩
  have := hc.2 (a3 z).1
  omega
theorem cbM_mu {cm ce k t t1 : Nat} {kd pl : Nat → Nat} {fo fo1 : Fo} (hc : cbM cm ce t fo) (h : muP kd pl k t fo = (t1, fo1)) : cbM cm ce t1 fo1 := by
  obtain ⟨a1, a2, a3⟩ := muP_n h
  have c1 := hc.1
  refine ⟨by omega, fun z => ?_⟩
  have := hc.2 (a3 z).1
  omega
theorem lwL_s {kd pl vl : Nat → Nat} {k t t1 t2 t3 t4 t5 t6 t7 : Nat} {fo f1 f2 f3 f4 f5 f6 f7 : Fo} {ac : Ifs} {e1 e2 e3 : List Sg} (h : isP fo (kd t) 29 = true) (h1 : goP pl t fo = (t1, f1)) (h2 : tmP kd pl vl t1 f1 = (t2, f2, e1)) (h3 : muP kd pl 13 t2 f2 = (t3, f3)) (h4 : tmP kd pl vl t3 f3 = (t4, f4, e2)) (h5 : muP kd pl 30 t4 f4 = (t5, f5)) (h6 : tmP kd pl vl t5 f5 = (t6, f6, e3)) (h7 : muP kd pl 31 t6 f6 = (t7, f7)) : lwL kd pl vl (k + 1) t fo ac = lwL kd pl vl k t7 f7 (ac ++ [(e1, e2, e3)]) := by
  rw [lwL, if_pos h, h1]
  simp only [h2, h3, h4, h5, h6, h7]
theorem lwL_0 {kd pl vl : Nat → Nat} {k t : Nat} {fo : Fo} {ac : Ifs} (h : ¬ isP fo (kd t) 29 = true) : lwL kd pl vl k t fo ac = (t, fo, ac) := by
  cases k with
  | zero => exact if_neg h
  | succ k => rw [lwL, if_neg h]
theorem lwL_4 {kd pl vl : Nat → Nat} {t : Nat} {fo : Fo} {ac : Ifs} (h : isP fo (kd t) 29 = true) : lwL kd pl vl 0 t fo ac = (t, flP fo 2 (pl t), ac) := if_pos h
theorem lwP_eq {kd pl vl : Nat → Nat} {t ta t1 t2 t3 : Nat} {fo foa fo1 fo2 fo3 : Fo} {ac : Ifs} {el : List Sg} (h1 : muP kd pl 5 t fo = (ta, foa)) (h2 : lwL kd pl vl 4 ta foa [] = (t1, fo1, ac)) (h3 : tmP kd pl vl t1 fo1 = (t2, fo2, el)) (h4 : muP kd pl 4 t2 fo2 = (t3, fo3)) : lwP kd pl vl t fo = (t3, fo3, if fo3 = none then some (ac, el) else none) := by
  unfold lwP
  rw [h1]
  simp only [h2, h3, h4]
theorem flP_s {fo : Fo} {k p : Nat} : flP fo k p ≠ none := fun z => flP_n z
theorem cw_X13_284 {R : Room} {s : State} {args : Array Value} (hts : ∀ w ∈ lw_all, w.before args s = true) {f w k j : Nat} (hR : f + 1 ≤ R.frames ∧ 8 + (1 + 11) + w ≤ R.locals) : CallW R s args RX13 RX13 284 yX13_term cX13_term 1 none (ws_ yX13_term cX13_term 1 none) (mkRmC f w k j) k j 0 := cwV 0 hts (lw_V q1766 q1768 qs71 q129 q1769) rfl rfl rfl (by decide +kernel) hR
set_option maxHeartbeats 4000000 in
theorem met_X13_tellLaw (l : Launch) (D : va_G) (dA : Nat → ClassId) {o : Nat} {V : GI} {L : GL} {Rf : GR} {H0 : Heap} (hG : gP D dA o dM V L Rf H0) {ch : Nat → Nat} {sz m0 : Nat} (hT : tkOK V L ch sz m0) {t : Nat} {fo : Fo} (hps : psM V m0 t fo) {sd kq b c0 cm bs : Nat} (h19 : V 0 19 = nI sd) (hsd9 : sd < 2) (hk9 : kq < 4) (h33 : V 0 33 = nI b) (h39 : V 0 39 = nI c0) (h12 : V 0 12 = nI 0) (hcm : 420 ≤ cm ∧ cm ≤ 840 ∧ imP (c0 < 420) (cm ≤ 420)) (hcb : cbM cm c0 t fo) (hbt : ifN fo (4 * b + 1 ≤ 4 * bs + t)) (hbs9 : bs ≤ 130) (hb9 : b ≤ bs + 100) (hb0 : imP (b < 130) (bs = 0)) : Ctr l D dA yX13_tellLaw cX13_tellLaw 4 none (mkRm 5 103) [.ref o, .int (nI kq)] H0 (AM o) (QV (fun H1 => ∃ V1 b1 ce1 o1, gP D dA o dM V1 L Rf H1 ∧ Eqx PLw V V1 ∧ psM V1 m0 (lwP (kdF ch sz) (plF ch sz) (vlF ch sz) t fo).1 (lwP (kdF ch sz) (plF ch sz) (vlF ch sz) t fo).2.1 ∧ V1 0 12 = nI o1 ∧ V1 0 33 = nI b1 ∧ V1 0 39 = nI ce1 ∧ brF V V1 b ∧ loF V V1 c0 ∧ ((lwP (kdF ch sz) (plF ch sz) (vlF ch sz) t fo).2.2 = none → (∀ j, V1 18 j = V 18 j) ∧ ∀ j, V1 19 j = V 19 j) ∧ ∀ w, (lwP (kdF ch sz) (plF ch sz) (vlF ch sz) t fo).2.2 = some w → lwK V V1 sd kq b c0 b1 ce1 o1 cm bs (lwP (kdF ch sz) (plF ch sz) (vlF ch sz) t fo).1 w)) := by
  have hm9 := hT.2.2.1
  refine ctr_V (by decide) (Nat.le_of_ble_eq_true rfl) ?_
  intro p e s m args below meth c ls QQ locs hx hb hml hown hts hK hend hS hl
  have hl : lv_has ls 4 [(0, .ref o), (1, .int (nI kq))] := hl
  obtain ⟨ft, hft9, hft, hfz⟩ := fo_z hps.2.2
  have htm := hps.1
  obtain ⟨hk3, hk4, hk5, hk6⟩ := hT.1 t htm
  have hkd9 := kd_lt ch sz t
  have hb3 := (hT.2.2.2.2.2 t htm).1
  have hb5 := (hT.2.2.2.2.2 t htm).2.1
  replace hfz : fzI ft fo := hfz
  refine lv_aload_n hx hb dX13_tellLaw_0 rfl (lv_at hl 0 rfl) ?_
  refine lv_iconst (v := (nI 5)) hx hb dX13_tellLaw_1 (by decide) ?_
  refine c_VV hx hb hml hts hown hK hl.1 hS ⟨Nat.le_refl _, Nat.le_refl _⟩ (met_X13_must l D dA hG hT hps 5 (by omega) (by omega)) (cw_X13_266 hts ⟨by decide, by decide⟩) (hG 0 _ rfl) rfl rfl rfl rfl (Nat.le_of_ble_eq_true rfl) dX13_tellLaw_2 (fun _ h => h) (fun H1 locs hq hF hS => ?_)
  obtain ⟨V1, hG, hE1, hps1⟩ := hq
  generalize hHe1 : H1 = H at hG hS ⊢
  clear hHe1
  obtain ⟨t1, fo1, he1⟩ : ∃ a b, muP (kdF ch sz) (plF ch sz) 5 t fo = (a, b) := ⟨_, _, rfl⟩
  replace hps1 : psM V1 m0 t1 fo1 := by rw [he1] at hps1; exact hps1
  obtain ⟨ft1, hft91, hft1, hfz1⟩ := fo_z hps1.2.2
  have htm1 := hps1.1
  obtain ⟨hk31, hk41, hk51, hk61⟩ := hT.1 t1 htm1
  have hkd91 := kd_lt ch sz t1
  have hb31 := (hT.2.2.2.2.2 t1 htm1).1
  have hb51 := (hT.2.2.2.2.2 t1 htm1).2.1
  replace hfz1 : fzI ft1 fo1 := hfz1
  have hcb1 := cbM_mu hcb he1
  have hcx1 := hcb1.1
  have hpn1 := muP_g he1
  have hoz1 : ifN fo1 (0 = 0) := fun z => (fun _ => rfl) (hpn1.2.2 z).1
  refine lv_aload_n hx hb dX13_tellLaw_5 rfl (lv_at hl 0 rfl) ?_
  refine g_get (v := .int (nI b)) hx hb hts hown hK hG 0 rfl rfl ok_X13 33 (by decide) q1504 rfl (congrArg Value.int ((hE1 0 33 rfl).trans h33)) dX13_tellLaw_6 ?_
  refine lv_istore_n (lv' := [(2, .int (nI b)), (0, .ref o), (1, .int (nI kq))]) hx hb dX13_tellLaw_9 rfl hl (by decide) rfl (fun ls hl => ?_)
  refine lv_iconst (v := (nI 0)) hx hb dX13_tellLaw_10 (by decide) ?_
  refine lv_istore_n (lv' := [(3, .int (nI 0)), (2, .int (nI b)), (0, .ref o), (1, .int (nI kq))]) hx hb dX13_tellLaw_11 rfl hl (by decide) rfl (fun ls hl => ?_)
  have hbt1 : ifN fo1 (4 * b + 2 ≤ 4 * bs + t1) := fun z => by have h1 := (hpn1.2.2 z); have h2 := hbt h1.1; omega
  have hbr0 : brF V V1 b := by
    intro k j h1 h2 _
    obtain rfl | rfl | rfl | rfl | rfl : k = 20 ∨ k = 21 ∨ k = 22 ∨ k = 23 ∨ k = 24 := by omega
    all_goals exact hE1 _ _ rfl
  have loop2 : ∀ (fu2 : Nat) (fx : Nat) (tt : Nat) (ff : Fo) (ac : Ifs) (bx : Nat) (cx : Nat) (ox : Nat) (V2 : GI) (H : Heap) (locs : List Loc) (ls : Array Slot), 4 - fx < fu2 → (lwL (kdF ch sz) (plF ch sz) (vlF ch sz) (4 - fx) tt ff ac = lwL (kdF ch sz) (plF ch sz) (vlF ch sz) 4 t1 fo1 []) → (fx ≤ 4) → (ifN ff (4 * bx + 2 ≤ 4 * bs + tt)) → (bx ≤ bs + 101) → (b ≤ bx) → (c0 ≤ cx) → (cbM cm cx tt ff) → (ifN ff (ox = 0)) → (ifN ff (bx = b + ac.length)) → (Eqx PLl V1 V2) → (psM V2 m0 tt ff) → (V2 0 12 = nI ox) → (V2 0 33 = nI bx) → (V2 0 39 = nI cx) → (brF V V2 b) → (loF V V2 c0) → (ifN ff (acM V2 b c0 cx ac)) → gP D dA o dM V2 L Rf H → va_S (AM o) H0 H locs → lv_has ls 4 [(3, .int (nI fx)), (2, .int (nI b)), (0, .ref o), (1, .int (nI kq))] → W p l e (mkRm 5 103) s m args below meth c H locs 0 0 QQ (F0 m 12 ls []) := by
    intro fu2
    induction fu2 with
    | zero => intro fx tt ff ac bx cx ox V2 H locs ls hfu; exact absurd hfu (Nat.not_lt_zero _)
    | succ fu2 ih2 =>
      intro fx tt ff ac bx cx ox V2 H locs ls hfu hR hfx hbt hbx hbb hcc hcb hoz hab hE2 hps h12 h33 h39 hbr hlo hac hG hS hl
      obtain ⟨ft_3, hft9_3, hft_3, hfz_3⟩ := fo_z hps.2.2
      have htm_3 := hps.1
      obtain ⟨hk3_3, hk4_3, hk5_3, hk6_3⟩ := hT.1 tt htm_3
      have hkd9_3 := kd_lt ch sz tt
      have hb3_3 := (hT.2.2.2.2.2 tt htm_3).1
      have hb5_3 := (hT.2.2.2.2.2 tt htm_3).2.1
      replace hfz_3 : fzI ft_3 ff := hfz_3
      have hcx9 := hcb.1
      refine lv_aload_n hx hb dX13_tellLaw_12 rfl (lv_at hl 2 rfl) ?_
      refine g_get (v := .int (nI ft_3)) hx hb hts hown hK hG 0 rfl rfl ok_X13 13 (by decide) q1484 rfl (congrArg Value.int hft_3) dX13_tellLaw_13 ?_
      refine n_if_ne (tgt := 129) hx hb dX13_tellLaw_16 (by decide) (by omega) (fun c16 => ?_) (fun c16 => ?_)
      · have hffn : ff ≠ none := fun z => by have := hfz_3.mpr z; omega
        have hRe : lwL (kdF ch sz) (plF ch sz) (vlF ch sz) 4 t1 fo1 [] = (tt, ff, ac) := hR.symm.trans (lwL_0 (fun z => hffn (by unfold isP at z; simp only [Bool.and_eq_true, Option.isNone_iff_eq_none] at z; exact z.1)))
        refine lv_aload_n hx hb dX13_tellLaw_129 rfl (lv_at hl 2 rfl) ?_
        refine g_get hx hb hts hown hK hG 0 rfl rfl ok_X13 34 (by decide) q1505 rfl rfl dX13_tellLaw_130 ?_
        refine lv_aload_n hx hb dX13_tellLaw_133 rfl (lv_at hl 2 rfl) ?_
        refine g_get (v := .int (nI bx)) hx hb hts hown hK hG 0 rfl rfl ok_X13 33 (by decide) q1504 rfl (congrArg Value.int h33) dX13_tellLaw_134 ?_
        refine lv_iconst (v := (nI 0)) hx hb dX13_tellLaw_137 (by decide) ?_
        refine n_zast (x2 := (nI 0)) hx hb hK hG hS 20 (AM_in 20 (by decide)) rfl (by omega) (by decide) (by decide) dX13_tellLaw_138 (fun H locs hG hO hS => ?_)
        refine lv_aload_n hx hb dX13_tellLaw_139 rfl (lv_at hl 2 rfl) ?_
        refine c_VV hx hb hml hts hown hK hl.1 hS ⟨Nat.le_refl _, Nat.le_refl _⟩ (met_X13_term l D dA hG (tkOK_to (V := V) (fun j => (Eq.trans (hE2 3 j rfl) (hE1 3 j rfl))) (fun j => (Eq.trans (hE2 4 j rfl) (hE1 4 j rfl))) (fun j => (Eq.trans (hE2 5 j rfl) (hE1 5 j rfl))) hT) (psM_to (V := V2) rfl rfl rfl hps) h39 h33 (by omega) h12 hoz ⟨hcm.1, hcm.2.1, fun z => hcm.2.2 (by omega)⟩ hcb) (cw_X13_284 hts ⟨by decide, by decide⟩) (hG 0 _ rfl) rfl rfl rfl rfl (Nat.le_of_ble_eq_true rfl) dX13_tellLaw_140 (fun _ h => h) (fun H1 locs hq hF hS => ?_)
        have hlp0 : loF V2 (up2 V2 20 bx (nI 0)) cx := (loF_to (V1 := V2) (fun j => rfl) (fun j => rfl) loF.rf)
        obtain ⟨V4, o4, hG, hE4, hps4, ho124, hoz4, hem4, hlr4, hcb4, h334, h234, h244, ha234, ha244⟩ := hq
        generalize hHe4 : H1 = H at hG hS ⊢
        clear hHe4
        obtain ⟨t4, fo4, em4, he4⟩ := ex3 (tmP (kdF ch sz) (plF ch sz) (vlF ch sz) tt ff)
        rw [he4] at hps4 hoz4 hem4 hcb4 h244
        have het4 := he4
        replace hcb4 : cbM cm (cx + em4.length) t4 fo4 := hcb4
        replace h244 : V4 24 bx = nI (cx + em4.length) := h244
        replace hps4 : psM V4 m0 t4 fo4 := hps4
        replace hoz4 : ifN fo4 (o4 = 0) := hoz4
        replace hem4 : emM V4 cx em4 := hem4
        have hcx4 := hcb4.1
        have hcy4 := hem4.2.1
        obtain ⟨ft4, hft94, hft4, hfz4⟩ := fo_z hps4.2.2
        have htm4 := hps4.1
        obtain ⟨hk34, hk44, hk54, hk64⟩ := hT.1 t4 htm4
        have hkd94 := kd_lt ch sz t4
        have hb34 := (hT.2.2.2.2.2 t4 htm4).1
        have hb54 := (hT.2.2.2.2.2 t4 htm4).2.1
        replace hfz4 : fzI ft4 fo4 := hfz4
        have hw394 := hem4.1
        have hlo4_0 : loF V2 V4 cx := loF.trans hlp0 (loF_mono (by omega) (fun z => by have := hcm.2.2 (by omega); omega) hlr4)
        have htl4 : ifN fo4 (tt < t4 ∧ wfS em4 0) := fun z => (tmP_n3 het4 (by omega) (by omega) z).2
        have hfb4 : ifN fo4 (ff = none) := fun z => (tmP_n3 het4 (by omega) (by omega) z).1
        refine lv_aload_n hx hb dX13_tellLaw_143 rfl (lv_at hl 2 rfl) ?_
        refine lv_iconst (v := (nI 4)) hx hb dX13_tellLaw_144 (by decide) ?_
        refine c_VV hx hb hml hts hown hK hl.1 hS ⟨Nat.le_refl _, Nat.le_refl _⟩ (met_X13_must l D dA hG (tkOK_to (V := V) (fun j => (Eq.trans (hE4 3 j rfl) (Eq.trans (hE2 3 j rfl) (hE1 3 j rfl)))) (fun j => (Eq.trans (hE4 4 j rfl) (Eq.trans (hE2 4 j rfl) (hE1 4 j rfl)))) (fun j => (Eq.trans (hE4 5 j rfl) (Eq.trans (hE2 5 j rfl) (hE1 5 j rfl)))) hT) hps4 4 (by omega) (by omega)) (cw_X13_266 hts ⟨by decide, by decide⟩) (hG 0 _ rfl) rfl rfl rfl rfl (Nat.le_of_ble_eq_true rfl) dX13_tellLaw_145 (fun _ h => h) (fun H1 locs hq hF hS => ?_)
        obtain ⟨V5, hG, hE5, hps5⟩ := hq
        generalize hHe5 : H1 = H at hG hS ⊢
        clear hHe5
        obtain ⟨t5, fo5, he5⟩ : ∃ a b, muP (kdF ch sz) (plF ch sz) 4 t4 fo4 = (a, b) := ⟨_, _, rfl⟩
        replace hps5 : psM V5 m0 t5 fo5 := by rw [he5] at hps5; exact hps5
        obtain ⟨ft5, hft95, hft5, hfz5⟩ := fo_z hps5.2.2
        have htm5 := hps5.1
        obtain ⟨hk35, hk45, hk55, hk65⟩ := hT.1 t5 htm5
        have hkd95 := kd_lt ch sz t5
        have hb35 := (hT.2.2.2.2.2 t5 htm5).1
        have hb55 := (hT.2.2.2.2.2 t5 htm5).2.1
        replace hfz5 : fzI ft5 fo5 := hfz5
        have hcb5 := cbM_mu hcb4 he5
        have hcx5 := hcb5.1
        have hpn5 := muP_g he5
        have hoz5 : ifN fo5 (o4 = 0) := fun z => hoz4 (hpn5.2.2 z).1
        refine lv_aload_n hx hb dX13_tellLaw_148 rfl (lv_at hl 2 rfl) ?_
        refine g_get (v := .int (nI ft5)) hx hb hts hown hK hG 0 rfl rfl ok_X13 13 (by decide) q1484 rfl (congrArg Value.int hft5) dX13_tellLaw_149 ?_
        refine n_if_le (tgt := 156) hx hb dX13_tellLaw_152 (by decide) (by omega) (fun c152 => ?_) (fun c152 => ?_)
        · refine lv_aload_n hx hb dX13_tellLaw_156 rfl (lv_at hl 2 rfl) ?_
          refine g_get hx hb hts hown hK hG 0 rfl rfl ok_X13 31 (by decide) q1502 rfl rfl dX13_tellLaw_157 ?_
          refine lv_iconst (v := (nI 4)) hx hb dX13_tellLaw_160 (by decide) ?_
          refine lv_aload_n hx hb dX13_tellLaw_161 rfl (lv_at hl 2 rfl) ?_
          refine g_get (v := .int (nI sd)) hx hb hts hown hK hG 0 rfl rfl ok_X13 19 (by decide) q1490 rfl (congrArg Value.int (((hE5 0 19 rfl).trans ((hE4 0 19 rfl).trans ((hE2 0 19 rfl).trans (hE1 0 19 rfl)))).trans h19)) dX13_tellLaw_162 ?_
          refine n_imul hx hb dX13_tellLaw_165 ?_
          refine lv_iload_n hx hb dX13_tellLaw_166 rfl (lv_at hl 3 rfl) ?_
          refine n_iadd hx hb dX13_tellLaw_167 ?_
          refine lv_iload_n hx hb dX13_tellLaw_168 rfl (lv_at hl 1 rfl) ?_
          refine n_iast hx hb hK hG hS 18 (AM_in 18 (by decide)) rfl (by omega) (by decide) dX13_tellLaw_169 (fun H locs hG hO hS => ?_)
          refine lv_aload_n hx hb dX13_tellLaw_170 rfl (lv_at hl 2 rfl) ?_
          refine g_get hx hb hts hown hK hG 0 rfl rfl ok_X13 32 (by decide) q1503 rfl rfl dX13_tellLaw_171 ?_
          refine lv_iconst (v := (nI 4)) hx hb dX13_tellLaw_174 (by decide) ?_
          refine lv_aload_n hx hb dX13_tellLaw_175 rfl (lv_at hl 2 rfl) ?_
          refine g_get (v := .int (nI sd)) hx hb hts hown hK hG 0 rfl rfl ok_X13 19 (by decide) q1490 rfl (congrArg Value.int (((hE5 0 19 rfl).trans ((hE4 0 19 rfl).trans ((hE2 0 19 rfl).trans (hE1 0 19 rfl)))).trans h19)) dX13_tellLaw_176 ?_
          refine n_imul hx hb dX13_tellLaw_179 ?_
          refine lv_iload_n hx hb dX13_tellLaw_180 rfl (lv_at hl 3 rfl) ?_
          refine n_iadd hx hb dX13_tellLaw_181 ?_
          refine lv_aload_n hx hb dX13_tellLaw_182 rfl (lv_at hl 2 rfl) ?_
          refine g_get (v := .int (nI (bx + 1))) hx hb hts hown hK hG 0 rfl rfl ok_X13 33 (by decide) q1504 rfl (congrArg Value.int ((hE5 0 33 rfl).trans h334)) dX13_tellLaw_183 ?_
          refine n_iast hx hb hK hG hS 19 (AM_in 19 (by decide)) rfl (by omega) (by decide) dX13_tellLaw_186 (fun H locs hG hO hS => ?_)
          refine hend _ _ _ _ hS dX13_tellLaw_187 ?_
          have hRR := lwP_eq he1 hRe het4 he5
          have hrw : ∀ k j, 20 ≤ k → k ≤ 24 → j ≠ bx → (up2 (up2 V5 18 ((4 * sd) + kq) (nI b)) 19 ((4 * sd) + kq) (nI (bx + 1))) k j = V2 k j := by
            intro k j h1 h2 hj
            obtain rfl | rfl | rfl | rfl | rfl : k = 20 ∨ k = 21 ∨ k = 22 ∨ k = 23 ∨ k = 24 := by omega
            · exact (Eq.trans (hE5 20 j rfl) (Eq.trans (hE4 20 j rfl) (show up2 _ 20 _ _ 20 _ = _ from up2_n (fun z => hj z.2))))
            · exact (Eq.trans (hE5 21 j rfl) (hE4 21 j rfl))
            · exact (Eq.trans (hE5 22 j rfl) (hE4 22 j rfl))
            · exact (Eq.trans (hE5 23 j rfl) (ha234 j hj))
            · exact (Eq.trans (hE5 24 j rfl) (ha244 j hj))
          have hloH : loF V2 (up2 (up2 V5 18 ((4 * sd) + kq) (nI b)) 19 ((4 * sd) + kq) (nI (bx + 1))) cx := (loF_to (V1 := V4) (fun j => (hE5 25 j rfl)) (fun j => (hE5 26 j rfl)) hlo4_0)
          have hlo2 : loF V (up2 (up2 V5 18 ((4 * sd) + kq) (nI b)) 19 ((4 * sd) + kq) (nI (bx + 1))) c0 := loF.trans hlo (loF_mono hcc (fun z => by have := hcm.2.2 z; omega) hloH)
          have hbr2 : brF V (up2 (up2 V5 18 ((4 * sd) + kq) (nI b)) 19 ((4 * sd) + kq) (nI (bx + 1))) b := brF_at hbr hbb (fun z => by have := hb0 z; omega) hrw
          have hfn : fo5 = none := hfz5.mp (by omega)
          rw [if_pos hfn] at hRR
          have a1 := hpn5.2.2 hfn
          have a2 := hfb4 a1.1
          have a3 := htl4 a1.1
          have hbt9 := hbt a2
          have hab9 := hab a2
          have hsg := seg_of hem4 (loF_to (V1 := V4) (fun j => (hE5 25 j rfl)) (fun j => (hE5 26 j rfl)) loF.rf)
          have hacN : acM (up2 (up2 V5 18 ((4 * sd) + kq) (nI b)) 19 ((4 * sd) + kq) (nI (bx + 1))) b c0 (cx + em4.length) ac := acM_up (by omega) (acM_fr (hac a2) (fun k j h1 h2 _ h3 => hrw k j h1 h2 (by omega)) (fun j _ hj => hloH j (Or.inl hj)))
          rw [hRR]
          refine ⟨rfl, _, bx + 1, (cx + em4.length), o4, hG, (((((((hE1.mono PGo_PLw).trans (hE2.mono PLl_PLw)).up rfl).trans (hE4.mono PTe_PLw)).trans (hE5.mono PGo_PLw)).up rfl).up rfl), (psM_to (V := V5) rfl rfl rfl hps5), (Eq.trans (hE5 0 12 rfl) ho124), (Eq.trans (hE5 0 33 rfl) h334), (Eq.trans (hE5 0 39 rfl) hw394), hbr2, hlo2, ?_, ?_⟩
          · intro hw
            cases hw
          · intro w hw
            injection hw with hw
            subst hw
            refine ⟨hoz5 hfn, hfn ▸ hcb5, by omega, by omega, (show up2 _ 18 _ _ 18 _ = _ from up2_s), (show up2 _ 19 _ _ 19 _ = _ from up2_s), fun j hj => (Eq.trans (show up2 _ 18 _ _ 18 _ = _ from up2_n (fun z => hj z.2)) (Eq.trans (hE5 18 j rfl) (Eq.trans (hE4 18 j rfl) (Eq.trans (hE2 18 j rfl) (hE1 18 j rfl))))), fun j hj => (Eq.trans (show up2 _ 19 _ _ 19 _ = _ from up2_n (fun z => hj z.2)) (Eq.trans (hE5 19 j rfl) (Eq.trans (hE4 19 j rfl) (Eq.trans (hE2 19 j rfl) (hE1 19 j rfl))))), by show bx + 1 = b + ac.length + 1; omega, hacN, ?_, _, _, ?_, ?_, hsg, a3.2, by omega, Nat.le_refl _⟩
            · show (up2 (up2 V5 18 ((4 * sd) + kq) (nI b)) 19 ((4 * sd) + kq) (nI (bx + 1))) 20 (b + ac.length) = _
              rw [← hab9]
              exact (Eq.trans (hE5 20 _ rfl) (Eq.trans (hE4 20 _ rfl) (show up2 _ 20 _ _ 20 _ = _ from up2_s)))
            · show (up2 (up2 V5 18 ((4 * sd) + kq) (nI b)) 19 ((4 * sd) + kq) (nI (bx + 1))) 23 (b + ac.length) = _
              rw [← hab9]
              exact (Eq.trans (hE5 23 _ rfl) h234)
            · show (up2 (up2 V5 18 ((4 * sd) + kq) (nI b)) 19 ((4 * sd) + kq) (nI (bx + 1))) 24 (b + ac.length) = _
              rw [← hab9]
              exact (Eq.trans (hE5 24 _ rfl) h244)
        refine hend _ _ _ _ hS dX13_tellLaw_155 ?_
        have hRR := lwP_eq he1 hRe het4 he5
        have hrw : ∀ k j, 20 ≤ k → k ≤ 24 → j ≠ bx → V5 k j = V2 k j := by
          intro k j h1 h2 hj
          obtain rfl | rfl | rfl | rfl | rfl : k = 20 ∨ k = 21 ∨ k = 22 ∨ k = 23 ∨ k = 24 := by omega
          · exact (Eq.trans (hE5 20 j rfl) (Eq.trans (hE4 20 j rfl) (show up2 _ 20 _ _ 20 _ = _ from up2_n (fun z => hj z.2))))
          · exact (Eq.trans (hE5 21 j rfl) (hE4 21 j rfl))
          · exact (Eq.trans (hE5 22 j rfl) (hE4 22 j rfl))
          · exact (Eq.trans (hE5 23 j rfl) (ha234 j hj))
          · exact (Eq.trans (hE5 24 j rfl) (ha244 j hj))
        have hloH : loF V2 V5 cx := (loF_to (V1 := V4) (fun j => (hE5 25 j rfl)) (fun j => (hE5 26 j rfl)) hlo4_0)
        have hlo2 : loF V V5 c0 := loF.trans hlo (loF_mono hcc (fun z => by have := hcm.2.2 z; omega) hloH)
        have hbr2 : brF V V5 b := brF_at hbr hbb (fun z => by have := hb0 z; omega) hrw
        have hfn : fo5 ≠ none := fun z => by have := hfz5.mpr z; omega
        rw [if_neg hfn] at hRR
        rw [hRR]
        refine ⟨rfl, _, bx + 1, (cx + em4.length), o4, hG, (((((hE1.mono PGo_PLw).trans (hE2.mono PLl_PLw)).up rfl).trans (hE4.mono PTe_PLw)).trans (hE5.mono PGo_PLw)), hps5, (Eq.trans (hE5 0 12 rfl) ho124), (Eq.trans (hE5 0 33 rfl) h334), (Eq.trans (hE5 0 39 rfl) hw394), hbr2, hlo2, ?_, ?_⟩
        · exact fun _ => ⟨fun j => (Eq.trans (hE5 18 j rfl) (Eq.trans (hE4 18 j rfl) (Eq.trans (hE2 18 j rfl) (hE1 18 j rfl)))), fun j => (Eq.trans (hE5 19 j rfl) (Eq.trans (hE4 19 j rfl) (Eq.trans (hE2 19 j rfl) (hE1 19 j rfl))))⟩
        · intro w hw
          cases hw
      obtain rfl : ff = none := hfz_3.mp (by omega)
      obtain rfl := hoz rfl
      have hbt9 := hbt rfl
      refine lv_aload_n hx hb dX13_tellLaw_19 rfl (lv_at hl 2 rfl) ?_
      refine lv_bipush (v := (nI 29)) hx hb dX13_tellLaw_20 (by decide) ?_
      refine c_VI hx hb hml hts hown hK hl.1 hS ⟨Nat.le_refl _, Nat.le_refl _⟩ (met_X13_is l D dA hG (tkOK_to (V := V) (fun j => (Eq.trans (hE2 3 j rfl) (hE1 3 j rfl))) (fun j => (Eq.trans (hE2 4 j rfl) (hE1 4 j rfl))) (fun j => (Eq.trans (hE2 5 j rfl) (hE1 5 j rfl))) hT) hps 29 (by omega)) (cw_X13_218 hts ⟨by decide, by decide⟩) (hG 0 _ rfl) rfl rfl rfl rfl (Nat.le_of_ble_eq_true rfl) dX13_tellLaw_22 (fun _ h => h.elim) (fun r H1 locs hq hF hS => ?_)
      obtain ⟨rfl, rfl⟩ := hq
      have hbb22 := bN_lt (isP none (kdF ch sz tt) 29)
      refine n_if_eq (tgt := 129) hx hb dX13_tellLaw_25 (by decide) (by omega) (fun c25 => ?_) (fun c25 => ?_)
      · have hRe : lwL (kdF ch sz) (plF ch sz) (vlF ch sz) 4 t1 fo1 [] = (tt, none, ac) := hR.symm.trans (lwL_0 (bN0 (by omega)))
        refine lv_aload_n hx hb dX13_tellLaw_129 rfl (lv_at hl 2 rfl) ?_
        refine g_get hx hb hts hown hK hG 0 rfl rfl ok_X13 34 (by decide) q1505 rfl rfl dX13_tellLaw_130 ?_
        refine lv_aload_n hx hb dX13_tellLaw_133 rfl (lv_at hl 2 rfl) ?_
        refine g_get (v := .int (nI bx)) hx hb hts hown hK hG 0 rfl rfl ok_X13 33 (by decide) q1504 rfl (congrArg Value.int h33) dX13_tellLaw_134 ?_
        refine lv_iconst (v := (nI 0)) hx hb dX13_tellLaw_137 (by decide) ?_
        refine n_zast (x2 := (nI 0)) hx hb hK hG hS 20 (AM_in 20 (by decide)) rfl (by omega) (by decide) (by decide) dX13_tellLaw_138 (fun H locs hG hO hS => ?_)
        refine lv_aload_n hx hb dX13_tellLaw_139 rfl (lv_at hl 2 rfl) ?_
        refine c_VV hx hb hml hts hown hK hl.1 hS ⟨Nat.le_refl _, Nat.le_refl _⟩ (met_X13_term l D dA hG (tkOK_to (V := V) (fun j => (Eq.trans (hE2 3 j rfl) (hE1 3 j rfl))) (fun j => (Eq.trans (hE2 4 j rfl) (hE1 4 j rfl))) (fun j => (Eq.trans (hE2 5 j rfl) (hE1 5 j rfl))) hT) (psM_to (V := V2) rfl rfl rfl hps) h39 h33 (by omega) h12 (fun _ => rfl) ⟨hcm.1, hcm.2.1, fun z => hcm.2.2 (by omega)⟩ hcb) (cw_X13_284 hts ⟨by decide, by decide⟩) (hG 0 _ rfl) rfl rfl rfl rfl (Nat.le_of_ble_eq_true rfl) dX13_tellLaw_140 (fun _ h => h) (fun H1 locs hq hF hS => ?_)
        have hlp0 : loF V2 (up2 V2 20 bx (nI 0)) cx := (loF_to (V1 := V2) (fun j => rfl) (fun j => rfl) loF.rf)
        obtain ⟨V6, o6, hG, hE6, hps6, ho126, hoz6, hem6, hlr6, hcb6, h336, h236, h246, ha236, ha246⟩ := hq
        generalize hHe6 : H1 = H at hG hS ⊢
        clear hHe6
        obtain ⟨t6, fo6, em6, he6⟩ := ex3 (tmP (kdF ch sz) (plF ch sz) (vlF ch sz) tt none)
        rw [he6] at hps6 hoz6 hem6 hcb6 h246
        have het6 := he6
        replace hcb6 : cbM cm (cx + em6.length) t6 fo6 := hcb6
        replace h246 : V6 24 bx = nI (cx + em6.length) := h246
        replace hps6 : psM V6 m0 t6 fo6 := hps6
        replace hoz6 : ifN fo6 (o6 = 0) := hoz6
        replace hem6 : emM V6 cx em6 := hem6
        have hcx6 := hcb6.1
        have hcy6 := hem6.2.1
        obtain ⟨ft6, hft96, hft6, hfz6⟩ := fo_z hps6.2.2
        have htm6 := hps6.1
        obtain ⟨hk36, hk46, hk56, hk66⟩ := hT.1 t6 htm6
        have hkd96 := kd_lt ch sz t6
        have hb36 := (hT.2.2.2.2.2 t6 htm6).1
        have hb56 := (hT.2.2.2.2.2 t6 htm6).2.1
        replace hfz6 : fzI ft6 fo6 := hfz6
        have hw396 := hem6.1
        have hlo6_0 : loF V2 V6 cx := loF.trans hlp0 (loF_mono (by omega) (fun z => by have := hcm.2.2 (by omega); omega) hlr6)
        have htl6 : ifN fo6 (tt < t6 ∧ wfS em6 0) := fun z => (tmP_n3 het6 (by omega) (by omega) z).2
        have hfb6 : ifN fo6 (none = none) := fun z => (tmP_n3 het6 (by omega) (by omega) z).1
        refine lv_aload_n hx hb dX13_tellLaw_143 rfl (lv_at hl 2 rfl) ?_
        refine lv_iconst (v := (nI 4)) hx hb dX13_tellLaw_144 (by decide) ?_
        refine c_VV hx hb hml hts hown hK hl.1 hS ⟨Nat.le_refl _, Nat.le_refl _⟩ (met_X13_must l D dA hG (tkOK_to (V := V) (fun j => (Eq.trans (hE6 3 j rfl) (Eq.trans (hE2 3 j rfl) (hE1 3 j rfl)))) (fun j => (Eq.trans (hE6 4 j rfl) (Eq.trans (hE2 4 j rfl) (hE1 4 j rfl)))) (fun j => (Eq.trans (hE6 5 j rfl) (Eq.trans (hE2 5 j rfl) (hE1 5 j rfl)))) hT) hps6 4 (by omega) (by omega)) (cw_X13_266 hts ⟨by decide, by decide⟩) (hG 0 _ rfl) rfl rfl rfl rfl (Nat.le_of_ble_eq_true rfl) dX13_tellLaw_145 (fun _ h => h) (fun H1 locs hq hF hS => ?_)
        obtain ⟨V7, hG, hE7, hps7⟩ := hq
        generalize hHe7 : H1 = H at hG hS ⊢
        clear hHe7
        obtain ⟨t7, fo7, he7⟩ : ∃ a b, muP (kdF ch sz) (plF ch sz) 4 t6 fo6 = (a, b) := ⟨_, _, rfl⟩
        replace hps7 : psM V7 m0 t7 fo7 := by rw [he7] at hps7; exact hps7
        obtain ⟨ft7, hft97, hft7, hfz7⟩ := fo_z hps7.2.2
        have htm7 := hps7.1
        obtain ⟨hk37, hk47, hk57, hk67⟩ := hT.1 t7 htm7
        have hkd97 := kd_lt ch sz t7
        have hb37 := (hT.2.2.2.2.2 t7 htm7).1
        have hb57 := (hT.2.2.2.2.2 t7 htm7).2.1
        replace hfz7 : fzI ft7 fo7 := hfz7
        have hcb7 := cbM_mu hcb6 he7
        have hcx7 := hcb7.1
        have hpn7 := muP_g he7
        have hoz7 : ifN fo7 (o6 = 0) := fun z => hoz6 (hpn7.2.2 z).1
        refine lv_aload_n hx hb dX13_tellLaw_148 rfl (lv_at hl 2 rfl) ?_
        refine g_get (v := .int (nI ft7)) hx hb hts hown hK hG 0 rfl rfl ok_X13 13 (by decide) q1484 rfl (congrArg Value.int hft7) dX13_tellLaw_149 ?_
        refine n_if_le (tgt := 156) hx hb dX13_tellLaw_152 (by decide) (by omega) (fun c152 => ?_) (fun c152 => ?_)
        · refine lv_aload_n hx hb dX13_tellLaw_156 rfl (lv_at hl 2 rfl) ?_
          refine g_get hx hb hts hown hK hG 0 rfl rfl ok_X13 31 (by decide) q1502 rfl rfl dX13_tellLaw_157 ?_
          refine lv_iconst (v := (nI 4)) hx hb dX13_tellLaw_160 (by decide) ?_
          refine lv_aload_n hx hb dX13_tellLaw_161 rfl (lv_at hl 2 rfl) ?_
          refine g_get (v := .int (nI sd)) hx hb hts hown hK hG 0 rfl rfl ok_X13 19 (by decide) q1490 rfl (congrArg Value.int (((hE7 0 19 rfl).trans ((hE6 0 19 rfl).trans ((hE2 0 19 rfl).trans (hE1 0 19 rfl)))).trans h19)) dX13_tellLaw_162 ?_
          refine n_imul hx hb dX13_tellLaw_165 ?_
          refine lv_iload_n hx hb dX13_tellLaw_166 rfl (lv_at hl 3 rfl) ?_
          refine n_iadd hx hb dX13_tellLaw_167 ?_
          refine lv_iload_n hx hb dX13_tellLaw_168 rfl (lv_at hl 1 rfl) ?_
          refine n_iast hx hb hK hG hS 18 (AM_in 18 (by decide)) rfl (by omega) (by decide) dX13_tellLaw_169 (fun H locs hG hO hS => ?_)
          refine lv_aload_n hx hb dX13_tellLaw_170 rfl (lv_at hl 2 rfl) ?_
          refine g_get hx hb hts hown hK hG 0 rfl rfl ok_X13 32 (by decide) q1503 rfl rfl dX13_tellLaw_171 ?_
          refine lv_iconst (v := (nI 4)) hx hb dX13_tellLaw_174 (by decide) ?_
          refine lv_aload_n hx hb dX13_tellLaw_175 rfl (lv_at hl 2 rfl) ?_
          refine g_get (v := .int (nI sd)) hx hb hts hown hK hG 0 rfl rfl ok_X13 19 (by decide) q1490 rfl (congrArg Value.int (((hE7 0 19 rfl).trans ((hE6 0 19 rfl).trans ((hE2 0 19 rfl).trans (hE1 0 19 rfl)))).trans h19)) dX13_tellLaw_176 ?_
          refine n_imul hx hb dX13_tellLaw_179 ?_
          refine lv_iload_n hx hb dX13_tellLaw_180 rfl (lv_at hl 3 rfl) ?_
          refine n_iadd hx hb dX13_tellLaw_181 ?_
          refine lv_aload_n hx hb dX13_tellLaw_182 rfl (lv_at hl 2 rfl) ?_
          refine g_get (v := .int (nI (bx + 1))) hx hb hts hown hK hG 0 rfl rfl ok_X13 33 (by decide) q1504 rfl (congrArg Value.int ((hE7 0 33 rfl).trans h336)) dX13_tellLaw_183 ?_
          refine n_iast hx hb hK hG hS 19 (AM_in 19 (by decide)) rfl (by omega) (by decide) dX13_tellLaw_186 (fun H locs hG hO hS => ?_)
          refine hend _ _ _ _ hS dX13_tellLaw_187 ?_
          have hRR := lwP_eq he1 hRe het6 he7
          have hrw : ∀ k j, 20 ≤ k → k ≤ 24 → j ≠ bx → (up2 (up2 V7 18 ((4 * sd) + kq) (nI b)) 19 ((4 * sd) + kq) (nI (bx + 1))) k j = V2 k j := by
            intro k j h1 h2 hj
            obtain rfl | rfl | rfl | rfl | rfl : k = 20 ∨ k = 21 ∨ k = 22 ∨ k = 23 ∨ k = 24 := by omega
            · exact (Eq.trans (hE7 20 j rfl) (Eq.trans (hE6 20 j rfl) (show up2 _ 20 _ _ 20 _ = _ from up2_n (fun z => hj z.2))))
            · exact (Eq.trans (hE7 21 j rfl) (hE6 21 j rfl))
            · exact (Eq.trans (hE7 22 j rfl) (hE6 22 j rfl))
            · exact (Eq.trans (hE7 23 j rfl) (ha236 j hj))
            · exact (Eq.trans (hE7 24 j rfl) (ha246 j hj))
          have hloH : loF V2 (up2 (up2 V7 18 ((4 * sd) + kq) (nI b)) 19 ((4 * sd) + kq) (nI (bx + 1))) cx := (loF_to (V1 := V6) (fun j => (hE7 25 j rfl)) (fun j => (hE7 26 j rfl)) hlo6_0)
          have hlo2 : loF V (up2 (up2 V7 18 ((4 * sd) + kq) (nI b)) 19 ((4 * sd) + kq) (nI (bx + 1))) c0 := loF.trans hlo (loF_mono hcc (fun z => by have := hcm.2.2 z; omega) hloH)
          have hbr2 : brF V (up2 (up2 V7 18 ((4 * sd) + kq) (nI b)) 19 ((4 * sd) + kq) (nI (bx + 1))) b := brF_at hbr hbb (fun z => by have := hb0 z; omega) hrw
          have hfn : fo7 = none := hfz7.mp (by omega)
          rw [if_pos hfn] at hRR
          have a1 := hpn7.2.2 hfn
          have a2 := hfb6 a1.1
          have a3 := htl6 a1.1
          have hbt9 := hbt a2
          have hab9 := hab a2
          have hsg := seg_of hem6 (loF_to (V1 := V6) (fun j => (hE7 25 j rfl)) (fun j => (hE7 26 j rfl)) loF.rf)
          have hacN : acM (up2 (up2 V7 18 ((4 * sd) + kq) (nI b)) 19 ((4 * sd) + kq) (nI (bx + 1))) b c0 (cx + em6.length) ac := acM_up (by omega) (acM_fr (hac a2) (fun k j h1 h2 _ h3 => hrw k j h1 h2 (by omega)) (fun j _ hj => hloH j (Or.inl hj)))
          rw [hRR]
          refine ⟨rfl, _, bx + 1, (cx + em6.length), o6, hG, (((((((hE1.mono PGo_PLw).trans (hE2.mono PLl_PLw)).up rfl).trans (hE6.mono PTe_PLw)).trans (hE7.mono PGo_PLw)).up rfl).up rfl), (psM_to (V := V7) rfl rfl rfl hps7), (Eq.trans (hE7 0 12 rfl) ho126), (Eq.trans (hE7 0 33 rfl) h336), (Eq.trans (hE7 0 39 rfl) hw396), hbr2, hlo2, ?_, ?_⟩
          · intro hw
            cases hw
          · intro w hw
            injection hw with hw
            subst hw
            refine ⟨hoz7 hfn, hfn ▸ hcb7, by omega, by omega, (show up2 _ 18 _ _ 18 _ = _ from up2_s), (show up2 _ 19 _ _ 19 _ = _ from up2_s), fun j hj => (Eq.trans (show up2 _ 18 _ _ 18 _ = _ from up2_n (fun z => hj z.2)) (Eq.trans (hE7 18 j rfl) (Eq.trans (hE6 18 j rfl) (Eq.trans (hE2 18 j rfl) (hE1 18 j rfl))))), fun j hj => (Eq.trans (show up2 _ 19 _ _ 19 _ = _ from up2_n (fun z => hj z.2)) (Eq.trans (hE7 19 j rfl) (Eq.trans (hE6 19 j rfl) (Eq.trans (hE2 19 j rfl) (hE1 19 j rfl))))), by show bx + 1 = b + ac.length + 1; omega, hacN, ?_, _, _, ?_, ?_, hsg, a3.2, by omega, Nat.le_refl _⟩
            · show (up2 (up2 V7 18 ((4 * sd) + kq) (nI b)) 19 ((4 * sd) + kq) (nI (bx + 1))) 20 (b + ac.length) = _
              rw [← hab9]
              exact (Eq.trans (hE7 20 _ rfl) (Eq.trans (hE6 20 _ rfl) (show up2 _ 20 _ _ 20 _ = _ from up2_s)))
            · show (up2 (up2 V7 18 ((4 * sd) + kq) (nI b)) 19 ((4 * sd) + kq) (nI (bx + 1))) 23 (b + ac.length) = _
              rw [← hab9]
              exact (Eq.trans (hE7 23 _ rfl) h236)
            · show (up2 (up2 V7 18 ((4 * sd) + kq) (nI b)) 19 ((4 * sd) + kq) (nI (bx + 1))) 24 (b + ac.length) = _
              rw [← hab9]
              exact (Eq.trans (hE7 24 _ rfl) h246)
        refine hend _ _ _ _ hS dX13_tellLaw_155 ?_
        have hRR := lwP_eq he1 hRe het6 he7
        have hrw : ∀ k j, 20 ≤ k → k ≤ 24 → j ≠ bx → V7 k j = V2 k j := by
          intro k j h1 h2 hj
          obtain rfl | rfl | rfl | rfl | rfl : k = 20 ∨ k = 21 ∨ k = 22 ∨ k = 23 ∨ k = 24 := by omega
          · exact (Eq.trans (hE7 20 j rfl) (Eq.trans (hE6 20 j rfl) (show up2 _ 20 _ _ 20 _ = _ from up2_n (fun z => hj z.2))))
          · exact (Eq.trans (hE7 21 j rfl) (hE6 21 j rfl))
          · exact (Eq.trans (hE7 22 j rfl) (hE6 22 j rfl))
          · exact (Eq.trans (hE7 23 j rfl) (ha236 j hj))
          · exact (Eq.trans (hE7 24 j rfl) (ha246 j hj))
        have hloH : loF V2 V7 cx := (loF_to (V1 := V6) (fun j => (hE7 25 j rfl)) (fun j => (hE7 26 j rfl)) hlo6_0)
        have hlo2 : loF V V7 c0 := loF.trans hlo (loF_mono hcc (fun z => by have := hcm.2.2 z; omega) hloH)
        have hbr2 : brF V V7 b := brF_at hbr hbb (fun z => by have := hb0 z; omega) hrw
        have hfn : fo7 ≠ none := fun z => by have := hfz7.mpr z; omega
        rw [if_neg hfn] at hRR
        rw [hRR]
        refine ⟨rfl, _, bx + 1, (cx + em6.length), o6, hG, (((((hE1.mono PGo_PLw).trans (hE2.mono PLl_PLw)).up rfl).trans (hE6.mono PTe_PLw)).trans (hE7.mono PGo_PLw)), hps7, (Eq.trans (hE7 0 12 rfl) ho126), (Eq.trans (hE7 0 33 rfl) h336), (Eq.trans (hE7 0 39 rfl) hw396), hbr2, hlo2, ?_, ?_⟩
        · exact fun _ => ⟨fun j => (Eq.trans (hE7 18 j rfl) (Eq.trans (hE6 18 j rfl) (Eq.trans (hE2 18 j rfl) (hE1 18 j rfl)))), fun j => (Eq.trans (hE7 19 j rfl) (Eq.trans (hE6 19 j rfl) (Eq.trans (hE2 19 j rfl) (hE1 19 j rfl))))⟩
        · intro w hw
          cases hw
      have hI := bN1 (show ¬ bN (isP none (kdF ch sz tt) 29) = 0 by omega)
      have hkI := isP_n.mp hI
      refine lv_iload_n hx hb dX13_tellLaw_28 rfl (lv_at hl 0 rfl) ?_
      refine lv_iconst (v := (nI 4)) hx hb dX13_tellLaw_29 (by decide) ?_
      refine n_icmp_ne (tgt := 38) hx hb dX13_tellLaw_30 (by decide) (by omega) (by omega) (fun c30 => ?_) (fun c30 => ?_)
      · refine lv_aload_n hx hb dX13_tellLaw_38 rfl (lv_at hl 2 rfl) ?_
        refine g_get (v := .int (nI ft_3)) hx hb hts hown hK hG 0 rfl rfl ok_X13 13 (by decide) q1484 rfl (congrArg Value.int hft_3) dX13_tellLaw_39 ?_
        refine n_if_le (tgt := 46) hx hb dX13_tellLaw_42 (by decide) (by omega) (fun c42 => ?_) (fun c42 => ?_)
        · refine lv_iinc (v := (nI (fx + 1))) (lv' := [(3, .int (nI (fx + 1))), (2, .int (nI b)), (0, .ref o), (1, .int (nI kq))]) hx hb dX13_tellLaw_46 hl (k := 0) rfl (nI_add _ _) (by decide) rfl (fun ls hl => ?_)
          refine lv_aload_n hx hb dX13_tellLaw_49 rfl (lv_at hl 2 rfl) ?_
          refine c_VV hx hb hml hts hown hK hl.1 hS ⟨Nat.le_refl _, Nat.le_refl _⟩ (met_X13_goesOn l D dA hG (tkOK_to (V := V) (fun j => (Eq.trans (hE2 3 j rfl) (hE1 3 j rfl))) (fun j => (Eq.trans (hE2 4 j rfl) (hE1 4 j rfl))) (fun j => (Eq.trans (hE2 5 j rfl) (hE1 5 j rfl))) hT) hps (by omega)) (cw_X13_221 hts ⟨by decide, by decide⟩) (hG 0 _ rfl) rfl rfl rfl rfl (Nat.le_of_ble_eq_true rfl) dX13_tellLaw_50 (fun _ h => h) (fun H1 locs hq hF hS => ?_)
          obtain ⟨V8, hG, hE8, hps8⟩ := hq
          generalize hHe8 : H1 = H at hG hS ⊢
          clear hHe8
          obtain ⟨t8, fo8, he8⟩ : ∃ a b, goP (plF ch sz) tt none = (a, b) := ⟨_, _, rfl⟩
          replace hps8 : psM V8 m0 t8 fo8 := by rw [he8] at hps8; exact hps8
          obtain ⟨ft8, hft98, hft8, hfz8⟩ := fo_z hps8.2.2
          have htm8 := hps8.1
          obtain ⟨hk38, hk48, hk58, hk68⟩ := hT.1 t8 htm8
          have hkd98 := kd_lt ch sz t8
          have hb38 := (hT.2.2.2.2.2 t8 htm8).1
          have hb58 := (hT.2.2.2.2.2 t8 htm8).2.1
          replace hfz8 : fzI ft8 fo8 := hfz8
          have hcb8 := cbM_go hcb he8
          have hcx8 := hcb8.1
          have hpn8 := goP_g he8
          have hoz8 : ifN fo8 (0 = 0) := fun z => (fun _ => rfl) (hpn8.2.2 z).1
          refine lv_aload_n hx hb dX13_tellLaw_53 rfl (lv_at hl 2 rfl) ?_
          refine g_get hx hb hts hown hK hG 0 rfl rfl ok_X13 34 (by decide) q1505 rfl rfl dX13_tellLaw_54 ?_
          refine lv_aload_n hx hb dX13_tellLaw_57 rfl (lv_at hl 2 rfl) ?_
          refine g_get (v := .int (nI bx)) hx hb hts hown hK hG 0 rfl rfl ok_X13 33 (by decide) q1504 rfl (congrArg Value.int ((hE8 0 33 rfl).trans h33)) dX13_tellLaw_58 ?_
          refine lv_iconst (v := (nI 1)) hx hb dX13_tellLaw_61 (by decide) ?_
          refine n_zast (x2 := (nI 1)) hx hb hK hG hS 20 (AM_in 20 (by decide)) rfl (by omega) (by decide) (by decide) dX13_tellLaw_62 (fun H locs hG hO hS => ?_)
          refine lv_aload_n hx hb dX13_tellLaw_63 rfl (lv_at hl 2 rfl) ?_
          refine g_get hx hb hts hown hK hG 0 rfl rfl ok_X13 35 (by decide) q1506 rfl rfl dX13_tellLaw_64 ?_
          refine lv_aload_n hx hb dX13_tellLaw_67 rfl (lv_at hl 2 rfl) ?_
          refine g_get (v := .int (nI bx)) hx hb hts hown hK hG 0 rfl rfl ok_X13 33 (by decide) q1504 rfl (congrArg Value.int ((hE8 0 33 rfl).trans h33)) dX13_tellLaw_68 ?_
          refine lv_aload_n hx hb dX13_tellLaw_71 rfl (lv_at hl 2 rfl) ?_
          refine g_get (v := .int (nI cx)) hx hb hts hown hK hG 0 rfl rfl ok_X13 39 (by decide) q1510 rfl (congrArg Value.int ((hE8 0 39 rfl).trans h39)) dX13_tellLaw_72 ?_
          refine n_iast hx hb hK hG hS 21 (AM_in 21 (by decide)) rfl (by omega) (by decide) dX13_tellLaw_75 (fun H locs hG hO hS => ?_)
          refine lv_aload_n hx hb dX13_tellLaw_76 rfl (lv_at hl 2 rfl) ?_
          refine c_VV hx hb hml hts hown hK hl.1 hS ⟨Nat.le_refl _, Nat.le_refl _⟩ (met_X13_expression l D dA hG (tkOK_to (V := V) (fun j => (Eq.trans (hE8 3 j rfl) (Eq.trans (hE2 3 j rfl) (hE1 3 j rfl)))) (fun j => (Eq.trans (hE8 4 j rfl) (Eq.trans (hE2 4 j rfl) (hE1 4 j rfl)))) (fun j => (Eq.trans (hE8 5 j rfl) (Eq.trans (hE2 5 j rfl) (hE1 5 j rfl)))) hT) (psM_to (V := V8) rfl rfl rfl hps8) cx (Eq.trans (hE8 0 39 rfl) h39) (Eq.trans (hE8 0 12 rfl) h12) ⟨hcm.1, hcm.2.1, fun z => hcm.2.2 (by omega)⟩ hcb8.1 hcb8.2) (cw_X13_281 hts ⟨by decide, by decide⟩) (hG 0 _ rfl) rfl rfl rfl rfl (Nat.le_of_ble_eq_true rfl) dX13_tellLaw_77 (fun _ h => h) (fun H1 locs hq hF hS => ?_)
          have hlp0 : loF V2 (up2 (up2 V8 20 bx (nI 1)) 21 bx (nI cx)) cx := (loF_to (V1 := V2) (fun j => (hE8 25 j rfl)) (fun j => (hE8 26 j rfl)) loF.rf)
          obtain ⟨V9, o9, hG, hE9, hps9, ho129, hoz9, hem9, hlr9, hbA9, hbB9⟩ := hq
          generalize hHe9 : H1 = H at hG hS ⊢
          clear hHe9
          obtain ⟨t9, fo9, em9, he9⟩ := ex3 (exM (kdF ch sz) (plF ch sz) (vlF ch sz) 402 t8 fo8 0 [] [])
          rw [he9] at hps9 hoz9 hem9 hbA9 hbB9
          have het9 : tmP (kdF ch sz) (plF ch sz) (vlF ch sz) t8 fo8 = (t9, fo9, em9) := tmP_ex.trans he9
          have hcb9 : cbM cm (cx + em9.length) t9 fo9 := ⟨hbA9, hbB9⟩
          replace hps9 : psM V9 m0 t9 fo9 := hps9
          replace hoz9 : ifN fo9 (o9 = 0) := hoz9
          replace hem9 : emM V9 cx em9 := hem9
          have hcx9 := hcb9.1
          have hcy9 := hem9.2.1
          obtain ⟨ft9, hft99, hft9, hfz9⟩ := fo_z hps9.2.2
          have htm9 := hps9.1
          obtain ⟨hk39, hk49, hk59, hk69⟩ := hT.1 t9 htm9
          have hkd99 := kd_lt ch sz t9
          have hb39 := (hT.2.2.2.2.2 t9 htm9).1
          have hb59 := (hT.2.2.2.2.2 t9 htm9).2.1
          replace hfz9 : fzI ft9 fo9 := hfz9
          have hw399 := hem9.1
          have hlo9_0 : loF V2 V9 cx := loF.trans hlp0 (loF_mono (by omega) (fun z => by have := hcm.2.2 (by omega); omega) hlr9)
          have htl9 : ifN fo9 (t8 < t9 ∧ wfS em9 0) := fun z => (tmP_n3 het9 (by omega) (by omega) z).2
          have hfb9 : ifN fo9 (fo8 = none) := fun z => (tmP_n3 het9 (by omega) (by omega) z).1
          refine lv_aload_n hx hb dX13_tellLaw_80 rfl (lv_at hl 2 rfl) ?_
          refine lv_bipush (v := (nI 13)) hx hb dX13_tellLaw_81 (by decide) ?_
          refine c_VV hx hb hml hts hown hK hl.1 hS ⟨Nat.le_refl _, Nat.le_refl _⟩ (met_X13_must l D dA hG (tkOK_to (V := V) (fun j => (Eq.trans (hE9 3 j rfl) (Eq.trans (hE8 3 j rfl) (Eq.trans (hE2 3 j rfl) (hE1 3 j rfl))))) (fun j => (Eq.trans (hE9 4 j rfl) (Eq.trans (hE8 4 j rfl) (Eq.trans (hE2 4 j rfl) (hE1 4 j rfl))))) (fun j => (Eq.trans (hE9 5 j rfl) (Eq.trans (hE8 5 j rfl) (Eq.trans (hE2 5 j rfl) (hE1 5 j rfl))))) hT) hps9 13 (by omega) (by omega)) (cw_X13_266 hts ⟨by decide, by decide⟩) (hG 0 _ rfl) rfl rfl rfl rfl (Nat.le_of_ble_eq_true rfl) dX13_tellLaw_83 (fun _ h => h) (fun H1 locs hq hF hS => ?_)
          obtain ⟨V10, hG, hE10, hps10⟩ := hq
          generalize hHe10 : H1 = H at hG hS ⊢
          clear hHe10
          obtain ⟨t10, fo10, he10⟩ : ∃ a b, muP (kdF ch sz) (plF ch sz) 13 t9 fo9 = (a, b) := ⟨_, _, rfl⟩
          replace hps10 : psM V10 m0 t10 fo10 := by rw [he10] at hps10; exact hps10
          obtain ⟨ft10, hft910, hft10, hfz10⟩ := fo_z hps10.2.2
          have htm10 := hps10.1
          obtain ⟨hk310, hk410, hk510, hk610⟩ := hT.1 t10 htm10
          have hkd910 := kd_lt ch sz t10
          have hb310 := (hT.2.2.2.2.2 t10 htm10).1
          have hb510 := (hT.2.2.2.2.2 t10 htm10).2.1
          replace hfz10 : fzI ft10 fo10 := hfz10
          have hcb10 := cbM_mu hcb9 he10
          have hcx10 := hcb10.1
          have hpn10 := muP_g he10
          have hoz10 : ifN fo10 (o9 = 0) := fun z => hoz9 (hpn10.2.2 z).1
          refine lv_aload_n hx hb dX13_tellLaw_86 rfl (lv_at hl 2 rfl) ?_
          refine g_get hx hb hts hown hK hG 0 rfl rfl ok_X13 36 (by decide) q1507 rfl rfl dX13_tellLaw_87 ?_
          refine lv_aload_n hx hb dX13_tellLaw_90 rfl (lv_at hl 2 rfl) ?_
          refine g_get (v := .int (nI bx)) hx hb hts hown hK hG 0 rfl rfl ok_X13 33 (by decide) q1504 rfl (congrArg Value.int (((hE10 0 33 rfl).trans ((hE9 0 33 rfl).trans (hE8 0 33 rfl))).trans h33)) dX13_tellLaw_91 ?_
          refine lv_aload_n hx hb dX13_tellLaw_94 rfl (lv_at hl 2 rfl) ?_
          refine g_get (v := .int (nI (cx + em9.length))) hx hb hts hown hK hG 0 rfl rfl ok_X13 39 (by decide) q1510 rfl (congrArg Value.int ((hE10 0 39 rfl).trans hw399)) dX13_tellLaw_95 ?_
          refine n_iast hx hb hK hG hS 22 (AM_in 22 (by decide)) rfl (by omega) (by decide) dX13_tellLaw_98 (fun H locs hG hO hS => ?_)
          refine lv_aload_n hx hb dX13_tellLaw_99 rfl (lv_at hl 2 rfl) ?_
          refine g_get (v := .int (nI ft10)) hx hb hts hown hK hG 0 rfl rfl ok_X13 13 (by decide) q1484 rfl (congrArg Value.int hft10) dX13_tellLaw_100 ?_
          refine n_if_ne (tgt := 110) hx hb dX13_tellLaw_103 (by decide) (by omega) (fun c103 => ?_) (fun c103 => ?_)
          · have hfn : fo10 ≠ none := fun z => by have := hfz10.mpr z; omega
            refine lv_aload_n hx hb dX13_tellLaw_110 rfl (lv_at hl 2 rfl) ?_
            refine lv_bipush (v := (nI 30)) hx hb dX13_tellLaw_111 (by decide) ?_
            refine c_VV hx hb hml hts hown hK hl.1 hS ⟨Nat.le_refl _, Nat.le_refl _⟩ (met_X13_must l D dA hG (tkOK_to (V := V) (fun j => (Eq.trans (hE10 3 j rfl) (Eq.trans (hE9 3 j rfl) (Eq.trans (hE8 3 j rfl) (Eq.trans (hE2 3 j rfl) (hE1 3 j rfl)))))) (fun j => (Eq.trans (hE10 4 j rfl) (Eq.trans (hE9 4 j rfl) (Eq.trans (hE8 4 j rfl) (Eq.trans (hE2 4 j rfl) (hE1 4 j rfl)))))) (fun j => (Eq.trans (hE10 5 j rfl) (Eq.trans (hE9 5 j rfl) (Eq.trans (hE8 5 j rfl) (Eq.trans (hE2 5 j rfl) (hE1 5 j rfl)))))) hT) (psM_to (V := V10) rfl rfl rfl hps10) 30 (by omega) (by omega)) (cw_X13_266 hts ⟨by decide, by decide⟩) (hG 0 _ rfl) rfl rfl rfl rfl (Nat.le_of_ble_eq_true rfl) dX13_tellLaw_113 (fun _ h => h) (fun H1 locs hq hF hS => ?_)
            obtain ⟨V11, hG, hE11, hps11⟩ := hq
            generalize hHe11 : H1 = H at hG hS ⊢
            clear hHe11
            obtain ⟨t11, fo11, he11⟩ : ∃ a b, muP (kdF ch sz) (plF ch sz) 30 t10 fo10 = (a, b) := ⟨_, _, rfl⟩
            replace hps11 : psM V11 m0 t11 fo11 := by rw [he11] at hps11; exact hps11
            obtain ⟨ft11, hft911, hft11, hfz11⟩ := fo_z hps11.2.2
            have htm11 := hps11.1
            obtain ⟨hk311, hk411, hk511, hk611⟩ := hT.1 t11 htm11
            have hkd911 := kd_lt ch sz t11
            have hb311 := (hT.2.2.2.2.2 t11 htm11).1
            have hb511 := (hT.2.2.2.2.2 t11 htm11).2.1
            replace hfz11 : fzI ft11 fo11 := hfz11
            have hcb11 := cbM_mu hcb10 he11
            have hcx11 := hcb11.1
            have hpn11 := muP_g he11
            have hoz11 : ifN fo11 (o9 = 0) := fun z => hoz10 (hpn11.2.2 z).1
            refine lv_aload_n hx hb dX13_tellLaw_116 rfl (lv_at hl 2 rfl) ?_
            refine c_VV hx hb hml hts hown hK hl.1 hS ⟨Nat.le_refl _, Nat.le_refl _⟩ (met_X13_term l D dA hG (tkOK_to (V := V) (fun j => (Eq.trans (hE11 3 j rfl) (Eq.trans (hE10 3 j rfl) (Eq.trans (hE9 3 j rfl) (Eq.trans (hE8 3 j rfl) (Eq.trans (hE2 3 j rfl) (hE1 3 j rfl))))))) (fun j => (Eq.trans (hE11 4 j rfl) (Eq.trans (hE10 4 j rfl) (Eq.trans (hE9 4 j rfl) (Eq.trans (hE8 4 j rfl) (Eq.trans (hE2 4 j rfl) (hE1 4 j rfl))))))) (fun j => (Eq.trans (hE11 5 j rfl) (Eq.trans (hE10 5 j rfl) (Eq.trans (hE9 5 j rfl) (Eq.trans (hE8 5 j rfl) (Eq.trans (hE2 5 j rfl) (hE1 5 j rfl))))))) hT) hps11 (Eq.trans ((hE11 0 39 rfl).trans (hE10 0 39 rfl)) hw399) (Eq.trans ((hE11 0 33 rfl).trans ((hE10 0 33 rfl).trans ((hE9 0 33 rfl).trans (hE8 0 33 rfl)))) h33) (by omega) (Eq.trans ((hE11 0 12 rfl).trans (hE10 0 12 rfl)) ho129) hoz11 ⟨hcm.1, hcm.2.1, fun z => hcm.2.2 (by omega)⟩ hcb11) (cw_X13_284 hts ⟨by decide, by decide⟩) (hG 0 _ rfl) rfl rfl rfl rfl (Nat.le_of_ble_eq_true rfl) dX13_tellLaw_117 (fun _ h => h) (fun H1 locs hq hF hS => ?_)
            have hlp0 : loF V2 V11 cx := (loF_to (V1 := V9) (fun j => (Eq.trans (hE11 25 j rfl) (hE10 25 j rfl))) (fun j => (Eq.trans (hE11 26 j rfl) (hE10 26 j rfl))) hlo9_0)
            have hlp1 : loF V9 V11 (cx + em9.length) := (loF_to (V1 := V9) (fun j => (Eq.trans (hE11 25 j rfl) (hE10 25 j rfl))) (fun j => (Eq.trans (hE11 26 j rfl) (hE10 26 j rfl))) loF.rf)
            obtain ⟨V12, o12, hG, hE12, hps12, ho1212, hoz12, hem12, hlr12, hcb12, h3312, h2312, h2412, ha2312, ha2412⟩ := hq
            generalize hHe12 : H1 = H at hG hS ⊢
            clear hHe12
            obtain ⟨t12, fo12, em12, he12⟩ := ex3 (tmP (kdF ch sz) (plF ch sz) (vlF ch sz) t11 fo11)
            rw [he12] at hps12 hoz12 hem12 hcb12 h2412
            have het12 := he12
            replace hcb12 : cbM cm ((cx + em9.length) + em12.length) t12 fo12 := hcb12
            replace h2412 : V12 24 bx = nI ((cx + em9.length) + em12.length) := h2412
            replace hps12 : psM V12 m0 t12 fo12 := hps12
            replace hoz12 : ifN fo12 (o12 = 0) := hoz12
            replace hem12 : emM V12 (cx + em9.length) em12 := hem12
            have hcx12 := hcb12.1
            have hcy12 := hem12.2.1
            obtain ⟨ft12, hft912, hft12, hfz12⟩ := fo_z hps12.2.2
            have htm12 := hps12.1
            obtain ⟨hk312, hk412, hk512, hk612⟩ := hT.1 t12 htm12
            have hkd912 := kd_lt ch sz t12
            have hb312 := (hT.2.2.2.2.2 t12 htm12).1
            have hb512 := (hT.2.2.2.2.2 t12 htm12).2.1
            replace hfz12 : fzI ft12 fo12 := hfz12
            have hw3912 := hem12.1
            have hlo12_0 : loF V2 V12 cx := loF.trans hlp0 (loF_mono (by omega) (fun z => by have := hcm.2.2 (by omega); omega) hlr12)
            have hlo12_1 : loF V9 V12 (cx + em9.length) := loF.trans hlp1 (loF_mono (by omega) (fun z => by have := hcm.2.2 (by omega); omega) hlr12)
            have htl12 : ifN fo12 (t11 < t12 ∧ wfS em12 0) := fun z => (tmP_n3 het12 (by omega) (by omega) z).2
            have hfb12 : ifN fo12 (fo11 = none) := fun z => (tmP_n3 het12 (by omega) (by omega) z).1
            refine lv_aload_n hx hb dX13_tellLaw_120 rfl (lv_at hl 2 rfl) ?_
            refine lv_bipush (v := (nI 31)) hx hb dX13_tellLaw_121 (by decide) ?_
            refine c_VV hx hb hml hts hown hK hl.1 hS ⟨Nat.le_refl _, Nat.le_refl _⟩ (met_X13_must l D dA hG (tkOK_to (V := V) (fun j => (Eq.trans (hE12 3 j rfl) (Eq.trans (hE11 3 j rfl) (Eq.trans (hE10 3 j rfl) (Eq.trans (hE9 3 j rfl) (Eq.trans (hE8 3 j rfl) (Eq.trans (hE2 3 j rfl) (hE1 3 j rfl)))))))) (fun j => (Eq.trans (hE12 4 j rfl) (Eq.trans (hE11 4 j rfl) (Eq.trans (hE10 4 j rfl) (Eq.trans (hE9 4 j rfl) (Eq.trans (hE8 4 j rfl) (Eq.trans (hE2 4 j rfl) (hE1 4 j rfl)))))))) (fun j => (Eq.trans (hE12 5 j rfl) (Eq.trans (hE11 5 j rfl) (Eq.trans (hE10 5 j rfl) (Eq.trans (hE9 5 j rfl) (Eq.trans (hE8 5 j rfl) (Eq.trans (hE2 5 j rfl) (hE1 5 j rfl)))))))) hT) hps12 31 (by omega) (by omega)) (cw_X13_266 hts ⟨by decide, by decide⟩) (hG 0 _ rfl) rfl rfl rfl rfl (Nat.le_of_ble_eq_true rfl) dX13_tellLaw_123 (fun _ h => h) (fun H1 locs hq hF hS => ?_)
            obtain ⟨V13, hG, hE13, hps13⟩ := hq
            generalize hHe13 : H1 = H at hG hS ⊢
            clear hHe13
            obtain ⟨t13, fo13, he13⟩ : ∃ a b, muP (kdF ch sz) (plF ch sz) 31 t12 fo12 = (a, b) := ⟨_, _, rfl⟩
            replace hps13 : psM V13 m0 t13 fo13 := by rw [he13] at hps13; exact hps13
            obtain ⟨ft13, hft913, hft13, hfz13⟩ := fo_z hps13.2.2
            have htm13 := hps13.1
            obtain ⟨hk313, hk413, hk513, hk613⟩ := hT.1 t13 htm13
            have hkd913 := kd_lt ch sz t13
            have hb313 := (hT.2.2.2.2.2 t13 htm13).1
            have hb513 := (hT.2.2.2.2.2 t13 htm13).2.1
            replace hfz13 : fzI ft13 fo13 := hfz13
            have hcb13 := cbM_mu hcb12 he13
            have hcx13 := hcb13.1
            have hpn13 := muP_g he13
            have hoz13 : ifN fo13 (o12 = 0) := fun z => hoz12 (hpn13.2.2 z).1
            refine lv_goto (tgt := 12) hx hb dX13_tellLaw_126 (by decide) ?_
            have hrw : ∀ k j, 20 ≤ k → k ≤ 24 → j ≠ bx → V13 k j = V2 k j := by
              intro k j h1 h2 hj
              obtain rfl | rfl | rfl | rfl | rfl : k = 20 ∨ k = 21 ∨ k = 22 ∨ k = 23 ∨ k = 24 := by omega
              · exact (Eq.trans (hE13 20 j rfl) (Eq.trans (hE12 20 j rfl) (Eq.trans (hE11 20 j rfl) (Eq.trans (hE10 20 j rfl) (Eq.trans (hE9 20 j rfl) (Eq.trans (show up2 _ 20 _ _ 20 _ = _ from up2_n (fun z => hj z.2)) (hE8 20 j rfl)))))))
              · exact (Eq.trans (hE13 21 j rfl) (Eq.trans (hE12 21 j rfl) (Eq.trans (hE11 21 j rfl) (Eq.trans (hE10 21 j rfl) (Eq.trans (hE9 21 j rfl) (Eq.trans (show up2 _ 21 _ _ 21 _ = _ from up2_n (fun z => hj z.2)) (hE8 21 j rfl)))))))
              · exact (Eq.trans (hE13 22 j rfl) (Eq.trans (hE12 22 j rfl) (Eq.trans (hE11 22 j rfl) (Eq.trans (show up2 _ 22 _ _ 22 _ = _ from up2_n (fun z => hj z.2)) (Eq.trans (hE10 22 j rfl) (Eq.trans (hE9 22 j rfl) (hE8 22 j rfl)))))))
              · exact (Eq.trans (hE13 23 j rfl) (Eq.trans (ha2312 j hj) (Eq.trans (hE11 23 j rfl) (Eq.trans (hE10 23 j rfl) (Eq.trans (hE9 23 j rfl) (hE8 23 j rfl))))))
              · exact (Eq.trans (hE13 24 j rfl) (Eq.trans (ha2412 j hj) (Eq.trans (hE11 24 j rfl) (Eq.trans (hE10 24 j rfl) (Eq.trans (hE9 24 j rfl) (hE8 24 j rfl))))))
            have hloH : loF V2 V13 cx := (loF_to (V1 := V12) (fun j => (hE13 25 j rfl)) (fun j => (hE13 26 j rfl)) hlo12_0)
            have hlo2 : loF V V13 c0 := loF.trans hlo (loF_mono hcc (fun z => by have := hcm.2.2 z; omega) hloH)
            have hbr2 : brF V V13 b := brF_at hbr hbb (fun z => by have := hb0 z; omega) hrw
            have hdead : ¬ fo13 = none := fun z => by
              have a1 := hpn13.2.2 z
              have a2 := hfb12 a1.1
              have a4 := hpn11.2.2 a2
              exact hfn a4.1
            have hRn : lwL (kdF ch sz) (plF ch sz) (vlF ch sz) (4 - (fx + 1)) t13 fo13 (ac ++ [(em9, [], em12)]) = lwL (kdF ch sz) (plF ch sz) (vlF ch sz) 4 t1 fo1 [] := by
              rw [← hR]
              obtain ⟨n2, hn2, hn3⟩ : ∃ n2, 4 - fx = n2 + 1 ∧ 4 - (fx + 1) = n2 := ⟨3 - fx, by omega, by omega⟩
              rw [hn2, hn3]
              exact (lwL_s hI he8 het9 he10 (tmP_f hfn) he11 het12 he13).symm
            exact ih2 (fx + 1) t13 fo13 (ac ++ [(em9, [], em12)]) (bx + 1) ((cx + em9.length) + em12.length) o12 V13 _ _ _ (by omega) hRn (by omega) (fun z => absurd z hdead) (by omega) (by omega) (by omega) hcb13 hoz13 (fun z => absurd z hdead) (Eqx.trans (Eqx.trans (Eqx.trans (Eqx.up (Eqx.trans (Eqx.trans (Eqx.up (Eqx.up (Eqx.trans hE2 (hE8.mono PGo_PLl)) rfl) rfl) (hE9.mono PEx_PLl)) (hE10.mono PGo_PLl)) rfl) (hE11.mono PGo_PLl)) (hE12.mono PTe_PLl)) (hE13.mono PGo_PLl)) hps13 (Eq.trans (hE13 0 12 rfl) ho1212) (Eq.trans (hE13 0 33 rfl) h3312) (Eq.trans (hE13 0 39 rfl) hw3912) hbr2 hlo2 (fun z => absurd z hdead) hG hS (lv_sub hl [0, 1, 2, 3] rfl)
          obtain rfl : fo10 = none := hfz10.mp (by omega)
          obtain rfl := hoz10 rfl
          refine lv_aload_n hx hb dX13_tellLaw_106 rfl (lv_at hl 2 rfl) ?_
          refine c_VV hx hb hml hts hown hK hl.1 hS ⟨Nat.le_refl _, Nat.le_refl _⟩ (met_X13_expression l D dA hG (tkOK_to (V := V) (fun j => (Eq.trans (hE10 3 j rfl) (Eq.trans (hE9 3 j rfl) (Eq.trans (hE8 3 j rfl) (Eq.trans (hE2 3 j rfl) (hE1 3 j rfl)))))) (fun j => (Eq.trans (hE10 4 j rfl) (Eq.trans (hE9 4 j rfl) (Eq.trans (hE8 4 j rfl) (Eq.trans (hE2 4 j rfl) (hE1 4 j rfl)))))) (fun j => (Eq.trans (hE10 5 j rfl) (Eq.trans (hE9 5 j rfl) (Eq.trans (hE8 5 j rfl) (Eq.trans (hE2 5 j rfl) (hE1 5 j rfl)))))) hT) (psM_to (V := V10) rfl rfl rfl hps10) (cx + em9.length) (Eq.trans (hE10 0 39 rfl) hw399) (Eq.trans (hE10 0 12 rfl) ho129) ⟨hcm.1, hcm.2.1, fun z => hcm.2.2 (by omega)⟩ hcb10.1 hcb10.2) (cw_X13_281 hts ⟨by decide, by decide⟩) (hG 0 _ rfl) rfl rfl rfl rfl (Nat.le_of_ble_eq_true rfl) dX13_tellLaw_107 (fun _ h => h) (fun H1 locs hq hF hS => ?_)
          have hlp0 : loF V2 (up2 V10 22 bx (nI (cx + em9.length))) cx := (loF_to (V1 := V9) (fun j => (hE10 25 j rfl)) (fun j => (hE10 26 j rfl)) hlo9_0)
          have hlp1 : loF V9 (up2 V10 22 bx (nI (cx + em9.length))) (cx + em9.length) := (loF_to (V1 := V9) (fun j => (hE10 25 j rfl)) (fun j => (hE10 26 j rfl)) loF.rf)
          obtain ⟨V14, o14, hG, hE14, hps14, ho1214, hoz14, hem14, hlr14, hbA14, hbB14⟩ := hq
          generalize hHe14 : H1 = H at hG hS ⊢
          clear hHe14
          obtain ⟨t14, fo14, em14, he14⟩ := ex3 (exM (kdF ch sz) (plF ch sz) (vlF ch sz) 402 t10 none 0 [] [])
          rw [he14] at hps14 hoz14 hem14 hbA14 hbB14
          have het14 : tmP (kdF ch sz) (plF ch sz) (vlF ch sz) t10 none = (t14, fo14, em14) := tmP_ex.trans he14
          have hcb14 : cbM cm ((cx + em9.length) + em14.length) t14 fo14 := ⟨hbA14, hbB14⟩
          replace hps14 : psM V14 m0 t14 fo14 := hps14
          replace hoz14 : ifN fo14 (o14 = 0) := hoz14
          replace hem14 : emM V14 (cx + em9.length) em14 := hem14
          have hcx14 := hcb14.1
          have hcy14 := hem14.2.1
          obtain ⟨ft14, hft914, hft14, hfz14⟩ := fo_z hps14.2.2
          have htm14 := hps14.1
          obtain ⟨hk314, hk414, hk514, hk614⟩ := hT.1 t14 htm14
          have hkd914 := kd_lt ch sz t14
          have hb314 := (hT.2.2.2.2.2 t14 htm14).1
          have hb514 := (hT.2.2.2.2.2 t14 htm14).2.1
          replace hfz14 : fzI ft14 fo14 := hfz14
          have hw3914 := hem14.1
          have hlo14_0 : loF V2 V14 cx := loF.trans hlp0 (loF_mono (by omega) (fun z => by have := hcm.2.2 (by omega); omega) hlr14)
          have hlo14_1 : loF V9 V14 (cx + em9.length) := loF.trans hlp1 (loF_mono (by omega) (fun z => by have := hcm.2.2 (by omega); omega) hlr14)
          have htl14 : ifN fo14 (t10 < t14 ∧ wfS em14 0) := fun z => (tmP_n3 het14 (by omega) (by omega) z).2
          have hfb14 : ifN fo14 (none = none) := fun z => (tmP_n3 het14 (by omega) (by omega) z).1
          refine lv_aload_n hx hb dX13_tellLaw_110 rfl (lv_at hl 2 rfl) ?_
          refine lv_bipush (v := (nI 30)) hx hb dX13_tellLaw_111 (by decide) ?_
          refine c_VV hx hb hml hts hown hK hl.1 hS ⟨Nat.le_refl _, Nat.le_refl _⟩ (met_X13_must l D dA hG (tkOK_to (V := V) (fun j => (Eq.trans (hE14 3 j rfl) (Eq.trans (hE10 3 j rfl) (Eq.trans (hE9 3 j rfl) (Eq.trans (hE8 3 j rfl) (Eq.trans (hE2 3 j rfl) (hE1 3 j rfl))))))) (fun j => (Eq.trans (hE14 4 j rfl) (Eq.trans (hE10 4 j rfl) (Eq.trans (hE9 4 j rfl) (Eq.trans (hE8 4 j rfl) (Eq.trans (hE2 4 j rfl) (hE1 4 j rfl))))))) (fun j => (Eq.trans (hE14 5 j rfl) (Eq.trans (hE10 5 j rfl) (Eq.trans (hE9 5 j rfl) (Eq.trans (hE8 5 j rfl) (Eq.trans (hE2 5 j rfl) (hE1 5 j rfl))))))) hT) hps14 30 (by omega) (by omega)) (cw_X13_266 hts ⟨by decide, by decide⟩) (hG 0 _ rfl) rfl rfl rfl rfl (Nat.le_of_ble_eq_true rfl) dX13_tellLaw_113 (fun _ h => h) (fun H1 locs hq hF hS => ?_)
          obtain ⟨V15, hG, hE15, hps15⟩ := hq
          generalize hHe15 : H1 = H at hG hS ⊢
          clear hHe15
          obtain ⟨t15, fo15, he15⟩ : ∃ a b, muP (kdF ch sz) (plF ch sz) 30 t14 fo14 = (a, b) := ⟨_, _, rfl⟩
          replace hps15 : psM V15 m0 t15 fo15 := by rw [he15] at hps15; exact hps15
          obtain ⟨ft15, hft915, hft15, hfz15⟩ := fo_z hps15.2.2
          have htm15 := hps15.1
          obtain ⟨hk315, hk415, hk515, hk615⟩ := hT.1 t15 htm15
          have hkd915 := kd_lt ch sz t15
          have hb315 := (hT.2.2.2.2.2 t15 htm15).1
          have hb515 := (hT.2.2.2.2.2 t15 htm15).2.1
          replace hfz15 : fzI ft15 fo15 := hfz15
          have hcb15 := cbM_mu hcb14 he15
          have hcx15 := hcb15.1
          have hpn15 := muP_g he15
          have hoz15 : ifN fo15 (o14 = 0) := fun z => hoz14 (hpn15.2.2 z).1
          refine lv_aload_n hx hb dX13_tellLaw_116 rfl (lv_at hl 2 rfl) ?_
          refine c_VV hx hb hml hts hown hK hl.1 hS ⟨Nat.le_refl _, Nat.le_refl _⟩ (met_X13_term l D dA hG (tkOK_to (V := V) (fun j => (Eq.trans (hE15 3 j rfl) (Eq.trans (hE14 3 j rfl) (Eq.trans (hE10 3 j rfl) (Eq.trans (hE9 3 j rfl) (Eq.trans (hE8 3 j rfl) (Eq.trans (hE2 3 j rfl) (hE1 3 j rfl)))))))) (fun j => (Eq.trans (hE15 4 j rfl) (Eq.trans (hE14 4 j rfl) (Eq.trans (hE10 4 j rfl) (Eq.trans (hE9 4 j rfl) (Eq.trans (hE8 4 j rfl) (Eq.trans (hE2 4 j rfl) (hE1 4 j rfl)))))))) (fun j => (Eq.trans (hE15 5 j rfl) (Eq.trans (hE14 5 j rfl) (Eq.trans (hE10 5 j rfl) (Eq.trans (hE9 5 j rfl) (Eq.trans (hE8 5 j rfl) (Eq.trans (hE2 5 j rfl) (hE1 5 j rfl)))))))) hT) hps15 (Eq.trans (hE15 0 39 rfl) hw3914) (Eq.trans ((hE15 0 33 rfl).trans ((hE14 0 33 rfl).trans ((hE10 0 33 rfl).trans ((hE9 0 33 rfl).trans (hE8 0 33 rfl))))) h33) (by omega) (Eq.trans (hE15 0 12 rfl) ho1214) hoz15 ⟨hcm.1, hcm.2.1, fun z => hcm.2.2 (by omega)⟩ hcb15) (cw_X13_284 hts ⟨by decide, by decide⟩) (hG 0 _ rfl) rfl rfl rfl rfl (Nat.le_of_ble_eq_true rfl) dX13_tellLaw_117 (fun _ h => h) (fun H1 locs hq hF hS => ?_)
          have hlp0 : loF V2 V15 cx := (loF_to (V1 := V14) (fun j => (hE15 25 j rfl)) (fun j => (hE15 26 j rfl)) hlo14_0)
          have hlp1 : loF V9 V15 (cx + em9.length) := (loF_to (V1 := V14) (fun j => (hE15 25 j rfl)) (fun j => (hE15 26 j rfl)) hlo14_1)
          have hlp2 : loF V14 V15 ((cx + em9.length) + em14.length) := (loF_to (V1 := V14) (fun j => (hE15 25 j rfl)) (fun j => (hE15 26 j rfl)) loF.rf)
          obtain ⟨V16, o16, hG, hE16, hps16, ho1216, hoz16, hem16, hlr16, hcb16, h3316, h2316, h2416, ha2316, ha2416⟩ := hq
          generalize hHe16 : H1 = H at hG hS ⊢
          clear hHe16
          obtain ⟨t16, fo16, em16, he16⟩ := ex3 (tmP (kdF ch sz) (plF ch sz) (vlF ch sz) t15 fo15)
          rw [he16] at hps16 hoz16 hem16 hcb16 h2416
          have het16 := he16
          replace hcb16 : cbM cm (((cx + em9.length) + em14.length) + em16.length) t16 fo16 := hcb16
          replace h2416 : V16 24 bx = nI (((cx + em9.length) + em14.length) + em16.length) := h2416
          replace hps16 : psM V16 m0 t16 fo16 := hps16
          replace hoz16 : ifN fo16 (o16 = 0) := hoz16
          replace hem16 : emM V16 ((cx + em9.length) + em14.length) em16 := hem16
          have hcx16 := hcb16.1
          have hcy16 := hem16.2.1
          obtain ⟨ft16, hft916, hft16, hfz16⟩ := fo_z hps16.2.2
          have htm16 := hps16.1
          obtain ⟨hk316, hk416, hk516, hk616⟩ := hT.1 t16 htm16
          have hkd916 := kd_lt ch sz t16
          have hb316 := (hT.2.2.2.2.2 t16 htm16).1
          have hb516 := (hT.2.2.2.2.2 t16 htm16).2.1
          replace hfz16 : fzI ft16 fo16 := hfz16
          have hw3916 := hem16.1
          have hlo16_0 : loF V2 V16 cx := loF.trans hlp0 (loF_mono (by omega) (fun z => by have := hcm.2.2 (by omega); omega) hlr16)
          have hlo16_1 : loF V9 V16 (cx + em9.length) := loF.trans hlp1 (loF_mono (by omega) (fun z => by have := hcm.2.2 (by omega); omega) hlr16)
          have hlo16_2 : loF V14 V16 ((cx + em9.length) + em14.length) := loF.trans hlp2 (loF_mono (by omega) (fun z => by have := hcm.2.2 (by omega); omega) hlr16)
          have htl16 : ifN fo16 (t15 < t16 ∧ wfS em16 0) := fun z => (tmP_n3 het16 (by omega) (by omega) z).2
          have hfb16 : ifN fo16 (fo15 = none) := fun z => (tmP_n3 het16 (by omega) (by omega) z).1
          refine lv_aload_n hx hb dX13_tellLaw_120 rfl (lv_at hl 2 rfl) ?_
          refine lv_bipush (v := (nI 31)) hx hb dX13_tellLaw_121 (by decide) ?_
          refine c_VV hx hb hml hts hown hK hl.1 hS ⟨Nat.le_refl _, Nat.le_refl _⟩ (met_X13_must l D dA hG (tkOK_to (V := V) (fun j => (Eq.trans (hE16 3 j rfl) (Eq.trans (hE15 3 j rfl) (Eq.trans (hE14 3 j rfl) (Eq.trans (hE10 3 j rfl) (Eq.trans (hE9 3 j rfl) (Eq.trans (hE8 3 j rfl) (Eq.trans (hE2 3 j rfl) (hE1 3 j rfl))))))))) (fun j => (Eq.trans (hE16 4 j rfl) (Eq.trans (hE15 4 j rfl) (Eq.trans (hE14 4 j rfl) (Eq.trans (hE10 4 j rfl) (Eq.trans (hE9 4 j rfl) (Eq.trans (hE8 4 j rfl) (Eq.trans (hE2 4 j rfl) (hE1 4 j rfl))))))))) (fun j => (Eq.trans (hE16 5 j rfl) (Eq.trans (hE15 5 j rfl) (Eq.trans (hE14 5 j rfl) (Eq.trans (hE10 5 j rfl) (Eq.trans (hE9 5 j rfl) (Eq.trans (hE8 5 j rfl) (Eq.trans (hE2 5 j rfl) (hE1 5 j rfl))))))))) hT) hps16 31 (by omega) (by omega)) (cw_X13_266 hts ⟨by decide, by decide⟩) (hG 0 _ rfl) rfl rfl rfl rfl (Nat.le_of_ble_eq_true rfl) dX13_tellLaw_123 (fun _ h => h) (fun H1 locs hq hF hS => ?_)
          obtain ⟨V17, hG, hE17, hps17⟩ := hq
          generalize hHe17 : H1 = H at hG hS ⊢
          clear hHe17
          obtain ⟨t17, fo17, he17⟩ : ∃ a b, muP (kdF ch sz) (plF ch sz) 31 t16 fo16 = (a, b) := ⟨_, _, rfl⟩
          replace hps17 : psM V17 m0 t17 fo17 := by rw [he17] at hps17; exact hps17
          obtain ⟨ft17, hft917, hft17, hfz17⟩ := fo_z hps17.2.2
          have htm17 := hps17.1
          obtain ⟨hk317, hk417, hk517, hk617⟩ := hT.1 t17 htm17
          have hkd917 := kd_lt ch sz t17
          have hb317 := (hT.2.2.2.2.2 t17 htm17).1
          have hb517 := (hT.2.2.2.2.2 t17 htm17).2.1
          replace hfz17 : fzI ft17 fo17 := hfz17
          have hcb17 := cbM_mu hcb16 he17
          have hcx17 := hcb17.1
          have hpn17 := muP_g he17
          have hoz17 : ifN fo17 (o16 = 0) := fun z => hoz16 (hpn17.2.2 z).1
          refine lv_goto (tgt := 12) hx hb dX13_tellLaw_126 (by decide) ?_
          have hrw : ∀ k j, 20 ≤ k → k ≤ 24 → j ≠ bx → V17 k j = V2 k j := by
            intro k j h1 h2 hj
            obtain rfl | rfl | rfl | rfl | rfl : k = 20 ∨ k = 21 ∨ k = 22 ∨ k = 23 ∨ k = 24 := by omega
            · exact (Eq.trans (hE17 20 j rfl) (Eq.trans (hE16 20 j rfl) (Eq.trans (hE15 20 j rfl) (Eq.trans (hE14 20 j rfl) (Eq.trans (hE10 20 j rfl) (Eq.trans (hE9 20 j rfl) (Eq.trans (show up2 _ 20 _ _ 20 _ = _ from up2_n (fun z => hj z.2)) (hE8 20 j rfl))))))))
            · exact (Eq.trans (hE17 21 j rfl) (Eq.trans (hE16 21 j rfl) (Eq.trans (hE15 21 j rfl) (Eq.trans (hE14 21 j rfl) (Eq.trans (hE10 21 j rfl) (Eq.trans (hE9 21 j rfl) (Eq.trans (show up2 _ 21 _ _ 21 _ = _ from up2_n (fun z => hj z.2)) (hE8 21 j rfl))))))))
            · exact (Eq.trans (hE17 22 j rfl) (Eq.trans (hE16 22 j rfl) (Eq.trans (hE15 22 j rfl) (Eq.trans (hE14 22 j rfl) (Eq.trans (show up2 _ 22 _ _ 22 _ = _ from up2_n (fun z => hj z.2)) (Eq.trans (hE10 22 j rfl) (Eq.trans (hE9 22 j rfl) (hE8 22 j rfl))))))))
            · exact (Eq.trans (hE17 23 j rfl) (Eq.trans (ha2316 j hj) (Eq.trans (hE15 23 j rfl) (Eq.trans (hE14 23 j rfl) (Eq.trans (hE10 23 j rfl) (Eq.trans (hE9 23 j rfl) (hE8 23 j rfl)))))))
            · exact (Eq.trans (hE17 24 j rfl) (Eq.trans (ha2416 j hj) (Eq.trans (hE15 24 j rfl) (Eq.trans (hE14 24 j rfl) (Eq.trans (hE10 24 j rfl) (Eq.trans (hE9 24 j rfl) (hE8 24 j rfl)))))))
          have hloH : loF V2 V17 cx := (loF_to (V1 := V16) (fun j => (hE17 25 j rfl)) (fun j => (hE17 26 j rfl)) hlo16_0)
          have hlo2 : loF V V17 c0 := loF.trans hlo (loF_mono hcc (fun z => by have := hcm.2.2 z; omega) hloH)
          have hbr2 : brF V V17 b := brF_at hbr hbb (fun z => by have := hb0 z; omega) hrw
          have hall : ifN fo17 (wfS em9 0 ∧ wfS em14 0 ∧ wfS em16 0 ∧ tt + 4 ≤ t17) := fun z => by
            have a1 := hpn17.2.2 z
            have a2 := hfb16 a1.1
            have a3 := htl16 a1.1
            have a4 := hpn15.2.2 a2
            have a5 := hfb14 a4.1
            have a6 := htl14 a4.1
            have a7 := hpn10.2.2 a5
            have a8 := hfb9 a7.1
            have a9 := htl9 a7.1
            have b1 := hpn8.2.2 a8
            exact ⟨a9.2, a6.2, a3.2, by omega⟩
          have hsg0 := seg_of hem9 (loF_to (V1 := V16) (fun j => (hE17 25 j rfl)) (fun j => (hE17 26 j rfl)) hlo16_1)
          have hsg1 := seg_of hem14 (loF_to (V1 := V16) (fun j => (hE17 25 j rfl)) (fun j => (hE17 26 j rfl)) hlo16_2)
          have hsg2 := seg_of hem16 (loF_to (V1 := V16) (fun j => (hE17 25 j rfl)) (fun j => (hE17 26 j rfl)) loF.rf)
          have hacN : ifN fo17 (acM V17 b c0 (((cx + em9.length) + em14.length) + em16.length) (ac ++ [(em9, em14, em16)])) := fun z => acM_snoc (acM_fr (hac rfl) (fun k j h1 h2 _ h3 => hrw k j h1 h2 (by have := hab rfl; omega)) (fun j _ hj => hloH j (Or.inl hj))) (hab rfl) (Eq.trans (hE17 20 _ rfl) (Eq.trans (hE16 20 _ rfl) (Eq.trans (hE15 20 _ rfl) (Eq.trans (hE14 20 _ rfl) (Eq.trans (hE10 20 _ rfl) (Eq.trans (hE9 20 _ rfl) (show up2 _ 20 _ _ 20 _ = _ from up2_s))))))) (Eq.trans (hE17 21 _ rfl) (Eq.trans (hE16 21 _ rfl) (Eq.trans (hE15 21 _ rfl) (Eq.trans (hE14 21 _ rfl) (Eq.trans (hE10 21 _ rfl) (Eq.trans (hE9 21 _ rfl) (show up2 _ 21 _ _ 21 _ = _ from up2_s))))))) (Eq.trans (hE17 22 _ rfl) (Eq.trans (hE16 22 _ rfl) (Eq.trans (hE15 22 _ rfl) (Eq.trans (hE14 22 _ rfl) (show up2 _ 22 _ _ 22 _ = _ from up2_s))))) (Eq.trans (hE17 23 _ rfl) h2316) (Eq.trans (hE17 24 _ rfl) h2416) hsg0 (hall z).1 hsg1 (hall z).2.1 hsg2 (hall z).2.2.1 (by omega) (by omega)
          have hRn : lwL (kdF ch sz) (plF ch sz) (vlF ch sz) (4 - (fx + 1)) t17 fo17 (ac ++ [(em9, em14, em16)]) = lwL (kdF ch sz) (plF ch sz) (vlF ch sz) 4 t1 fo1 [] := by
            rw [← hR]
            obtain ⟨n2, hn2, hn3⟩ : ∃ n2, 4 - fx = n2 + 1 ∧ 4 - (fx + 1) = n2 := ⟨3 - fx, by omega, by omega⟩
            rw [hn2, hn3]
            exact (lwL_s hI he8 het9 he10 het14 he15 het16 he17).symm
          exact ih2 (fx + 1) t17 fo17 (ac ++ [(em9, em14, em16)]) (bx + 1) (((cx + em9.length) + em14.length) + em16.length) o16 V17 _ _ _ (by omega) hRn (by omega) (fun z => by have := (hall z).2.2.2; have := hbt rfl; omega) (by omega) (by omega) (by omega) hcb17 hoz17 (fun z => by rw [List.length_append, List.length_singleton]; have := hab rfl; omega) (Eqx.trans (Eqx.trans (Eqx.trans (Eqx.trans (Eqx.up (Eqx.trans (Eqx.trans (Eqx.up (Eqx.up (Eqx.trans hE2 (hE8.mono PGo_PLl)) rfl) rfl) (hE9.mono PEx_PLl)) (hE10.mono PGo_PLl)) rfl) (hE14.mono PEx_PLl)) (hE15.mono PGo_PLl)) (hE16.mono PTe_PLl)) (hE17.mono PGo_PLl)) hps17 (Eq.trans (hE17 0 12 rfl) ho1216) (Eq.trans (hE17 0 33 rfl) h3316) (Eq.trans (hE17 0 39 rfl) hw3916) hbr2 hlo2 hacN hG hS (lv_sub hl [0, 1, 2, 3] rfl)
        · exact absurd (hfz_3.mpr rfl) (by omega)
      refine lv_aload_n hx hb dX13_tellLaw_33 rfl (lv_at hl 2 rfl) ?_
      refine lv_iconst (v := (nI 2)) hx hb dX13_tellLaw_34 (by decide) ?_
      refine c_VV hx hb hml hts hown hK hl.1 hS ⟨Nat.le_refl _, Nat.le_refl _⟩ (met_X13_fail l D dA hG (tkOK_to (V := V) (fun j => (Eq.trans (hE2 3 j rfl) (hE1 3 j rfl))) (fun j => (Eq.trans (hE2 4 j rfl) (hE1 4 j rfl))) (fun j => (Eq.trans (hE2 5 j rfl) (hE1 5 j rfl))) hT) hps 2 (by omega) (by omega)) (cw_X13_215 hts ⟨by decide, by decide⟩) (hG 0 _ rfl) rfl rfl rfl rfl (Nat.le_of_ble_eq_true rfl) dX13_tellLaw_35 (fun _ h => h) (fun H1 locs hq hF hS => ?_)
      obtain ⟨V18, hG, hE18, hps18⟩ := hq
      generalize hHe18 : H1 = H at hG hS ⊢
      clear hHe18
      obtain ⟨fo18, he18⟩ : ∃ a, flP none 2 (plF ch sz tt) = a := ⟨_, rfl⟩
      replace hps18 : psM V18 m0 tt fo18 := by rw [he18] at hps18; exact hps18
      obtain ⟨ft18, hft918, hft18, hfz18⟩ := fo_z hps18.2.2
      have htm18 := hps18.1
      obtain ⟨hk318, hk418, hk518, hk618⟩ := hT.1 tt htm18
      have hkd918 := kd_lt ch sz tt
      have hb318 := (hT.2.2.2.2.2 tt htm18).1
      have hb518 := (hT.2.2.2.2.2 tt htm18).2.1
      replace hfz18 : fzI ft18 fo18 := hfz18
      refine lv_aload_n hx hb dX13_tellLaw_38 rfl (lv_at hl 2 rfl) ?_
      refine g_get (v := .int (nI ft18)) hx hb hts hown hK hG 0 rfl rfl ok_X13 13 (by decide) q1484 rfl (congrArg Value.int hft18) dX13_tellLaw_39 ?_
      refine n_if_le (tgt := 46) hx hb dX13_tellLaw_42 (by decide) (by omega) (fun c42 => ?_) (fun c42 => ?_)
      · exact absurd (hfz18.mp (by omega)) (he18 ▸ flP_s)
      · refine hend _ _ _ _ hS dX13_tellLaw_45 ?_
        have hRe : lwL (kdF ch sz) (plF ch sz) (vlF ch sz) 4 t1 fo1 [] = (tt, fo18, ac) := by
          rw [← hR, show 4 - fx = 0 by omega, ← he18]
          exact lwL_4 hI
        have hfn : fo18 ≠ none := he18 ▸ flP_s
        have hRR := lwP_eq he1 hRe (tmP_f hfn) (muP_f hfn)
        rw [if_neg hfn] at hRR
        have hlo2 : loF V V18 c0 := loF_to (V1 := V2) (fun j => (hE18 25 j rfl)) (fun j => (hE18 26 j rfl)) hlo
        have hbr2 : brF V V18 b := fun k j a c hj => (by
          obtain rfl | rfl | rfl | rfl | rfl : k = 20 ∨ k = 21 ∨ k = 22 ∨ k = 23 ∨ k = 24 := by omega
          · exact Eq.trans (hE18 20 j rfl) (hbr _ _ a c hj)
          · exact Eq.trans (hE18 21 j rfl) (hbr _ _ a c hj)
          · exact Eq.trans (hE18 22 j rfl) (hbr _ _ a c hj)
          · exact Eq.trans (hE18 23 j rfl) (hbr _ _ a c hj)
          · exact Eq.trans (hE18 24 j rfl) (hbr _ _ a c hj))
        rw [hRR]
        refine ⟨rfl, _, bx, cx, 0, hG, (((hE1.mono PGo_PLw).trans (hE2.mono PLl_PLw)).trans (hE18.mono PFl_PLw)), hps18, (Eq.trans (hE18 0 12 rfl) h12), (Eq.trans (hE18 0 33 rfl) h33), (Eq.trans (hE18 0 39 rfl) h39), hbr2, hlo2, ?_, ?_⟩
        · exact fun _ => ⟨fun j => (Eq.trans (hE18 18 j rfl) (Eq.trans (hE2 18 j rfl) (hE1 18 j rfl))), fun j => (Eq.trans (hE18 19 j rfl) (Eq.trans (hE2 19 j rfl) (hE1 19 j rfl)))⟩
        · intro w hw
          cases hw
  exact loop2 ((4 - 0) + 1) 0 t1 fo1 ([]) b c0 0 V1 _ _ _ (Nat.lt_succ_self _) rfl (by decide) hbt1 (by omega) (Nat.le_refl _) (Nat.le_refl _) hcb1 (fun _ => rfl) (fun _ => rfl) Eqx.rf hps1 (Eq.trans (hE1 0 12 rfl) h12) (Eq.trans (hE1 0 33 rfl) h33) (Eq.trans (hE1 0 39 rfl) h39) hbr0 (fun j _ => ⟨hE1 25 j rfl, hE1 26 j rfl⟩) (fun _ => acM_nil) hG hS (lv_sub hl [0, 1, 2, 3] rfl)
