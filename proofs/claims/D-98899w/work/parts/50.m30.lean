/-! the machine of an expression: what waits (top first), what has come out -/
def h6 : List Nat → Nat
  | [] => 6
  | w :: _ => w
def cnt6 : List Nat → Nat
  | [] => 0
  | w :: ws => (if w = 6 then 1 else 0) + cnt6 ws
def wsOK : List Nat → Prop
  | [] => True
  | w :: ws => wsOK ws ∧ (w = 6 ∨ h6 ws = 6 ∨ ((w = 10 ∨ w = 15) ∧ (h6 ws = 8 ∨ h6 ws = 9))) ∧ (w = 6 ∨ w = 8 ∨ w = 9 ∨ w = 10 ∨ w = 15)
theorem ws_len : ∀ {ws : List Nat}, wsOK ws → ws.length ≤ 3 * cnt6 ws + (if h6 ws = 6 then 0 else if h6 ws = 8 ∨ h6 ws = 9 then 1 else 2)
  | [], _ => by simp [cnt6, h6]
  | w :: ws, h => by
    have ih := ws_len h.1
    have h2 := h.2
    show ws.length + 1 ≤ 3 * ((if w = 6 then 1 else 0) + cnt6 ws) + (if w = 6 then 0 else if w = 8 ∨ w = 9 then 1 else 2)
    generalize h6 ws = a at ih h2
    (repeat' split at ih) <;> (repeat' split) <;> omega
theorem coO_inv (x : Nat) : ∀ (ws : List Nat) (em : List Sg) (a : List Nat) (b : List Sg), coO x ws em = (a, b) → a.length + b.length = ws.length + em.length ∧ (wsOK ws → wsOK a) ∧ cnt6 a = cnt6 ws ∧ (x = 0 → h6 a = 6) ∧ (h6 a = 6 ∨ h6 a = 8 ∨ h6 a = 9)
  | [], em, a, b, h => by
    injection h with h1 h2
    subst h1 h2
    exact ⟨rfl, id, rfl, fun _ => rfl, Or.inl rfl⟩
  | w :: ws, em, a, b, h => by
    unfold coO at h
    split at h
    · next hc =>
      injection h with h1 h2
      subst h1 h2
      exact ⟨rfl, id, rfl, fun hx => by show w = 6; omega, by show w = 6 ∨ w = 8 ∨ w = 9; omega⟩
    · next hc =>
      obtain ⟨h1, h2, h3, h4, h5⟩ := coO_inv x ws _ a b h
      refine ⟨by rw [List.length_append] at h1; simp at h1 ⊢; omega, fun z => h2 z.1, ?_, h4, h5⟩
      rw [h3]
      show _ = (if w = 6 then 1 else 0) + cnt6 ws
      rw [if_neg (fun z => hc (Or.inl z)), Nat.zero_add]
theorem ws_6 {a : List Nat} (h : h6 a = 6) (hc : 0 < cnt6 a) : ∃ a', a = 6 :: a' := by
  cases a with
  | nil => exact absurd hc (Nat.lt_irrefl 0)
  | cons w a' => exact ⟨a', by rw [show w = 6 from h]⟩
/-- openings -/
def exO (kd pl : Nat → Nat) : Nat → Nat → Fo → Nat → List Nat → Nat × Fo × Nat × List Nat
  | 0, t, fo, o, ws => (t, fo, o, ws)
  | n + 1, t, fo, o, ws => if isP fo (kd t) 6 = true then exO kd pl n (goP pl t (if o = 6 then flP fo 2 (pl t) else fo)).1 (goP pl t (if o = 6 then flP fo 2 (pl t) else fo)).2 (o + 1) (6 :: ws) else (t, fo, o, ws)
/-- closings -/
def exC (kd pl : Nat → Nat) : Nat → Nat → Fo → Nat → List Nat → List Sg → Nat × Fo × Nat × List Nat × List Sg
  | 0, t, fo, o, ws, em => (t, fo, o, ws, em)
  | n + 1, t, fo, o, ws, em => if isP fo (kd t) 7 = true ∧ 0 < o then exC kd pl n (goP pl t fo).1 (goP pl t fo).2 (o - 1) (coO 0 ws em).1.tail (coO 0 ws em).2 else (t, fo, o, ws, em)
def opT (kd : Nat → Nat) (t : Nat) (fo : Fo) : Bool := isP fo (kd t) 8 || isP fo (kd t) 9 || isP fo (kd t) 10 || isP fo (kd t) 15
def opS (kd : Nat → Nat) (t : Nat) (fo : Fo) : Nat := if (isP fo (kd t) 10 || isP fo (kd t) 15) = true then 1 else 0
/-- an expression: place, fault, what has come out -/
def exM (kd pl vl : Nat → Nat) : Nat → Nat → Fo → Nat → List Nat → List Sg → Nat × Fo × List Sg
  | 0, t, fo, _, _, em => (t, fo, em)
  | n + 1, t, fo, o, ws, em => if fo.isSome = true then (t, fo, em) else match exO kd pl 402 t fo o ws with
    | (ta, foa, oa, wsa) => match unP kd pl ta foa with
      | (tu, fou) => if fou.isSome = true then (tu, fou, unE kd vl ta foa em) else match exC kd pl 402 tu fou oa wsa (unE kd vl ta foa em) with
        | (tc, foc, oc, wsc, ec) => if opT kd tc foc = true then exM kd pl vl n (goP pl tc foc).1 (goP pl tc foc).2 oc (kd tc :: (coO (opS kd tc foc) wsc ec).1) (coO (opS kd tc foc) wsc ec).2 else (tc, if 0 < oc then flP foc 1 (pl tc) else foc, (coO 0 wsc ec).2)
theorem exM_f {kd pl vl : Nat → Nat} {n t o : Nat} {fo : Fo} {ws : List Nat} {em : List Sg} (h : fo ≠ none) : exM kd pl vl n t fo o ws em = (t, fo, em) := by
  cases n with
  | zero => rfl
  | succ n =>
    cases fo with
    | none => exact absurd rfl h
    | some q => rfl
theorem exM_u {kd pl vl : Nat → Nat} {n t o ta oa tu : Nat} {foa fou : Fo} {ws wsa : List Nat} {em eu : List Sg} (hA : exO kd pl 402 t none o ws = (ta, foa, oa, wsa)) (hU : unP kd pl ta foa = (tu, fou)) (hE : unE kd vl ta foa em = eu) (hf : fou ≠ none) : exM kd pl vl (n + 1) t none o ws em = (tu, fou, eu) := by
  cases fou with
  | none => exact absurd rfl hf
  | some q => simp [exM, hA, hU, hE]
theorem exM_e {kd pl vl : Nat → Nat} {n t o ta oa tu tc oc : Nat} {foa foc : Fo} {ws wsa wsc : List Nat} {em eu ec : List Sg} (hA : exO kd pl 402 t none o ws = (ta, foa, oa, wsa)) (hU : unP kd pl ta foa = (tu, none)) (hE : unE kd vl ta foa em = eu) (hC : exC kd pl 402 tu none oa wsa eu = (tc, foc, oc, wsc, ec)) (hm : ¬ opT kd tc foc = true) : exM kd pl vl (n + 1) t none o ws em = (tc, if 0 < oc then flP foc 1 (pl tc) else foc, (coO 0 wsc ec).2) := by
  simp [exM, hA, hU, hE, hC, hm]
theorem exM_go {kd pl vl : Nat → Nat} {n t o ta oa tu tc oc x tg : Nat} {foa foc fog : Fo} {ws wsa wsc wp : List Nat} {em eu ec ep : List Sg} (hA : exO kd pl 402 t none o ws = (ta, foa, oa, wsa)) (hU : unP kd pl ta foa = (tu, none)) (hE : unE kd vl ta foa em = eu) (hC : exC kd pl 402 tu none oa wsa eu = (tc, foc, oc, wsc, ec)) (hm : opT kd tc foc = true) (hx : opS kd tc foc = x) (hP : coO x wsc ec = (wp, ep)) (hg : goP pl tc foc = (tg, fog)) : exM kd pl vl (n + 1) t none o ws em = exM kd pl vl n tg fog oc (kd tc :: wp) ep := by
  subst hx
  simp [exM, hA, hU, hE, hC, hm, hP, hg]
theorem goP_f {pl : Nat → Nat} {t t1 : Nat} {fo fo1 : Fo} (h : goP pl t fo = (t1, fo1)) : t ≤ t1 ∧ t1 ≤ t + 1 ∧ (fo1 = none → fo = none ∧ t1 = t + 1) := by
  unfold goP at h
  split at h
  · injection h with h1 h2
    subst h1 h2
    exact ⟨Nat.le_refl _, Nat.le_succ _, fun z => by cases fo <;> cases z⟩
  · injection h with h1 h2
    subst h1 h2
    exact ⟨Nat.le_succ _, Nat.le_refl _, fun z => ⟨z, rfl⟩⟩
theorem wt_push {V V1 : GI} {ws : List Nat} {w : Nat} (hm : wtM V ws) (hl : ws.length < 64) (hw : w < 100) (h1 : V1 27 ws.length = nI w) (h2 : ∀ j, j < ws.length → V1 27 j = V 27 j) (h3 : V1 0 43 = nI (ws.length + 1)) : wtM V1 (w :: ws) :=
  ⟨h3, hl, h1, hw, stM_to ws h2 hm.2.2⟩
theorem exO_0 {kd pl : Nat → Nat} {n t o : Nat} {fo : Fo} {ws : List Nat} (h : ¬ isP fo (kd t) 6 = true) : exO kd pl n t fo o ws = (t, fo, o, ws) := by
  cases n with
  | zero => rfl
  | succ n => unfold exO; exact if_neg h
theorem exO_1 {kd pl : Nat → Nat} {n t o t1 : Nat} {fo fo1 fo2 : Fo} {ws : List Nat} (h : isP fo (kd t) 6 = true) (h2 : (if o = 6 then flP fo 2 (pl t) else fo) = fo2) (h1 : goP pl t fo2 = (t1, fo1)) : exO kd pl (n + 1) t fo o ws = exO kd pl n t1 fo1 (o + 1) (6 :: ws) := by
  rw [exO, if_pos h, h2, h1]
theorem exC_0 {kd pl : Nat → Nat} {n t o : Nat} {fo : Fo} {ws : List Nat} {em : List Sg} (h : ¬ (isP fo (kd t) 7 = true ∧ 0 < o)) : exC kd pl n t fo o ws em = (t, fo, o, ws, em) := by
  cases n with
  | zero => rfl
  | succ n => unfold exC; exact if_neg h
theorem exC_1 {kd pl : Nat → Nat} {n t o t1 : Nat} {fo fo1 : Fo} {ws wp : List Nat} {em ep : List Sg} (h : isP fo (kd t) 7 = true ∧ 0 < o) (h2 : coO 0 ws em = (6 :: wp, ep)) (h1 : goP pl t fo = (t1, fo1)) : exC kd pl (n + 1) t fo o ws em = exC kd pl n t1 fo1 (o - 1) wp ep := by
  rw [exC, if_pos h, h2, h1]
  rfl
theorem unP_f {kd pl : Nat → Nat} {t t1 : Nat} {fo fo1 : Fo} (h : unP kd pl t fo = (t1, fo1)) : t ≤ t1 ∧ t1 ≤ t + 1 ∧ (fo1 = none → unK kd t fo = true ∧ t1 = t + 1) := by
  unfold unP at h
  split at h
  · next hk => obtain ⟨h1, h2, h3⟩ := goP_f h; exact ⟨h1, h2, fun z => ⟨hk, (h3 z).2⟩⟩
  · injection h with h1 h2
    subst h1 h2
    exact ⟨Nat.le_refl _, Nat.le_succ _, fun z => by cases fo <;> cases z⟩
theorem unE_l {kd vl : Nat → Nat} {t : Nat} {fo : Fo} {em : List Sg} : em.length ≤ (unE kd vl t fo em).length ∧ (unE kd vl t fo em).length ≤ em.length + 1 := by
  unfold unE
  (repeat' split) <;> simp
