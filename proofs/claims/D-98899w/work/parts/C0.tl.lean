/-! what is told, step by step, against onP -/
section ONX
variable {kd pl vl nm : Nat → Nat} {t u : Nat} {wo : Fo} {r : Rs} {q : Nat × Nat}
theorem bd_s {fo : Fo} (h : fo = some q) : (bdP kd pl t fo).2 = some q := by subst h; rfl
theorem go_s {fo : Fo} (h : fo = some q) : (goP pl t fo).2 = some q := by subst h; unfold goP flP; split <;> rfl
theorem bd_ok (h : (bdP kd pl t none).2 = none) : kd t = 2 ∧ t ≠ 400 ∧ bdP kd pl t none = (t + 1, none) := by
  rw [bdP_mu] at h
  rw [bdP_mu]
  exact mu_ok h
def slR (r : Rs) (x l h : Nat) : Rs := (rN r + 1, va_up (rNm r) (rN r) x, va_up (rLf r) (rN r) l, va_up (rHb r) (rN r) h, rCo r, rHc r, rCn r, rRg r, rBg r, rSe r, rLw r)
theorem sl_f1 (h : (muP kd pl 1 u none).2 = some q) : (slP kd pl vl nm u wo r).2.1 = some q := mu_s (bd_s (bd_s h))
theorem sl_f2 (h1 : muP kd pl 1 u none = (u + 1, none)) (h : (bdP kd pl (u + 1) none).2 = some q) : (slP kd pl vl nm u wo r).2.1 = some q := by
  unfold slP
  rw [h1]
  exact mu_s (bd_s h)
theorem sl_f3 (h1 : muP kd pl 1 u none = (u + 1, none)) (h2 : bdP kd pl (u + 1) none = (u + 2, none)) (h : (bdP kd pl (u + 2) none).2 = some q) : (slP kd pl vl nm u wo r).2.1 = some q := by
  unfold slP
  rw [h1]
  show (muP kd pl 4 (bdP kd pl (bdP kd pl (u + 1) none).1 (bdP kd pl (u + 1) none).2).1 (bdP kd pl (bdP kd pl (u + 1) none).1 (bdP kd pl (u + 1) none).2).2).2 = some q
  rw [h2]
  exact mu_s h
theorem sl_ok (h1 : muP kd pl 1 u none = (u + 1, none)) (h2 : bdP kd pl (u + 1) none = (u + 2, none)) (h3 : bdP kd pl (u + 2) none = (u + 3, none)) (k2 : kd (u + 1) = 2) (k3 : kd (u + 2) = 2) : slP kd pl vl nm u wo r = ((muP kd pl 4 (u + 3) none).1, (muP kd pl 4 (u + 3) none).2, bdW kd pl vl 0 9 (u + 2) none (bdW kd pl vl 0 1 (u + 1) none (smW none wo (rNm r) (nm u) (pl u) (rN r))), slR r (nm u) (vl (u + 1)) (vl (u + 2))) := by
  unfold slP
  rw [h1]
  simp only [h2, h3, bdV_2 k2, bdV_2 k3]
  rfl
theorem cl_f1 (h : (bdP kd pl u none).2 = some q) : (clP kd pl vl u wo r).2.1 = some q := mu_s (bd_s h)
theorem cl_f2 (h1 : bdP kd pl u none = (u + 1, none)) (h : (bdP kd pl (u + 1) none).2 = some q) : (clP kd pl vl u wo r).2.1 = some q := by
  unfold clP
  simp only [h1]
  exact mu_s h
theorem cl_ok (h1 : bdP kd pl u none = (u + 1, none)) (h2 : bdP kd pl (u + 1) none = (u + 2, none)) (k1 : kd u = 2) (k2 : kd (u + 1) = 2) : clP kd pl vl u wo r = ((muP kd pl 4 (u + 2) none).1, (muP kd pl 4 (u + 2) none).2, bdW kd pl vl 0 99 (u + 1) none (bdW kd pl vl 0 8 u none wo), clR r (vl u) (vl (u + 1))) := by
  unfold clP
  simp only [h1, h2, bdV_2 k1, bdV_2 k2]
theorem on_s0 (h : kd t = 20) (hr : (rmP pl (rN r) 9 t).2 = some q) : (onP kd pl vl nm t wo r).2.1 = some q := by
  unfold onP
  rw [if_pos h, if_neg (by rw [hr]; exact fun z => nomatch z)]
  exact hr
theorem on_s (h : kd t = 20) (hr : rmP pl (rN r) 9 t = (u, none)) : onP kd pl vl nm t wo r = slP kd pl vl nm u wo r := onP_20 h hr
theorem on_c0 (h : kd t = 21) (hr : (rmP pl (rCn r) 9 t).2 = some q) : (onP kd pl vl nm t wo r).2.1 = some q := by
  unfold onP
  rw [if_neg (by omega), if_pos h, if_neg (by rw [hr]; exact fun z => nomatch z)]
  exact hr
theorem on_c (h : kd t = 21) (hr : rmP pl (rCn r) 9 t = (u, none)) : onP kd pl vl nm t wo r = clP kd pl vl u wo r := by
  unfold onP
  rw [if_neg (by omega), if_pos h, hr, if_pos rfl]
theorem on_x (h : kd t < 20 ∨ 28 < kd t) : onP kd pl vl nm t wo r = (t, some (1, pl t), wo, r) := by
  unfold onP
  rw [if_neg (by omega), if_neg (by omega), if_neg (by omega), if_neg (by omega), if_neg (by omega), if_neg (by omega)]
theorem on_l (h : 22 ≤ kd t ∧ kd t ≤ 25) : onP kd pl vl nm t wo r = ((lwP kd pl vl (goP pl t none).1 (goP pl t none).2).1, (lwP kd pl vl (goP pl t none).1 (goP pl t none).2).2.1, wo, lwS r (kd t - 22) (lwP kd pl vl (goP pl t none).1 (goP pl t none).2).2.2) := by
  unfold onP
  rw [if_neg (by omega), if_neg (by omega), if_neg (by omega), if_neg (by omega), if_neg (by omega), if_pos h]
theorem lw_sf {fo : Fo} (h : fo = some q) : (lwP kd pl vl t fo).2.1 = some q := by
  obtain ⟨t1, f1, h1⟩ := ex2 (muP kd pl 5 t fo)
  have g1 : f1 = some q := by have := mu_s (kd := kd) (pl := pl) (k := 5) (t := t) h; rw [h1] at this; exact this
  obtain ⟨t2, f2, ac, h2⟩ := ex3 (lwL kd pl vl 4 t1 f1 [])
  have g2 : f2 = some q := by have := lwZ_s (kd := kd) (pl := pl) (vl := vl) (k := 4) (t := t1) (ac := []) g1; rw [h2] at this; exact this
  obtain ⟨t3, f3, el, h3⟩ := ex3 (tmP kd pl vl t2 f2)
  have g3 : f3 = some q := by have := tm_s (kd := kd) (pl := pl) (vl := vl) (t := t2) g2; rw [h3] at this; exact this
  obtain ⟨t4, f4, h4⟩ := ex2 (muP kd pl 4 t3 f3)
  have g4 : f4 = some q := by have := mu_s (kd := kd) (pl := pl) (k := 4) (t := t3) g3; rw [h4] at this; exact this
  unfold lwP
  simp only [h1, h2, h3, h4]
  exact g4
theorem on_l0 (h : 22 ≤ kd t ∧ kd t ≤ 25) (hg : (goP pl t none).2 = some q) : (onP kd pl vl nm t wo r).2.1 = some q := by
  rw [on_l h]
  exact lw_sf hg
theorem on_l1 (h : 22 ≤ kd t ∧ kd t ≤ 25) (h4 : t ≠ 400) (hf : (lwP kd pl vl (t + 1) none).2.1 = some q) : (onP kd pl vl nm t wo r).2.1 = some q := by
  rw [on_l h, goC_n h4]
  exact hf
/-- ring, begins, seed -/
def tiR (k : Nat) (r : Rs) (v : Nat) : Rs := if k = 26 then rgR r v else if k = 27 then bgR r v else seR r v
def tiH (k : Nat) : Nat := if k = 26 then 1 else if k = 27 then 23 else 9999
theorem on_t (h : 26 ≤ kd t ∧ kd t ≤ 28) : onP kd pl vl nm t wo r = ((tiP kd pl t).1, (tiP kd pl t).2, tiW kd pl vl 0 (tiH (kd t)) t wo, tiR (kd t) r (tiV kd pl vl 0 t)) := by
  unfold onP tiR tiH
  rw [if_neg (by omega), if_neg (by omega)]
  by_cases h1 : kd t = 26
  · rw [if_pos h1, if_pos h1, if_pos h1]
  · rw [if_neg h1, if_neg h1, if_neg h1]
    by_cases h2 : kd t = 27
    · rw [if_pos h2, if_pos h2, if_pos h2]
    · rw [if_neg h2, if_neg h2, if_neg h2, if_pos (by omega)]
theorem on_t0 (h : 26 ≤ kd t ∧ kd t ≤ 28) (hg : (goP pl t none).2 = some q) : (onP kd pl vl nm t wo r).2.1 = some q := by
  rw [on_t h]
  exact mu_s (bd_s hg)
theorem on_t1 (h : 26 ≤ kd t ∧ kd t ≤ 28) (h4 : t ≠ 400) (hf : (bdP kd pl (t + 1) none).2 = some q) : (onP kd pl vl nm t wo r).2.1 = some q := by
  rw [on_t h]
  unfold tiP
  simp only [goC_n h4]
  exact mu_s hf
theorem on_t2 (h : 26 ≤ kd t ∧ kd t ≤ 28) (h4 : t ≠ 400) (h1 : bdP kd pl (t + 1) none = (t + 2, none)) (k1 : kd (t + 1) = 2) : onP kd pl vl nm t wo r = ((muP kd pl 4 (t + 2) none).1, (muP kd pl 4 (t + 2) none).2, bdW kd pl vl 0 (tiH (kd t)) (t + 1) none wo, tiR (kd t) r (vl (t + 1))) := by
  rw [on_t h]
  unfold tiP tiW tiV
  simp only [goC_n h4, h1, bdV_2 k1]
theorem sl_ge (h : (slP kd pl vl nm u wo r).2.1 = none) : u + 4 ≤ (slP kd pl vl nm u wo r).1 := by
  have nn : ∀ {f : Fo}, (∀ q, f = some q → (slP kd pl vl nm u wo r).2.1 = some q) → f = none := fun {f} hq => by
    cases f with
    | none => rfl
    | some q => exact absurd (h.symm.trans (hq q rfl)) (fun z => nomatch z)
  obtain ⟨-, -, h1⟩ := mu_ok (nn (f := (muP kd pl 1 u none).2) (fun q hq => sl_f1 hq))
  obtain ⟨k2, -, h2⟩ := bd_ok (nn (f := (bdP kd pl (u + 1) none).2) (fun q hq => sl_f2 h1 hq))
  obtain ⟨k3, -, h3⟩ := bd_ok (nn (f := (bdP kd pl (u + 2) none).2) (fun q hq => sl_f3 h1 h2 hq))
  have e := sl_ok (vl := vl) (nm := nm) (wo := wo) (r := r) h1 h2 h3 k2 k3
  rw [e] at h ⊢
  obtain ⟨-, -, h4⟩ := mu_ok h
  show u + 4 ≤ (muP kd pl 4 (u + 3) none).1
  rw [h4]
  exact Nat.le_refl _
end ONX
/-- what told does, and the semicolon behind it -/
def onX (tp : List Int32) (t : Nat) (wo : Fo) (r : Rs) (t1 : Nat) (wo1 : Fo) (r1 : Rs) : Prop := ((muP (kdT tp) (plT tp) 4 t1 none).2 = none → onP (kdT tp) (plT tp) (vlT tp) (nmT tp) t (woN tp wo) r = ((muP (kdT tp) (plT tp) 4 t1 none).1, none, woN tp wo1, r1)) ∧ ∀ q, (muP (kdT tp) (plT tp) 4 t1 none).2 = some q → (onP (kdT tp) (plT tp) (vlT tp) (nmT tp) t (woN tp wo) r).2.1 = some q
theorem onX_of {tp : List Int32} {t t1 : Nat} {wo wo1 : Fo} {r r1 : Rs} (h : onP (kdT tp) (plT tp) (vlT tp) (nmT tp) t (woN tp wo) r = ((muP (kdT tp) (plT tp) 4 t1 none).1, (muP (kdT tp) (plT tp) 4 t1 none).2, woN tp wo1, r1)) : onX tp t wo r t1 wo1 r1 := ⟨fun hm => by rw [h, hm], fun q hq => by rw [h]; exact hq⟩
theorem onX_l {tp : List Int32} {t t1 : Nat} {wo : Fo} {r : Rs} {w : Lw} (h : 22 ≤ kdT tp t ∧ kdT tp t ≤ 25) (h4 : t ≠ 400) (hl : lwP (kdT tp) (plT tp) (vlT tp) (t + 1) none = ((muP (kdT tp) (plT tp) 4 t1 none).1, (muP (kdT tp) (plT tp) 4 t1 none).2, if (muP (kdT tp) (plT tp) 4 t1 none).2 = none then some w else none)) : onX tp t wo r t1 wo (lwS r (kdT tp t - 22) (some w)) := by
  have e := on_l (pl := plT tp) (vl := vlT tp) (nm := nmT tp) (wo := woN tp wo) (r := r) h
  rw [goC_n h4] at e
  dsimp only at e
  rw [hl] at e
  refine ⟨fun hm => ?_, fun q hq => by rw [e]; exact hq⟩
  rw [e, hm]
  dsimp only
  rw [if_pos rfl]
/-! the text's cells behind each telling -/
theorem ttS_to {D : va_G} {dA : Nat → ClassId} {H : Heap} {o ed tx ea hi : Nat} {VT VT1 : GI} {RT RT1 : GR} {r r1 : Rs} (h : ttS D dA H o ed tx ea hi VT RT r) (e1 : rN r1 = rN r) (e2 : rNm r1 = rNm r) (e3 : rLf r1 = rLf r) (e4 : rHb r1 = rHb r) (v12 : VT1 1 2 = VT 1 2) (w11 : RT1 1 1 = RT 1 1) (g3 : ∀ b, b < 9 → VT1 3 b = nI (rCo r1 b)) (g4 : VT1 0 4 = nI (rCn r1)) (g9 : rCn r1 ≤ 9) (g5 : VT1 0 5 = nI (rRg r1)) (g6 : VT1 0 6 = nI (rBg r1)) (g7 : VT1 0 7 = nI (rSe r1)) (gl : ∀ k, k < 4 → lwB D dA H (TB tx ea hi) (RT1 2 k) (rLw r1 k)) : ttS D dA H o ed tx ea hi VT1 RT1 r1 := by
  obtain ⟨h1, h2, h3, h4, ⟨cap, g, h5, h6, h7, h8⟩, -⟩ := h
  exact ⟨h1, by rw [e1]; exact h2, by rw [v12, e1]; exact h3, w11.trans h4, ⟨cap, g, h5, by rw [e1]; exact h6, h7, fun k hk => by rw [e1] at hk; rw [e2, e3, e4]; exact h8 k hk⟩, g3, g4, g9, g5, g6, g7, gl⟩
theorem tt_add {D : va_G} {dA : Nat → ClassId} {H : Heap} {o ed tx ea hi : Nat} {VT : GI} {LT : GL} {RT : GR} {r : Rs} (hGT : gP D dA tx dT VT LT RT H) (hTT : ttS D dA H o ed tx ea hi VT RT r) (hn9 : rN r < 9) : ∃ g, liA D dA H ed (tx + 1) ea (rN r) g ∧ ∀ (H1 : Heap) (ea1 : Nat) (g1 : Nat → Option Nat) (na sa x l h z : Nat) (lt : List Nat), Fr (fun q => q = tx + 1 ∨ (q = ea ∧ rN r ≠ 0) ∨ H.size ≤ q) H H1 → H.size = z → liA D dA H1 ed (tx + 1) ea1 (rN r + 1) g1 → (∀ k, k < rN r → g1 k = g k) → g1 (rN r) = some na → ((ea1 = ea ∧ rN r ≠ 0) ∨ ea1 = z) → hi ≤ na → va_at D CL (na, .inr (12, [.ref sa, .int (nI l), .int (nI h)])) H → strA D dA H (fun q => na < q) sa lt → ltP lt → wdN lt = x → ∃ VT1 RT1, gP D dA tx dT VT1 LT RT1 H1 ∧ (∀ k j, k ≠ 1 → VT1 k j = VT k j) ∧ (∀ k j, k ≠ 1 → RT1 k j = RT k j) ∧ ttS D dA H1 o ed tx ea1 H1.size VT1 RT1 (slR r x l h) := by
  obtain ⟨h1, h2, h3, h4, ⟨cap, g, h5, h6, h7, h8⟩, h9, h10, h11, h12, h13, h14, h15⟩ := hTT
  have hel := h5.lt
  dsimp only at hel
  refine ⟨g, ⟨VT 1 0, cap, tt_al hGT h3 h4, h5, by omega, by omega⟩, ?_⟩
  intro H1 ea1 g1 na sa x l h z lt hF hz hli hg1 hg2 hea hna hat hsa hlt hx
  obtain ⟨mc1, cap1, k1, k2, k3, k4⟩ := hli
  have hnl := hat.lt
  dsimp only at hnl
  have htx4 := hGT.lt (k := 4) (by decide)
  have hsz := hF.1
  have he1 := k2.lt
  dsimp only at he1
  have hB : ∀ q, q < H.size → TB tx ea hi q → TB tx ea1 H1.size q := fun q hq hb => ⟨hb.1, by have := hb.2.1; omega, by omega⟩
  have hA : ∀ q, q < H.size → tx + 5 ≤ q → q ≠ ea → ¬ (q = tx + 1 ∨ (q = ea ∧ rN r ≠ 0) ∨ H.size ≤ q) := fun q a b c d => by omega
  have hA2 : ∀ q, q < H.size → TB tx ea hi q → ¬ (q = tx + 1 ∨ (q = ea ∧ rN r ≠ 0) ∨ H.size ≤ q) := fun q a b => hA q a b.1 b.2.1
  have hne : na ≠ ea := by
    intro hne
    subst hne
    rcases h6 with h6 | h6
    · omega
    · omega
  refine ⟨up2 (up2 VT 1 0 mc1) 1 2 (nI (rN r + 1)), up2 RT 1 1 (some ea1), ?_, fun k j hk => (up2_n (fun z => hk z.1)).trans (up2_n (fun z => hk z.1)), fun k j hk => up2_n (fun z => hk z.1), ?_⟩
  · intro k d hd
    have hk : k < 5 := (List.getElem?_eq_some_iff.mp hd).1
    by_cases e : k = 1
    · subst e
      cases hd
      exact k1
    · have h0 := hGT k d hd
      exact gE_congr (V := VT) (L := LT) (Rf := RT) (fun j _ => ((up2_n (fun z => e z.1)).trans (up2_n (fun z => e z.1))).symm) (fun _ _ => rfl) (fun j _ => (up2_n (fun z => e z.1)).symm) (h0.kept (hF.2 _ h0.lt (by show ¬ (tx + k = tx + 1 ∨ (tx + k = ea ∧ rN r ≠ 0) ∨ H.size ≤ tx + k); omega)))
  · refine ⟨⟨h1.1, by omega⟩, by show rN r + 1 ≤ 9; omega, up2_s, up2_s, ⟨cap1, g1, k2, ?_, by omega, fun k hk => ?_⟩, h9, ?_, h11, h12, h13, h14, fun k hk => ?_⟩
    · have : rN (slR r x l h) = rN r + 1 := rfl
      rw [this]
      omega
    · have hk1 : k < rN r + 1 := hk
      rcases Nat.lt_succ_iff_lt_or_eq.mp hk1 with hk2 | hk2
      · obtain ⟨a, nm, b1, b2, b3, b4⟩ := h8 k hk2
        have hal := b4.1.lt
        have hnml := slN_lt b4
        have v : slN D dA H1 (TB tx ea1 H1.size) a (rNm r k) nm [.int (nI (rLf r k)), .int (nI (rHb r k))] := slN_F (slN_m b4 (B2 := fun q => TB tx ea hi q) (fun _ _ h => h)) hF (fun q => hA2 _ q b1) hA2 |> fun w => slN_m w (fun q _ hq => ⟨hq.1, by have := hq.2.1; have := hq.2.2; omega, by have := hq.2.2; omega⟩)
        refine ⟨a, nm, hB _ hal b1, hB _ hnml b2, (hg1 k hk2).trans b3, ?_⟩
        have e : k ≠ rN r := by omega
        show slN D dA H1 _ a (va_up (rNm r) (rN r) x k) nm [.int (nI (va_up (rLf r) (rN r) l k)), .int (nI (va_up (rHb r) (rN r) h k))]
        unfold va_up
        rw [if_neg e, if_neg e, if_neg e]
        exact v
      · subst hk2
        have hsl : sa < H.size := by obtain ⟨va, u1, u2, b1, b2, g1, g2⟩ := hsa; exact g1.lt
        have hsb : na < sa := by obtain ⟨va, u1, u2, b1, b2, g1, g2⟩ := hsa; exact b1
        have heb : ea < na + 1 := by omega
        refine ⟨na, sa, ⟨by omega, by omega, by omega⟩, ⟨by omega, by omega, by omega⟩, hg2, ?_⟩
        show slN D dA H1 _ na (va_up (rNm r) (rN r) x (rN r)) sa [.int (nI (va_up (rLf r) (rN r) l (rN r))), .int (nI (va_up (rHb r) (rN r) h (rN r)))]
        unfold va_up
        rw [if_pos rfl, if_pos rfl, if_pos rfl]
        refine ⟨hat.kept (hF.2 _ hnl (hA _ hnl (by omega) hne)), lt, ?_, hlt, hx⟩
        have := strA_m hsa (B2 := fun q => na < q ∧ q < H.size) (fun q a b => ⟨b, a⟩)
        exact strA_m (strA_F this hF (fun q a b => hA q a (by omega) (by omega))) (fun q _ hb => ⟨by omega, by omega, by omega⟩)
    · exact ((up2_n (fun z => by omega)).trans (up2_n (fun z => by omega))).trans h10
    · have hkk : lwB D dA H (fun q => TB tx ea hi q) (RT 2 k) (rLw r k) := h15 k hk
      have e : up2 RT 1 1 (some ea1) 2 k = RT 2 k := up2_n (fun z => by omega)
      rw [e]
      exact lwB_m (fun q _ hq => ⟨hq.1, by have := hq.2.1; have := hq.2.2; omega, by have := hq.2.2; omega⟩) (lwB_kept (fun q a b => hF.2 q b (hA2 q b a)) hkk)
