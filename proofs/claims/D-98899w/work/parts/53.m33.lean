/-- no cold told of a bed from n on (side sd) -/
def abF (hc : Nat → Nat) (n : Nat) : Nat → Bool
  | 0 => true
  | k + 1 => abF hc n k && (decide (k < n) || decide (hc k = 0))
def abA (hc : Nat → Nat) (n : Nat) : Bool := abF hc n 9
theorem abF_i {hc : Nat → Nat} {n : Nat} : ∀ k, abF hc n k = true ↔ ∀ b, b < k → n ≤ b → hc b = 0
  | 0 => ⟨fun _ b hb => absurd hb (Nat.not_lt_zero _), fun _ => rfl⟩
  | k + 1 => by
    have ih := abF_i (hc := hc) (n := n) k
    unfold abF
    rw [Bool.and_eq_true, Bool.or_eq_true, decide_eq_true_eq, decide_eq_true_eq, ih]
    constructor
    · intro h b hb hn
      by_cases hk : b = k
      · subst hk; rcases h.2 with h2 | h2
        · omega
        · exact h2
      · exact h.1 b (by omega) hn
    · intro h
      refine ⟨fun b hb hn => h b (by omega) hn, ?_⟩
      by_cases hk : k < n
      · exact Or.inl hk
      · exact Or.inr (h k (by omega) (by omega))
set_option maxHeartbeats 4000000 in
theorem met_X13_areBeds (l : Launch) (D : va_G) (dA : Nat → ClassId) {o : Nat} {V : GI} {L : GL} {Rf : GR} {H0 : Heap} (hG : gP D dA o dM V L Rf H0) {hc : Nat → Nat} {sd n : Nat} (hsd : V 0 19 = nI sd) (hsd9 : sd < 2) (hn : V 9 sd = nI n) (hn9 : n ≤ 9) (hh : ∀ j, j < 9 → V 14 (9 * sd + j) = nI (hc j) ∧ hc j < 2) : Ctr l D dA yX13_areBeds cX13_areBeds 2 (some .boolean) (mkRm 0 0) [.ref o] H0 A0 (QI (fun r H1 => H0 = H1 ∧ r = nI (bN (abA hc n)))) := by
  refine ctr_Z (by decide) (Nat.le_of_ble_eq_true rfl) ?_
  intro p e s m args below meth c ls QQ locs hx hb hml hown hts hK hend hS hl
  have hl : lv_has ls 2 [(0, .ref o)] := hl
  refine lv_aload_n hx hb dX13_areBeds_0 rfl (lv_at hl 0 rfl) ?_
  refine g_get hx hb hts hown hK hG 0 rfl rfl ok_X13 22 (by decide) q1493 rfl rfl dX13_areBeds_1 ?_
  refine lv_aload_n hx hb dX13_areBeds_4 rfl (lv_at hl 0 rfl) ?_
  refine g_get (v := .int (nI sd)) hx hb hts hown hK hG 0 rfl rfl ok_X13 19 (by decide) q1490 rfl (congrArg Value.int hsd) dX13_areBeds_5 ?_
  refine n_iald hx hb hK hG 9 rfl (by omega) (by decide) dX13_areBeds_8 ?_
  refine iv (y := (nI n)) hn ?_
  refine lv_istore_n (lv' := [(1, .int (nI n)), (0, .ref o)]) hx hb dX13_areBeds_9 rfl hl (by decide) rfl (fun ls hl => ?_)
  have loop1 : ∀ (fu1 : Nat) (b : Nat) (locs : List Loc) (ls : Array Slot), 9 - b < fu1 → (b ≤ 9) → (n ≤ b) → (∀ b2, n ≤ b2 → b2 < b → hc b2 = 0) → va_S A0 H0 H0 locs → lv_has ls 2 [(1, .int (nI b)), (0, .ref o)] → W p l e (mkRm 0 0) s m args below meth c H0 locs 0 0 QQ (F0 m 10 ls []) := by
    intro fu1
    induction fu1 with
    | zero => intro b locs ls hfu; exact absurd hfu (Nat.not_lt_zero _)
    | succ fu1 ih1 =>
      intro b locs ls hfu hbn hnb hall hS hl
      refine lv_iload_n hx hb dX13_areBeds_10 rfl (lv_at hl 0 rfl) ?_
      refine lv_bipush (v := (nI 9)) hx hb dX13_areBeds_11 (by decide) ?_
      refine n_icmp_ge (tgt := 41) hx hb dX13_areBeds_13 (by decide) (by omega) (by omega) (fun c13 => ?_) (fun c13 => ?_)
      · refine lv_iconst (v := (nI 1)) hx hb dX13_areBeds_41 (by decide) ?_
        refine hend _ _ _ _ _ hS dX13_areBeds_42 (by decide) ?_
        exact ⟨_, rfl, rfl, congrArg nI (show 1 = bN (abA hc n) by
          rw [show abA hc n = true from (abF_i 9).mpr (fun b2 h9 hn2 => hall b2 hn2 (by omega))]; rfl)⟩
      obtain ⟨hh1, hh2⟩ := hh b (by omega)
      refine lv_aload_n hx hb dX13_areBeds_16 rfl (lv_at hl 1 rfl) ?_
      refine g_get hx hb hts hown hK hG 0 rfl rfl ok_X13 27 (by decide) q1498 rfl rfl dX13_areBeds_17 ?_
      refine lv_bipush (v := (nI 9)) hx hb dX13_areBeds_20 (by decide) ?_
      refine lv_aload_n hx hb dX13_areBeds_22 rfl (lv_at hl 1 rfl) ?_
      refine g_get (v := .int (nI sd)) hx hb hts hown hK hG 0 rfl rfl ok_X13 19 (by decide) q1490 rfl (congrArg Value.int hsd) dX13_areBeds_23 ?_
      refine n_imul hx hb dX13_areBeds_26 ?_
      refine lv_iload_n hx hb dX13_areBeds_27 rfl (lv_at hl 0 rfl) ?_
      refine n_iadd hx hb dX13_areBeds_28 ?_
      refine n_zald hx hb hK hG 14 rfl (by omega) (by decide) dX13_areBeds_29 ?_
      refine iv (y := (nI (hc b))) hh1 ?_
      refine n_if_eq (tgt := 35) hx hb dX13_areBeds_30 (by decide) (by omega) (fun c30 => ?_) (fun c30 => ?_)
      · refine lv_iinc (v := (nI (b + 1))) (lv' := [(1, .int (nI (b + 1))), (0, .ref o)]) hx hb dX13_areBeds_35 hl (k := 0) rfl (nI_add _ _) (by decide) rfl (fun ls hl => ?_)
        refine lv_goto (tgt := 10) hx hb dX13_areBeds_38 (by decide) ?_
        exact ih1 (b + 1) _ _ (by omega) (by omega) (by omega) (fun b2 h1 h2 => by by_cases hq : b2 = b; subst hq; omega; exact hall b2 h1 (by omega)) hS (lv_sub hl [0, 1] rfl)
      refine lv_iconst (v := (nI 0)) hx hb dX13_areBeds_33 (by decide) ?_
      refine hend _ _ _ _ _ hS dX13_areBeds_34 (by decide) ?_
      exact ⟨_, rfl, rfl, congrArg nI (show 0 = bN (abA hc n) by
        have h9 : ¬ abA hc n = true := fun z => absurd ((abF_i 9).mp z b (by omega) hnb) (by omega)
        rw [Bool.eq_false_iff.mpr h9]; rfl)⟩
  exact loop1 ((9 - n) + 1) n _ _ (Nat.lt_succ_self _) hn9 (Nat.le_refl _) (fun b2 h1 h2 => absurd h2 (by omega)) hS (lv_sub hl [0, 1] rfl)
