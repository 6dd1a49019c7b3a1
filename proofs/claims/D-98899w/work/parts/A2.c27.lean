theorem at_n {tp : List Int32} (hb : byT tp) {k : Nat} (h : chT tp k < 128) : atS tp k = nI (chT tp k) := by
  rcases at_ch hb k with ⟨h1, h2, h3⟩ | ⟨h1, h2⟩
  · apply Int32.toInt_inj.mp
    rw [nI_toInt (by omega), ← h2]
  · omega
theorem isD_r {c : Nat} (h : isD c = true) : 48 ≤ c ∧ c ≤ 57 := by
  unfold isD at h
  rw [Bool.and_eq_true] at h
  exact ⟨of_decide_eq_true h.1, of_decide_eq_true h.2⟩
theorem dgN_s {ch : Nat → Nat} {i k y : Nat} (hk : k < 4) (hy : dgN ch i k = y) : dgN ch i (k + 1) = 10 * y + ch (i + k) - 48 := by
  simp only [dgN]
  rw [if_pos hk, hy]
theorem dgN_b {ch : Nat → Nat} {i n : Nat} (hd : ∀ j, j < n → isD (ch (i + j)) = true) : ∀ k, k ≤ n → k ≤ 4 → dgN ch i k < 10 ^ k
  | 0, _, _ => by show 0 < 1; omega
  | k + 1, h1, h2 => by
    have ih := dgN_b hd k (by omega) (by omega)
    have := isD_r (hd k (by omega))
    rw [dgN_s (by omega) rfl, Nat.pow_succ]
    omega
set_option maxHeartbeats 4000000 in
theorem met_X2_number (l : Launch) (D : va_G) (dA : Nat → ClassId) {o : Nat} {V : GI} {L : GL} {Rf : GR} {H0 : Heap} (hG : gP D dA o dS V L Rf H0) {tp : List Int32} (htp : tpP V tp) (hby : byT tp) {F : Nat → Nat × Nat × Nat × Nat} {m0 : Nat} (hm : tcM V F m0) {q i n : Nat} (hq9 : q < m0) (hm9 : m0 ≤ 2001) (hi : (F q).2.1 = i) (he : (F q).2.2.1 = i + n) (hn4 : n ≤ 4) (hle : i + n ≤ tp.length) (hdg9 : ∀ j, j < n → isD (chT tp (i + j)) = true) : Ctr l D dA yX2_number cX2_number 4 (some .int) (mkRm 0 0) [.ref (o + 2), .int (nI q)] H0 A0 (QI (fun r H1 => H0 = H1 ∧ r = nI (dgN (chT tp) i n))) := by
  have ht2 := htp.1
  refine ctr_I (by decide) (Nat.le_of_ble_eq_true rfl) ?_
  intro p e s m args below meth c ls QQ locs hx hb hml hown hts hK hend hS hl
  have hl : lv_has ls 4 [(0, .ref (o + 2)), (1, .int (nI q))] := hl
  refine lv_iconst (v := (nI 0)) hx hb dX2_number_0 (by decide) ?_
  refine lv_istore_n (lv' := [(2, .int (nI 0)), (0, .ref (o + 2)), (1, .int (nI q))]) hx hb dX2_number_1 rfl hl (by decide) rfl (fun ls hl => ?_)
  refine lv_aload_n hx hb dX2_number_2 rfl (lv_at hl 1 rfl) ?_
  refine g_get hx hb hts hown hK hG 2 rfl rfl ok_X2 4 (by decide) q264 rfl rfl dX2_number_3 ?_
  refine lv_iload_n hx hb dX2_number_6 rfl (lv_at hl 2 rfl) ?_
  refine n_sald hx hb hK hG 6 rfl (by omega) (by decide) dX2_number_7 ?_
  refine iv (y := (nI i)) ((hm.2 q hq9).2.1.trans (congrArg nI hi)) ?_
  refine lv_istore_n (lv' := [(3, .int (nI i)), (2, .int (nI 0)), (0, .ref (o + 2)), (1, .int (nI q))]) hx hb dX2_number_8 rfl hl (by decide) rfl (fun ls hl => ?_)
  have loop1 : ∀ (fu1 : Nat) (k : Nat) (y : Nat) (locs : List Loc) (ls : Array Slot), n - k < fu1 → (k ≤ n) → (dgN (chT tp) i k = y) → va_S A0 H0 H0 locs → lv_has ls 4 [(3, .int (nI (i + k))), (2, .int (nI y)), (0, .ref (o + 2)), (1, .int (nI q))] → W p l e (mkRm 0 0) s m args below meth c H0 locs 0 0 QQ (F0 m 9 ls []) := by
    intro fu1
    induction fu1 with
    | zero => intro k y locs ls hfu; exact absurd hfu (Nat.not_lt_zero _)
    | succ fu1 ih1 =>
      intro k y locs ls hfu hkn hy hS hl
      have hyb : y < 10000 := by
        have h := dgN_b hdg9 k hkn (by omega)
        rw [hy] at h
        exact Nat.lt_of_lt_of_le h (Nat.pow_le_pow_right (n := 10) (by decide) (show k ≤ 4 by omega))
      refine lv_iload_n hx hb dX2_number_9 rfl (lv_at hl 0 rfl) ?_
      refine lv_aload_n hx hb dX2_number_10 rfl (lv_at hl 2 rfl) ?_
      refine g_get hx hb hts hown hK hG 2 rfl rfl ok_X2 5 (by decide) q266 rfl rfl dX2_number_11 ?_
      refine lv_iload_n hx hb dX2_number_14 rfl (lv_at hl 3 rfl) ?_
      refine n_sald hx hb hK hG 7 rfl (by omega) (by decide) dX2_number_15 ?_
      refine iv (y := (nI (i + n))) ((hm.2 q hq9).2.2.1.trans (congrArg nI he)) ?_
      refine n_icmp_ge (tgt := 40) hx hb dX2_number_16 (by decide) (by omega) (by omega) (fun c16 => ?_) (fun c16 => ?_)
      · refine lv_iload_n hx hb dX2_number_40 rfl (lv_at hl 1 rfl) ?_
        refine hend _ _ _ _ _ hS dX2_number_41 ?_
        exact ⟨_, rfl, rfl, by obtain rfl : k = n := (by omega); rw [hy]⟩
      have hdk := isD_r (hdg9 k (by omega))
      refine lv_bipush (v := (nI 10)) hx hb dX2_number_19 (by decide) ?_
      refine lv_iload_n hx hb dX2_number_21 rfl (lv_at hl 1 rfl) ?_
      refine n_imul hx hb dX2_number_22 ?_
      refine lv_aload_n hx hb dX2_number_23 rfl (lv_at hl 2 rfl) ?_
      refine g_get hx hb hts hown hK hG 2 rfl rfl ok_X2 1 (by decide) q258 rfl rfl dX2_number_24 ?_
      refine lv_iload_n hx hb dX2_number_27 rfl (lv_at hl 0 rfl) ?_
      refine n_bald hx hb hK hG 4 rfl (by omega) (by decide) dX2_number_28 ?_
      refine iv (y := (nI (chT tp (i + k)))) ((tp_at htp (by omega)).trans (at_n hby (by omega))) ?_
      refine n_iadd hx hb dX2_number_29 ?_
      refine lv_bipush (v := (nI 48)) hx hb dX2_number_30 (by decide) ?_
      refine n_isub hx hb dX2_number_32 (by omega) ?_
      refine lv_istore_n (lv' := [(2, .int (nI (((10 * y) + (chT tp (i + k))) - 48))), (3, .int (nI (i + k))), (0, .ref (o + 2)), (1, .int (nI q))]) hx hb dX2_number_33 rfl hl (by decide) rfl (fun ls hl => ?_)
      refine lv_iinc (v := (nI ((i + k) + 1))) (lv' := [(3, .int (nI ((i + k) + 1))), (2, .int (nI (((10 * y) + (chT tp (i + k))) - 48))), (0, .ref (o + 2)), (1, .int (nI q))]) hx hb dX2_number_34 hl (k := 1) rfl (nI_add _ _) (by decide) rfl (fun ls hl => ?_)
      refine lv_goto (tgt := 9) hx hb dX2_number_37 (by decide) ?_
      exact ih1 (k + 1) (((10 * y) + (chT tp (i + k))) - 48) _ _ (by omega) (by omega) (dgN_s (by omega) hy) hS (lv_sub hl [0, 1, 2, 3] rfl)
  exact loop1 ((n - 0) + 1) 0 0 _ _ (Nat.lt_succ_self _) (Nat.zero_le _) rfl hS (lv_sub hl [0, 1, 2, 3] rfl)
