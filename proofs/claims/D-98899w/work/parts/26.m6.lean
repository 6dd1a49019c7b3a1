theorem va_up_s2 {f : Nat → Int32} {k : Nat} {v : Int32} : va_up f k v k = v := by unfold va_up; rw [if_pos rfl]
theorem va_up_n {f : Nat → Int32} {k j : Nat} {v : Int32} (h : j ≠ k) : va_up f k v j = f j := by unfold va_up; rw [if_neg h]
theorem va_step {g f : Nat → Int32} {k : Nat} {x : Int32} (h : ∀ j, j < k → g j = f j) (hx : x = f k) : ∀ j, j < k + 1 → va_up g k x j = f j := fun j hj => by
  by_cases e : j = k
  · subst e; rw [va_up_s2]; exact hx
  · rw [va_up_n e]; exact h j (by omega)
/-! the second loop of an hour: the row is written -/
theorem h2_lo {g L P : Nat → Int32} {b : Nat} (h : ∀ j, j < b → g j = L j) (hb : b < 9) : ∀ j, j < b + 1 → va_up (va_up g b (L b)) (27 + b) (P b) j = L j := fun j hj => by
  rw [va_up_n (by omega)]
  exact va_step h rfl j hj
theorem h2_pa {g L P : Nat → Int32} {b : Nat} (h : ∀ j, j < b → g (27 + j) = P j) (hb : b < 9) : ∀ j, j < b + 1 → va_up (va_up g b (L b)) (27 + b) (P b) (27 + j) = P j := fun j hj => by
  by_cases e : j = b
  · subst e; exact va_up_s2
  · rw [va_up_n (by omega), va_up_n (by omega)]; exact h j (by omega)
theorem h2_hi {g L P f : Nat → Int32} {b : Nat} (h : ∀ j, b ≤ j → ¬ (27 ≤ j ∧ j < 27 + b) → g j = f j) (hb : b < 9) : ∀ j, b + 1 ≤ j → ¬ (27 ≤ j ∧ j < 27 + (b + 1)) → va_up (va_up g b (L b)) (27 + b) (P b) j = f j := fun j hj hn => by
  rw [va_up_n (by omega), va_up_n (by omega)]
  exact h j (by omega) (by omega)
theorem h2_end {t : Txt} {g f1 f : Nat → Int32} {stl lots : Int32} {b : Nat} (hn : xN t ≤ 9) (hb : xN t ≤ b) (hb2 : b ≤ xN t) (hlo : ∀ j, j < b → g j = lnF t f stl lots j) (hpa : ∀ j, j < b → g (27 + j) = pnF t f j) (hhi : ∀ j, b ≤ j → ¬ (27 ≤ j ∧ j < 27 + b) → g j = f1 j) (hrow : ∀ j, j ≠ 46 → f1 j = f j) (hch : f1 46 = chN t f stl lots (xN t) (f 46)) : ∀ j, va_up (va_up g 45 (f 45 + nI 1)) 47 (f 47 + nI 1) j = hourF t stl lots f j := fun j => by
  obtain rfl : b = xN t := by omega
  unfold hourF
  by_cases e1 : j < xN t
  · rw [if_pos e1, va_up_n (by omega), va_up_n (by omega)]; exact hlo j e1
  · rw [if_neg e1]
    by_cases e2 : 27 ≤ j ∧ j < 27 + xN t
    · rw [if_pos e2, va_up_n (by omega), va_up_n (by omega)]
      have := hpa (j - 27) (by omega)
      rw [show 27 + (j - 27) = j by omega] at this
      exact this
    · rw [if_neg e2]
      by_cases e3 : j = 45
      · subst e3; rw [if_pos rfl, va_up_n (by decide), va_up_s2]
      · rw [if_neg e3]
        by_cases e4 : j = 46
        · subst e4; rw [if_pos rfl, va_up_n (by decide), va_up_n (by decide), hhi 46 (by omega) (by omega)]; exact hch
        · rw [if_neg e4]
          by_cases e5 : j = 47
          · subst e5; rw [if_pos rfl, va_up_s2]
          · rw [if_neg e5, va_up_n e5, va_up_n e3, hhi j (by omega) e2]; exact hrow j e4
theorem cw_X13_346 {R : Room} {s : State} {args : Array Value} (hts : ∀ w ∈ lw_all, w.before args s = true) {f w k j : Nat} (hR : f + 1 ≤ R.frames ∧ 8 + (2 + 11) + w ≤ R.locals) : CallW R s args RX13 RX13 346 yX13_partsOf cX13_partsOf 2 (some .int) (ws_ yX13_partsOf cX13_partsOf 2 (some .int)) (mkRmC f w k j) k j 1 := cwV 1 hts (lw_V q1814 q1816 qs80 q129 q1817) rfl rfl rfl (by decide +kernel) hR
theorem cw_X13_349 {R : Room} {s : State} {args : Array Value} (hts : ∀ w ∈ lw_all, w.before args s = true) {f w k j : Nat} (hR : f + 1 ≤ R.frames ∧ 8 + (2 + 11) + w ≤ R.locals) : CallW R s args RX13 RX13 349 yX13_liesThen cX13_liesThen 2 (some .int) (ws_ yX13_liesThen cX13_liesThen 2 (some .int)) (mkRmC f w k j) k j 1 := cwV 1 hts (lw_V q1794 q1796 qs75 q129 q1797) rfl rfl rfl (by decide +kernel) hR
theorem cw_X13_352 {R : Room} {s : State} {args : Array Value} (hts : ∀ w ∈ lw_all, w.before args s = true) {f w k j : Nat} (hR : f + 1 ≤ R.frames ∧ 8 + (2 + 11) + w ≤ R.locals) : CallW R s args RX13 RX13 352 yX13_lotOf cX13_lotOf 2 (some .int) (ws_ yX13_lotOf cX13_lotOf 2 (some .int)) (mkRmC f w k j) k j 1 := cwV 1 hts (lw_V q1864 q1866 qs87 q129 q1867) rfl rfl rfl (by decide +kernel) hR
theorem cw_X13_355 {R : Room} {s : State} {args : Array Value} (hts : ∀ w ∈ lw_all, w.before args s = true) {f w k j : Nat} (hR : f + 1 ≤ R.frames ∧ 8 + (2 + 11) + w ≤ R.locals) : CallW R s args RX13 RX13 355 yX13_chillsOf cX13_chillsOf 2 (some .int) (ws_ yX13_chillsOf cX13_chillsOf 2 (some .int)) (mkRmC f w k j) k j 1 := cwV 1 hts (lw_V q1821 q1823 qs81 q129 q1824) rfl rfl rfl (by decide +kernel) hR
set_option maxHeartbeats 4000000 in
theorem met_X13_hourGoes (l : Launch) (D : va_G) (dA : Nat → ClassId) {o : Nat} {V : GI} {L : GL} {Rf : GR} {H0 : Heap} (hG : gP D dA o dM V L Rf H0) {lv : Nat} {t : Txt} (hX : txM V lv t) : Ctr l D dA yX13_hourGoes cX13_hourGoes 3 none (mkRm 5 106) [.ref o] H0 (AM o) (QV (fun H1 => ∃ V1, gP D dA o dM V1 L Rf H1 ∧ Eqx PH V V1 ∧ V1 31 = hourF t (V 0 50) (V 0 49) (V 31))) := by
  have hT := hX.1
  have hT1 := hT.1
  have hT2 := hT.2.1
  refine ctr_V (by decide) (Nat.le_of_ble_eq_true rfl) ?_
  intro p e s m args below meth c ls QQ locs hx hb hml hown hts hK hend hS hl
  have hl : lv_has ls 3 [(0, .ref o)] := hl
  refine lv_iconst (v := (nI 0)) hx hb dX13_hourGoes_0 (by decide) ?_
  refine lv_istore_n (lv' := [(1, .int (nI 0)), (0, .ref o)]) hx hb dX13_hourGoes_1 rfl hl (by decide) rfl (fun ls hl => ?_)
  have loop1 : ∀ (fu1 : Nat) (b : Nat) (V1 : GI) (H : Heap) (locs : List Loc) (ls : Array Slot), xN t - b < fu1 → (b ≤ xN t) → (Eqx PH V V1) → (∀ j, j ≠ 46 → V1 31 j = V 31 j) → (V1 31 46 = chN t (V 31) (V 0 50) (V 0 49) b (V 31 46)) → (∀ j, j < b → V1 32 j = lnF t (V 31) (V 0 50) (V 0 49) j) → (∀ j, j < b → V1 33 j = pnF t (V 31) j) → gP D dA o dM V1 L Rf H → va_S (AM o) H0 H locs → lv_has ls 3 [(1, .int (nI b)), (0, .ref o)] → W p l e (mkRm 5 106) s m args below meth c H locs 0 0 QQ (F0 m 2 ls []) := by
    intro fu1
    induction fu1 with
    | zero => intro b V1 H locs ls hfu; exact absurd hfu (Nat.not_lt_zero _)
    | succ fu1 ih1 =>
      intro b V1 H locs ls hfu hbn hE1 hrow hch hln hpn hG hS hl
      refine lv_iload_n hx hb dX13_hourGoes_2 rfl (lv_at hl 0 rfl) ?_
      refine lv_aload_n hx hb dX13_hourGoes_3 rfl (lv_at hl 1 rfl) ?_
      refine c_VI hx hb hml hts hown hK hl.1 hS ⟨Nat.le_refl _, Nat.le_refl _⟩ (met_X13_many l D dA hG (tM_to hT (hE1 0 18 rfl) (hE1 9 lv rfl))) (cw_X13_304 hts ⟨by decide, by decide⟩) (hG 0 _ rfl) rfl rfl rfl rfl (Nat.le_of_ble_eq_true rfl) dX13_hourGoes_4 (fun _ h => h.elim) (fun r H1 locs hq hF hS => ?_)
      obtain ⟨rfl, rfl⟩ := hq
      refine n_icmp_ge (tgt := 133) hx hb dX13_hourGoes_7 (by decide) (by omega) (by omega) (fun c7 => ?_) (fun c7 => ?_)
      · obtain rfl : b = xN t := by omega
        refine lv_iconst (v := (nI 0)) hx hb dX13_hourGoes_133 (by decide) ?_
        refine lv_istore_n (lv' := [(1, .int (nI 0)), (0, .ref o)]) hx hb dX13_hourGoes_134 rfl hl (by decide) rfl (fun ls hl => ?_)
        have loop2 : ∀ (fu2 : Nat) (b : Nat) (V2 : GI) (H : Heap) (locs : List Loc) (ls : Array Slot), xN t - b < fu2 → (b ≤ xN t) → (Eqx PR V1 V2) → (∀ j, j < b → V2 31 j = lnF t (V 31) (V 0 50) (V 0 49) j) → (∀ j, j < b → V2 31 (27 + j) = pnF t (V 31) j) → (∀ j, b ≤ j → ¬ (27 ≤ j ∧ j < 27 + b) → V2 31 j = V1 31 j) → gP D dA o dM V2 L Rf H → va_S (AM o) H0 H locs → lv_has ls 3 [(1, .int (nI b)), (0, .ref o)] → W p l e (mkRm 5 106) s m args below meth c H locs 0 0 QQ (F0 m 135 ls []) := by
          intro fu2
          induction fu2 with
          | zero => intro b V2 H locs ls hfu; exact absurd hfu (Nat.not_lt_zero _)
          | succ fu2 ih2 =>
            intro b V2 H locs ls hfu hbn hE2 hlo hpa hhi hG hS hl
            refine lv_iload_n hx hb dX13_hourGoes_135 rfl (lv_at hl 0 rfl) ?_
            refine lv_aload_n hx hb dX13_hourGoes_136 rfl (lv_at hl 1 rfl) ?_
            refine c_VI hx hb hml hts hown hK hl.1 hS ⟨Nat.le_refl _, Nat.le_refl _⟩ (met_X13_many l D dA hG (tM_to hT ((hE2 0 18 rfl).trans (hE1 0 18 rfl)) ((hE2 9 lv rfl).trans (hE1 9 lv rfl)))) (cw_X13_304 hts ⟨by decide, by decide⟩) (hG 0 _ rfl) rfl rfl rfl rfl (Nat.le_of_ble_eq_true rfl) dX13_hourGoes_137 (fun _ h => h.elim) (fun r H1 locs hq hF hS => ?_)
            obtain ⟨rfl, rfl⟩ := hq
            refine n_icmp_ge (tgt := 176) hx hb dX13_hourGoes_140 (by decide) (by omega) (by omega) (fun c140 => ?_) (fun c140 => ?_)
            · refine lv_aload_n hx hb dX13_hourGoes_176 rfl (lv_at hl 1 rfl) ?_
              refine g_get hx hb hts hown hK hG 0 rfl rfl ok_X13 48 (by decide) q1519 rfl rfl dX13_hourGoes_177 ?_
              refine lv_bipush (v := (nI 45)) hx hb dX13_hourGoes_180 (by decide) ?_
              refine lv_dup2_11 hx hb dX13_hourGoes_182 rfl rfl ?_
              refine n_iald hx hb hK hG 31 rfl (by omega) (by decide) dX13_hourGoes_183 ?_
              refine iv (y := (V 31 45)) ((hhi 45 (by omega) (by omega)).trans (hrow 45 (by decide))) ?_
              refine lv_iconst (v := (nI 1)) hx hb dX13_hourGoes_184 (by decide) ?_
              refine lv_iadd hx hb dX13_hourGoes_185 ?_
              refine n_iast hx hb hK hG hS 31 (AM_in 31 (by decide)) rfl (by omega) (by decide) dX13_hourGoes_186 (fun H locs hG hO hS => ?_)
              refine lv_aload_n hx hb dX13_hourGoes_187 rfl (lv_at hl 1 rfl) ?_
              refine g_get hx hb hts hown hK hG 0 rfl rfl ok_X13 48 (by decide) q1519 rfl rfl dX13_hourGoes_188 ?_
              refine lv_bipush (v := (nI 47)) hx hb dX13_hourGoes_191 (by decide) ?_
              refine lv_dup2_11 hx hb dX13_hourGoes_193 rfl rfl ?_
              refine n_iald hx hb hK hG 31 rfl (by omega) (by decide) dX13_hourGoes_194 ?_
              refine iv (y := (V 31 47)) ((hhi 47 (by omega) (by omega)).trans (hrow 47 (by decide))) ?_
              refine lv_iconst (v := (nI 1)) hx hb dX13_hourGoes_195 (by decide) ?_
              refine lv_iadd hx hb dX13_hourGoes_196 ?_
              refine n_iast hx hb hK hG hS 31 (AM_in 31 (by decide)) rfl (by omega) (by decide) dX13_hourGoes_197 (fun H locs hG hO hS => ?_)
              refine hend _ _ _ _ hS dX13_hourGoes_198 ?_
              have hc31_1 : (up2 V2 31 45 ((V 31 45) + (nI 1))) 31 = va_up (V2 31) 45 ((V 31 45) + (nI 1)) := rfl
              have hc31_2 : (up2 (up2 V2 31 45 ((V 31 45) + (nI 1))) 31 47 ((V 31 47) + (nI 1))) 31 = va_up (va_up (V2 31) 45 ((V 31 45) + (nI 1))) 47 ((V 31 47) + (nI 1)) := congrArg (fun g => va_up g 47 ((V 31 47) + (nI 1))) hc31_1
              have hc31 : (up2 (up2 V2 31 45 ((V 31 45) + (nI 1))) 31 47 ((V 31 47) + (nI 1))) 31 = va_up (va_up (V2 31) 45 ((V 31 45) + (nI 1))) 47 ((V 31 47) + (nI 1)) := hc31_2
              have hG2 := hG.setcell (k := 31) (f := hourF t (V 0 50) (V 0 49) (V 31)) rfl (fun j hj => by rw [hc31]; exact h2_end hT2 c140 hbn hlo hpa hhi hrow hch j)
              exact ⟨rfl, _, hG2, Eqx.cell (((hE1.trans (hE2.mono PR_PH)).up rfl).up rfl) (fun _ => rfl), va_up_s⟩
            have hb9 : b < xN t := by omega
            refine lv_aload_n hx hb dX13_hourGoes_143 rfl (lv_at hl 1 rfl) ?_
            refine g_get hx hb hts hown hK hG 0 rfl rfl ok_X13 48 (by decide) q1519 rfl rfl dX13_hourGoes_144 ?_
            refine lv_iload_n hx hb dX13_hourGoes_147 rfl (lv_at hl 0 rfl) ?_
            refine lv_aload_n hx hb dX13_hourGoes_148 rfl (lv_at hl 1 rfl) ?_
            refine g_get hx hb hts hown hK hG 0 rfl rfl ok_X13 51 (by decide) q1522 rfl rfl dX13_hourGoes_149 ?_
            refine lv_iload_n hx hb dX13_hourGoes_152 rfl (lv_at hl 0 rfl) ?_
            refine n_iald hx hb hK hG 32 rfl (by omega) (by decide) dX13_hourGoes_153 ?_
            refine iv (y := (lnF t (V 31) (V 0 50) (V 0 49) b)) ((hE2 32 b rfl).trans (hln b (by omega))) ?_
            refine n_iast hx hb hK hG hS 31 (AM_in 31 (by decide)) rfl (by omega) (by decide) dX13_hourGoes_154 (fun H locs hG hO hS => ?_)
            refine lv_aload_n hx hb dX13_hourGoes_155 rfl (lv_at hl 1 rfl) ?_
            refine g_get hx hb hts hown hK hG 0 rfl rfl ok_X13 48 (by decide) q1519 rfl rfl dX13_hourGoes_156 ?_
            refine lv_bipush (v := (nI 27)) hx hb dX13_hourGoes_159 (by decide) ?_
            refine lv_iload_n hx hb dX13_hourGoes_161 rfl (lv_at hl 0 rfl) ?_
            refine n_iadd hx hb dX13_hourGoes_162 ?_
            refine lv_aload_n hx hb dX13_hourGoes_163 rfl (lv_at hl 1 rfl) ?_
            refine g_get hx hb hts hown hK hG 0 rfl rfl ok_X13 52 (by decide) q1523 rfl rfl dX13_hourGoes_164 ?_
            refine lv_iload_n hx hb dX13_hourGoes_167 rfl (lv_at hl 0 rfl) ?_
            refine n_iald hx hb hK hG 33 rfl (by omega) (by decide) dX13_hourGoes_168 ?_
            refine iv (y := (pnF t (V 31) b)) ((hE2 33 b rfl).trans (hpn b (by omega))) ?_
            refine n_iast hx hb hK hG hS 31 (AM_in 31 (by decide)) rfl (by omega) (by decide) dX13_hourGoes_169 (fun H locs hG hO hS => ?_)
            refine lv_iinc (v := (nI (b + 1))) (lv' := [(1, .int (nI (b + 1))), (0, .ref o)]) hx hb dX13_hourGoes_170 hl (k := 0) rfl (nI_add _ _) (by decide) rfl (fun ls hl => ?_)
            refine lv_goto (tgt := 135) hx hb dX13_hourGoes_173 (by decide) ?_
            have hc31_1 : (up2 V2 31 b (lnF t (V 31) (V 0 50) (V 0 49) b)) 31 = va_up (V2 31) b (lnF t (V 31) (V 0 50) (V 0 49) b) := rfl
            have hc31_2 : (up2 (up2 V2 31 b (lnF t (V 31) (V 0 50) (V 0 49) b)) 31 (27 + b) (pnF t (V 31) b)) 31 = va_up (va_up (V2 31) b (lnF t (V 31) (V 0 50) (V 0 49) b)) (27 + b) (pnF t (V 31) b) := congrArg (fun g => va_up g (27 + b) (pnF t (V 31) b)) hc31_1
            have hc31 : (up2 (up2 V2 31 b (lnF t (V 31) (V 0 50) (V 0 49) b)) 31 (27 + b) (pnF t (V 31) b)) 31 = va_up (va_up (V2 31) b (lnF t (V 31) (V 0 50) (V 0 49) b)) (27 + b) (pnF t (V 31) b) := hc31_2
            exact ih2 (b + 1) (up2 (up2 V2 31 b (lnF t (V 31) (V 0 50) (V 0 49) b)) 31 (27 + b) (pnF t (V 31) b)) _ _ _ (by omega) hb9 (Eqx.up (Eqx.up hE2 rfl) rfl) (by rw [hc31]; exact h2_lo hlo (by omega)) (by rw [hc31]; exact h2_pa hpa (by omega)) (by rw [hc31]; exact h2_hi hhi (by omega)) hG hS (lv_sub hl [0, 1] rfl)
        exact loop2 ((xN t - 0) + 1) 0 V1 _ _ _ (Nat.lt_succ_self _) (by omega) Eqx.rf (fun j hj => absurd hj (Nat.not_lt_zero _)) (fun j hj => absurd hj (Nat.not_lt_zero _)) (fun _ _ _ => rfl) hG hS (lv_sub hl [0, 1] rfl)
      have hb9 : b < xN t := by omega
      refine lv_aload_n hx hb dX13_hourGoes_10 rfl (lv_at hl 1 rfl) ?_
      refine lv_iload_n hx hb dX13_hourGoes_11 rfl (lv_at hl 0 rfl) ?_
      refine c_VI hx hb hml hts hown hK hl.1 hS ⟨Nat.le_refl _, Nat.le_refl _⟩ (met_X13_partsOf l D dA hG (txM_PH hE1 hX) b (by omega)) (cw_X13_346 hts ⟨by decide, by decide⟩) (hG 0 _ rfl) rfl rfl rfl rfl (Nat.le_of_ble_eq_true rfl) dX13_hourGoes_12 (fun _ h => h) (fun r H1 locs hq hF hS => ?_)
      obtain ⟨V3, hG, hE3, hr3⟩ := hq
      generalize hHe3 : H1 = H at hG hS ⊢
      clear hHe3
      have hr3 : r = parF t (V1 31) b := hr3
      subst hr3
      refine iv (y := (parF t (V 31) b)) (par_congr hT2 hb9 hrow) ?_
      refine lv_istore_n (lv' := [(2, .int (parF t (V 31) b)), (1, .int (nI b)), (0, .ref o)]) hx hb dX13_hourGoes_15 rfl hl (by decide) rfl (fun ls hl => ?_)
      refine lv_aload_n hx hb dX13_hourGoes_16 rfl (lv_at hl 2 rfl) ?_
      refine g_get hx hb hts hown hK hG 0 rfl rfl ok_X13 52 (by decide) q1523 rfl rfl dX13_hourGoes_17 ?_
      refine lv_iload_n hx hb dX13_hourGoes_20 rfl (lv_at hl 1 rfl) ?_
      refine lv_aload_n hx hb dX13_hourGoes_21 rfl (lv_at hl 2 rfl) ?_
      refine g_get hx hb hts hown hK hG 0 rfl rfl ok_X13 48 (by decide) q1519 rfl rfl dX13_hourGoes_22 ?_
      refine lv_bipush (v := (nI 27)) hx hb dX13_hourGoes_25 (by decide) ?_
      refine lv_iload_n hx hb dX13_hourGoes_27 rfl (lv_at hl 1 rfl) ?_
      refine n_iadd hx hb dX13_hourGoes_28 ?_
      refine n_iald hx hb hK hG 31 rfl (by omega) (by decide) dX13_hourGoes_29 ?_
      refine iv (y := (V 31 (27 + b))) ((hE3 31 (27 + b) rfl).trans (hrow _ (by omega))) ?_
      refine lv_aload_n hx hb dX13_hourGoes_30 rfl (lv_at hl 2 rfl) ?_
      refine g_get hx hb hts hown hK hG 0 rfl rfl ok_X13 48 (by decide) q1519 rfl rfl dX13_hourGoes_31 ?_
      refine lv_iload_n hx hb dX13_hourGoes_34 rfl (lv_at hl 1 rfl) ?_
      refine n_iald hx hb hK hG 31 rfl (by omega) (by decide) dX13_hourGoes_35 ?_
      refine iv (y := (V 31 b)) ((hE3 31 b rfl).trans (hrow _ (by omega))) ?_
      refine lv_iconst (v := (nI 1)) hx hb dX13_hourGoes_36 (by decide) ?_
      have join4 : ∀ (z : Int32) (locs : List Loc) (ls : Array Slot), ((if V 31 b = nI 1 then parF t (V 31) b else -parF t (V 31) b) = z) → va_S (AM o) H0 H locs → lv_has ls 3 [(2, .int (parF t (V 31) b)), (1, .int (nI b)), (0, .ref o)] → W p l e (mkRm 5 106) s m args below meth c H locs 0 0 QQ (F0 m 46 ls [.int z, .int (V 31 (27 + b)), .int (nI b), .ref (o + 33)]) := by
        intro z locs ls hz hS hl
        refine lv_iadd hx hb dX13_hourGoes_46 ?_
        refine lv_sipush (v := (-9999)) hx hb dX13_hourGoes_47 (by decide) ?_
        refine lv_sipush (v := (nI 9999)) hx hb dX13_hourGoes_50 (by decide) ?_
        refine c_SI hx hb hml hts hown hK hl.1 hS ⟨Nat.le_refl _, Nat.le_refl _⟩ (met_X13_within l D dA ((V 31 (27 + b)) + z) (-9999) (nI 9999)) (cw_X13_343 hts ⟨by decide, by decide⟩) rfl rfl (Nat.le_of_ble_eq_true rfl) dX13_hourGoes_53 (fun _ h => h.elim) (fun r H1 locs hq hF hS => ?_)
        obtain ⟨rfl, rfl⟩ := hq
        refine iv (y := (pnF t (V 31) b)) (by unfold pnF; rw [hz]) ?_
        refine n_iast hx hb hK hG hS 33 (AM_in 33 (by decide)) rfl (by omega) (by decide) dX13_hourGoes_56 (fun H locs hG hO hS => ?_)
        refine lv_aload_n hx hb dX13_hourGoes_57 rfl (lv_at hl 2 rfl) ?_
        refine g_get hx hb hts hown hK hG 0 rfl rfl ok_X13 51 (by decide) q1522 rfl rfl dX13_hourGoes_58 ?_
        refine lv_iload_n hx hb dX13_hourGoes_61 rfl (lv_at hl 1 rfl) ?_
        refine lv_aload_n hx hb dX13_hourGoes_62 rfl (lv_at hl 2 rfl) ?_
        refine lv_iload_n hx hb dX13_hourGoes_63 rfl (lv_at hl 1 rfl) ?_
        refine c_VI hx hb hml hts hown hK hl.1 hS ⟨Nat.le_refl _, Nat.le_refl _⟩ (met_X13_liesThen l D dA hG (txM_PH ((hE1.trans (hE3.mono PE_PH)).up rfl) hX) b (by omega)) (cw_X13_349 hts ⟨by decide, by decide⟩) (hG 0 _ rfl) rfl rfl rfl rfl (Nat.le_of_ble_eq_true rfl) dX13_hourGoes_64 (fun _ h => h) (fun r H1 locs hq hF hS => ?_)
        obtain ⟨V5, hG, hE5, hr5⟩ := hq
        generalize hHe5 : H1 = H at hG hS ⊢
        clear hHe5
        have hr5 : r = lieF t (V1 31) b := hr5.trans (congrArg (fun z => lieF t z b) (show (up2 V3 33 b (pnF t (V 31) b)) 31 = V1 31 from (funext (fun j => hE3 31 j rfl))))
        subst hr5
        refine iv (y := (lieF t (V 31) b)) (lie_congr hT2 hb9 hrow) ?_
        refine n_iast hx hb hK hG hS 32 (AM_in 32 (by decide)) rfl (by omega) (by decide) dX13_hourGoes_67 (fun H locs hG hO hS => ?_)
        refine lv_aload_n hx hb dX13_hourGoes_68 rfl (lv_at hl 2 rfl) ?_
        refine g_get (v := .int (V 0 50)) hx hb hts hown hK hG 0 rfl rfl ok_X13 50 (by decide) q1521 rfl (congrArg Value.int ((hE5 0 50 rfl).trans ((hE3 0 50 rfl).trans (hE1 0 50 rfl)))) dX13_hourGoes_69 ?_
        refine lv_if_ne (tgt := 127) hx hb dX13_hourGoes_72 (by decide) (fun c72 => ?_) (fun c72 => ?_)
        · refine lv_iinc (v := (nI (b + 1))) (lv' := [(1, .int (nI (b + 1))), (2, .int (parF t (V 31) b)), (0, .ref o)]) hx hb dX13_hourGoes_127 hl (k := 1) rfl (nI_add _ _) (by decide) rfl (fun ls hl => ?_)
          refine lv_goto (tgt := 2) hx hb dX13_hourGoes_130 (by decide) ?_
          have hc31_1 : V3 31 = V1 31 := (funext (fun j => hE3 31 j rfl))
          have hc31_2 : V5 31 = V1 31 := (funext (fun j => hE5 31 j rfl)).trans hc31_1
          have hc31 : (up2 V5 32 b (lieF t (V 31) b)) 31 = V1 31 := hc31_2
          have hc32_1 : V3 32 = V1 32 := (funext (fun j => hE3 32 j rfl))
          have hc32_2 : V5 32 = V1 32 := (funext (fun j => hE5 32 j rfl)).trans hc32_1
          have hc32_3 : (up2 V5 32 b (lieF t (V 31) b)) 32 = va_up (V1 32) b (lieF t (V 31) b) := congrArg (fun g => va_up g b (lieF t (V 31) b)) hc32_2
          have hc32 : (up2 V5 32 b (lieF t (V 31) b)) 32 = va_up (V1 32) b (lieF t (V 31) b) := hc32_3
          have hc33_1 : V3 33 = V1 33 := (funext (fun j => hE3 33 j rfl))
          have hc33_2 : (up2 V3 33 b (pnF t (V 31) b)) 33 = va_up (V1 33) b (pnF t (V 31) b) := congrArg (fun g => va_up g b (pnF t (V 31) b)) hc33_1
          have hc33_3 : V5 33 = va_up (V1 33) b (pnF t (V 31) b) := (funext (fun j => hE5 33 j rfl)).trans hc33_2
          have hc33 : (up2 V5 32 b (lieF t (V 31) b)) 33 = va_up (V1 33) b (pnF t (V 31) b) := hc33_3
          have hcb : ¬ chB t (V 31) (V 0 50) (V 0 49) b = true := by unfold chB; simp only [Bool.and_eq_true, decide_eq_true_eq]; exact fun z => by first | exact c72 z.1 | exact c96 z.2
          exact ih1 (b + 1) (up2 V5 32 b (lieF t (V 31) b)) _ _ _ (by omega) hb9 (Eqx.up (Eqx.trans (Eqx.up (Eqx.trans hE1 (hE3.mono PE_PH)) rfl) (hE5.mono PE_PH)) rfl) (by rw [hc31]; exact hrow) (by rw [hc31]; exact hch.trans (if_neg hcb).symm) (by rw [hc32]; exact va_step hln (if_neg hcb).symm) (by rw [hc33]; exact va_step hpn rfl) hG hS (lv_sub hl [0, 2] rfl)
        refine lv_aload_n hx hb dX13_hourGoes_75 rfl (lv_at hl 2 rfl) ?_
        refine lv_bipush (v := (nI 16)) hx hb dX13_hourGoes_76 (by decide) ?_
        refine lv_aload_n hx hb dX13_hourGoes_78 rfl (lv_at hl 2 rfl) ?_
        refine g_get hx hb hts hown hK hG 0 rfl rfl ok_X13 48 (by decide) q1519 rfl rfl dX13_hourGoes_79 ?_
        refine lv_bipush (v := (nI 45)) hx hb dX13_hourGoes_82 (by decide) ?_
        refine n_iald hx hb hK hG 31 rfl (by omega) (by decide) dX13_hourGoes_84 ?_
        refine iv (y := (V 31 45)) (((hE5 31 45 rfl).trans (hE3 31 45 rfl)).trans (hrow _ (by omega))) ?_
        refine lv_imul hx hb dX13_hourGoes_85 ?_
        refine lv_iload_n hx hb dX13_hourGoes_86 rfl (lv_at hl 1 rfl) ?_
        refine lv_iadd hx hb dX13_hourGoes_87 ?_
        refine c_VI hx hb hml hts hown hK hl.1 hS ⟨Nat.le_refl _, Nat.le_refl _⟩ (met_X13_lotOf l D dA hG (((nI 16) * (V 31 45)) + (nI b))) (cw_X13_352 hts ⟨by decide, by decide⟩) (hG 0 _ rfl) rfl rfl rfl rfl (Nat.le_of_ble_eq_true rfl) dX13_hourGoes_88 (fun _ h => h.elim) (fun r H1 locs hq hF hS => ?_)
        obtain ⟨rfl, rfl⟩ := hq
        refine iv (y := ltF (V 0 49) (((nI 16) * (V 31 45)) + (nI b))) (congrArg (fun z => ltF z (((nI 16) * (V 31 45)) + (nI b))) ((hE5 0 49 rfl).trans ((hE3 0 49 rfl).trans (hE1 0 49 rfl)))) ?_
        refine lv_aload_n hx hb dX13_hourGoes_91 rfl (lv_at hl 2 rfl) ?_
        refine lv_iload_n hx hb dX13_hourGoes_92 rfl (lv_at hl 1 rfl) ?_
        refine c_VI hx hb hml hts hown hK hl.1 hS ⟨Nat.le_refl _, Nat.le_refl _⟩ (met_X13_chillsOf l D dA hG (txM_PH ((((hE1.trans (hE3.mono PE_PH)).up rfl).trans (hE5.mono PE_PH)).up rfl) hX) b (by omega)) (cw_X13_355 hts ⟨by decide, by decide⟩) (hG 0 _ rfl) rfl rfl rfl rfl (Nat.le_of_ble_eq_true rfl) dX13_hourGoes_93 (fun _ h => h) (fun r H1 locs hq hF hS => ?_)
        obtain ⟨V6, hG, hE6, hr6⟩ := hq
        generalize hHe6 : H1 = H at hG hS ⊢
        clear hHe6
        have hr6 : r = chiF t (V1 31) b := hr6.trans (congrArg (fun z => chiF t z b) (show (up2 V5 32 b (lieF t (V 31) b)) 31 = V1 31 from ((funext (fun j => hE5 31 j rfl)).trans (funext (fun j => hE3 31 j rfl)))))
        subst hr6
        refine iv (y := (chiF t (V 31) b)) (chi_congr hT2 hb9 hrow) ?_
        refine lv_icmp_lt (tgt := 102) hx hb dX13_hourGoes_96 (by decide) (fun c96 => ?_) (fun c96 => ?_)
        · refine lv_aload_n hx hb dX13_hourGoes_102 rfl (lv_at hl 2 rfl) ?_
          refine g_get hx hb hts hown hK hG 0 rfl rfl ok_X13 51 (by decide) q1522 rfl rfl dX13_hourGoes_103 ?_
          refine lv_iload_n hx hb dX13_hourGoes_106 rfl (lv_at hl 1 rfl) ?_
          refine lv_iconst (v := (nI 1)) hx hb dX13_hourGoes_107 (by decide) ?_
          refine lv_aload_n hx hb dX13_hourGoes_108 rfl (lv_at hl 2 rfl) ?_
          refine g_get hx hb hts hown hK hG 0 rfl rfl ok_X13 51 (by decide) q1522 rfl rfl dX13_hourGoes_109 ?_
          refine lv_iload_n hx hb dX13_hourGoes_112 rfl (lv_at hl 1 rfl) ?_
          refine n_iald hx hb hK hG 32 rfl (by omega) (by decide) dX13_hourGoes_113 ?_
          refine iv (y := (lieF t (V 31) b)) ((hE6 32 b rfl).trans up2_s) ?_
          refine lv_isub hx hb dX13_hourGoes_114 ?_
          refine n_iast hx hb hK hG hS 32 (AM_in 32 (by decide)) rfl (by omega) (by decide) dX13_hourGoes_115 (fun H locs hG hO hS => ?_)
          refine lv_aload_n hx hb dX13_hourGoes_116 rfl (lv_at hl 2 rfl) ?_
          refine g_get hx hb hts hown hK hG 0 rfl rfl ok_X13 48 (by decide) q1519 rfl rfl dX13_hourGoes_117 ?_
          refine lv_bipush (v := (nI 46)) hx hb dX13_hourGoes_120 (by decide) ?_
          refine lv_dup2_11 hx hb dX13_hourGoes_122 rfl rfl ?_
          refine n_iald hx hb hK hG 31 rfl (by omega) (by decide) dX13_hourGoes_123 ?_
          refine iv (y := (chN t (V 31) (V 0 50) (V 0 49) b (V 31 46))) (((hE6 31 46 rfl).trans ((hE5 31 46 rfl).trans (hE3 31 46 rfl))).trans hch) ?_
          refine lv_iconst (v := (nI 1)) hx hb dX13_hourGoes_124 (by decide) ?_
          refine lv_iadd hx hb dX13_hourGoes_125 ?_
          refine n_iast hx hb hK hG hS 31 (AM_in 31 (by decide)) rfl (by omega) (by decide) dX13_hourGoes_126 (fun H locs hG hO hS => ?_)
          refine lv_iinc (v := (nI (b + 1))) (lv' := [(1, .int (nI (b + 1))), (2, .int (parF t (V 31) b)), (0, .ref o)]) hx hb dX13_hourGoes_127 hl (k := 1) rfl (nI_add _ _) (by decide) rfl (fun ls hl => ?_)
          refine lv_goto (tgt := 2) hx hb dX13_hourGoes_130 (by decide) ?_
          have hc31_1 : V3 31 = V1 31 := (funext (fun j => hE3 31 j rfl))
          have hc31_2 : V5 31 = V1 31 := (funext (fun j => hE5 31 j rfl)).trans hc31_1
          have hc31_3 : V6 31 = V1 31 := (funext (fun j => hE6 31 j rfl)).trans hc31_2
          have hc31_4 : (up2 (up2 V6 32 b ((nI 1) - (lieF t (V 31) b))) 31 46 ((chN t (V 31) (V 0 50) (V 0 49) b (V 31 46)) + (nI 1))) 31 = va_up (V1 31) 46 ((chN t (V 31) (V 0 50) (V 0 49) b (V 31 46)) + (nI 1)) := congrArg (fun g => va_up g 46 ((chN t (V 31) (V 0 50) (V 0 49) b (V 31 46)) + (nI 1))) hc31_3
          have hc31 : (up2 (up2 V6 32 b ((nI 1) - (lieF t (V 31) b))) 31 46 ((chN t (V 31) (V 0 50) (V 0 49) b (V 31 46)) + (nI 1))) 31 = va_up (V1 31) 46 ((chN t (V 31) (V 0 50) (V 0 49) b (V 31 46)) + (nI 1)) := hc31_4
          have hc32_1 : V3 32 = V1 32 := (funext (fun j => hE3 32 j rfl))
          have hc32_2 : V5 32 = V1 32 := (funext (fun j => hE5 32 j rfl)).trans hc32_1
          have hc32_3 : (up2 V5 32 b (lieF t (V 31) b)) 32 = va_up (V1 32) b (lieF t (V 31) b) := congrArg (fun g => va_up g b (lieF t (V 31) b)) hc32_2
          have hc32_4 : V6 32 = va_up (V1 32) b (lieF t (V 31) b) := (funext (fun j => hE6 32 j rfl)).trans hc32_3
          have hc32_5 : (up2 V6 32 b ((nI 1) - (lieF t (V 31) b))) 32 = va_up (va_up (V1 32) b (lieF t (V 31) b)) b ((nI 1) - (lieF t (V 31) b)) := congrArg (fun g => va_up g b ((nI 1) - (lieF t (V 31) b))) hc32_4
          have hc32 : (up2 (up2 V6 32 b ((nI 1) - (lieF t (V 31) b))) 31 46 ((chN t (V 31) (V 0 50) (V 0 49) b (V 31 46)) + (nI 1))) 32 = va_up (va_up (V1 32) b (lieF t (V 31) b)) b ((nI 1) - (lieF t (V 31) b)) := hc32_5
          have hc33_1 : V3 33 = V1 33 := (funext (fun j => hE3 33 j rfl))
          have hc33_2 : (up2 V3 33 b (pnF t (V 31) b)) 33 = va_up (V1 33) b (pnF t (V 31) b) := congrArg (fun g => va_up g b (pnF t (V 31) b)) hc33_1
          have hc33_3 : V5 33 = va_up (V1 33) b (pnF t (V 31) b) := (funext (fun j => hE5 33 j rfl)).trans hc33_2
          have hc33_4 : V6 33 = va_up (V1 33) b (pnF t (V 31) b) := (funext (fun j => hE6 33 j rfl)).trans hc33_3
          have hc33 : (up2 (up2 V6 32 b ((nI 1) - (lieF t (V 31) b))) 31 46 ((chN t (V 31) (V 0 50) (V 0 49) b (V 31 46)) + (nI 1))) 33 = va_up (V1 33) b (pnF t (V 31) b) := hc33_4
          have hcb : chB t (V 31) (V 0 50) (V 0 49) b = true := by unfold chB; rw [decide_eq_true (show V 0 50 = 0 from c72), decide_eq_true c96]; rfl
          exact ih1 (b + 1) (up2 (up2 V6 32 b ((nI 1) - (lieF t (V 31) b))) 31 46 ((chN t (V 31) (V 0 50) (V 0 49) b (V 31 46)) + (nI 1))) _ _ _ (by omega) hb9 (Eqx.up (Eqx.up (Eqx.trans (Eqx.up (Eqx.trans (Eqx.up (Eqx.trans hE1 (hE3.mono PE_PH)) rfl) (hE5.mono PE_PH)) rfl) (hE6.mono PE_PH)) rfl) rfl) (by rw [hc31]; exact (fun j hj => (va_up_n hj).trans (hrow j hj))) (by rw [hc31]; exact va_up_s2.trans (if_pos hcb).symm) (by rw [hc32]; exact va_step (fun j hj => (va_up_n (by omega)).trans (hln j hj)) (if_pos hcb).symm) (by rw [hc33]; exact va_step hpn rfl) hG hS (lv_sub hl [0, 2] rfl)
        refine lv_goto (tgt := 127) hx hb dX13_hourGoes_99 (by decide) ?_
        refine lv_iinc (v := (nI (b + 1))) (lv' := [(1, .int (nI (b + 1))), (2, .int (parF t (V 31) b)), (0, .ref o)]) hx hb dX13_hourGoes_127 hl (k := 1) rfl (nI_add _ _) (by decide) rfl (fun ls hl => ?_)
        refine lv_goto (tgt := 2) hx hb dX13_hourGoes_130 (by decide) ?_
        have hc31_1 : V3 31 = V1 31 := (funext (fun j => hE3 31 j rfl))
        have hc31_2 : V5 31 = V1 31 := (funext (fun j => hE5 31 j rfl)).trans hc31_1
        have hc31_3 : V6 31 = V1 31 := (funext (fun j => hE6 31 j rfl)).trans hc31_2
        have hc31 : V6 31 = V1 31 := hc31_3
        have hc32_1 : V3 32 = V1 32 := (funext (fun j => hE3 32 j rfl))
        have hc32_2 : V5 32 = V1 32 := (funext (fun j => hE5 32 j rfl)).trans hc32_1
        have hc32_3 : (up2 V5 32 b (lieF t (V 31) b)) 32 = va_up (V1 32) b (lieF t (V 31) b) := congrArg (fun g => va_up g b (lieF t (V 31) b)) hc32_2
        have hc32_4 : V6 32 = va_up (V1 32) b (lieF t (V 31) b) := (funext (fun j => hE6 32 j rfl)).trans hc32_3
        have hc32 : V6 32 = va_up (V1 32) b (lieF t (V 31) b) := hc32_4
        have hc33_1 : V3 33 = V1 33 := (funext (fun j => hE3 33 j rfl))
        have hc33_2 : (up2 V3 33 b (pnF t (V 31) b)) 33 = va_up (V1 33) b (pnF t (V 31) b) := congrArg (fun g => va_up g b (pnF t (V 31) b)) hc33_1
        have hc33_3 : V5 33 = va_up (V1 33) b (pnF t (V 31) b) := (funext (fun j => hE5 33 j rfl)).trans hc33_2
        have hc33_4 : V6 33 = va_up (V1 33) b (pnF t (V 31) b) := (funext (fun j => hE6 33 j rfl)).trans hc33_3
        have hc33 : V6 33 = va_up (V1 33) b (pnF t (V 31) b) := hc33_4
        have hcb : ¬ chB t (V 31) (V 0 50) (V 0 49) b = true := by unfold chB; simp only [Bool.and_eq_true, decide_eq_true_eq]; exact fun z => by first | exact c72 z.1 | exact c96 z.2
        exact ih1 (b + 1) V6 _ _ _ (by omega) hb9 (Eqx.trans (Eqx.up (Eqx.trans (Eqx.up (Eqx.trans hE1 (hE3.mono PE_PH)) rfl) (hE5.mono PE_PH)) rfl) (hE6.mono PE_PH)) (by rw [hc31]; exact hrow) (by rw [hc31]; exact hch.trans (if_neg hcb).symm) (by rw [hc32]; exact va_step hln (if_neg hcb).symm) (by rw [hc33]; exact va_step hpn rfl) hG hS (lv_sub hl [0, 2] rfl)
      refine lv_icmp_ne (tgt := 44) hx hb dX13_hourGoes_37 (by decide) (fun c37 => ?_) (fun c37 => ?_)
      · refine lv_iload_n hx hb dX13_hourGoes_44 rfl (lv_at hl 0 rfl) ?_
        refine lv_ineg hx hb dX13_hourGoes_45 ?_
        exact join4 (-(parF t (V 31) b)) _ _ (if_neg c37) hS (lv_sub hl [0, 1, 2] rfl)
      refine lv_iload_n hx hb dX13_hourGoes_40 rfl (lv_at hl 0 rfl) ?_
      refine lv_goto (tgt := 46) hx hb dX13_hourGoes_41 (by decide) ?_
      exact join4 (parF t (V 31) b) _ _ (if_pos c37) hS (lv_sub hl [0, 1, 2] rfl)
  exact loop1 ((xN t - 0) + 1) 0 V _ _ _ (Nat.lt_succ_self _) (by omega) Eqx.rf (fun _ _ => rfl) rfl (fun j hj => absurd hj (Nat.not_lt_zero _)) (fun j hj => absurd hj (Nat.not_lt_zero _)) hG hS (lv_sub hl [0, 1] rfl)
