abbrev yN_chills : MethodName := ⟨"PartedSide$Night", "chills", "(LPartedSide$Barrack;LPartedSide$Text;I)Z"⟩
section CNIGHT
variable {p : Program} {l : Launch} {e : Env} {R : Room} {s : State} {m : MethodId} {args : Array Value} {below : List Frame} {meth : Method} {c : Code} {H : Heap} {locs : List Loc} {cells slots : Nat} {Q : State → Prop}
variable {cc : ByteArray} {pc nL : Nat} {ls : Array Slot} {rest : List Value} {D : va_G} {dA : Nat → ClassId} {A O : Nat → Prop} {H0 : Heap} {own : String} {index b tx nd k : Nat} {V : GI} {L : GL} {Rf : GR} {T : Txt} {f : Rw} {stl lots : Int32}
theorem c_night (hx : p.tables.exec = Jvm.exec) (hb : c.code = cc) (hml : c.maxLocals = nL) (hts : ∀ w ∈ lw_all, w.before args s = true) (hown : s.vm.findClass own = some m.cls) (hK : KK D dA s) (hl : ls.size = nL) (hS : va_S A H0 H locs) (hroom : cells ≤ R.cells ∧ slots ≤ R.slots)
    (h1 : Cond.methodLink own index yN_chills ∈ lw_all) (hR : 405 ≤ R.frames ∧ 9370 ≤ R.locals) (hG : gP D dA b dB V L Rf H) (hX : txA D dA H O tx T) (hOA : ∀ z, O z → ¬ AB b z) (hsd : sdB Rf b) (hbk : bkA V (xN T) f) (hrv : RV (xN T) f) (h7 : V 0 7 = lots) (hk : k < xN T) (hN : niA D H nd stl) (hW : (rest.map fun v => v.category).sum ≤ 8) (hdg : decode cc pc = .ok (.invokevirtual index, 3)) (hA : ∀ q, AB b q → A q)
    (kk : ∀ (V1 : GI) (H1 : Heap) (locs1 : List Loc), gP D dA b dB V1 L Rf H1 → Eqx PAs V V1 → va_S A H0 H1 locs1 → W p l e R s m args below meth c H1 locs1 cells slots Q (F0 m (pc + 3) ls (.int (nI (bN (chB T f stl lots k))) :: rest))) : W p l e R s m args below meth c H locs cells slots Q (F0 m pc ls (.int (nI k) :: .ref tx :: .ref b :: .ref nd :: rest)) := by
  rcases hN with ⟨rfl, hat⟩ | ⟨rfl, hat⟩
  · refine c_UI hx hb hml hts hown hK hl hS hroom (met_X11_chills l D dA hG hX hOA hsd hbk hrv h7 (nd := nd) hk) (va_cwA 3 hts (lw_U h1 q1241 q1242 q1243 q125 q1244) rfl rfl rfl (hK.2.1 _ q1240 rfl) (by decide +kernel) ⟨hR.1, Nat.le_trans (show 8 + (4 + 11) + 9330 ≤ 9370 from Nat.le_of_ble_eq_true rfl) hR.2⟩) hat rfl rfl rfl rfl hW hdg hA (fun r H1 locs1 hq hF hS => ?_)
    obtain ⟨rfl, V1, hG1, hE1⟩ := hq
    exact kk V1 H1 locs1 hG1 hE1 hS
  · refine c_UI hx hb hml hts hown hK hl hS hroom (met_X12_chills l D dA hG hX hOA hsd hbk hrv h7 (nd := nd) hk) (va_cwA 3 hts (lw_U h1 q1241 q1253 q1254 q126 q1255) rfl rfl rfl (hK.2.1 _ q1240 rfl) (by decide +kernel) ⟨hR.1, Nat.le_trans (show 8 + (4 + 11) + 9330 ≤ 9370 from Nat.le_of_ble_eq_true rfl) hR.2⟩) hat rfl rfl rfl rfl hW hdg hA (fun r H1 locs1 hq hF hS => ?_)
    obtain ⟨rfl, V1, hG1, hE1⟩ := hq
    exact kk V1 H1 locs1 hG1 hE1 hS
end CNIGHT
theorem stp {V V1 : GI} {c k : Nat} {g : Nat → Int32} (h : ∀ j, j < k → V c j = g j) (h1 : V1 c k = g k) (h2 : ∀ j, j ≠ k → V1 c j = V c j) : ∀ j, j < k + 1 → V1 c j = g j := fun j hj => by
  by_cases e : j = k
  · subst e; exact h1
  · rw [h2 j e]; exact h j (by omega)
theorem nI_b01 {x : Int32} (h : x = nI (b01 x)) (h1 : 0 < b01 x) : x = nI 1 := by
  have := b01_lt x
  rw [h, show b01 x = 1 by omega]
theorem nI_b00 {x : Int32} (h : b01 x = 0) : ¬ x = nI 1 := fun z => by rw [z] at h; revert h; decide
theorem cw_X5_137 {R : Room} {s : State} {args : Array Value} (hts : ∀ w ∈ lw_all, w.before args s = true) {f w k j : Nat} (hR : f + 1 ≤ R.frames ∧ 8 + (4 + 11) + w ≤ R.locals) : CallW R s args RX5 RX5 137 yX5_next cX5_next 4 (some .int) (ws_ yX5_next cX5_next 4 (some .int)) (mkRmC f w k j) k j 1 := cwV 1 hts (lw_V q1233 q1234 q1235 q119 q1236) rfl rfl rfl (by decide +kernel) hR
theorem cw_X5_141 {R : Room} {s : State} {args : Array Value} (hts : ∀ w ∈ lw_all, w.before args s = true) {f w k j : Nat} (hR : f + 1 ≤ R.frames ∧ 8 + (3 + 11) + w ≤ R.locals) : CallW R s args RX5 RX5 141 yX5_parts cX5_parts 3 (some .int) (ws_ yX5_parts cX5_parts 3 (some .int)) (mkRmC f w k j) k j 2 := cwV 2 hts (lw_V q1238 q1166 q1167 q119 q1168) rfl rfl rfl (by decide +kernel) hR
set_option maxHeartbeats 4000000 in
theorem met_X5_goesBy (l : Launch) (D : va_G) (dA : Nat → ClassId) {b : Nat} {V : GI} {L : GL} {Rf : GR} {H0 : Heap} (hG : gP D dA b dB V L Rf H0) {O : Nat → Prop} {tx : Nat} {T : Txt} (hX : txA D dA H0 O tx T) (hOA : ∀ z, O z → ¬ AB b z) (hsd : sdB Rf b) {f : Rw} {lots : Int32} (hbM : bkM V (xN T) f lots) (hrv : RV (xN T) f) {nd : Nat} {stl : Int32} (hN : niA D H0 nd stl) (hnd : ¬ AB b nd) : Ctr l D dA yX5_goesBy cX5_goesBy 5 none (mkRm 406 9400) [.ref b, .ref tx, .ref nd] H0 (AB b) (QV (fun H1 => ∃ V1, gP D dA b dB V1 L Rf H1 ∧ Eqx PGo2 V V1 ∧ bkM V1 (xN T) (hourF T stl lots f) lots)) := by
  have hX0 := hX
  obtain ⟨al, ls, cd, cb, gc, lw, mc, ea, nc, xo1, xo2, xo3, xo4, xh1, xh2, xh3, xh4, xh5, xh6, hn9⟩ := hX
  obtain ⟨hbk, h6, h7, h18, h36⟩ := hbM
  refine ctr_V (by decide) (Nat.le_of_ble_eq_true rfl) ?_
  intro p e s m args below meth c ls QQ locs hx hb hml hown hts hK hend hS hl
  have hl : lv_has ls 5 [(0, .ref b), (1, .ref tx), (2, .ref nd)] := hl
  refine lv_aload_n hx hb dX5_goesBy_0 rfl (lv_at hl 0 rfl) ?_
  refine lv_aload_n hx hb dX5_goesBy_1 rfl (lv_at hl 1 rfl) ?_
  refine c_VI hx hb hml hts hown hK hl.1 hS ⟨Nat.le_refl _, Nat.le_refl _⟩ (met_X5_next l D dA hG (txA_S hX0 hS hOA) hOA hsd hbk hrv) (cw_X5_137 hts ⟨Nat.le_of_ble_eq_true rfl, Nat.le_of_ble_eq_true rfl⟩) (hG 0 _ rfl) rfl rfl rfl rfl (Nat.le_of_ble_eq_true rfl) dX5_goesBy_2 (fun _ h => h) (fun r H1 locs hq hF hS => ?_)
  obtain ⟨rfl, V1, hG, hE1⟩ := hq
  generalize hHe1 : H1 = H at hG hS ⊢
  clear hHe1
  refine lv_istore_n (lv' := [(3, .int (nI (obF (liB T f) (xN T)))), (0, .ref b), (1, .ref tx), (2, .ref nd)]) hx hb dX5_goesBy_5 rfl hl (by decide) rfl (fun ls hl => ?_)
  refine lv_iconst (v := (nI 0)) hx hb dX5_goesBy_6 (by decide) ?_
  refine lv_istore (lv' := [(4, .int (nI 0)), (3, .int (nI (obF (liB T f) (xN T)))), (0, .ref b), (1, .ref tx), (2, .ref nd)]) hx hb dX5_goesBy_7 hl (by decide) rfl (fun ls hl => ?_)
  have loop2 : ∀ (fu2 : Nat) (k : Nat) (y : Nat) (V2 : GI) (H : Heap) (locs : List Loc) (ls : Array Slot), xN T - k < fu2 → (k ≤ xN T) → (xoF T f stl lots k = y) → (Eqx PG1 V1 V2) → (∀ j, j < k → V2 8 j = parF T f j) → (V2 0 6 = chN T f stl lots k (f 46)) → gP D dA b dB V2 L Rf H → va_S (AB b) H0 H locs → lv_has ls 5 [(4, .int (nI k)), (3, .int (nI y)), (0, .ref b), (1, .ref tx), (2, .ref nd)] → W p l e (mkRm 406 9400) s m args below meth c H locs 0 0 QQ (F0 m 9 ls []) := by
    intro fu2
    induction fu2 with
    | zero => intro k y V2 H locs ls hfu; exact absurd hfu (Nat.not_lt_zero _)
    | succ fu2 ih2 =>
      intro k y V2 H locs ls hfu hkn hy hE2 hp8 h6 hG hS hl
      refine lv_iload hx hb dX5_goesBy_9 (lv_at hl 0 rfl) ?_
      refine lv_aload_n hx hb dX5_goesBy_11 rfl (lv_at hl 3 rfl) ?_
      refine c_VI hx hb hml hts hown hK hl.1 hS ⟨Nat.le_refl _, Nat.le_refl _⟩ (met_X4_beds l D dA (txA_S hX0 hS hOA)) (cw_X5_50 hts ⟨Nat.le_of_ble_eq_true rfl, Nat.le_of_ble_eq_true rfl⟩) (va_at_S xh1 hS (hOA _ xo1)) rfl rfl rfl rfl (Nat.le_of_ble_eq_true rfl) dX5_goesBy_12 (fun _ h => h.elim) (fun r H1 locs hq hF hS => ?_)
      obtain ⟨rfl, rfl⟩ := hq
      refine n_icmp_ge (tgt := 69) hx hb dX5_goesBy_15 (by decide) (by omega) (by omega) (fun c15 => ?_) (fun c15 => ?_)
      · obtain rfl : k = xN T := by omega
        have hp8e := hp8
        have h6e := h6
        have hyE := hy
        refine lv_iconst (v := (nI 0)) hx hb dX5_goesBy_69 (by decide) ?_
        refine lv_istore (lv' := [(4, .int (nI 0)), (3, .int (nI y)), (0, .ref b), (1, .ref tx), (2, .ref nd)]) hx hb dX5_goesBy_70 hl (by decide) rfl (fun ls hl => ?_)
        have loop3 : ∀ (fu3 : Nat) (k : Nat) (V3 : GI) (H : Heap) (locs : List Loc) (ls : Array Slot), xN T - k < fu3 → (k ≤ xN T) → (Eqx PG2 V2 V3) → (∀ j, j < k → V3 2 j = pnF T f j) → (∀ j, k ≤ j → j < 9 → V3 2 j = f (27 + j)) → gP D dA b dB V3 L Rf H → va_S (AB b) H0 H locs → lv_has ls 5 [(4, .int (nI k)), (3, .int (nI y)), (0, .ref b), (1, .ref tx), (2, .ref nd)] → W p l e (mkRm 406 9400) s m args below meth c H locs 0 0 QQ (F0 m 72 ls []) := by
          intro fu3
          induction fu3 with
          | zero => intro k V3 H locs ls hfu; exact absurd hfu (Nat.not_lt_zero _)
          | succ fu3 ih3 =>
            intro k V3 H locs ls hfu hkn hE3 hpn hpo hG hS hl
            refine lv_iload hx hb dX5_goesBy_72 (lv_at hl 0 rfl) ?_
            refine lv_aload_n hx hb dX5_goesBy_74 rfl (lv_at hl 3 rfl) ?_
            refine c_VI hx hb hml hts hown hK hl.1 hS ⟨Nat.le_refl _, Nat.le_refl _⟩ (met_X4_beds l D dA (txA_S hX0 hS hOA)) (cw_X5_50 hts ⟨Nat.le_of_ble_eq_true rfl, Nat.le_of_ble_eq_true rfl⟩) (va_at_S xh1 hS (hOA _ xo1)) rfl rfl rfl rfl (Nat.le_of_ble_eq_true rfl) dX5_goesBy_75 (fun _ h => h.elim) (fun r H1 locs hq hF hS => ?_)
            obtain ⟨rfl, rfl⟩ := hq
            refine n_icmp_ge (tgt := 138) hx hb dX5_goesBy_78 (by decide) (by omega) (by omega) (fun c78 => ?_) (fun c78 => ?_)
            · refine lv_aload_n hx hb dX5_goesBy_138 rfl (lv_at hl 2 rfl) ?_
              refine lv_iload_n hx hb dX5_goesBy_139 rfl (lv_at hl 1 rfl) ?_
              refine g_put hx hb hts hown hK hG hS 0 (AB_in 0 (by decide)) rfl rfl ok_X5 4 (by decide) q441 rfl rfl rfl rfl dX5_goesBy_140 (fun H locs hG hO hS => ?_)
              refine lv_aload_n hx hb dX5_goesBy_143 rfl (lv_at hl 2 rfl) ?_
              refine lv_dup hx hb dX5_goesBy_144 rfl ?_
              refine g_get (v := .int (V 0 5)) hx hb hts hown hK hG 0 rfl rfl ok_X5 5 (by decide) q444 rfl (congrArg Value.int ((hE3 0 5 rfl).trans ((hE2 0 5 rfl).trans (hE1 0 5 rfl)))) dX5_goesBy_145 ?_
              refine lv_iconst (v := (nI 1)) hx hb dX5_goesBy_148 (by decide) ?_
              refine lv_iadd hx hb dX5_goesBy_149 ?_
              refine g_put hx hb hts hown hK hG hS 0 (AB_in 0 (by decide)) rfl rfl ok_X5 5 (by decide) q444 rfl rfl rfl rfl dX5_goesBy_150 (fun H locs hG hO hS => ?_)
              refine hend _ _ _ _ hS dX5_goesBy_153 ?_
              obtain rfl : k = xN T := by omega
              refine ⟨rfl, _, hG, (((((hE1.mono PAs_PGo2).trans (hE2.mono PG1_PGo2)).trans (hE3.mono PG2_PGo2)).up rfl).up rfl), ⟨?_, ?_, fun j hj => ?_, fun j hj => ?_⟩, ?_, ?_, fun j hj => ?_, fun j hj => ?_⟩
              · exact Eq.trans (show _ = _ from rfl) (congrArg nI (hyE.symm.trans xo_rb))
              · rw [hour_45 hn9, ← hbk.2.1]; exact rfl
              · rw [hour_o (by omega) (by omega) (by omega)]; exact Eq.trans (Eq.trans (hE3 1 j rfl) (Eq.trans (hE2 1 j rfl) (hE1 1 j rfl))) (hbk.2.2.1 j hj)
              · refine Eq.trans (show _ = _ from rfl) ?_
                by_cases hjn : j < xN T
                · rw [hour_p hn9 hjn]; exact hpn j hjn
                · rw [hour_o (by omega) (by omega) (by omega)]; exact hpo j (by omega) hj
              · rw [hour_46 hn9]; exact Eq.trans (hE3 0 6 rfl) h6e
              · exact Eq.trans (Eq.trans (hE3 0 7 rfl) (Eq.trans (hE2 0 7 rfl) (hE1 0 7 rfl))) h7
              · rw [hour_o (by omega) (by omega) (by omega)]; exact Eq.trans (Eq.trans (hE3 3 j rfl) (Eq.trans (hE2 3 j rfl) (hE1 3 j rfl))) (h18 j hj)
              · rw [hour_o (by omega) (by omega) (by omega)]; exact Eq.trans (Eq.trans (hE3 4 j rfl) (Eq.trans (hE2 4 j rfl) (hE1 4 j rfl))) (h36 j hj)
            refine lv_aload_n hx hb dX5_goesBy_81 rfl (lv_at hl 2 rfl) ?_
            refine g_get hx hb hts hown hK hG 0 rfl rfl ok_X5 1 (by decide) q435 rfl rfl dX5_goesBy_82 ?_
            refine lv_iload hx hb dX5_goesBy_85 (lv_at hl 0 rfl) ?_
            refine lv_aload_n hx hb dX5_goesBy_87 rfl (lv_at hl 2 rfl) ?_
            refine g_get hx hb hts hown hK hG 0 rfl rfl ok_X5 1 (by decide) q435 rfl rfl dX5_goesBy_88 ?_
            refine lv_iload hx hb dX5_goesBy_91 (lv_at hl 0 rfl) ?_
            refine n_iald hx hb hK hG 2 rfl (by omega) (by decide) dX5_goesBy_93 ?_
            refine iv (y := (f (27 + k))) (hpo k (Nat.le_refl _) (by omega)) ?_
            refine lv_aload_n hx hb dX5_goesBy_94 rfl (lv_at hl 2 rfl) ?_
            refine lv_iload hx hb dX5_goesBy_95 (lv_at hl 0 rfl) ?_
            refine c_VI hx hb hml hts hown hK hl.1 hS ⟨Nat.le_refl _, Nat.le_refl _⟩ (met_X5_isLeft l D dA hG (Eq.trans (Eq.trans (hE3 0 4 rfl) (Eq.trans (hE2 0 4 rfl) (hE1 0 4 rfl))) hbk.1) hn9 (by omega)) (cw_X5_123 hts ⟨Nat.le_of_ble_eq_true rfl, Nat.le_of_ble_eq_true rfl⟩) (hG 0 _ rfl) rfl rfl rfl rfl (Nat.le_of_ble_eq_true rfl) dX5_goesBy_97 (fun _ h => h.elim) (fun r H1 locs hq hF hS => ?_)
            obtain ⟨rfl, rfl⟩ := hq
            have hb2_97 := b01_lt (f k)
            refine n_if_eq (tgt := 113) hx hb dX5_goesBy_100 (by decide) (by omega) (fun c100 => ?_) (fun c100 => ?_)
            · refine lv_aload_n hx hb dX5_goesBy_113 rfl (lv_at hl 2 rfl) ?_
              refine g_get hx hb hts hown hK hG 0 rfl rfl ok_X5 9 (by decide) q452 rfl rfl dX5_goesBy_114 ?_
              refine lv_iload hx hb dX5_goesBy_117 (lv_at hl 0 rfl) ?_
              refine n_iald hx hb hK hG 8 rfl (by omega) (by decide) dX5_goesBy_119 ?_
              refine iv (y := (parF T f k)) ((hE3 8 k rfl).trans (hp8e k (by omega))) ?_
              refine lv_ineg hx hb dX5_goesBy_120 ?_
              refine lv_iadd hx hb dX5_goesBy_121 ?_
              refine lv_sipush (v := (-9999)) hx hb dX5_goesBy_122 (by decide) ?_
              refine lv_sipush (v := (nI 9999)) hx hb dX5_goesBy_125 (by decide) ?_
              refine c_SN (host := "PartedSide") hx hb hml hts hown hK hl.1 hS ⟨Nat.le_refl _, Nat.le_refl _⟩ (met_X0_within l D dA ((f (27 + k)) + (-(parF T f k))) (-9999) (nI 9999) (by decide)) ⟨va_cnB 3 hts (lw_meth q1258) rfl rfl rfl (hK.2.1 _ q1256 rfl) (hts _ q108) (by decide +kernel) ⟨Nat.le_of_ble_eq_true rfl, Nat.le_of_ble_eq_true rfl⟩, hts _ q1257, trivial⟩ rfl rfl (Nat.le_of_ble_eq_true rfl) dX5_goesBy_128 (fun _ h => h.elim) (fun r H1 locs hq hF hS => ?_)
              obtain ⟨rfl, rfl⟩ := hq
              refine iv (y := pnF T f k) (pn_f (nI_b00 c100)) ?_
              refine n_iast hx hb hK hG hS 2 (AB_in 2 (by decide)) rfl (by omega) (by decide) dX5_goesBy_131 (fun H locs hG hO hS => ?_)
              refine lv_iinc (v := (nI (k + 1))) (lv' := [(4, .int (nI (k + 1))), (3, .int (nI y)), (0, .ref b), (1, .ref tx), (2, .ref nd)]) hx hb dX5_goesBy_132 hl (k := 0) rfl (nI_add _ _) (by decide) rfl (fun ls hl => ?_)
              refine lv_goto (tgt := 72) hx hb dX5_goesBy_135 (by decide) ?_
              exact ih3 (k + 1) (up2 V3 2 k (pnF T f k)) _ _ _ (by omega) (by omega) (Eqx.up hE3 rfl) (stp hpn (show up2 _ 2 _ _ 2 _ = _ from up2_s) (fun j hj => (show up2 _ 2 _ _ 2 _ = _ from up2_n (fun z => hj z.2)))) (fun j hj hj9 => Eq.trans (show _ = _ from (have hne : j ≠ k := (by omega); (show up2 _ 2 _ _ 2 _ = _ from up2_n (fun z => hne z.2)))) (hpo j (by omega) hj9)) hG hS (lv_sub hl [0, 1, 2, 3, 4] rfl)
            refine lv_aload_n hx hb dX5_goesBy_103 rfl (lv_at hl 2 rfl) ?_
            refine g_get hx hb hts hown hK hG 0 rfl rfl ok_X5 9 (by decide) q452 rfl rfl dX5_goesBy_104 ?_
            refine lv_iload hx hb dX5_goesBy_107 (lv_at hl 0 rfl) ?_
            refine n_iald hx hb hK hG 8 rfl (by omega) (by decide) dX5_goesBy_109 ?_
            refine iv (y := (parF T f k)) ((hE3 8 k rfl).trans (hp8e k (by omega))) ?_
            refine lv_goto (tgt := 121) hx hb dX5_goesBy_110 (by decide) ?_
            refine lv_iadd hx hb dX5_goesBy_121 ?_
            refine lv_sipush (v := (-9999)) hx hb dX5_goesBy_122 (by decide) ?_
            refine lv_sipush (v := (nI 9999)) hx hb dX5_goesBy_125 (by decide) ?_
            refine c_SN (host := "PartedSide") hx hb hml hts hown hK hl.1 hS ⟨Nat.le_refl _, Nat.le_refl _⟩ (met_X0_within l D dA ((f (27 + k)) + (parF T f k)) (-9999) (nI 9999) (by decide)) ⟨va_cnB 3 hts (lw_meth q1258) rfl rfl rfl (hK.2.1 _ q1256 rfl) (hts _ q108) (by decide +kernel) ⟨Nat.le_of_ble_eq_true rfl, Nat.le_of_ble_eq_true rfl⟩, hts _ q1257, trivial⟩ rfl rfl (Nat.le_of_ble_eq_true rfl) dX5_goesBy_128 (fun _ h => h.elim) (fun r H1 locs hq hF hS => ?_)
            obtain ⟨rfl, rfl⟩ := hq
            refine iv (y := pnF T f k) (pn_t (nI_b01 (hrv k (by omega)) c100)) ?_
            refine n_iast hx hb hK hG hS 2 (AB_in 2 (by decide)) rfl (by omega) (by decide) dX5_goesBy_131 (fun H locs hG hO hS => ?_)
            refine lv_iinc (v := (nI (k + 1))) (lv' := [(4, .int (nI (k + 1))), (3, .int (nI y)), (0, .ref b), (1, .ref tx), (2, .ref nd)]) hx hb dX5_goesBy_132 hl (k := 0) rfl (nI_add _ _) (by decide) rfl (fun ls hl => ?_)
            refine lv_goto (tgt := 72) hx hb dX5_goesBy_135 (by decide) ?_
            exact ih3 (k + 1) (up2 V3 2 k (pnF T f k)) _ _ _ (by omega) (by omega) (Eqx.up hE3 rfl) (stp hpn (show up2 _ 2 _ _ 2 _ = _ from up2_s) (fun j hj => (show up2 _ 2 _ _ 2 _ = _ from up2_n (fun z => hj z.2)))) (fun j hj hj9 => Eq.trans (show _ = _ from (have hne : j ≠ k := (by omega); (show up2 _ 2 _ _ 2 _ = _ from up2_n (fun z => hne z.2)))) (hpo j (by omega) hj9)) hG hS (lv_sub hl [0, 1, 2, 3, 4] rfl)
        exact loop3 ((xN T - 0) + 1) 0 V2 _ _ _ (Nat.lt_succ_self _) (Nat.zero_le _) Eqx.rf (fun j hj => absurd hj (Nat.not_lt_zero _)) (fun j _ hj => Eq.trans (Eq.trans (hE2 2 j rfl) (hE1 2 j rfl)) (hbk.2.2.2 j hj)) hG hS (lv_sub hl [0, 1, 2, 3, 4] rfl)
      refine lv_aload_n hx hb dX5_goesBy_18 rfl (lv_at hl 2 rfl) ?_
      refine g_get hx hb hts hown hK hG 0 rfl rfl ok_X5 9 (by decide) q452 rfl rfl dX5_goesBy_19 ?_
      refine lv_iload hx hb dX5_goesBy_22 (lv_at hl 0 rfl) ?_
      refine lv_aload_n hx hb dX5_goesBy_24 rfl (lv_at hl 2 rfl) ?_
      refine lv_aload_n hx hb dX5_goesBy_25 rfl (lv_at hl 3 rfl) ?_
      refine lv_iload hx hb dX5_goesBy_26 (lv_at hl 0 rfl) ?_
      refine c_VI hx hb hml hts hown hK hl.1 hS ⟨Nat.le_refl _, Nat.le_refl _⟩ (met_X5_parts l D dA hG (txA_S hX0 hS hOA) hOA hsd (bkA_to (Eq.trans (hE2 0 4 rfl) (hE1 0 4 rfl)) (Eq.trans (hE2 0 5 rfl) (hE1 0 5 rfl)) (fun j => (Eq.trans (hE2 1 j rfl) (hE1 1 j rfl))) (fun j => (Eq.trans (hE2 2 j rfl) (hE1 2 j rfl))) hbk) hrv (by omega)) (cw_X5_141 hts ⟨Nat.le_of_ble_eq_true rfl, Nat.le_of_ble_eq_true rfl⟩) (hG 0 _ rfl) rfl rfl rfl rfl (Nat.le_of_ble_eq_true rfl) dX5_goesBy_28 (fun _ h => h) (fun r H1 locs hq hF hS => ?_)
      obtain ⟨rfl, V4, hG, hE4⟩ := hq
      generalize hHe4 : H1 = H at hG hS ⊢
      clear hHe4
      refine n_iast hx hb hK hG hS 8 (AB_in 8 (by decide)) rfl (by omega) (by decide) dX5_goesBy_31 (fun H locs hG hO hS => ?_)
      refine lv_aload_n hx hb dX5_goesBy_32 rfl (lv_at hl 4 rfl) ?_
      refine lv_aload_n hx hb dX5_goesBy_33 rfl (lv_at hl 2 rfl) ?_
      refine lv_aload_n hx hb dX5_goesBy_34 rfl (lv_at hl 3 rfl) ?_
      refine lv_iload hx hb dX5_goesBy_35 (lv_at hl 0 rfl) ?_
      refine c_night hx hb hml hts hown hK hl.1 hS ⟨Nat.le_refl _, Nat.le_refl _⟩ q1239 ⟨Nat.le_of_ble_eq_true rfl, Nat.le_of_ble_eq_true rfl⟩ hG (txA_S hX0 hS hOA) hOA hsd (bkA_to (Eq.trans (hE4 0 4 rfl) (Eq.trans (hE2 0 4 rfl) (hE1 0 4 rfl))) (Eq.trans (hE4 0 5 rfl) (Eq.trans (hE2 0 5 rfl) (hE1 0 5 rfl))) (fun j => (Eq.trans (hE4 1 j rfl) (Eq.trans (hE2 1 j rfl) (hE1 1 j rfl)))) (fun j => (Eq.trans (hE4 2 j rfl) (Eq.trans (hE2 2 j rfl) (hE1 2 j rfl)))) hbk) hrv (Eq.trans (Eq.trans (hE4 0 7 rfl) (Eq.trans (hE2 0 7 rfl) (hE1 0 7 rfl))) h7) (by omega) (niA_S hN hS hnd) (Nat.le_of_ble_eq_true rfl) dX5_goesBy_37 (fun _ h => h) (fun V5 H locs hG hE5 hS => ?_)
      have hbc := bN_lt (chB T f stl lots k)
      refine n_if_ne (tgt := 46) hx hb dX5_goesBy_40 (by decide) (by omega) (fun c40 => ?_) (fun c40 => ?_)
      · refine lv_iload_n hx hb dX5_goesBy_46 rfl (lv_at hl 1 rfl) ?_
        refine lv_iconst (v := (nI 1)) hx hb dX5_goesBy_47 (by decide) ?_
        refine lv_iload hx hb dX5_goesBy_48 (lv_at hl 0 rfl) ?_
        refine n_ishl hx hb dX5_goesBy_50 (by omega) ?_
        refine n_ixor hx hb dX5_goesBy_51 ?_
        refine lv_istore_n (lv' := [(3, .int (nI (y ^^^ (1 * 2 ^ k)))), (4, .int (nI k)), (0, .ref b), (1, .ref tx), (2, .ref nd)]) hx hb dX5_goesBy_52 rfl hl (by decide) rfl (fun ls hl => ?_)
        refine lv_aload_n hx hb dX5_goesBy_53 rfl (lv_at hl 2 rfl) ?_
        refine lv_dup hx hb dX5_goesBy_54 rfl ?_
        refine g_get (v := .int (chN T f stl lots k (f 46))) hx hb hts hown hK hG 0 rfl rfl ok_X5 6 (by decide) q446 rfl (congrArg Value.int (((hE5 0 6 rfl).trans (hE4 0 6 rfl)).trans h6)) dX5_goesBy_55 ?_
        refine lv_iconst (v := (nI 1)) hx hb dX5_goesBy_58 (by decide) ?_
        refine lv_iadd hx hb dX5_goesBy_59 ?_
        refine g_put hx hb hts hown hK hG hS 0 (AB_in 0 (by decide)) rfl rfl ok_X5 6 (by decide) q446 rfl rfl rfl rfl dX5_goesBy_60 (fun H locs hG hO hS => ?_)
        refine lv_iinc (v := (nI (k + 1))) (lv' := [(4, .int (nI (k + 1))), (3, .int (nI (y ^^^ (1 * 2 ^ k)))), (0, .ref b), (1, .ref tx), (2, .ref nd)]) hx hb dX5_goesBy_63 hl (k := 1) rfl (nI_add _ _) (by decide) rfl (fun ls hl => ?_)
        refine lv_goto (tgt := 9) hx hb dX5_goesBy_66 (by decide) ?_
        exact ih2 (k + 1) (y ^^^ (1 * 2 ^ k)) (up2 V5 0 6 ((chN T f stl lots k (f 46)) + (nI 1))) _ _ _ (by omega) (by omega) ((xo_t (bN1 (by omega))).trans (by rw [hy])) (Eqx.up (Eqx.trans (Eqx.up (Eqx.trans hE2 (hE4.mono PAs_PG1)) rfl) (hE5.mono PAs_PG1)) rfl) (stp hp8 (Eq.trans (hE5 8 _ rfl) (show up2 _ 8 _ _ 8 _ = _ from up2_s)) (fun j hj => (Eq.trans (hE5 8 j rfl) (Eq.trans (show up2 _ 8 _ _ 8 _ = _ from up2_n (fun z => hj z.2)) (hE4 8 j rfl))))) (Eq.trans (show _ = _ from rfl) (chN_t (bN1 (by omega))).symm) hG hS (lv_sub hl [0, 1, 2, 3, 4] rfl)
      refine lv_goto (tgt := 63) hx hb dX5_goesBy_43 (by decide) ?_
      refine lv_iinc (v := (nI (k + 1))) (lv' := [(4, .int (nI (k + 1))), (3, .int (nI y)), (0, .ref b), (1, .ref tx), (2, .ref nd)]) hx hb dX5_goesBy_63 hl (k := 0) rfl (nI_add _ _) (by decide) rfl (fun ls hl => ?_)
      refine lv_goto (tgt := 9) hx hb dX5_goesBy_66 (by decide) ?_
      exact ih2 (k + 1) y V5 _ _ _ (by omega) (by omega) ((xo_f (bN0 (by omega))).trans (by rw [hy])) (Eqx.trans (Eqx.up (Eqx.trans hE2 (hE4.mono PAs_PG1)) rfl) (hE5.mono PAs_PG1)) (stp hp8 (Eq.trans (hE5 8 _ rfl) (show up2 _ 8 _ _ 8 _ = _ from up2_s)) (fun j hj => (Eq.trans (hE5 8 j rfl) (Eq.trans (show up2 _ 8 _ _ 8 _ = _ from up2_n (fun z => hj z.2)) (hE4 8 j rfl))))) (Eq.trans (show _ = _ from (Eq.trans ((hE5 0 6 rfl).trans (hE4 0 6 rfl)) h6)) (chN_f (bN0 (by omega))).symm) hG hS (lv_sub hl [0, 1, 2, 3, 4] rfl)
  exact loop2 ((xN T - 0) + 1) 0 (obF (liB T f) (xN T)) V1 _ _ _ (Nat.lt_succ_self _) (Nat.zero_le _) rfl Eqx.rf (fun j hj => absurd hj (Nat.not_lt_zero _)) (Eq.trans (hE1 0 6 rfl) h6) hG hS (lv_sub hl [0, 1, 2, 3, 4] rfl)
