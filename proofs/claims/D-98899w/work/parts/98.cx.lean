/-! contracts that return or throw the fault -/
def xXC (A : Nat → Prop) (QX : Nat → Heap → Prop) : String → Addr → State → State → Prop := fun E q st t => (E = RX1 ∧ QX q t.heap) ∧ va_F A st t
def CtrX (l : Launch) (D : va_G) (dA : Nat → ClassId) (y : MethodName) (cc : ByteArray) (nL : Nat) (ret : Option FieldType) (rm : Room) (av : List Value) (H0 : Heap) (A : Nat → Prop) (Q : Option Value → Heap → Prop) (QX : Nat → Heap → Prop) : Prop :=
  xq_Met l y (ws_ y cc nL ret) rm (cPc D dA av H0) (cQc A Q) (xXC A QX) rm.cells rm.slots A
/-- a fault stands at q -/
def fltA (D : va_G) (H : Heap) (q : Nat) : Prop := ∃ fs, va_at D CL (q, .inr (1, fs)) H
set_option maxHeartbeats 1000000 in
theorem ctrX_of {l : Launch} {D : va_G} {dA : Nat → ClassId} {y : MethodName} {cc : ByteArray} {nL : Nat} {ret : Option FieldType} {rm : Room} {av : List Value} {H0 : Heap} {A : Nat → Prop} {Q : Option Value → Heap → Prop} {QX : Nat → Heap → Prop} (hy : plainName y.cls = true) (hn : (lg_sl av).length ≤ nL)
    (body : ∀ (p : Program) (e : Env) (s : State) (m : MethodId) (args : Array Value) (below : List Frame) (meth : Method) (c : Code) (ls : Array Slot), p.tables.exec = Jvm.exec → c.code = cc → c.maxLocals = nL → s.vm.findClass y.cls = some m.cls → (∀ w ∈ lw_all, w.before args s = true) → KK D dA s → meth.sig.returnType = ret → meth.locks = false → meth.name = y.name → (∀ x ∈ c.exceptionTable.toList, False) → va_S A H0 H0 [] → s.heap = H0 → lv_has ls nL (lv_args 0 av) →
      W p l e rm s m args below meth c H0 [] 0 0 (xq_MQ below (cQc A Q) (xXC A QX) args s rm.cells rm.slots A) (F0 m 0 ls [])) : CtrX l D dA y cc nL ret rm av H0 A Q QX := by
  refine xq_ofW (cc := cc) (maxL := nL) (ret := ret) hy rfl ?_
  intro p e s m args below meth c s₁ B hml ht hv
  obtain ⟨rfl, hK, rfl⟩ := hv
  have hts := atoms_spec (ws := ws_ y cc nL ret) B.pre
  have hl := lv_entry av (n := nL) hn
  rw [lg_entry_eq]
  exact body p e s m _ below meth c _ B.exec B.bytes hml (findClass_of_methodNamed B.named) (fun w h => hts w (List.mem_cons_of_mem _ h)) hK B.returns B.notSynchronized (name_of_methodNamed B.named B.method).1 ht va_S.rf rfl hl
section CX
variable {p : Program} {l : Launch} {e : Env} {R : Room} {s : State} {m : MethodId} {args : Array Value} {below : List Frame} {meth : Method} {c : Code} {H : Heap} {locs : List Loc} {cells slots : Nat} {Q : State → Prop}
variable {cc : ByteArray} {pc nL : Nat} {ls : Array Slot} {rest st : List Value} {D : va_G} {dA : Nat → ClassId} {A A1 : Nat → Prop} {H0 : Heap} {own : String} {index : Nat} {post : Option Value → Heap → Prop} {QX : Nat → Heap → Prop} {rm : Room}
theorem flt_cell (hK : KK D dA s) {q : Nat} (h : fltA D H q) : ∃ ce : Cell, H[q]? = some ce ∧ ce.vm = .none ∧ s.vm.findClass RX1 = some ce.cls := by
  obtain ⟨fs, r, h1, cell, q1, q2, q3, q4⟩ := h
  have hc : CL[1]? = some (RX1, TX1, 8) := rfl
  have hr : r = (RX1, TX1, 8) := Option.some.inj (h1.symm.trans hc)
  subst hr
  exact ⟨cell, q1, q3, by rw [q2]; exact (hK.1.1 1 _ hc).2.1⟩
/-- out of the method -/
theorem e_x {rs : List Value} {mc ms : Nat} (hK : KK D dA s) (ht : ∀ x ∈ c.exceptionTable.toList, False) (hlk : meth.locks = false) (hs : s.heap = H0) (hS : va_S A H0 H locs) {q : Nat} (hf : fltA D H q) (hq : QX q H) (hc : cells ≤ mc) (hsl : slots ≤ ms) : xq_W p l e R s m args below meth c H locs cells slots (xq_MQ below (cQc A post) (xXC A QX) args s mc ms A) (F0 m pc ls rs) q := by
  obtain ⟨ce, h1, h2, h3⟩ := flt_cell hK hf
  exact xq_out (fun x hx => (ht x hx).elim) hlk h1 h2 h3 (fun t hT _ => ⟨⟨rfl, by rw [hT]; exact hq⟩, by rw [va_F, hT, hs]; exact ⟨hS.1, hS.2.1⟩⟩) hS.2.2 hc hsl
theorem c_doneX {a : Array Value} {st0 : List Value} (hr : xq_Run p l e R s m args below meth c H locs cells slots rm.cells rm.slots (F0 m pc ls st0) rest (cQc A1 post a) (xXC A1 QX) A1) (hS : va_S A H0 H locs) (hA : ∀ q, A1 q → A q)
    (kx : ∀ (q : Nat) (H1 : Heap) (locs1 : List Loc), QX q H1 → Fr A1 H H1 → va_S A H0 H1 locs1 → xq_W p l e R s m args below meth c H1 locs1 (cells + rm.cells) (slots + rm.slots) Q (F0 m pc ls rest) q)
    (kk : ∀ (v : Option Value) (H1 : Heap) (locs1 : List Loc), post v H1 → Fr A1 H H1 → va_S A H0 H1 locs1 → W p l e R s m args below meth c H1 locs1 (cells + rm.cells) (slots + rm.slots) Q (F0 m (pc + 3) ls (v.toList ++ rest))) : W p l e R s m args below meth c H locs cells slots Q (F0 m pc ls st0) := by
  intro T hT X
  rcases hr T hT X with ⟨v, st₀, t, T', L, h0, X', hL, e1, e2, ⟨⟨w, hv, hp⟩, hz, hk⟩, stp⟩ | ⟨q, st₀, t, T', L, E, ce, h0, X', hL, e1, e2, ⟨⟨hE, hp⟩, hz, hk⟩, hce, hcv, hcl, stp⟩
  · cases hv
    rw [h0] at hz hk
    obtain ⟨t2, a1, b1⟩ := kk v T'.heap (locs ++ L) (by rw [e1]; exact hp) ⟨by rw [e1]; exact hz, fun q h1 h2 => by rw [e1]; exact hk q h1 h2⟩
      ⟨Nat.le_trans hS.1 (by rw [e1]; exact hz), fun q h1 h2 => by rw [e1, hk q (Nat.lt_of_lt_of_le h1 hS.1) (fun z => h2 (hA q z))]; exact hS.2.1 q h1 h2, fun q hq => by
        rcases List.mem_append.mp hq with h | h
        · exact hS.2.2 q h
        · exact hA _ (hL q h)⟩ T' rfl X'
    exact ⟨t2, stp t2 a1, b1⟩
  · rw [h0] at hz hk
    obtain ⟨t2, a1, b1⟩ := kx q T'.heap (locs ++ L) (by rw [e1]; exact hp) ⟨by rw [e1]; exact hz, fun q h1 h2 => by rw [e1]; exact hk q h1 h2⟩
      ⟨Nat.le_trans hS.1 (by rw [e1]; exact hz), fun q h1 h2 => by rw [e1, hk q (Nat.lt_of_lt_of_le h1 hS.1) (fun z => h2 (hA q z))]; exact hS.2.1 q h1 h2, fun q hq => by
        rcases List.mem_append.mp hq with h | h
        · exact hS.2.2 q h
        · exact hA _ (hL q h)⟩ T' rfl X'
    exact ⟨t2, stp.trans a1, b1⟩
/-- invokevirtual of what may throw -/
theorem c_VX {y : MethodName} {cc' : ByteArray} {nL' n : Nat} {ret : Option FieldType} {b : Nat} {As : List Value} {C : String} (hx : p.tables.exec = Jvm.exec) (hb : c.code = cc) (hml : c.maxLocals = nL) (hts : ∀ w ∈ lw_all, w.before args s = true) (hown : s.vm.findClass own = some m.cls) (hK : KK D dA s) (hl : ls.size = nL) (hS : va_S A H0 H locs)
    (hM : CtrX l D dA y cc' nL' ret rm (.ref b :: As) H A1 post QX) (cw : CallW R s args own C index y cc' nL' ret (ws_ y cc' nL' ret) rm rm.cells rm.slots n) {fs : List Value} {ci : Nat} {q : vw_C} (hat : va_at D CL (b, .inr (ci, fs)) H) (hc : CL[ci]? = some q) (hq : q.1 = C) (hn : As.length = n) (hstack : st = As.reverse ++ .ref b :: rest) (hW : (rest.map fun v => v.category).sum ≤ 8) (hdg : decode cc pc = .ok (.invokevirtual index, 3)) (hA : ∀ q, A1 q → A q) (hroom : cells + rm.cells ≤ R.cells ∧ slots + rm.slots ≤ R.slots)
    (kx : ∀ (q : Nat) (H1 : Heap) (locs1 : List Loc), QX q H1 → Fr A1 H H1 → va_S A H0 H1 locs1 → xq_W p l e R s m args below meth c H1 locs1 (cells + rm.cells) (slots + rm.slots) Q (F0 m pc ls rest) q)
    (kk : ∀ (v : Option Value) (H1 : Heap) (locs1 : List Loc), post v H1 → Fr A1 H H1 → va_S A H0 H1 locs1 → W p l e R s m args below meth c H1 locs1 (cells + rm.cells) (slots + rm.slots) Q (F0 m (pc + 3) ls (v.toList ++ rest))) : W p l e R s m args below meth c H locs cells slots Q (F0 m pc ls st) := by
  subst hstack; subst hq
  exact c_doneX (xq_runV ⟨hx, hb, hml, hown, hts⟩ hM cw (c_preV hK hat hc) rfl hn hl rfl (lv_room hW) hdg hroom) hS hA kx kk
end CX
