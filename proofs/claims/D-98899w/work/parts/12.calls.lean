section CALL1
variable {p : Program} {l : Launch} {e : Env} {R : Room} {s : State} {m : MethodId} {args : Array Value} {below : List Frame} {meth : Method} {c : Code} {H : Heap} {locs : List Loc} {cells slots : Nat} {Q : State → Prop}
variable {cc cc' : ByteArray} {pc nL nL' : Nat} {ls : Array Slot} {rest st : List Value} {D : va_G} {dA : Nat → ClassId} {A A1 : Nat → Prop} {H0 : Heap} {own C : String} {y : MethodName} {ret : Option FieldType} {As : List Value} {n index b f w : Nat}
theorem c_VI (hx : p.tables.exec = Jvm.exec) (hb : c.code = cc) (hml : c.maxLocals = nL) (hts : ∀ w ∈ lw_all, w.before args s = true) (hown : s.vm.findClass own = some m.cls) (hK : KK D dA s) (hl : ls.size = nL) (hS : va_S A H0 H locs) (hroom : cells ≤ R.cells ∧ slots ≤ R.slots) {post : Int32 → Heap → Prop}
    (hM : Ctr l D dA y cc' nL' ret (mkRm f w) (.ref b :: As) H A1 (QI post)) (cw : CallW R s args own C index y cc' nL' ret (ws_ y cc' nL' ret) (mkRm f w) 0 0 n) {fs : List Value} {ci : Nat} {q : vw_C} (hat : va_at D CL (b, .inr (ci, fs)) H) (hc : CL[ci]? = some q) (hq : q.1 = C) (hn : As.length = n) (hstack : st = As.reverse ++ .ref b :: rest) (hW : (rest.map fun v => v.category).sum ≤ 8) (hdg : decode cc pc = .ok (.invokevirtual index, 3)) (hA : ∀ q, A1 q → A q)
    (kk : ∀ (r : Int32) (H1 : Heap) (locs1 : List Loc), post r H1 → Fr A1 H H1 → va_S A H0 H1 locs1 → W p l e R s m args below meth c H1 locs1 cells slots Q (F0 m (pc + 3) ls (.int r :: rest))) : W p l e R s m args below meth c H locs cells slots Q (F0 m pc ls st) :=
  c_V0 hx hb hml hts hown hK hl hS hroom hM cw hat hc hq hn hstack hW hdg hA fun v H1 locs1 hq hF hS => by
    obtain ⟨r, rfl, hq⟩ := hq
    exact kk r H1 locs1 hq hF hS
theorem c_SI (hx : p.tables.exec = Jvm.exec) (hb : c.code = cc) (hml : c.maxLocals = nL) (hts : ∀ w ∈ lw_all, w.before args s = true) (hown : s.vm.findClass own = some m.cls) (hK : KK D dA s) (hl : ls.size = nL) (hS : va_S A H0 H locs) (hroom : cells ≤ R.cells ∧ slots ≤ R.slots) {post : Int32 → Heap → Prop}
    (hM : Ctr l D dA y cc' nL' ret (mkRm f w) As H A1 (QI post)) (cw : CallB R s args own index y cc' nL' ret (ws_ y cc' nL' ret) (mkRm f w) 0 0 n ∧ (Cond.static y).before args s = true) (hn : As.length = n) (hstack : st = As.reverse ++ rest) (hW : (rest.map fun v => v.category).sum ≤ 8) (hdg : decode cc pc = .ok (.invokestatic index, 3)) (hA : ∀ q, A1 q → A q)
    (kk : ∀ (r : Int32) (H1 : Heap) (locs1 : List Loc), post r H1 → Fr A1 H H1 → va_S A H0 H1 locs1 → W p l e R s m args below meth c H1 locs1 cells slots Q (F0 m (pc + 3) ls (.int r :: rest))) : W p l e R s m args below meth c H locs cells slots Q (F0 m pc ls st) :=
  c_S0 hx hb hml hts hown hK hl hS hroom hM cw hn hstack hW hdg hA fun v H1 locs1 hq hF hS => by
    obtain ⟨r, rfl, hq⟩ := hq
    exact kk r H1 locs1 hq hF hS
theorem c_VV (hx : p.tables.exec = Jvm.exec) (hb : c.code = cc) (hml : c.maxLocals = nL) (hts : ∀ w ∈ lw_all, w.before args s = true) (hown : s.vm.findClass own = some m.cls) (hK : KK D dA s) (hl : ls.size = nL) (hS : va_S A H0 H locs) (hroom : cells ≤ R.cells ∧ slots ≤ R.slots) {post : Heap → Prop}
    (hM : Ctr l D dA y cc' nL' ret (mkRm f w) (.ref b :: As) H A1 (QV post)) (cw : CallW R s args own C index y cc' nL' ret (ws_ y cc' nL' ret) (mkRm f w) 0 0 n) {fs : List Value} {ci : Nat} {q : vw_C} (hat : va_at D CL (b, .inr (ci, fs)) H) (hc : CL[ci]? = some q) (hq : q.1 = C) (hn : As.length = n) (hstack : st = As.reverse ++ .ref b :: rest) (hW : (rest.map fun v => v.category).sum ≤ 8) (hdg : decode cc pc = .ok (.invokevirtual index, 3)) (hA : ∀ q, A1 q → A q)
    (kk : ∀ (H1 : Heap) (locs1 : List Loc), post H1 → Fr A1 H H1 → va_S A H0 H1 locs1 → W p l e R s m args below meth c H1 locs1 cells slots Q (F0 m (pc + 3) ls (rest))) : W p l e R s m args below meth c H locs cells slots Q (F0 m pc ls st) :=
  c_V0 hx hb hml hts hown hK hl hS hroom hM cw hat hc hq hn hstack hW hdg hA fun v H1 locs1 hq hF hS => by
    obtain ⟨rfl, hq⟩ := hq
    exact kk H1 locs1 hq hF hS
theorem c_SV (hx : p.tables.exec = Jvm.exec) (hb : c.code = cc) (hml : c.maxLocals = nL) (hts : ∀ w ∈ lw_all, w.before args s = true) (hown : s.vm.findClass own = some m.cls) (hK : KK D dA s) (hl : ls.size = nL) (hS : va_S A H0 H locs) (hroom : cells ≤ R.cells ∧ slots ≤ R.slots) {post : Heap → Prop}
    (hM : Ctr l D dA y cc' nL' ret (mkRm f w) As H A1 (QV post)) (cw : CallB R s args own index y cc' nL' ret (ws_ y cc' nL' ret) (mkRm f w) 0 0 n ∧ (Cond.static y).before args s = true) (hn : As.length = n) (hstack : st = As.reverse ++ rest) (hW : (rest.map fun v => v.category).sum ≤ 8) (hdg : decode cc pc = .ok (.invokestatic index, 3)) (hA : ∀ q, A1 q → A q)
    (kk : ∀ (H1 : Heap) (locs1 : List Loc), post H1 → Fr A1 H H1 → va_S A H0 H1 locs1 → W p l e R s m args below meth c H1 locs1 cells slots Q (F0 m (pc + 3) ls (rest))) : W p l e R s m args below meth c H locs cells slots Q (F0 m pc ls st) :=
  c_S0 hx hb hml hts hown hK hl hS hroom hM cw hn hstack hW hdg hA fun v H1 locs1 hq hF hS => by
    obtain ⟨rfl, hq⟩ := hq
    exact kk H1 locs1 hq hF hS
theorem c_VL (hx : p.tables.exec = Jvm.exec) (hb : c.code = cc) (hml : c.maxLocals = nL) (hts : ∀ w ∈ lw_all, w.before args s = true) (hown : s.vm.findClass own = some m.cls) (hK : KK D dA s) (hl : ls.size = nL) (hS : va_S A H0 H locs) (hroom : cells ≤ R.cells ∧ slots ≤ R.slots) {post : Int64 → Heap → Prop}
    (hM : Ctr l D dA y cc' nL' ret (mkRm f w) (.ref b :: As) H A1 (QL post)) (cw : CallW R s args own C index y cc' nL' ret (ws_ y cc' nL' ret) (mkRm f w) 0 0 n) {fs : List Value} {ci : Nat} {q : vw_C} (hat : va_at D CL (b, .inr (ci, fs)) H) (hc : CL[ci]? = some q) (hq : q.1 = C) (hn : As.length = n) (hstack : st = As.reverse ++ .ref b :: rest) (hW : (rest.map fun v => v.category).sum ≤ 8) (hdg : decode cc pc = .ok (.invokevirtual index, 3)) (hA : ∀ q, A1 q → A q)
    (kk : ∀ (r : Int64) (H1 : Heap) (locs1 : List Loc), post r H1 → Fr A1 H H1 → va_S A H0 H1 locs1 → W p l e R s m args below meth c H1 locs1 cells slots Q (F0 m (pc + 3) ls (.long r :: rest))) : W p l e R s m args below meth c H locs cells slots Q (F0 m pc ls st) :=
  c_V0 hx hb hml hts hown hK hl hS hroom hM cw hat hc hq hn hstack hW hdg hA fun v H1 locs1 hq hF hS => by
    obtain ⟨r, rfl, hq⟩ := hq
    exact kk r H1 locs1 hq hF hS
theorem c_SL (hx : p.tables.exec = Jvm.exec) (hb : c.code = cc) (hml : c.maxLocals = nL) (hts : ∀ w ∈ lw_all, w.before args s = true) (hown : s.vm.findClass own = some m.cls) (hK : KK D dA s) (hl : ls.size = nL) (hS : va_S A H0 H locs) (hroom : cells ≤ R.cells ∧ slots ≤ R.slots) {post : Int64 → Heap → Prop}
    (hM : Ctr l D dA y cc' nL' ret (mkRm f w) As H A1 (QL post)) (cw : CallB R s args own index y cc' nL' ret (ws_ y cc' nL' ret) (mkRm f w) 0 0 n ∧ (Cond.static y).before args s = true) (hn : As.length = n) (hstack : st = As.reverse ++ rest) (hW : (rest.map fun v => v.category).sum ≤ 8) (hdg : decode cc pc = .ok (.invokestatic index, 3)) (hA : ∀ q, A1 q → A q)
    (kk : ∀ (r : Int64) (H1 : Heap) (locs1 : List Loc), post r H1 → Fr A1 H H1 → va_S A H0 H1 locs1 → W p l e R s m args below meth c H1 locs1 cells slots Q (F0 m (pc + 3) ls (.long r :: rest))) : W p l e R s m args below meth c H locs cells slots Q (F0 m pc ls st) :=
  c_S0 hx hb hml hts hown hK hl hS hroom hM cw hn hstack hW hdg hA fun v H1 locs1 hq hF hS => by
    obtain ⟨r, rfl, hq⟩ := hq
    exact kk r H1 locs1 hq hF hS
theorem c_VR (hx : p.tables.exec = Jvm.exec) (hb : c.code = cc) (hml : c.maxLocals = nL) (hts : ∀ w ∈ lw_all, w.before args s = true) (hown : s.vm.findClass own = some m.cls) (hK : KK D dA s) (hl : ls.size = nL) (hS : va_S A H0 H locs) (hroom : cells ≤ R.cells ∧ slots ≤ R.slots) {post : Option Nat → Heap → Prop}
    (hM : Ctr l D dA y cc' nL' ret (mkRm f w) (.ref b :: As) H A1 (QR post)) (cw : CallW R s args own C index y cc' nL' ret (ws_ y cc' nL' ret) (mkRm f w) 0 0 n) {fs : List Value} {ci : Nat} {q : vw_C} (hat : va_at D CL (b, .inr (ci, fs)) H) (hc : CL[ci]? = some q) (hq : q.1 = C) (hn : As.length = n) (hstack : st = As.reverse ++ .ref b :: rest) (hW : (rest.map fun v => v.category).sum ≤ 8) (hdg : decode cc pc = .ok (.invokevirtual index, 3)) (hA : ∀ q, A1 q → A q)
    (kk : ∀ (r : Option Nat) (H1 : Heap) (locs1 : List Loc), post r H1 → Fr A1 H H1 → va_S A H0 H1 locs1 → W p l e R s m args below meth c H1 locs1 cells slots Q (F0 m (pc + 3) ls (va_rf r :: rest))) : W p l e R s m args below meth c H locs cells slots Q (F0 m pc ls st) :=
  c_V0 hx hb hml hts hown hK hl hS hroom hM cw hat hc hq hn hstack hW hdg hA fun v H1 locs1 hq hF hS => by
    obtain ⟨r, rfl, hq⟩ := hq
    exact kk r H1 locs1 hq hF hS
theorem c_SR (hx : p.tables.exec = Jvm.exec) (hb : c.code = cc) (hml : c.maxLocals = nL) (hts : ∀ w ∈ lw_all, w.before args s = true) (hown : s.vm.findClass own = some m.cls) (hK : KK D dA s) (hl : ls.size = nL) (hS : va_S A H0 H locs) (hroom : cells ≤ R.cells ∧ slots ≤ R.slots) {post : Option Nat → Heap → Prop}
    (hM : Ctr l D dA y cc' nL' ret (mkRm f w) As H A1 (QR post)) (cw : CallB R s args own index y cc' nL' ret (ws_ y cc' nL' ret) (mkRm f w) 0 0 n ∧ (Cond.static y).before args s = true) (hn : As.length = n) (hstack : st = As.reverse ++ rest) (hW : (rest.map fun v => v.category).sum ≤ 8) (hdg : decode cc pc = .ok (.invokestatic index, 3)) (hA : ∀ q, A1 q → A q)
    (kk : ∀ (r : Option Nat) (H1 : Heap) (locs1 : List Loc), post r H1 → Fr A1 H H1 → va_S A H0 H1 locs1 → W p l e R s m args below meth c H1 locs1 cells slots Q (F0 m (pc + 3) ls (va_rf r :: rest))) : W p l e R s m args below meth c H locs cells slots Q (F0 m pc ls st) :=
  c_S0 hx hb hml hts hown hK hl hS hroom hM cw hn hstack hW hdg hA fun v H1 locs1 hq hF hS => by
    obtain ⟨r, rfl, hq⟩ := hq
    exact kk r H1 locs1 hq hF hS
end CALL1
theorem nI_dec {a : Nat} (h : 1 ≤ a) : nI a + Int32.ofInt (-1) = nI (a - 1) := by
  obtain ⟨b, rfl⟩ : ∃ b, a = b + 1 := ⟨a - 1, by omega⟩
  exact pk_m1 b
theorem s_l : ∀ n, n < 32 → ((nI n &&& 31).toBitVec.smod 32).toNat = n := by decide +kernel
theorem nx_and (a b : Nat) : nI a &&& nI b = nI (a &&& b) := by
  apply Int32.toBitVec_inj.1
  show BitVec.ofNat 32 a &&& BitVec.ofNat 32 b = BitVec.ofNat 32 (a &&& b)
  apply BitVec.eq_of_getLsbD_eq
  intro i hi
  simp [hi]
theorem nx_or (a b : Nat) : nI a ||| nI b = nI (a ||| b) := by
  apply Int32.toBitVec_inj.1
  show BitVec.ofNat 32 a ||| BitVec.ofNat 32 b = BitVec.ofNat 32 (a ||| b)
  apply BitVec.eq_of_getLsbD_eq
  intro i hi
  simp [hi]
theorem nx_xor (a b : Nat) : nI a ^^^ nI b = nI (a ^^^ b) := by
  apply Int32.toBitVec_inj.1
  show BitVec.ofNat 32 a ^^^ BitVec.ofNat 32 b = BitVec.ofNat 32 (a ^^^ b)
  apply BitVec.eq_of_getLsbD_eq
  intro i hi
  simp [hi]
theorem nx_and1 (a : Nat) : nI a &&& nI 1 = nI (a % 2) := by rw [nx_and, Nat.and_one_is_mod]
theorem nx_shr {a k : Nat} (ha : a < 2 ^ 31) (hk : k < 32) : nI a >>> (nI k &&& 31) = nI (a / 2 ^ k) := pk_shrN ha _ k (s_l k hk)
theorem nx_shl (a : Nat) {k : Nat} (hk : k < 32) : nI a <<< (nI k &&& 31) = nI (a * 2 ^ k) := by
  apply Int32.toBitVec_inj.1
  apply BitVec.eq_of_toNat_eq
  rw [pk_shl _ _ k (s_l k hk)]
  show (BitVec.ofNat 32 a).toNat * 2 ^ k % 2 ^ 32 = (BitVec.ofNat 32 (a * 2 ^ k)).toNat
  rw [BitVec.toNat_ofNat, BitVec.toNat_ofNat, Nat.mod_mul_mod]
section NBITS
variable {p : Program} {l : Launch} {e : Env} {R : Room} {s : State} {m : MethodId} {args : Array Value} {below : List Frame} {meth : Method} {c : Code} {H : Heap} {locs : List Loc} {cells slots : Nat} {Q : State → Prop}
variable {cc : ByteArray} {pc : Nat} {ls : Array Slot} {rest : List Value}
theorem n_iand {a b : Nat} (hx : p.tables.exec = Jvm.exec) (hb : c.code = cc) (hdg : decode cc pc = .ok (.iand, 1)) (k : W p l e R s m args below meth c H locs cells slots Q (F0 m (pc + 1) ls (.int (nI (a &&& b)) :: rest))) : W p l e R s m args below meth c H locs cells slots Q (F0 m pc ls (.int (nI b) :: .int (nI a) :: rest)) := lv_iand hx hb hdg (iv (nx_and a b) k)
theorem n_ior {a b : Nat} (hx : p.tables.exec = Jvm.exec) (hb : c.code = cc) (hdg : decode cc pc = .ok (.ior, 1)) (k : W p l e R s m args below meth c H locs cells slots Q (F0 m (pc + 1) ls (.int (nI (a ||| b)) :: rest))) : W p l e R s m args below meth c H locs cells slots Q (F0 m pc ls (.int (nI b) :: .int (nI a) :: rest)) := lv_ior hx hb hdg (iv (nx_or a b) k)
theorem n_ixor {a b : Nat} (hx : p.tables.exec = Jvm.exec) (hb : c.code = cc) (hdg : decode cc pc = .ok (.ixor, 1)) (k : W p l e R s m args below meth c H locs cells slots Q (F0 m (pc + 1) ls (.int (nI (a ^^^ b)) :: rest))) : W p l e R s m args below meth c H locs cells slots Q (F0 m pc ls (.int (nI b) :: .int (nI a) :: rest)) := lv_ixor hx hb hdg (iv (nx_xor a b) k)
theorem n_ishr {a b : Nat} (hx : p.tables.exec = Jvm.exec) (hb : c.code = cc) (hdg : decode cc pc = .ok (.ishr, 1)) (ha : a < 2 ^ 31) (hk : b < 32) (k : W p l e R s m args below meth c H locs cells slots Q (F0 m (pc + 1) ls (.int (nI (a / 2 ^ b)) :: rest))) : W p l e R s m args below meth c H locs cells slots Q (F0 m pc ls (.int (nI b) :: .int (nI a) :: rest)) := lv_ishr hx hb hdg (iv (nx_shr ha hk) k)
theorem n_ishl {a b : Nat} (hx : p.tables.exec = Jvm.exec) (hb : c.code = cc) (hdg : decode cc pc = .ok (.ishl, 1)) (hk : b < 32) (k : W p l e R s m args below meth c H locs cells slots Q (F0 m (pc + 1) ls (.int (nI (a * 2 ^ b)) :: rest))) : W p l e R s m args below meth c H locs cells slots Q (F0 m pc ls (.int (nI b) :: .int (nI a) :: rest)) := lv_ishl hx hb hdg (iv (nx_shl a hk) k)
theorem n_and1 {a : Nat} (hx : p.tables.exec = Jvm.exec) (hb : c.code = cc) (hdg : decode cc pc = .ok (.iand, 1)) (k : W p l e R s m args below meth c H locs cells slots Q (F0 m (pc + 1) ls (.int (nI (a % 2)) :: rest))) : W p l e R s m args below meth c H locs cells slots Q (F0 m pc ls (.int (nI 1) :: .int (nI a) :: rest)) := lv_iand hx hb hdg (iv (nx_and1 a) k)
end NBITS
