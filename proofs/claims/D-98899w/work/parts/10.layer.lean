/-! THE LAYER: objects with their arrays at consecutive addresses; contents as functions; contracts over an exact heap -/
set_option maxRecDepth 100000
def T0 : u_T := fun _ => ("", "", "", false)
/-- the classes whose objects are made or read -/
abbrev CL : List vw_C := [(RX0, TX0, 26), (RX1, TX1, 8), (RX2, TX2, 8), (RX3, TX3, 7), (RX4, TX4, 8), (RX5, TX5, 11), (RX9, TX9, 2), (RX13, TX13, 65), (RX14, TX14, 4), (RX16, TX16, 1), (RX17, TX17, 1), (RX18, TX18, 3), (RX19, TX19, 3), (RX7, T0, 0), (RX8, T0, 0), (RX11, T0, 0), (RX12, T0, 0), (RJ5, TJ5, 3), (RJ8, TJ8, 4), (RJ12, TJ12, 4), (RJ0, TJ0, 5)]
abbrev tysOf (dA : Nat → ClassId) : List (ClassId × FieldType) := [(dA 0, .int), (dA 1, .byte), (dA 2, .boolean), (dA 3, .short), (dA 4, .long), (dA 5, .object "java/lang/String"), (dA 6, .object "PartedSide$Barrack"), (dA 7, .object "PartedSide$Side"), (dA 8, .object "PartedSide$Law"), (dA 9, .object "PartedSide$Sum"), (dA 10, .object "java/lang/Object")]
def nnKind (w : Cond) : Bool := match w with
  | .methodLinkNest .. => true
  | .castable .. => true
  | .declares .. => true
  | _ => false
/-- the JDK's static fields that are read: where they lie is told by D -/
abbrev stL : List (String × String × String) := [("java/lang/String", "COMPACT_STRINGS", "Z"), ("java/lang/Throwable", "UNASSIGNED_STACK", "[Ljava/lang/StackTraceElement;"), ("java/lang/Throwable", "SUPPRESSED_SENTINEL", "Ljava/util/List;"), ("java/util/ArrayList", "DEFAULTCAPACITY_EMPTY_ELEMENTDATA", "[Ljava/lang/Object;"), ("jdk/internal/util/Preconditions", "SIOOBE_FORMATTER", "Ljava/util/function/BiFunction;")]
def ST (D : va_G) (U : State) : Prop := ∀ (i : Nat) (q : String × String × String), stL[i]? = some q → ∃ (cf : ClassId) (kf : Class) (fi : Nat) (f : Field), U.fieldFound? q.1 q.2.1 q.2.2 = some (cf, kf, fi, f) ∧ f.isStatic = true ∧ kf.init = .initialized ∧ kf.statics = some (D.2 100 i) ∧ f.slot = D.2 101 i
theorem ST.moved {D : va_G} {u U : State} (hvm : u.vm.Alike U.vm) (h : ST D u) : ST D U := fun i q hi => by
  obtain ⟨cf, kf, fi, f, h1, h2, h3, h4, h5⟩ := h i q hi
  obtain ⟨k', hi', he⟩ := State.fieldFound?_setVm hvm h1
  exact ⟨cf, k', fi, f, hi', h2, by rw [he]; exact h3, by rw [he]; exact h4, h5⟩
def stH (D : va_G) (H : Heap) (i : Nat) (v : Value) : Prop := ∃ cell : Cell, H[D.2 100 i]? = some cell ∧ cell.vm.isStatics = true ∧ cell.slots[D.2 101 i]? = some v
/-- the string constants that are loaded: where they lie is told by D -/
abbrev strL : List (String × Nat × String) := [("PartedSide$Fault", 1, ""), ("PartedSide$Tokens", 11, "sleeper"), ("PartedSide$Tokens", 13, "cold"), ("PartedSide$Tokens", 15, "lies"), ("PartedSide$Tokens", 17, "parts"), ("PartedSide$Tokens", 19, "chills"), ("PartedSide$Tokens", 21, "costs"), ("PartedSide$Tokens", 23, "ring"), ("PartedSide$Tokens", 25, "begins"), ("PartedSide$Tokens", 27, "seed"), ("PartedSide$Tokens", 29, "if"), ("PartedSide$Tokens", 31, "then"), ("PartedSide$Tokens", 33, "else"), ("PartedSide$Tokens", 35, "own"), ("PartedSide$Tokens", 37, "before"), ("PartedSide$Tokens", 39, "behind"), ("PartedSide$Tokens", 41, "habit"), ("PartedSide$Tokens", 43, "draft"), ("PartedSide$Tokens", 45, "hour"), ("PartedSide$Tokens", 47, "bed"), ("PartedSide$Tokens", 49, "many"), ("PartedSide$Tokens", 51, "parted")]
def SR (D : va_G) (U : State) : Prop := ∀ (i : Nat) (q : String × Nat × String), strL[i]? = some q → vk_R q.1 q.2.1 q.2.2 (D.2 102 i) U
/-- a private method is asked of an object of a class below -/
abbrev yEns : MethodName := ⟨"java/lang/AbstractStringBuilder", "ensureCapacityInternal", "(I)V"⟩
def PVs (U : State) : Prop := va_Nw (.selects "java/lang/StringBuilder" yEns yEns) U
theorem PVs.warm {s U : State} (hW : s.WarmedH U.vm) (h : PVs s) : PVs U := word_at hW (Or.inl (by first | rfl | simp [Cond.onTables, Cond.keeps, Cond.steady])) h
def NN (D : va_G) (U : State) : Prop := (∀ w ∈ lw_tbl, nnKind w = true → va_Nw w U) ∧ (∀ C : String, Cond.arrayOver (.object C) ∈ lw_tbl → va_AO C U) ∧ ST D U ∧ SR D U ∧ PVs U
theorem NN.warm {D : va_G} {s U : State} (hW : s.WarmedH U.vm) (h : NN D s) : NN D U := by
  refine ⟨fun w hw hk => ?_, fun C hC => va_AO.moved hW.alike (h.2.1 C hC), h.2.2.1.moved hW.alike, fun i q hi => vk_R.warm hW (h.2.2.2.1 i q hi), h.2.2.2.2.warm hW⟩
  have h1 := h.1 w hw hk
  cases w <;> first | exact va_Nw.warmM hW h1 | exact va_Nw.warmC hW h1 | exact va_Nw.warmD hW h1 | (exfalso; revert hk; simp [nnKind])
theorem NN.same {D : va_G} {u U : State} (hv : u.vm = U.vm) (h : NN D u) : NN D U := by
  refine ⟨fun w hw hk => ?_, fun C hC => va_AO.moved (by rw [hv]; exact Vm.Alike.refl _) (h.2.1 C hC), h.2.2.1.moved (by rw [hv]; exact Vm.Alike.refl _), fun i q hi => vk_R.same hv.symm (h.2.2.2.1 i q hi), va_Nw.same (by first | rfl | simp [Cond.onTables]) hv h.2.2.2.2⟩
  have h1 := h.1 w hw hk
  refine va_Nw.same ?_ hv h1
  cases w <;> first | rfl | (exfalso; revert hk; simp [nnKind])
theorem NN.of {D : va_G} {A : Array Value} {s : State} (h : ∀ w ∈ lw_tbl, w.before A s = true) (hT : ST D s) (hR : SR D s) (hP : PVs s) : NN D s := by
  refine ⟨fun w hw hk => ?_, fun C hC => va_AO.of (h _ hC), hT, hR, hP⟩
  refine va_Nw.of ?_ (h w hw)
  cases w <;> first | rfl | (exfalso; revert hk; simp [nnKind])
def KK (D : va_G) (dA : Nat → ClassId) (U : State) : Prop := va_K D CL (tysOf dA) U ∧ NN D U
theorem KK.warm {D : va_G} {dA : Nat → ClassId} {s U : State} (hW : s.WarmedH U.vm) (h : KK D dA s) : KK D dA U := ⟨h.1.moved hW.alike, h.2.warm hW⟩
theorem KK.same {D : va_G} {dA : Nat → ClassId} {u U : State} (hv : u.vm = U.vm) (h : KK D dA u) : KK D dA U := ⟨h.1.moved (by rw [hv]; exact Vm.Alike.refl _), h.2.same hv⟩
/-! contracts over an exact heap -/
/-- between two heaps nothing else has changed than A, and what is new -/
def Fr (A : Nat → Prop) (H H1 : Heap) : Prop := H.size ≤ H1.size ∧ ∀ q : Nat, q < H.size → ¬ A q → H1[q]? = H[q]?
theorem Fr.rf {A : Nat → Prop} {H : Heap} : Fr A H H := ⟨Nat.le_refl _, fun _ _ _ => rfl⟩
theorem Fr.mono {A B : Nat → Prop} {H H1 : Heap} (h : Fr A H H1) (hab : ∀ q, q < H.size → A q → B q) : Fr B H H1 := ⟨h.1, fun q h1 h2 => h.2 q h1 (fun z => h2 (hab q h1 z))⟩
theorem Fr.trans {A : Nat → Prop} {H H1 H2 : Heap} (h : Fr A H H1) (h2 : Fr A H1 H2) : Fr A H H2 := ⟨Nat.le_trans h.1 h2.1, fun q a b => (h2.2 q (Nat.lt_of_lt_of_le a h.1) b).trans (h.2 q a b)⟩
/-- one cell has changed -/
def On (a : Nat) (H H1 : Heap) : Prop := H1.size = H.size ∧ ∀ q : Nat, q ≠ a → H1[q]? = H[q]?
theorem On.fr {A : Nat → Prop} {a : Nat} {H H1 : Heap} (h : On a H H1) (ha : A a) : Fr A H H1 := ⟨Nat.le_of_eq h.1.symm, fun q _ hq => h.2 q (fun z => hq (by rw [z]; exact ha))⟩
theorem On.S {A : Nat → Prop} {a k : Nat} {H0 H H1 : Heap} {locs : List Loc} (h : On a H H1) (hS : va_S A H0 H locs) (ha : A a) : va_S A H0 H1 (locs ++ [⟨a, k⟩]) := hS.put h.1 h.2 ha
def cPc (D : va_G) (dA : Nat → ClassId) (av : List Value) (H0 : Heap) : Array Value → State → Prop := va_Pc av (fun U => KK D dA U ∧ U.heap = H0)
def cQc (A : Nat → Prop) (Q : Option Value → Heap → Prop) : Array Value → State → Outcome → State → Prop := fun _ st oc t => (∃ v : Option Value, oc = .returned v ∧ Q v t.heap) ∧ va_F A st t
def Ctr (l : Launch) (D : va_G) (dA : Nat → ClassId) (y : MethodName) (cc : ByteArray) (nL : Nat) (ret : Option FieldType) (rm : Room) (av : List Value) (H0 : Heap) (A : Nat → Prop) (Q : Option Value → Heap → Prop) : Prop :=
  Met l y (ws_ y cc nL ret) rm (cPc D dA av H0) (cQc A Q) rm.cells rm.slots A
abbrev QI (post : Int32 → Heap → Prop) : Option Value → Heap → Prop := fun v H1 => ∃ r : Int32, v = some (.int r) ∧ post r H1
abbrev QL (post : Int64 → Heap → Prop) : Option Value → Heap → Prop := fun v H1 => ∃ r : Int64, v = some (.long r) ∧ post r H1
abbrev QV (post : Heap → Prop) : Option Value → Heap → Prop := fun v H1 => v = none ∧ post H1
abbrev QR (post : Option Nat → Heap → Prop) : Option Value → Heap → Prop := fun v H1 => ∃ r : Option Nat, v = some (va_rf r) ∧ post r H1
abbrev mkRm (f n : Nat) : Room := { frames := f, cells := 0, slots := 0, locals := n }
abbrev mkRmC (f n k j : Nat) : Room := { frames := f, cells := k, slots := j, locals := n }
theorem cPc_blind {D : va_G} {dA : Nat → ClassId} {av : List Value} {H0 : Heap} : FrameBlind (cPc D dA av H0) := fun a U g mk q => ⟨q.1, KK.same (u := U) (U := U.calling g mk a) rfl q.2.1, q.2.2⟩
set_option maxHeartbeats 1000000 in
theorem ctr_of {l : Launch} {D : va_G} {dA : Nat → ClassId} {y : MethodName} {cc : ByteArray} {nL : Nat} {ret : Option FieldType} {rm : Room} {av : List Value} {H0 : Heap} {A : Nat → Prop} {Q : Option Value → Heap → Prop} (hy : plainName y.cls = true) (hn : (lg_sl av).length ≤ nL)
    (body : ∀ (p : Program) (e : Env) (s : State) (m : MethodId) (args : Array Value) (below : List Frame) (meth : Method) (c : Code) (ls : Array Slot), p.tables.exec = Jvm.exec → c.code = cc → c.maxLocals = nL → s.vm.findClass y.cls = some m.cls → (∀ w ∈ lw_all, w.before args s = true) → KK D dA s → meth.sig.returnType = ret → meth.locks = false → meth.name = y.name → va_S A H0 H0 [] → s.heap = H0 → lv_has ls nL (lv_args 0 av) →
      W p l e rm s m args below meth c H0 [] 0 0 (MQ below (cQc A Q) args s rm.cells rm.slots A) (F0 m 0 ls [])) : Ctr l D dA y cc nL ret rm av H0 A Q := by
  refine Met.ofW (cc := cc) (maxL := nL) (ret := ret) hy rfl ?_
  intro p e s m args below meth c s₁ B hml hv
  obtain ⟨rfl, hK, rfl⟩ := hv
  have hts := atoms_spec (ws := ws_ y cc nL ret) B.pre
  have hl := lv_entry av (n := nL) hn
  rw [lg_entry_eq]
  exact body p e s m _ below meth c _ B.exec B.bytes hml (findClass_of_methodNamed B.named) (fun w h => hts w (List.mem_cons_of_mem _ h)) hK B.returns B.notSynchronized (name_of_methodNamed B.named B.method).1 va_S.rf rfl hl
/-! GROUPS: cells o, o+1 ..; by a list of descriptions -/
abbrev GI : Type := Nat → Nat → Int32
abbrev GL : Type := Nat → Nat → Int64
abbrev GR : Type := Nat → Nat → Option Nat
/-- .inl (t, n): an array of type number t with n elements; .inr (ci, fields): an object of class number ci; a field .inl off: the cell o + off; .inr 0: the int V k j; .inr 1: the reference R k j -/
abbrev Dsc : Type := (Nat × Nat) ⊕ (Nat × List (Nat ⊕ Nat))
def gA (V : GI) (L : GL) (Rf : GR) (k t n : Nat) : vp_A := match t with
  | 0 => (n, .inl (V k))
  | 1 => (n, .inl (V k))
  | 2 => (n, .inl (V k))
  | 3 => (n, .inl (V k))
  | 4 => (n, .inr (.inl (L k)))
  | _ => (n, .inr (.inr (.inr (.inr (Rf k)))))
def gV (o : Nat) (V : GI) (Rf : GR) (k j : Nat) (f : Nat ⊕ Nat) : Value := match f with
  | .inl off => .ref (o + off)
  | .inr 0 => .int (V k j)
  | .inr _ => va_rf (Rf k j)
def gF (o : Nat) (V : GI) (Rf : GR) (k : Nat) : Nat → List (Nat ⊕ Nat) → List Value
  | _, [] => []
  | j, f :: fs => gV o V Rf k j f :: gF o V Rf k (j + 1) fs
def gE (dA : Nat → ClassId) (o : Nat) (V : GI) (L : GL) (Rf : GR) (k : Nat) (d : Dsc) : va_E := match d with
  | .inl x => .inl (dA x.1, gA V L Rf k x.1 x.2)
  | .inr x => .inr (x.1, gF o V Rf k 0 x.2)
def gP (D : va_G) (dA : Nat → ClassId) (o : Nat) (ds : List Dsc) (V : GI) (L : GL) (Rf : GR) (H : Heap) : Prop := ∀ (k : Nat) (d : Dsc), ds[k]? = some d → va_at D CL (o + k, gE dA o V L Rf k d) H
theorem gA_congr {V V' : GI} {L L' : GL} {Rf Rf' : GR} {k t n : Nat} (h1 : ∀ j, j < n → V k j = V' k j) (h2 : ∀ j, j < n → L k j = L' k j) (h3 : ∀ j, j < n → Rf k j = Rf' k j) (cA : ClassId) : vp_cell cA (gA V L Rf k t n) = vp_cell cA (gA V' L' Rf' k t n) := by
  unfold gA
  split <;> simp only [vp_cell, arrV] <;> congr 2 <;> funext j
  · rw [h1 _ j.2]
  · rw [h1 _ j.2]
  · rw [h1 _ j.2]
  · rw [h1 _ j.2]
  · rw [h2 _ j.2]
  · rw [h3 _ j.2]
theorem gF_congr {o : Nat} {V V' : GI} {Rf Rf' : GR} {k : Nat} : ∀ (fs : List (Nat ⊕ Nat)) (j : Nat), (∀ i, j ≤ i → i < j + fs.length → V k i = V' k i) → (∀ i, j ≤ i → i < j + fs.length → Rf k i = Rf' k i) → gF o V Rf k j fs = gF o V' Rf' k j fs
  | [], _, _, _ => rfl
  | f :: fs, j, h1, h3 => by
    unfold gF
    rw [gF_congr fs (j + 1) (fun i a b => h1 i (by omega) (by simp only [List.length_cons]; omega)) (fun i a b => h3 i (by omega) (by simp only [List.length_cons]; omega))]
    have e1 := h1 j (Nat.le_refl _) (by simp only [List.length_cons]; omega)
    have e3 := h3 j (Nat.le_refl _) (by simp only [List.length_cons]; omega)
    have : gV o V Rf k j f = gV o V' Rf' k j f := by
      unfold gV
      split
      · rfl
      · rw [e1]
      · rw [e3]
    rw [this]
theorem gF_get {o : Nat} {V : GI} {Rf : GR} {k : Nat} : ∀ (fs : List (Nat ⊕ Nat)) (j i : Nat), (gF o V Rf k j fs)[i]? = (fs[i]?).map (gV o V Rf k (j + i))
  | [], j, i => by simp [gF]
  | f :: fs, j, i => by
    unfold gF
    cases i with
    | zero => simp
    | succ i =>
      rw [List.getElem?_cons_succ, List.getElem?_cons_succ, gF_get fs (j + 1) i]
      rw [show j + 1 + i = j + (i + 1) by omega]
theorem gF_len {o : Nat} {V : GI} {Rf : GR} {k : Nat} (fs : List (Nat ⊕ Nat)) : ∀ j, (gF o V Rf k j fs).length = fs.length := by
  induction fs with
  | nil => intro j; rfl
  | cons f fs ih => intro j; simp [gF, ih]
/-- how much of a cell's content counts -/
def dLen (d : Dsc) : Nat := match d with
  | .inl x => x.2
  | .inr x => x.2.length
theorem gE_congr {D : va_G} {dA : Nat → ClassId} {o : Nat} {V V' : GI} {L L' : GL} {Rf Rf' : GR} {k : Nat} {d : Dsc} {H : Heap} (h1 : ∀ j, j < dLen d → V k j = V' k j) (h2 : ∀ j, j < dLen d → L k j = L' k j) (h3 : ∀ j, j < dLen d → Rf k j = Rf' k j) (h : va_at D CL (o + k, gE dA o V L Rf k d) H) : va_at D CL (o + k, gE dA o V' L' Rf' k d) H := by
  cases d with
  | inl x =>
    show H[o + k]? = some (vp_cell (dA x.1) (gA V' L' Rf' k x.1 x.2))
    have e := gA_congr (V := V) (V' := V') (L := L) (L' := L') (Rf := Rf) (Rf' := Rf') (k := k) (t := x.1) (n := x.2) h1 h2 h3 (dA x.1)
    rw [← e]
    exact h
  | inr x =>
    have e : gF o V Rf k 0 x.2 = gF o V' Rf' k 0 x.2 := gF_congr x.2 0 (fun i _ b => h1 i (by show i < x.2.length; omega)) (fun i _ b => h3 i (by show i < x.2.length; omega))
    show va_at D CL (o + k, .inr (x.1, gF o V' Rf' k 0 x.2)) H
    rw [← e]
    exact h
/-- what counts of the contents may be replaced -/
theorem gP.congr {D : va_G} {dA : Nat → ClassId} {o : Nat} {ds : List Dsc} {V V' : GI} {L L' : GL} {Rf Rf' : GR} {H : Heap} (h : gP D dA o ds V L Rf H) (h1 : ∀ k d, ds[k]? = some d → ∀ j, j < dLen d → V k j = V' k j) (h2 : ∀ k d, ds[k]? = some d → ∀ j, j < dLen d → L k j = L' k j) (h3 : ∀ k d, ds[k]? = some d → ∀ j, j < dLen d → Rf k j = Rf' k j) : gP D dA o ds V' L' Rf' H :=
  fun k d hd => gE_congr (h1 k d hd) (h2 k d hd) (h3 k d hd) (h k d hd)
theorem gP.lt {D : va_G} {dA : Nat → ClassId} {o : Nat} {ds : List Dsc} {V : GI} {L : GL} {Rf : GR} {H : Heap} (h : gP D dA o ds V L Rf H) {k : Nat} (hk : k < ds.length) : o + k < H.size := (h k _ (List.getElem?_eq_getElem hk)).lt
theorem gP.kept {D : va_G} {dA : Nat → ClassId} {o : Nat} {ds : List Dsc} {V : GI} {L : GL} {Rf : GR} {H H1 : Heap} (h : gP D dA o ds V L Rf H) (hq : ∀ k, k < ds.length → H1[o + k]? = H[o + k]?) : gP D dA o ds V L Rf H1 :=
  fun k d hd => (h k d hd).kept (hq k (List.getElem?_eq_some_iff.mp hd).1)
theorem gP.fr {D : va_G} {dA : Nat → ClassId} {o : Nat} {ds : List Dsc} {V : GI} {L : GL} {Rf : GR} {H H1 : Heap} {A : Nat → Prop} (h : gP D dA o ds V L Rf H) (hF : Fr A H H1) (hA : ∀ k, k < ds.length → ¬ A (o + k)) : gP D dA o ds V L Rf H1 :=
  h.kept fun k hk => hF.2 _ (h.lt hk) (hA k hk)
theorem gP.on {D : va_G} {dA : Nat → ClassId} {o a : Nat} {ds : List Dsc} {V : GI} {L : GL} {Rf : GR} {H H1 : Heap} (h : gP D dA o ds V L Rf H) (hF : On a H H1) (hA : ∀ k, k < ds.length → o + k ≠ a) : gP D dA o ds V L Rf H1 :=
  h.kept fun k hk => hF.2 _ (hA k hk)
theorem gP.set {D : va_G} {dA : Nat → ClassId} {o : Nat} {ds : List Dsc} {V V' : GI} {L L' : GL} {Rf Rf' : GR} {H H1 : Heap} (h : gP D dA o ds V L Rf H) {k : Nat} {d : Dsc} (hd : ds[k]? = some d) (hO : On (o + k) H H1) (h1 : ∀ i, i ≠ k → V' i = V i) (h2 : ∀ i, i ≠ k → L' i = L i) (h3 : ∀ i, i ≠ k → Rf' i = Rf i) (he : va_at D CL (o + k, gE dA o V' L' Rf' k d) H1) : gP D dA o ds V' L' Rf' H1 := by
  intro i d' hd'
  by_cases hi : i = k
  · subst hi
    rw [hd] at hd'
    cases hd'
    exact he
  · refine gE_congr (V := V) (L := L) (Rf := Rf) (fun j _ => by rw [h1 i hi]) (fun j _ => by rw [h2 i hi]) (fun j _ => by rw [h3 i hi]) ((h i d' hd').kept (hO.2 _ ?_))
    show o + i ≠ o + k
    omega
def up2 {α : Type} (V : Nat → Nat → α) (k j : Nat) (x : α) : Nat → Nat → α := fun k' j' => if k' = k then (if j' = j then x else V k' j') else V k' j'
theorem up2_o {α : Type} {V : Nat → Nat → α} {k j : Nat} {x : α} : ∀ i, i ≠ k → up2 V k j x i = V i := fun i hi => by funext j'; simp [up2, hi]
theorem up2_k {α : Type} {V : Nat → Nat → α} {k j : Nat} {x : α} : up2 V k j x k = va_up (V k) j x := by funext j'; simp [up2, va_up]
theorem up2_s {α : Type} {V : Nat → Nat → α} {k j : Nat} {x : α} : up2 V k j x k j = x := by simp [up2]
theorem up2_n {α : Type} {V : Nat → Nat → α} {k j i j' : Nat} {x : α} (h : ¬ (i = k ∧ j' = j)) : up2 V k j x i j' = V i j' := by
  unfold up2
  by_cases h1 : i = k
  · rw [if_pos h1, if_neg (fun e => h ⟨h1, e⟩)]
  · rw [if_neg h1]
theorem upd_up {f : Nat → Int32} {k : Nat} {x : Int32} : upd f k x = va_up f k x := rfl
/-! ROWS over groups -/
/-- what is known of a class: its words, its fields' types, its fields' names -/
def ClsOK (C : String) (T : u_T) (N : Nat) (ty : Nat → FieldType) : Prop := (∀ w ∈ u_ws C T N, w ∈ lw_all) ∧ (∀ k, k < N → parseFieldDescriptor (T k).2.2.1 = some (ty k)) ∧ ∀ a, a < N → ∀ b, b < N → a ≠ b → (T a).2.1 ≠ (T b).2.1
section GROWS
variable {p : Program} {l : Launch} {e : Env} {R : Room} {s : State} {m : MethodId} {args : Array Value} {below : List Frame} {meth : Method} {c : Code} {H : Heap} {locs : List Loc} {cells slots : Nat} {Q : State → Prop}
variable {cc : ByteArray} {pc : Nat} {ls : Array Slot} {rest : List Value} {D : va_G} {dA : Nat → ClassId} {o : Nat} {ds : List Dsc} {V : GI} {L : GL} {Rf : GR} {A : Nat → Prop} {H0 : Heap} {own : String}
/-- a field is read, of any cell -/
theorem x_get (hx : p.tables.exec = Jvm.exec) (hb : c.code = cc) (hts : ∀ w ∈ lw_all, w.before args s = true) (hown : s.vm.findClass own = some m.cls) (hK : KK D dA s) {C : String} {T : u_T} {N ci index a : Nat} {ty : Nat → FieldType} {fs : List Value} (hG : va_at D CL (a, .inr (ci, fs)) H) (hc : CL[ci]? = some (C, T, N)) (hC : ClsOK C T N ty) (j : Nat) (hj : j < N) (hq : Cond.fieldLink own index (T j).1 (T j).2.1 (T j).2.2.1 ∈ lw_all) {v : Value} (hv : fs[j]? = some v) (hdg : decode cc pc = .ok (.getfield index, 3))
    (kk : W p l e R s m args below meth c H locs cells slots Q (F0 m (pc + 3) ls (v :: rest))) : W p l e R s m args below meth c H locs cells slots Q (F0 m pc ls (.ref a :: rest)) := by
  have hP : va_P D CL [(a, .inr (ci, fs))] H := fun i q hi => by
    cases i with
    | zero => cases hi; exact hG
    | succ i => cases hi
  exact va_get hx hb hts hC.1 hown hK.1 hP 0 rfl hc j hj (hts _ hq) (fun _ h => h) hv hdg kk
theorem x_put (hx : p.tables.exec = Jvm.exec) (hb : c.code = cc) (hts : ∀ w ∈ lw_all, w.before args s = true) (hown : s.vm.findClass own = some m.cls) (hK : KK D dA s) {C : String} {T : u_T} {N ci index a : Nat} {ty : Nat → FieldType} {fs : List Value} (hG : va_at D CL (a, .inr (ci, fs)) H) (hc : CL[ci]? = some (C, T, N)) (hC : ClsOK C T N ty) (j : Nat) (hj : j < N) (hq : Cond.fieldLink own index (T j).1 (T j).2.1 (T j).2.2.1 ∈ lw_all) (hfin : (T j).2.2.2 = false ∨ ((T j).2.2.2 = true ∧ meth.name = "<init>" ∧ (T j).1 = own)) {v : Value} (hn : narrow (ty j) v = v) (hfit : fits (ty j) v = true) (hlen : j < fs.length) (hdg : decode cc pc = .ok (.putfield index, 3))
    (kk : ∀ (H1 : Heap) (i : Nat), va_at D CL (a, .inr (ci, fs.set j v)) H1 → On a H H1 → W p l e R s m args below meth c H1 (locs ++ [⟨a, i⟩]) cells slots Q (F0 m (pc + 3) ls rest)) : W p l e R s m args below meth c H locs cells slots Q (F0 m pc ls (v :: .ref a :: rest)) := by
  have hap := va_apart (own := own) hts hC.1 ty hC.2.1 hC.2.2 hK.1 hc
  obtain ⟨r, h1, cell, q1, q2, q3, q4⟩ := hG
  have hr : r = (C, T, N) := Option.some.inj (h1.symm.trans hc)
  subst hr
  obtain ⟨hS, hfc, kC, hkC, hkind⟩ := hK.1.1 ci _ hc
  obtain ⟨cf, kf, fi, f, hi, hsl⟩ := hS j hj
  have hlay := hts _ (hC.1 _ (u_in_lay hj))
  unfold u_lay at hlay
  have hst := (u_facts hfc hkC (u_lays hts hC.1 hj) hi).1
  have fin : ∀ H' : Heap, H'[a]? = some (cell.setSlot f.slot v) → H'.size = H.size → (∀ q, q ≠ a → H'[q]? = H[q]?) → W p l e R s m args below meth c H' (locs ++ [⟨a, f.slot⟩]) cells slots Q (F0 m (pc + 3) ls rest) := by
    intro H' e1 e2 e3
    rw [hsl] at e1
    exact kk H' f.slot ⟨_, hc, t_OB.to (V := updV (vp_V fs) j v) ⟨_, e1, q2, q3, t_set q4 hap hj v⟩ (fun i _ => vp_updV_set hlen v i)⟩ ⟨e2, e3⟩
  rcases hfin with hfin | ⟨hfin, hin2, hdecl⟩
  · rw [if_neg (by rw [hfin]; decide)] at hlay
    have h6 := u_store hfc hkC hkind hlay hi (hC.2.1 j hj) hn hfit
    exact W.putK hx hb (f := f) ⟨hown, hts _ hq, ⟨_, _, _, hi⟩, hst⟩ (by rw [q2]; exact h6) q1 q3 (by rw [hsl]; exact k2_hasslot (q4 j hj)) rfl rfl hdg fin
  · rw [if_pos hfin] at hlay
    have hcf : m.cls = cf := by
      obtain ⟨_, _, c', _, _, _, -, -, hf', -, -, -, hown2, -⟩ := Cond.laysFinal_spec hlay
      have e1 : c' = cf := by have := hi.symm.trans hf'; simp at this; exact this.1.symm
      rw [hdecl] at hown2
      rw [← e1]; exact Option.some.inj (hown.symm.trans hown2)
    have h6 := u_fits hfc hkC hkind (Or.inr hlay) hi (hC.2.1 j hj) hn hfit
    exact W.putFinK hx hb hown (hts _ hq) hi hst hcf hin2 (by rw [q2]; exact h6) q1 q3 (by rw [hsl]; exact k2_hasslot (q4 j hj)) rfl rfl hdg fin
/-- a field of a group's object is read -/
theorem g_get (hx : p.tables.exec = Jvm.exec) (hb : c.code = cc) (hts : ∀ w ∈ lw_all, w.before args s = true) (hown : s.vm.findClass own = some m.cls) (hK : KK D dA s) (hG : gP D dA o ds V L Rf H) (k : Nat) {C : String} {T : u_T} {N ci index : Nat} {ty : Nat → FieldType} {fs : List (Nat ⊕ Nat)} (hd : ds[k]? = some (.inr (ci, fs))) (hc : CL[ci]? = some (C, T, N)) (hC : ClsOK C T N ty) (j : Nat) (hj : j < N) (hq : Cond.fieldLink own index (T j).1 (T j).2.1 (T j).2.2.1 ∈ lw_all) {f : Nat ⊕ Nat} (hf : fs[j]? = some f) {v : Value} (hv : gV o V Rf k j f = v) (hdg : decode cc pc = .ok (.getfield index, 3))
    (kk : W p l e R s m args below meth c H locs cells slots Q (F0 m (pc + 3) ls (v :: rest))) : W p l e R s m args below meth c H locs cells slots Q (F0 m pc ls (.ref (o + k) :: rest)) := by
  refine x_get hx hb hts hown hK (hG k _ hd) hc hC j hj hq (v := v) ?_ hdg kk
  rw [gF_get, hf, Nat.zero_add, Option.map_some, hv]
theorem gF_set {o : Nat} {V V' : GI} {Rf Rf' : GR} {k : Nat} : ∀ (fs : List (Nat ⊕ Nat)) (i j : Nat) (v : Value), (∀ q, q ≠ i + j → V' k q = V k q) → (∀ q, q ≠ i + j → Rf' k q = Rf k q) → (∀ f, fs[j]? = some f → gV o V' Rf' k (i + j) f = v) → (gF o V Rf k i fs).set j v = gF o V' Rf' k i fs := by
  intro fs i j v h1 h3 hf
  apply List.ext_getElem?
  intro q
  rw [List.getElem?_set, gF_get, gF_get, gF_len]
  by_cases hq : j = q
  · subst hq
    rw [if_pos rfl]
    cases e : fs[j]? with
    | none =>
      have : fs.length ≤ j := List.getElem?_eq_none_iff.mp e
      rw [if_neg (by omega)]
      rfl
    | some f =>
      have : j < fs.length := (List.getElem?_eq_some_iff.mp e).1
      rw [if_pos this, Option.map_some, hf f e]
  · rw [if_neg hq]
    have a1 := h1 (i + q) (by omega)
    have a3 := h3 (i + q) (by omega)
    congr 1
    funext f
    unfold gV
    split
    · rfl
    · rw [a1]
    · rw [a3]
/-- an int field of a group's object is written -/
theorem g_put (hx : p.tables.exec = Jvm.exec) (hb : c.code = cc) (hts : ∀ w ∈ lw_all, w.before args s = true) (hown : s.vm.findClass own = some m.cls) (hK : KK D dA s) (hG : gP D dA o ds V L Rf H) (hS : va_S A H0 H locs) (k : Nat) (hA : A (o + k)) {C : String} {T : u_T} {N ci index : Nat} {ty : Nat → FieldType} {fs : List (Nat ⊕ Nat)} (hd : ds[k]? = some (.inr (ci, fs))) (hc : CL[ci]? = some (C, T, N)) (hC : ClsOK C T N ty) (j : Nat) (hj : j < N) (hq : Cond.fieldLink own index (T j).1 (T j).2.1 (T j).2.2.1 ∈ lw_all) (hf : fs[j]? = some (.inr 0)) (hfin : (T j).2.2.2 = false) {x : Int32} (hn : narrow (ty j) (.int x) = .int x) (hfit : fits (ty j) (.int x) = true) (hdg : decode cc pc = .ok (.putfield index, 3))
    (kk : ∀ (H1 : Heap) (locs1 : List Loc), gP D dA o ds (up2 V k j x) L Rf H1 → On (o + k) H H1 → va_S A H0 H1 locs1 → W p l e R s m args below meth c H1 locs1 cells slots Q (F0 m (pc + 3) ls rest)) : W p l e R s m args below meth c H locs cells slots Q (F0 m pc ls (.int x :: .ref (o + k) :: rest)) := by
  have hl : j < fs.length := (List.getElem?_eq_some_iff.mp hf).1
  refine x_put hx hb hts hown hK (hG k _ hd) hc hC j hj hq (Or.inl hfin) hn hfit (by rw [gF_len]; exact hl) hdg fun H1 i he hO => ?_
  refine kk H1 _ (hG.set hd hO up2_o (fun _ _ => rfl) (fun _ _ => rfl) ?_) hO (hO.S hS hA)
  have e : (gF o V Rf k 0 fs).set j (.int x) = gF o (up2 V k j x) Rf k 0 fs := by
    refine gF_set fs 0 j (.int x) (fun q hq => up2_n (fun z => hq (by omega))) (fun _ _ => rfl) (fun f hf' => ?_)
    rw [hf] at hf'
    cases hf'
    show Value.int (up2 V k j x k (0 + j)) = _
    rw [Nat.zero_add, up2_s]
  show va_at D CL (o + k, .inr (ci, gF o (up2 V k j x) Rf k 0 fs)) H1
  rw [← e]
  exact he
/-- a reference field of a group's object is written -/
theorem g_putR (hx : p.tables.exec = Jvm.exec) (hb : c.code = cc) (hts : ∀ w ∈ lw_all, w.before args s = true) (hown : s.vm.findClass own = some m.cls) (hK : KK D dA s) (hG : gP D dA o ds V L Rf H) (hS : va_S A H0 H locs) (k : Nat) (hA : A (o + k)) {C : String} {T : u_T} {N ci index : Nat} {ty : Nat → FieldType} {fs : List (Nat ⊕ Nat)} (hd : ds[k]? = some (.inr (ci, fs))) (hc : CL[ci]? = some (C, T, N)) (hC : ClsOK C T N ty) (j : Nat) (hj : j < N) (hq : Cond.fieldLink own index (T j).1 (T j).2.1 (T j).2.2.1 ∈ lw_all) (hf : fs[j]? = some (.inr 1)) (hfin : (T j).2.2.2 = false ∨ ((T j).2.2.2 = true ∧ meth.name = "<init>" ∧ (T j).1 = own)) {x : Nat} (hn : narrow (ty j) (.ref x) = .ref x) (hfit : fits (ty j) (.ref x) = true) (hdg : decode cc pc = .ok (.putfield index, 3))
    (kk : ∀ (H1 : Heap) (locs1 : List Loc), gP D dA o ds V L (up2 Rf k j (some x)) H1 → On (o + k) H H1 → va_S A H0 H1 locs1 → W p l e R s m args below meth c H1 locs1 cells slots Q (F0 m (pc + 3) ls rest)) : W p l e R s m args below meth c H locs cells slots Q (F0 m pc ls (.ref x :: .ref (o + k) :: rest)) := by
  have hl : j < fs.length := (List.getElem?_eq_some_iff.mp hf).1
  refine x_put hx hb hts hown hK (hG k _ hd) hc hC j hj hq hfin hn hfit (by rw [gF_len]; exact hl) hdg fun H1 i he hO => ?_
  refine kk H1 _ (hG.set hd hO (fun _ _ => rfl) (fun _ _ => rfl) up2_o ?_) hO (hO.S hS hA)
  have e : (gF o V Rf k 0 fs).set j (.ref x) = gF o V (up2 Rf k j (some x)) k 0 fs := by
    refine gF_set fs 0 j (.ref x) (fun _ _ => rfl) (fun q hq => up2_n (fun z => hq (by omega))) (fun f hf' => ?_)
    rw [hf] at hf'
    cases hf'
    show va_rf (up2 Rf k j (some x) k (0 + j)) = _
    rw [Nat.zero_add, up2_s]
    rfl
  show va_at D CL (o + k, .inr (ci, gF o V (up2 Rf k j (some x)) k 0 fs)) H1
  rw [← e]
  exact he
/-! arrays of a group -/
theorem g_iald (hx : p.tables.exec = Jvm.exec) (hb : c.code = cc) (hK : KK D dA s) (hG : gP D dA o ds V L Rf H) (k : Nat) {n : Nat} (hd : ds[k]? = some (.inl (0, n))) {i : Int32} (hin : vp_in i n) (hdg : decode cc pc = .ok (.iaload, 1))
    (kk : W p l e R s m args below meth c H locs cells slots Q (F0 m (pc + 1) ls (.int (V k i.toNatClampNeg) :: rest))) : W p l e R s m args below meth c H locs cells slots Q (F0 m pc ls (.int i :: .ref (o + k) :: rest)) := by
  have hP : va_P D CL [(o + k, .inl (dA 0, n, .inl (V k)))] H := fun i q hi => by
    cases i with
    | zero => cases hi; exact hG k _ hd
    | succ i => cases hi
  exact va_iald hx hb hK.1 hP 0 0 rfl rfl hin hdg kk
theorem g_bald (hx : p.tables.exec = Jvm.exec) (hb : c.code = cc) (hK : KK D dA s) (hG : gP D dA o ds V L Rf H) (k : Nat) {n : Nat} (hd : ds[k]? = some (.inl (1, n))) {i : Int32} (hin : vp_in i n) (hdg : decode cc pc = .ok (.baload, 1))
    (kk : W p l e R s m args below meth c H locs cells slots Q (F0 m (pc + 1) ls (.int (V k i.toNatClampNeg) :: rest))) : W p l e R s m args below meth c H locs cells slots Q (F0 m pc ls (.int i :: .ref (o + k) :: rest)) := by
  have hP : va_P D CL [(o + k, .inl (dA 1, n, .inl (V k)))] H := fun i q hi => by
    cases i with
    | zero => cases hi; exact hG k _ hd
    | succ i => cases hi
  exact va_bald hx hb hK.1 hP 0 1 rfl rfl hin hdg kk
theorem g_zald (hx : p.tables.exec = Jvm.exec) (hb : c.code = cc) (hK : KK D dA s) (hG : gP D dA o ds V L Rf H) (k : Nat) {n : Nat} (hd : ds[k]? = some (.inl (2, n))) {i : Int32} (hin : vp_in i n) (hdg : decode cc pc = .ok (.baload, 1))
    (kk : W p l e R s m args below meth c H locs cells slots Q (F0 m (pc + 1) ls (.int (V k i.toNatClampNeg) :: rest))) : W p l e R s m args below meth c H locs cells slots Q (F0 m pc ls (.int i :: .ref (o + k) :: rest)) := by
  have hP : va_P D CL [(o + k, .inl (dA 2, n, .inl (V k)))] H := fun i q hi => by
    cases i with
    | zero => cases hi; exact hG k _ hd
    | succ i => cases hi
  exact va_zald hx hb hK.1 hP 0 2 rfl rfl hin hdg kk
theorem g_sald (hx : p.tables.exec = Jvm.exec) (hb : c.code = cc) (hK : KK D dA s) (hG : gP D dA o ds V L Rf H) (k : Nat) {n : Nat} (hd : ds[k]? = some (.inl (3, n))) {i : Int32} (hin : vp_in i n) (hdg : decode cc pc = .ok (.saload, 1))
    (kk : W p l e R s m args below meth c H locs cells slots Q (F0 m (pc + 1) ls (.int (V k i.toNatClampNeg) :: rest))) : W p l e R s m args below meth c H locs cells slots Q (F0 m pc ls (.int i :: .ref (o + k) :: rest)) := by
  have hP : va_P D CL [(o + k, .inl (dA 3, n, .inl (V k)))] H := fun i q hi => by
    cases i with
    | zero => cases hi; exact hG k _ hd
    | succ i => cases hi
  exact va_sald hx hb hK.1 hP 0 3 rfl rfl hin hdg kk
theorem g_lald (hx : p.tables.exec = Jvm.exec) (hb : c.code = cc) (hK : KK D dA s) (hG : gP D dA o ds V L Rf H) (k : Nat) {n : Nat} (hd : ds[k]? = some (.inl (4, n))) {i : Int32} (hin : vp_in i n) (hdg : decode cc pc = .ok (.laload, 1))
    (kk : W p l e R s m args below meth c H locs cells slots Q (F0 m (pc + 1) ls (.long (L k i.toNatClampNeg) :: rest))) : W p l e R s m args below meth c H locs cells slots Q (F0 m pc ls (.int i :: .ref (o + k) :: rest)) := by
  have hP : va_P D CL [(o + k, .inl (dA 4, n, .inr (.inl (L k))))] H := fun i q hi => by
    cases i with
    | zero => cases hi; exact hG k _ hd
    | succ i => cases hi
  exact va_lald hx hb hK.1 hP 0 4 rfl rfl hin hdg kk
theorem g_iast (hx : p.tables.exec = Jvm.exec) (hb : c.code = cc) (hK : KK D dA s) (hG : gP D dA o ds V L Rf H) (hS : va_S A H0 H locs) (k : Nat) (hA : A (o + k)) {n : Nat} (hd : ds[k]? = some (.inl (0, n))) {i x : Int32} (hin : vp_in i n) (hdg : decode cc pc = .ok (.iastore, 1))
    (kk : ∀ (H1 : Heap) (locs1 : List Loc), gP D dA o ds (up2 V k i.toNatClampNeg x) L Rf H1 → On (o + k) H H1 → va_S A H0 H1 locs1 → W p l e R s m args below meth c H1 locs1 cells slots Q (F0 m (pc + 1) ls rest)) : W p l e R s m args below meth c H locs cells slots Q (F0 m pc ls (.int x :: .int i :: .ref (o + k) :: rest)) := by
  have ha : H[o + k]? = some (vp_cell (dA 0) (n, .inl (V k))) := hG k _ hd
  have hT : (tysOf dA)[0]? = some (dA 0, .int) := rfl
  refine W.iast hx hb ha ((hK.1.2 0 _ hT).1 n (fun j => .int (V k j))) (fun q => by cases q) (by show ¬ (i < 0 ∨ (arrV _ _ _).slots.size ≤ _); rw [arrV_size]; exact hin) rfl rfl hdg fun H1 e z oq => ?_
  have hO : On (o + k) H H1 := ⟨z, oq⟩
  refine kk H1 _ (hG.set hd hO up2_o (fun _ _ => rfl) (fun _ _ => rfl) ?_) hO (hO.S hS hA)
  show H1[o + k]? = some (vp_cell (dA 0) (n, .inl (up2 V k i.toNatClampNeg x k)))
  rw [e, up2_k, vp_cell_i, vp_cell_i, arrV_store]
  congr 2
  funext q
  by_cases hq : q = i.toNatClampNeg
  · subst hq
    simp [updV, va_up]
  · simp [updV, va_up, hq]
theorem g_bast (hx : p.tables.exec = Jvm.exec) (hb : c.code = cc) (hK : KK D dA s) (hG : gP D dA o ds V L Rf H) (hS : va_S A H0 H locs) (k : Nat) (hA : A (o + k)) {n : Nat} (hd : ds[k]? = some (.inl (1, n))) {i x : Int32} (hin : vp_in i n) (hdg : decode cc pc = .ok (.bastore, 1))
    (kk : ∀ (H1 : Heap) (locs1 : List Loc), gP D dA o ds (up2 V k i.toNatClampNeg (vp_nar .byte x)) L Rf H1 → On (o + k) H H1 → va_S A H0 H1 locs1 → W p l e R s m args below meth c H1 locs1 cells slots Q (F0 m (pc + 1) ls rest)) : W p l e R s m args below meth c H locs cells slots Q (F0 m pc ls (.int x :: .int i :: .ref (o + k) :: rest)) := by
  have ha : H[o + k]? = some (vp_cell (dA 1) (n, .inl (V k))) := hG k _ hd
  have hT : (tysOf dA)[1]? = some (dA 1, .byte) := rfl
  refine W.bast hx hb ha ((hK.1.2 1 _ hT).1 n (fun j => .int (V k j))) (fun q => by cases q) (by show ¬ (i < 0 ∨ (arrV _ _ _).slots.size ≤ _); rw [arrV_size]; exact hin) rfl rfl hdg fun H1 e z oq => ?_
  have hO : On (o + k) H H1 := ⟨z, oq⟩
  refine kk H1 _ (hG.set hd hO up2_o (fun _ _ => rfl) (fun _ _ => rfl) ?_) hO (hO.S hS hA)
  show H1[o + k]? = some (vp_cell (dA 1) (n, .inl (up2 V k i.toNatClampNeg (vp_nar .byte x) k)))
  rw [e, up2_k, vp_cell_i, vp_cell_i, arrV_store]
  congr 2
  funext q
  by_cases hq : q = i.toNatClampNeg
  · subst hq
    simp [updV, va_up, vp_nar, narrow]
  · simp [updV, va_up, hq]
theorem g_zast (hx : p.tables.exec = Jvm.exec) (hb : c.code = cc) (hK : KK D dA s) (hG : gP D dA o ds V L Rf H) (hS : va_S A H0 H locs) (k : Nat) (hA : A (o + k)) {n : Nat} (hd : ds[k]? = some (.inl (2, n))) {i x : Int32} (hin : vp_in i n) (hdg : decode cc pc = .ok (.bastore, 1))
    (kk : ∀ (H1 : Heap) (locs1 : List Loc), gP D dA o ds (up2 V k i.toNatClampNeg (vp_nar .boolean x)) L Rf H1 → On (o + k) H H1 → va_S A H0 H1 locs1 → W p l e R s m args below meth c H1 locs1 cells slots Q (F0 m (pc + 1) ls rest)) : W p l e R s m args below meth c H locs cells slots Q (F0 m pc ls (.int x :: .int i :: .ref (o + k) :: rest)) := by
  have ha : H[o + k]? = some (vp_cell (dA 2) (n, .inl (V k))) := hG k _ hd
  have hT : (tysOf dA)[2]? = some (dA 2, .boolean) := rfl
  refine W.zast hx hb ha ((hK.1.2 2 _ hT).1 n (fun j => .int (V k j))) (fun q => by cases q) (by show ¬ (i < 0 ∨ (arrV _ _ _).slots.size ≤ _); rw [arrV_size]; exact hin) rfl rfl hdg fun H1 e z oq => ?_
  have hO : On (o + k) H H1 := ⟨z, oq⟩
  refine kk H1 _ (hG.set hd hO up2_o (fun _ _ => rfl) (fun _ _ => rfl) ?_) hO (hO.S hS hA)
  show H1[o + k]? = some (vp_cell (dA 2) (n, .inl (up2 V k i.toNatClampNeg (vp_nar .boolean x) k)))
  rw [e, up2_k, vp_cell_i, vp_cell_i, arrV_store]
  congr 2
  funext q
  by_cases hq : q = i.toNatClampNeg
  · subst hq
    simp [updV, va_up, vp_nar, narrow]
  · simp [updV, va_up, hq]
theorem g_sast (hx : p.tables.exec = Jvm.exec) (hb : c.code = cc) (hK : KK D dA s) (hG : gP D dA o ds V L Rf H) (hS : va_S A H0 H locs) (k : Nat) (hA : A (o + k)) {n : Nat} (hd : ds[k]? = some (.inl (3, n))) {i x : Int32} (hin : vp_in i n) (hdg : decode cc pc = .ok (.sastore, 1))
    (kk : ∀ (H1 : Heap) (locs1 : List Loc), gP D dA o ds (up2 V k i.toNatClampNeg (vp_nar .short x)) L Rf H1 → On (o + k) H H1 → va_S A H0 H1 locs1 → W p l e R s m args below meth c H1 locs1 cells slots Q (F0 m (pc + 1) ls rest)) : W p l e R s m args below meth c H locs cells slots Q (F0 m pc ls (.int x :: .int i :: .ref (o + k) :: rest)) := by
  have ha : H[o + k]? = some (vp_cell (dA 3) (n, .inl (V k))) := hG k _ hd
  have hT : (tysOf dA)[3]? = some (dA 3, .short) := rfl
  refine W.sast hx hb ha ((hK.1.2 3 _ hT).1 n (fun j => .int (V k j))) (fun q => by cases q) (by show ¬ (i < 0 ∨ (arrV _ _ _).slots.size ≤ _); rw [arrV_size]; exact hin) rfl rfl hdg fun H1 e z oq => ?_
  have hO : On (o + k) H H1 := ⟨z, oq⟩
  refine kk H1 _ (hG.set hd hO up2_o (fun _ _ => rfl) (fun _ _ => rfl) ?_) hO (hO.S hS hA)
  show H1[o + k]? = some (vp_cell (dA 3) (n, .inl (up2 V k i.toNatClampNeg (vp_nar .short x) k)))
  rw [e, up2_k, vp_cell_i, vp_cell_i, arrV_store]
  congr 2
  funext q
  by_cases hq : q = i.toNatClampNeg
  · subst hq
    simp [updV, va_up, vp_nar, narrow]
  · simp [updV, va_up, hq]
theorem g_last (hx : p.tables.exec = Jvm.exec) (hb : c.code = cc) (hK : KK D dA s) (hG : gP D dA o ds V L Rf H) (hS : va_S A H0 H locs) (k : Nat) (hA : A (o + k)) {n : Nat} (hd : ds[k]? = some (.inl (4, n))) {i : Int32} {x : Int64} (hin : vp_in i n) (hdg : decode cc pc = .ok (.lastore, 1))
    (kk : ∀ (H1 : Heap) (locs1 : List Loc), gP D dA o ds V (up2 L k i.toNatClampNeg x) Rf H1 → On (o + k) H H1 → va_S A H0 H1 locs1 → W p l e R s m args below meth c H1 locs1 cells slots Q (F0 m (pc + 1) ls rest)) : W p l e R s m args below meth c H locs cells slots Q (F0 m pc ls (.long x :: .int i :: .ref (o + k) :: rest)) := by
  have ha : H[o + k]? = some (vp_cell (dA 4) (n, .inr (.inl (L k)))) := hG k _ hd
  have hT : (tysOf dA)[4]? = some (dA 4, .long) := rfl
  refine W.last hx hb ha ((hK.1.2 4 _ hT).1 n (fun j => .long (L k j))) (fun q => by cases q) (by show ¬ (i < 0 ∨ (arrV _ _ _).slots.size ≤ _); rw [arrV_size]; exact hin) rfl rfl hdg fun H1 e z oq => ?_
  have hO : On (o + k) H H1 := ⟨z, oq⟩
  refine kk H1 _ (hG.set hd hO (fun _ _ => rfl) up2_o (fun _ _ => rfl) ?_) hO (hO.S hS hA)
  show H1[o + k]? = some (vp_cell (dA 4) (n, .inr (.inl (up2 L k i.toNatClampNeg x k))))
  rw [e, up2_k, vp_cell_l, vp_cell_l, arrV_store]
  congr 2
  funext q
  by_cases hq : q = i.toNatClampNeg
  · subst hq
    simp [updV, va_up]
  · simp [updV, va_up, hq]
/-- an array's length, of any cell -/
theorem x_alen (hx : p.tables.exec = Jvm.exec) (hb : c.code = cc) (hK : KK D dA s) {a : Nat} {xa : vp_A} (t : Nat) {ty : FieldType} (hG : va_at D CL (a, .inl (dA t, xa)) H) (ht : (tysOf dA)[t]? = some (dA t, ty)) {v : Int32} (hv : Int32.ofNat xa.1 = v) (hdg : decode cc pc = .ok (.arraylength, 1))
    (kk : W p l e R s m args below meth c H locs cells slots Q (F0 m (pc + 1) ls (.int v :: rest))) : W p l e R s m args below meth c H locs cells slots Q (F0 m pc ls (.ref a :: rest)) := by
  have hP : va_P D CL [(a, .inl (dA t, xa))] H := fun i q hi => by
    cases i with
    | zero => cases hi; exact hG
    | succ i => cases hi
  exact va_alen hx hb hK.1 hP 0 t rfl ht hv hdg kk
/-- an element of an array of references, of any cell -/
theorem x_aald (hx : p.tables.exec = Jvm.exec) (hb : c.code = cc) (hK : KK D dA s) {a n : Nat} {f : Nat → Option Nat} (t : Nat) {C : String} (hG : va_at D CL (a, .inl (dA t, n, .inr (.inr (.inr (.inr f))))) H) (ht : (tysOf dA)[t]? = some (dA t, .object C)) {i : Int32} (hin : vp_in i n) (hdg : decode cc pc = .ok (.aaload, 1))
    (kk : W p l e R s m args below meth c H locs cells slots Q (F0 m (pc + 1) ls (va_rf (f i.toNatClampNeg) :: rest))) : W p l e R s m args below meth c H locs cells slots Q (F0 m pc ls (.int i :: .ref a :: rest)) := by
  have hP : va_P D CL [(a, .inl (dA t, n, .inr (.inr (.inr (.inr f)))))] H := fun i q hi => by
    cases i with
    | zero => cases hi; exact hG
    | succ i => cases hi
  exact va_aldq hx hb hK.1 hP 0 t rfl ht hin hdg kk
end GROWS
/-! CALLS and ENDS -/
section GCALL
variable {p : Program} {l : Launch} {e : Env} {R : Room} {s : State} {m : MethodId} {args : Array Value} {below : List Frame} {meth : Method} {c : Code} {H : Heap} {locs : List Loc} {cells slots : Nat} {Q : State → Prop}
variable {cc cc' : ByteArray} {pc nL nL' : Nat} {ls : Array Slot} {rest st : List Value} {D : va_G} {dA : Nat → ClassId} {A A1 : Nat → Prop} {H0 : Heap} {own C : String} {y : MethodName} {ret : Option FieldType} {rm : Room} {As : List Value} {n index b : Nat} {post : Option Value → Heap → Prop}
/-- behind a call, from its run -/
theorem c_done {a : Array Value} {st0 : List Value} (hr : va_Run p l e R s m args below meth c H locs cells slots rm.cells rm.slots (F0 m pc ls st0) rest (cQc A1 post a) A1) (hS : va_S A H0 H locs) (hA : ∀ q, A1 q → A q)
    (kk : ∀ (v : Option Value) (H1 : Heap) (locs1 : List Loc), post v H1 → Fr A1 H H1 → va_S A H0 H1 locs1 → W p l e R s m args below meth c H1 locs1 (cells + rm.cells) (slots + rm.slots) Q (F0 m (pc + 3) ls (v.toList ++ rest))) : W p l e R s m args below meth c H locs cells slots Q (F0 m pc ls st0) := by
  intro T hT X
  obtain ⟨v, st₀, t, T', L, h0, X', hL, e1, e2, ⟨⟨w, hv, hp⟩, hz, hk⟩, stp⟩ := hr T hT X
  cases hv
  rw [h0] at hz hk
  obtain ⟨t2, a1, b1⟩ := kk v T'.heap (locs ++ L) (by rw [e1]; exact hp) ⟨by rw [e1]; exact hz, fun q h1 h2 => by rw [e1]; exact hk q h1 h2⟩
    ⟨Nat.le_trans hS.1 (by rw [e1]; exact hz), fun q h1 h2 => by rw [e1, hk q (Nat.lt_of_lt_of_le h1 hS.1) (fun z => h2 (hA q z))]; exact hS.2.1 q h1 h2, fun q hq => by
      rcases List.mem_append.mp hq with h | h
      · exact hS.2.2 q h
      · exact hA _ (hL q h)⟩ T' rfl X'
  exact ⟨t2, stp t2 a1, b1⟩
theorem c_preS (hK : KK D dA s) : PreS s H (cPc D dA As H) As := ⟨cPc_blind, fun U hU hW => ⟨rfl, hK.warm hW, hU⟩⟩
theorem c_preV (hK : KK D dA s) {fs : List Value} {ci : Nat} {q : vw_C} (hat : va_at D CL (b, .inr (ci, fs)) H) (hc : CL[ci]? = some q) : PreV s H q.1 b (cPc D dA (.ref b :: As) H) As := by
  have hP : va_P D CL [(b, .inr (ci, fs))] H := fun i q hi => by
    cases i with
    | zero => cases hi; exact hat
    | succ i => cases hi
  exact ⟨cPc_blind, va_recv hK.1 hP hc (q0 := 0) rfl, fun U hU hW => ⟨rfl, hK.warm hW, hU⟩⟩
/-- invokevirtual -/
theorem c_V (hx : p.tables.exec = Jvm.exec) (hb : c.code = cc) (hml : c.maxLocals = nL) (hts : ∀ w ∈ lw_all, w.before args s = true) (hown : s.vm.findClass own = some m.cls) (hK : KK D dA s) (hl : ls.size = nL) (hS : va_S A H0 H locs)
    (hM : Ctr l D dA y cc' nL' ret rm (.ref b :: As) H A1 post) (cw : CallW R s args own C index y cc' nL' ret (ws_ y cc' nL' ret) rm rm.cells rm.slots n) {fs : List Value} {ci : Nat} {q : vw_C} (hat : va_at D CL (b, .inr (ci, fs)) H) (hc : CL[ci]? = some q) (hq : q.1 = C) (hn : As.length = n) (hstack : st = As.reverse ++ .ref b :: rest) (hW : (rest.map fun v => v.category).sum ≤ 8) (hdg : decode cc pc = .ok (.invokevirtual index, 3)) (hA : ∀ q, A1 q → A q) (hroom : cells + rm.cells ≤ R.cells ∧ slots + rm.slots ≤ R.slots)
    (kk : ∀ (v : Option Value) (H1 : Heap) (locs1 : List Loc), post v H1 → Fr A1 H H1 → va_S A H0 H1 locs1 → W p l e R s m args below meth c H1 locs1 (cells + rm.cells) (slots + rm.slots) Q (F0 m (pc + 3) ls (v.toList ++ rest))) : W p l e R s m args below meth c H locs cells slots Q (F0 m pc ls st) := by
  subst hstack; subst hq
  exact c_done (va_runV ⟨hx, hb, hml, hown, hts⟩ hM cw (c_preV hK hat hc) rfl hn hl rfl (lv_room hW) hdg hroom) hS hA kk
/-- invokestatic -/
theorem c_S (hx : p.tables.exec = Jvm.exec) (hb : c.code = cc) (hml : c.maxLocals = nL) (hts : ∀ w ∈ lw_all, w.before args s = true) (hown : s.vm.findClass own = some m.cls) (hK : KK D dA s) (hl : ls.size = nL) (hS : va_S A H0 H locs)
    (hM : Ctr l D dA y cc' nL' ret rm As H A1 post) (cw : CallB R s args own index y cc' nL' ret (ws_ y cc' nL' ret) rm rm.cells rm.slots n ∧ (Cond.static y).before args s = true) (hn : As.length = n) (hstack : st = As.reverse ++ rest) (hW : (rest.map fun v => v.category).sum ≤ 8) (hdg : decode cc pc = .ok (.invokestatic index, 3)) (hA : ∀ q, A1 q → A q) (hroom : cells + rm.cells ≤ R.cells ∧ slots + rm.slots ≤ R.slots)
    (kk : ∀ (v : Option Value) (H1 : Heap) (locs1 : List Loc), post v H1 → Fr A1 H H1 → va_S A H0 H1 locs1 → W p l e R s m args below meth c H1 locs1 (cells + rm.cells) (slots + rm.slots) Q (F0 m (pc + 3) ls (v.toList ++ rest))) : W p l e R s m args below meth c H locs cells slots Q (F0 m pc ls st) := by
  subst hstack
  exact c_done (va_runS ⟨hx, hb, hml, hown, hts⟩ hM cw (c_preS hK) rfl hn hl rfl (lv_room hW) hdg hroom) hS hA kk
/-- invokespecial <init> -/
theorem c_I (hx : p.tables.exec = Jvm.exec) (hb : c.code = cc) (hml : c.maxLocals = nL) (hts : ∀ w ∈ lw_all, w.before args s = true) (hown : s.vm.findClass own = some m.cls) (hK : KK D dA s) (hl : ls.size = nL) (hS : va_S A H0 H locs)
    (hM : Ctr l D dA y cc' nL' none rm (.ref b :: As) H A1 post) (cw : CallB R s args own index y cc' nL' none (ws_ y cc' nL' none) rm rm.cells rm.slots n ∧ y.name = "<init>" ∧ (Cond.instanceMethod y).before args s = true) (hn : As.length = n) (hstack : st = As.reverse ++ .ref b :: rest) (hW : (rest.map fun v => v.category).sum ≤ 8) (hdg : decode cc pc = .ok (.invokespecial index, 3)) (hA : ∀ q, A1 q → A q) (hroom : cells + rm.cells ≤ R.cells ∧ slots + rm.slots ≤ R.slots)
    (kk : ∀ (v : Option Value) (H1 : Heap) (locs1 : List Loc), post v H1 → Fr A1 H H1 → va_S A H0 H1 locs1 → W p l e R s m args below meth c H1 locs1 (cells + rm.cells) (slots + rm.slots) Q (F0 m (pc + 3) ls (v.toList ++ rest))) : W p l e R s m args below meth c H locs cells slots Q (F0 m pc ls st) := by
  subst hstack
  exact c_done (va_runI ⟨hx, hb, hml, hown, hts⟩ hM cw (c_preS hK) rfl hn hl rfl (lv_room hW) hdg hroom) hS hA kk
theorem e_Q {v : Option Value} {post : Option Value → Heap → Prop} (hs : s.heap = H0) (hS : va_S A H0 H locs) (hq : post v H) : ∀ t : State, t.heap = H → s.WarmedH t.vm → cQc A post args s (.returned v) t := fun t ht _ => ⟨⟨v, rfl, by rw [ht]; exact hq⟩, by rw [va_F, ht, hs]; exact ⟨hS.1, hS.2.1⟩⟩
theorem e_i {v : Int32} (hx : p.tables.exec = Jvm.exec) (hb : c.code = cc) (hr : meth.sig.returnType = some .int) (hlk : meth.locks = false) (hs : s.heap = H0) (hS : va_S A H0 H locs) (hdg : decode cc pc = .ok (.ireturn, 1)) (hq : post (some (.int v)) H) : W p l e R s m args below meth c H locs cells slots (MQ below (cQc A post) args s cells slots A) (F0 m pc ls [.int v]) :=
  W.iret hx hb hr (e_Q hs hS hq) hS.2.2 hdg (hlocks := hlk)
theorem e_z {v : Int32} (hx : p.tables.exec = Jvm.exec) (hb : c.code = cc) (hr : meth.sig.returnType = some .boolean) (hlk : meth.locks = false) (hs : s.heap = H0) (hS : va_S A H0 H locs) (hdg : decode cc pc = .ok (.ireturn, 1)) (hn : narrow .boolean (.int v) = .int v) (hq : post (some (.int v)) H) : W p l e R s m args below meth c H locs cells slots (MQ below (cQc A post) args s cells slots A) (F0 m pc ls [.int v]) :=
  W.zret hx hb hr hn (e_Q hs hS hq) hS.2.2 hdg (hlocks := hlk)
theorem e_l {v : Int64} (hx : p.tables.exec = Jvm.exec) (hb : c.code = cc) (hr : meth.sig.returnType = some .long) (hlk : meth.locks = false) (hs : s.heap = H0) (hS : va_S A H0 H locs) (hdg : decode cc pc = .ok (.lreturn, 1)) (hq : post (some (.long v)) H) : W p l e R s m args below meth c H locs cells slots (MQ below (cQc A post) args s cells slots A) (F0 m pc ls [.long v]) :=
  W.lret hx hb hr (e_Q hs hS hq) hS.2.2 hdg (hlocks := hlk)
theorem e_v (hx : p.tables.exec = Jvm.exec) (hb : c.code = cc) (hr : meth.sig.returnType = none) (hlk : meth.locks = false) (hs : s.heap = H0) (hS : va_S A H0 H locs) (hdg : decode cc pc = .ok (.return_, 1)) (hq : post none H) : W p l e R s m args below meth c H locs cells slots (MQ below (cQc A post) args s cells slots A) (F0 m pc ls []) :=
  W.vret hx hb hr (e_Q hs hS hq) hS.2.2 hdg (hlocks := hlk)
theorem e_a {v : Value} {rt : FieldType} (hx : p.tables.exec = Jvm.exec) (hb : c.code = cc) (hr : meth.sig.returnType = some rt) (hlk : meth.locks = false) (hs : s.heap = H0) (hS : va_S A H0 H locs) (hrt : (∃ n, rt = .object n) ∨ ∃ t, rt = .array t) (hv : v = .null ∨ ∃ a, v = .ref a) (hdg : decode cc pc = .ok (.areturn, 1)) (hq : post (some v) H) : W p l e R s m args below meth c H locs cells slots (MQ below (cQc A post) args s cells slots A) (F0 m pc ls [v]) :=
  W.aret hx hb hr hrt hv (e_Q hs hS hq) hS.2.2 hdg (hlocks := hlk)
end GCALL
