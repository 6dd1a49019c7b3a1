/-! static fields of the JDK, casts of strings; contracts that return or throw -/
section GETS
variable {p : Program} {l : Launch} {e : Env} {R : Room} {s : State} {m : MethodId} {args : Array Value} {below : List Frame} {meth : Method} {c : Code} {H : Heap} {locs : List Loc} {cells slots : Nat} {Q : State → Prop}
variable {cc : ByteArray} {pc : Nat} {ls : Array Slot} {rest : List Value} {D : va_G} {dA : Nat → ClassId} {own : String} {index : Nat}
theorem x_gets (hx : p.tables.exec = Jvm.exec) (hb : c.code = cc) (hts : ∀ w ∈ lw_all, w.before args s = true) (hown : s.vm.findClass own = some m.cls) (hK : KK D dA s) (i : Nat) {q : String × String × String} (hi : stL[i]? = some q) {v : Value} (hst : stH D H i v) (hlink : Cond.fieldLink own index q.1 q.2.1 q.2.2 ∈ lw_all) (hdg : decode cc pc = .ok (.getstatic index, 3))
    (kk : W p l e R s m args below meth c H locs cells slots Q (F0 m (pc + 3) ls (v :: rest))) : W p l e R s m args below meth c H locs cells slots Q (F0 m pc ls rest) := by
  obtain ⟨cf, kf, fi, f, h1, h2, h3, h4, h5⟩ := hK.2.2.2.1 i q hi
  obtain ⟨cell, c1, c2, c3⟩ := hst
  exact W.gets hx hb hown (hts _ hlink) h1 h2 h3 h4 c1 (fun e => by rw [e] at c2; cases c2) (by rw [h5]; exact c3) rfl hdg kk
end GETS
theorem stH_S {D : va_G} {A : Nat → Prop} {H0 H : Heap} {locs : List Loc} {i : Nat} {v : Value} (h : stH D H0 i v) (hS : va_S A H0 H locs) (hA : ¬ A (D.2 100 i)) : stH D H i v := by
  obtain ⟨cell, c1, c2, c3⟩ := h
  exact ⟨cell, by rw [hS.2.1 _ (Array.getElem?_eq_some_iff.mp c1).1 hA]; exact c1, c2, c3⟩
