/-! wc_X moves along: the tables alike, the old cells as they were -/
theorem wc_X1 {a1 a2 : Array Value} {s U : State} (ha : s.vm.Alike U.vm) (hh : ∀ q : Nat, q < s.heap.size → U.heap[q]? = s.heap[q]?) {O f d : String} (h : (Cond.laysStatic O f d).before a1 s = true) :
    (Cond.laysStatic O f d).before a2 U = true ∧ ((Cond.isRef (.static O f d)).before a1 s = true → (Cond.isRef (.static O f d)).before a2 U = true) := by
  obtain ⟨c, k, i, fd, a, cell, hc, hf, hst, hsta, hcell, hiss, hcls, hlt, hty⟩ := Cond.laysStatic_spec h
  obtain ⟨k', hf', he⟩ := State.fieldFound?_setVm ha hf
  have hf2 : U.fieldFound? O f d = some (c, k', i, fd) := by
    have e : (s.setVm U.vm).fieldFound? O f d = U.fieldFound? O f d := by simp only [State.fieldFound?]; rfl
    rw [← e]; exact hf'
  have hc2 : U.vm.findClass O = some c := by rw [ha.findClass]; exact hc
  have hsta2 : k'.statics = some a := by rw [he]; exact hsta
  have hty2 : k'.staticTypes[fd.slot]? = some fd.type := by rw [he]; exact hty
  have hcell2 : U.heap[a]? = some cell := by rw [hh a (Array.getElem?_eq_some_iff.mp hcell).1]; exact hcell
  refine ⟨by simp [Cond.before, Cond.holds, Cond.value, hc2, hf2, hst, hsta2, hcell2, hiss, hcls, hlt, hty2], fun h2 => ?_⟩
  obtain ⟨v, hv⟩ := Cond.staticRefV hf hst hsta hcell hiss h2
  have he2 : (Term.static O f d).eval a2 U none [] U = some v.v := by
    simp [Term.eval, State.fieldNamed?, hf2, hst, hsta2, hcell2, hiss, hv]
  simp only [Cond.before, Cond.holds, Cond.value, he2]
  obtain ⟨w, hw⟩ := v
  clear he2 hv
  cases w <;> first | rfl | cases hw
theorem wc_X.moved {a1 a2 : Array Value} {s U : State} (ha : s.vm.Alike U.vm) (hh : ∀ q : Nat, q < s.heap.size → U.heap[q]? = s.heap[q]?) (h : wc_X a1 s) : wc_X a2 U :=
  ⟨(wc_X1 ha hh h.1).1, (wc_X1 ha hh h.2.1).1, (wc_X1 ha hh h.1).2 h.2.2.1, (wc_X1 ha hh h.2.1).2 h.2.2.2⟩
/-- the statics of Throwable lie in the heap where wc_X is said -/
theorem wc_X.ts {a1 : Array Value} {s : State} (h : wc_X a1 s) : wc_TS s.heap.size s := by
  obtain ⟨c, k, i, fd, a, cell, hc, hf, hst, hsta, hcell, -⟩ := Cond.laysStatic_spec h.1
  intro c1 k1 b h1 h2 h3
  cases hc.symm.trans h1
  cases (State.fieldFound?_spec hf).1.symm.trans h2
  cases hsta.symm.trans h3
  exact (Array.getElem?_eq_some_iff.mp hcell).1
