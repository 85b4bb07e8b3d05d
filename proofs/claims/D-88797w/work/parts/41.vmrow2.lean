/-! ROWS for the five methods that take the machine's own exceptions -/
section VM2
variable {p : Program} {l : Launch} {e : Env} {R : Room} {s : State} {m : MethodId} {args : Array Value} {below : List Frame} {meth : Method} {c : Code} {H : Heap} {locs : List Loc} {cells slots : Nat} {Q : State → Prop} {cc : ByteArray} {nL pc : Nat} {ls : Array Slot} {rest : List Value} {D : va_G} {dA : Nat → ClassId} {h : Nat} {u : CS} {H0 : Heap} {own : String}
theorem xv_first {a b hp ct ad : Nat} {nm : String} {locs1 : List Loc} {cell : Cell} {rst : List (Nat × Nat × Nat × Nat)} (C : CC p m c cc nL s args D dA own) (ht : c.exceptionTable.toList.map (fun h => (h.startPc, h.endPc, h.handlerPc, h.catchType)) = (a, b, hp, ct) :: rst) (hpc : a ≤ pc ∧ pc < b) (hct : ct ≠ 0) (hl : Cond.classLink own ct nm ∈ lw_all) (hf : s.vm.findClass nm = some cell.cls) (hv : cell.vm = .none) : xh_go p l e R s m args below meth c locs1 cells slots (F0 m pc ls rest) ad cell c.exceptionTable.toList hp := by
  cases hx : c.exceptionTable.toList with
  | nil => rw [hx] at ht; cases ht
  | cons x t =>
    rw [hx] at ht
    have e := (List.cons.inj ht).1
    have e1 : x.startPc = a := congrArg (·.1) e
    have e2 : x.endPc = b := congrArg (·.2.1) e
    have e3 : x.handlerPc = hp := congrArg (·.2.2.1) e
    have e4 : x.catchType = ct := congrArg (·.2.2.2) e
    rw [← e3]
    exact xh_catch rfl (by simp [covers, e1, e2, hpc.1, hpc.2]) (by rw [e4]; exact hct) C.1.2.2.2.1 (by rw [e4]; exact C.1.2.2.2.2 _ hl) hf (by rw [hv]; rfl) (Vm.assignable_self _ _)
theorem xv_third {a b hp hp0 hp1 a1 b1 ct ct0 ct1 ad : Nat} {nm nm0 : String} {locs1 : List Loc} {cell : Cell} {rst : List (Nat × Nat × Nat × Nat)} (C : CC p m c cc nL s args D dA own) (ht : c.exceptionTable.toList.map (fun h => (h.startPc, h.endPc, h.handlerPc, h.catchType)) = (a, b, hp0, ct0) :: (a1, b1, hp1, ct1) :: (a, b, hp, ct) :: rst) (hpc : a ≤ pc ∧ pc < b) (hpc1 : pc < a1) (hct0 : ct0 ≠ 0) (hct : ct ≠ 0) (hl0 : Cond.classLink own ct0 nm0 ∈ lw_all) (hl : Cond.classLink own ct nm ∈ lw_all) (hnc : (nm, nm0) ∈ wc_ncl) (hf : s.vm.findClass nm = some cell.cls) (hv : cell.vm = .none) : xh_go p l e R s m args below meth c locs1 cells slots (F0 m pc ls rest) ad cell c.exceptionTable.toList hp := by
  obtain ⟨cc1, ct9, f1, f2, f3⟩ := C.2.2.2.1 _ hnc
  have f1 : s.vm.findClass nm = some cc1 := f1
  cases hf.symm.trans f1
  obtain ⟨kC, hkC, -⟩ := Vm.findClass_spec hf
  cases hx : c.exceptionTable.toList with
  | nil => rw [hx] at ht; cases ht
  | cons x t =>
    cases t with
    | nil => rw [hx] at ht; cases ht
    | cons x1 t1 =>
      cases t1 with
      | nil => rw [hx] at ht; cases ht
      | cons x2 t2 =>
        rw [hx] at ht
        have e := (List.cons.inj ht).1
        have e0 := (List.cons.inj (List.cons.inj ht).2).1
        have e' := (List.cons.inj (List.cons.inj (List.cons.inj ht).2).2).1
        have e1 : x.startPc = a := congrArg (·.1) e
        have e2 : x.endPc = b := congrArg (·.2.1) e
        have e4 : x.catchType = ct0 := congrArg (·.2.2.2) e
        have e01 : x1.startPc = a1 := congrArg (·.1) e0
        have e1' : x2.startPc = a := congrArg (·.1) e'
        have e2' : x2.endPc = b := congrArg (·.2.1) e'
        have e3' : x2.handlerPc = hp := congrArg (·.2.2.1) e'
        have e4' : x2.catchType = ct := congrArg (·.2.2.2) e'
        rw [← e3']
        refine xh_pass rfl (by simp [covers, e1, e2, hpc.1, hpc.2]) (by rw [e4]; exact hct0) C.1.2.2.2.1 (by rw [e4]; exact C.1.2.2.2.2 _ hl0) f2 (by rw [hv]; rfl) ⟨kC, hkC⟩ f3 ?_
        refine xh_skip (by simp [covers, e01, Nat.not_le.mpr hpc1]) ?_
        exact xh_catch rfl (by simp [covers, e1', e2', hpc.1, hpc.2]) (by rw [e4']; exact hct) C.1.2.2.2.1 (by rw [e4']; exact C.1.2.2.2.2 _ hl) hf (by rw [hv]; rfl) (Vm.assignable_self _ _)
/-- arraylength of null, caught by the first entry -/
theorem wv_len {a b hp ct : Nat} {rst : List (Nat × Nat × Nat × Nat)} (C : CC p m c cc nL s args D dA own) (htr : e.platform.stackTraces = false) (hd : dA 10 = h) (hX : wc_X args s) (hls : ls.size = c.maxLocals) (hW : wc_W D dA h u H) (hS : wc_S u) (hV : va_S (CA h) H0 H locs)
    (hRf : 7 < R.frames) (hRl : 2 * 0 + (rest.map fun v => v.category).sum + 10240 ≤ R.locals) (hRc : cells + 1 ≤ R.cells) (hRs : slots + 8 ≤ R.slots)
    (ht : c.exceptionTable.toList.map (fun h => (h.startPc, h.endPc, h.handlerPc, h.catchType)) = (a, b, hp, ct) :: rst) (hpc : a ≤ pc ∧ pc < b) (hct : ct ≠ 0) (hl : Cond.classLink own ct "java/lang/NullPointerException" ∈ lw_all) (d : decode cc pc = .ok (.arraylength, 1))
    (kk : ∀ (H1 : Heap) (locs1 : List Loc), wc_W D dA h (wc_gz u 1) H1 → wc_S (wc_gz u 1) → va_S (CA h) H0 H1 locs1 → W p l e R s m args below meth c H1 locs1 (cells + 1) (slots + 8) Q (F0 m hp ls [.ref (h + wc_z u)])) : W p l e R s m args below meth c H locs cells slots Q (F0 m pc ls (.null :: rest)) :=
  vm_catch (cls := "java/lang/NullPointerException") (k := 0) (sl := 8) (pc := pc) (rest := rest) hW hS hV
    (fun T X => vm_npe X C.1.1 htr (va_npeA C hX) (b0 := dA 10) C.2.2.2.2.1 (fun x hx => by rw [hd]; exact (hV.2.2 x hx).1) rfl hls hRf hRl hRc hRs)
    (fun cell locs1 hf hv => xv_first C ht hpc hct hl hf hv)
    (fun T X => X.arraylengthNull C.1.1 (g := F0 m pc ls (.null :: rest)) rfl rfl (by rw [C.1.2.1]; exact d)) kk
/-- newarray with a count below 0, caught by the third entry -/
theorem wv_neg {a b hp hp0 hp1 a1 b1 ct ct0 ct1 : Nat} {rst : List (Nat × Nat × Nat × Nat)} {n : Int32} {at1 : ArrayType} (C : CC p m c cc nL s args D dA own) (htr : e.platform.stackTraces = false) (hd : dA 10 = h) (hX : wc_X args s) (hls : ls.size = c.maxLocals) (hW : wc_W D dA h u H) (hS : wc_S u) (hV : va_S (CA h) H0 H locs)
    (hRf : 7 < R.frames) (hRl : 2 * 0 + (rest.map fun v => v.category).sum + 10240 ≤ R.locals) (hRc : cells + 3 ≤ R.cells) (hRs : slots + 54 ≤ R.slots) (hn : n < 0)
    (ht : c.exceptionTable.toList.map (fun h => (h.startPc, h.endPc, h.handlerPc, h.catchType)) = (a, b, hp0, ct0) :: (a1, b1, hp1, ct1) :: (a, b, hp, ct) :: rst) (hpc : a ≤ pc ∧ pc < b) (hpc1 : pc < a1) (hct0 : ct0 ≠ 0) (hct : ct ≠ 0) (hl0 : Cond.classLink own ct0 "java/lang/NullPointerException" ∈ lw_all) (hl : Cond.classLink own ct "java/lang/NegativeArraySizeException" ∈ lw_all) (d : decode cc pc = .ok (.newarray at1, 2))
    (kk : ∀ (H1 : Heap) (locs1 : List Loc), wc_W D dA h (wc_gz u 3) H1 → wc_S (wc_gz u 3) → va_S (CA h) H0 H1 locs1 → W p l e R s m args below meth c H1 locs1 (cells + 3) (slots + 54) Q (F0 m hp ls [.ref (h + (wc_z u + 2))])) : W p l e R s m args below meth c H locs cells slots Q (F0 m pc ls (.int n :: rest)) := by
  have hb := negative_text_bytes n
  refine vm_catch (cls := "java/lang/NegativeArraySizeException") (k := 2) (sl := 54) (pc := pc) (rest := rest) (f0 := .throwNew "java/lang/NegativeArraySizeException" (some (toString n)) none) hW hS hV
    (fun T X => ?_) (fun cell locs1 hf hv => xv_third C ht hpc hpc1 hct0 hct hl0 hl (by decide +kernel) hf hv)
    (fun T X => X.newarrayNegative C.1.1 (g := F0 m pc ls (.int n :: rest)) rfl hn rfl (by rw [C.1.2.1]; exact d)) kk
  obtain ⟨U, locs', cell, k, h1, h2⟩ := vm_msg X C.1.1 htr (cls := "java/lang/NegativeArraySizeException") (names := ["java/lang/RuntimeException", "java/lang/Exception"]) (text := toString n) (by decide +kernel) (by decide +kernel) (by decide +kernel) (by decide +kernel) (va_nasA C hX) (b0 := dA 10) C.2.2.2.2.1 (fun x hx => by rw [hd]; exact (hV.2.2 x hx).1) (negative_text_modelled hn) (by rw [Launch.admits_arrayLengthLimit X.admits]; omega) (by rw [Launch.admits_maxHeapBytes X.admits]; show ¬ _ * 1 > _; omega) (g := F0 m pc ls rest) rfl hls (by show 2 + 4 < _; omega) hRl (by decide) hRc (by omega)
  exact ⟨U, locs', cell, k, by omega, h2⟩
end VM2
