section CX2
variable {p : Program} {l : Launch} {e : Env} {R : Room} {s : State} {m : MethodId} {args : Array Value} {below : List Frame} {meth : Method} {c : Code} {H : Heap} {locs : List Loc} {cells slots : Nat} {Q : State → Prop} {cc : ByteArray} {nL pc : Nat} {ls : Array Slot} {rest : List Value} {D : va_G} {dA : Nat → ClassId} {h : Nat} {u : CS} {H0 : Heap} {own : String}
theorem wx_throwV {α : Type} {vf : α ⊕ Nat → Option Value ⊕ Nat} (hvf : ∀ n, vf (.inr n) = .inr n) {n : Nat} {V : α ⊕ Nat} {u1 : CS} (C : CC p m c cc nL s args D dA own) (hlocks : meth.locks = false) (hnh : c.exceptionTable.isEmpty = true) (hW : wc_W D dA h u H) (hS : wc_S u) (hV : va_S (CA h) s.heap H locs) (hE : some ((.inr n : α ⊕ Nat), u) = some (V, u1)) (d : decode cc pc = .ok (.athrow, 1)) : W p l e R s m args below meth c H locs cells slots (MQX below (wc_Qx D dA h (vf V) u1) args s cells slots (CA h)) (F0 m pc ls (.ref (h + n) :: rest)) := by
  cases hE
  exact wx_throw C hlocks hnh hW hS hV (hvf n) d
theorem wc_viN (n : Nat) : wc_vi (.inr n) = .inr n := rfl
theorem wc_vlN (n : Nat) : wc_vl (.inr n) = .inr n := rfl
theorem wc_vvN (n : Nat) : wc_vv (.inr n) = .inr n := rfl
theorem wc_vrN (h n : Nat) : wc_vr h (.inr n) = .inr n := rfl
/-- a call that may throw out of a method without handlers -/
theorem wx_callX {α β : Type} {va : α ⊕ Nat → Option Value ⊕ Nat} {vf : β ⊕ Nat → Option Value ⊕ Nat} {f : α → Option Value} (hva : ∀ a, va (.inl a) = .inl (f a)) (hvn : ∀ n, va (.inr n) = .inr n) (hvf : ∀ n, vf (.inr n) = .inr n) {x : Option ((α ⊕ Nat) × CS)} {K : α → CS → Option ((β ⊕ Nat) × CS)} {Vf : β ⊕ Nat} {uF : CS} {y : MethodName} {ws : List Cond} {rm : Room} {maxL index nn : Nat} {bytes : ByteArray} {ret : Option FieldType} {As : List Value} {b : Nat} {Cr : String} (C : CC p m c cc nL s args D dA own) (hlocks : meth.locks = false) (hnh : c.exceptionTable.isEmpty = true) (hE : o_bx x K = some (Vf, uF)) (hM : ∀ (V : α ⊕ Nat) (u1 : CS), x = some (V, u1) → MetX l y ws rm (va_Pc (.ref b :: As) (wc_St D dA h u)) (wc_Qx D dA h (va V) u1) 0 0 (CA h)) (cw : CallW R s args own Cr index y bytes maxL ret ws rm 0 0 nn) (hp : PreV s H Cr b (va_Pc (.ref b :: As) (wc_St D dA h u)) As)
    (hn : As.length = nn) (hsz : ls.size = nL) (hro : (rest.map fun v => v.category).sum ≤ 8) (hdg : decode cc pc = .ok (.invokevirtual index, 3)) (hf : cells + 0 ≤ R.cells ∧ slots + 0 ≤ R.slots) (hV : va_S (CA h) s.heap H locs)
    (kk : ∀ (a : α) (u2 : CS) (H1 : Heap) (locs1 : List Loc), K a u2 = some (Vf, uF) → wc_W D dA h u2 H1 → wc_S u2 → va_S (CA h) s.heap H1 locs1 → W p l e R s m args below meth c H1 locs1 cells slots (MQX below (wc_Qx D dA h (vf Vf) uF) args s cells slots (CA h)) (F0 m (pc + 3) ls ((f a).toList ++ rest))) :
    W p l e R s m args below meth c H locs cells slots (MQX below (wc_Qx D dA h (vf Vf) uF) args s cells slots (CA h)) (F0 m pc ls (As.reverse ++ .ref b :: rest)) := by
  rcases o_bx_some hE with ⟨a, u2, hc, hE⟩ | ⟨n, hc, hE⟩
  · refine wx_call C (hM _ _ hc) cw hp hn hsz hro hdg hf hV (fun _ z => z) (fun v H1 locs1 ev w1 w2 w3 => ?_) (fun n H1 locs1 ev => ?_)
    · rw [hva] at ev
      cases ev
      exact kk a u2 H1 locs1 hE w1 w2 w3
    · rw [hva] at ev
      cases ev
  · refine wx_call C (hM _ _ hc) cw hp hn hsz hro hdg hf hV (fun _ z => z) (fun v H1 locs1 ev => ?_) (fun n2 H1 locs1 ev w1 w2 w3 T hT X => ?_)
    · rw [hvn] at ev
      cases ev
    · rw [hvn] at ev
      cases ev
      subst hE
      exact wx_thru hlocks hnh w1 w2 w3 (hvf n) hT X
/-- a call that may throw, in a method with handlers: each exception comes to its handler -/
theorem wx_callH {α ρ : Type} {r0 : ρ} {va : α ⊕ Nat → Option Value ⊕ Nat} {f : α → Option Value} (hva : ∀ a, va (.inl a) = .inl (f a)) (hvn : ∀ n, va (.inr n) = .inr n) {x : Option ((α ⊕ Nat) × CS)} {K : α → CS → Option ρ} {Kh : Nat → CS → Option ρ} {y : MethodName} {ws : List Cond} {rm : Room} {maxL index nn : Nat} {bytes : ByteArray} {ret : Option FieldType} {As : List Value} {b : Nat} {Cr : String} (C : CC p m c cc nL s args D dA own) (hE : o_by x K Kh = some r0) (hM : ∀ (V : α ⊕ Nat) (u1 : CS), x = some (V, u1) → MetX l y ws rm (va_Pc (.ref b :: As) (wc_St D dA h u)) (wc_Qx D dA h (va V) u1) 0 0 (CA h)) (cw : CallW R s args own Cr index y bytes maxL ret ws rm 0 0 nn) (hp : PreV s H Cr b (va_Pc (.ref b :: As) (wc_St D dA h u)) As)
    (hn : As.length = nn) (hsz : ls.size = nL) (hro : (rest.map fun v => v.category).sum ≤ 8) (hdg : decode cc pc = .ok (.invokevirtual index, 3)) (hf : cells + 0 ≤ R.cells ∧ slots + 0 ≤ R.slots) (hV : va_S (CA h) s.heap H locs)
    (kk : ∀ (a : α) (u2 : CS) (H1 : Heap) (locs1 : List Loc), K a u2 = some r0 → wc_W D dA h u2 H1 → wc_S u2 → va_S (CA h) s.heap H1 locs1 → W p l e R s m args below meth c H1 locs1 cells slots Q (F0 m (pc + 3) ls ((f a).toList ++ rest)))
    (kh : ∀ (n : Nat) (u2 : CS) (H1 : Heap) (locs1 : List Loc), Kh n u2 = some r0 → wc_W D dA h u2 H1 → wc_S u2 → va_S (CA h) s.heap H1 locs1 → ∃ (hpc : Nat) (cell : Cell), H1[h + n]? = some cell ∧ xh_go p l e R s m args below meth c locs1 cells slots (F0 m pc ls rest) (h + n) cell c.exceptionTable.toList hpc ∧ W p l e R s m args below meth c H1 locs1 cells slots Q (F0 m hpc ls [.ref (h + n)])) :
    W p l e R s m args below meth c H locs cells slots Q (F0 m pc ls (As.reverse ++ .ref b :: rest)) := by
  rcases o_by_some hE with ⟨a, u2, hc, hE⟩ | ⟨n, u2, hc, hE⟩
  · refine wx_call C (hM _ _ hc) cw hp hn hsz hro hdg hf hV (fun _ z => z) (fun v H1 locs1 ev w1 w2 w3 => ?_) (fun n H1 locs1 ev => ?_)
    · rw [hva] at ev
      cases ev
      exact kk a u2 H1 locs1 hE w1 w2 w3
    · rw [hva] at ev
      cases ev
  · refine wx_call C (hM _ _ hc) cw hp hn hsz hro hdg hf hV (fun _ z => z) (fun v H1 locs1 ev => ?_) (fun n2 H1 locs1 ev w1 w2 w3 T hT X => ?_)
    · rw [hvn] at ev
      cases ev
    · rw [hvn] at ev
      cases ev
      obtain ⟨hpc, cell, hcell, hgo, hk⟩ := kh n u2 H1 locs1 hE w1 w2 w3
      obtain ⟨vm', X', st⟩ := xh_into (g := F0 m pc ls rest) rfl X (by rw [hT]; exact hcell) hgo
      obtain ⟨t, a1, b1⟩ := hk (T.setVm vm') hT X'
      exact ⟨t, st t a1, b1⟩
/-- from the entry of a method with handlers -/
theorem wc_metW {y : MethodName} {bytes : ByteArray} {maxL mc ms : Nat} {ret : Option FieldType} {hh : List (Nat × Nat × Nat × Nat)} {rm : Room} {av : List Value} {v : Option Value} {u1 : CS} {lv : List (Nat × Value)} (hy : plainName y.cls = true) (hyc : y.cls = own) (hn : Nat.ble (lg_sl av).length maxL = true) (hlv : lv_args 0 av = lv)
    (body : ∀ (p : Program) (e : Env) (s : State) (m : MethodId) (args : Array Value) (below : List Frame) (meth : Method) (c : Code) (ls : Array Slot), CC p m c bytes maxL s args D dA own → meth.sig.returnType = ret → meth.locks = false → c.exceptionTable.toList.map (fun h => (h.startPc, h.endPc, h.handlerPc, h.catchType)) = hh → wc_W D dA h u s.heap → wc_S u → va_S (CA h) s.heap s.heap [] → lv_has ls maxL lv →
      W p l e rm s m args below meth c s.heap [] 0 0 (MQ below (wc_Qr D dA h v u1) args s mc ms (CA h)) (F0 m 0 ls [])) : Met l y (wsW_ y bytes maxL ret hh) rm (va_Pc av (wc_St D dA h u)) (wc_Qr D dA h v u1) mc ms (CA h) := by
  refine va_MetW (cc := bytes) (maxL := maxL) (ret := ret) hy rfl ?_
  intro p e s m args below meth c s₁ B hml hv
  obtain ⟨rfl, hT, hS, hK⟩ := hv
  have hts0 := atoms_spec (ws := wsW_ y bytes maxL ret hh) B.pre
  have hts : ∀ w ∈ lw_all, w.before _ s = true := fun w h => hts0 w (List.mem_cons_of_mem _ h)
  have hown : s.vm.findClass y.cls = some m.cls := findClass_of_methodNamed B.named
  obtain ⟨m9, meth9, c9, hn9, g1, g2, -, -, g3, -⟩ := Cond.codeWith_spec (hts0 _ List.mem_cons_self)
  cases B.named.symm.trans hn9
  cases B.method.symm.trans g1
  cases (Stand.of_body B).code.symm.trans g2
  rw [lg_entry_eq]
  have hl := lv_entry av (n := maxL) (Nat.le_of_ble_eq_true hn)
  rw [hlv] at hl
  exact body p e s m _ below meth c _ ⟨⟨B.exec, B.bytes, hml, by rw [← hyc]; exact hown, hts⟩, hK⟩ B.returns B.notSynchronized g3 hT hS va_S.rf hl
/-- the one entry of a table catches an object of just its class -/
theorem xh_one {a b hp ct n ci N : Nat} {nm : String} {T : u_T} {H1 : Heap} {locs1 : List Loc} {u2 : CS} (C : CC p m c cc nL s args D dA own) (ht : c.exceptionTable.toList.map (fun h => (h.startPc, h.endPc, h.handlerPc, h.catchType)) = [(a, b, hp, ct)]) (hpc : a ≤ pc ∧ pc < b) (hct : ct ≠ 0) (hl : Cond.classLink own ct nm ∈ lw_all) (hc : vwCl[ci]? = some (nm, T, N)) (hW : wc_W D dA h u2 H1) (hs : wc_T u2 n = some (.inl ci)) : ∃ (cell : Cell), H1[h + n]? = some cell ∧ xh_go p l e R s m args below meth c locs1 cells slots (F0 m pc ls rest) (h + n) cell c.exceptionTable.toList hp := by
  obtain ⟨cell, h1, h2, h3⟩ := wc_recv C.2 hW hs hc
  refine ⟨cell, h1, ?_⟩
  cases hx : c.exceptionTable.toList with
  | nil => rw [hx] at ht; cases ht
  | cons x t =>
    rw [hx] at ht
    have e := (List.cons.inj ht).1
    have e1 : x.startPc = a := congrArg (·.1) e
    have e2 : x.endPc = b := congrArg (·.2.1) e
    have e3 : x.handlerPc = hp := congrArg (·.2.2.1) e
    have e4 : x.catchType = ct := congrArg (·.2.2.2) e
    rw [← e3]
    exact xh_catch rfl (by simp [covers, e1, e2, hpc.1, hpc.2]) (by rw [e4]; exact hct) C.1.2.2.2.1 (by rw [e4]; exact C.1.2.2.2.2 _ hl) h3 h2 (Vm.assignable_self _ _)
/-- the second of two entries over one range catches what the first lets pass -/
theorem xh_two {a b hp0 hp ct0 ct n ci N : Nat} {nm0 nm : String} {T : u_T} {H1 : Heap} {locs1 : List Loc} {u2 : CS} (C : CC p m c cc nL s args D dA own) (ht : c.exceptionTable.toList.map (fun h => (h.startPc, h.endPc, h.handlerPc, h.catchType)) = [(a, b, hp0, ct0), (a, b, hp, ct)]) (hpc : a ≤ pc ∧ pc < b) (hct0 : ct0 ≠ 0) (hct : ct ≠ 0) (hl0 : Cond.classLink own ct0 nm0 ∈ lw_all) (hl : Cond.classLink own ct nm ∈ lw_all) (hc : vwCl[ci]? = some (nm, T, N)) (hnc : (nm, nm0) ∈ wc_ncl) (hW : wc_W D dA h u2 H1) (hs : wc_T u2 n = some (.inl ci)) : ∃ (cell : Cell), H1[h + n]? = some cell ∧ xh_go p l e R s m args below meth c locs1 cells slots (F0 m pc ls rest) (h + n) cell c.exceptionTable.toList hp := by
  obtain ⟨cell, h1, h2, h3⟩ := wc_recv C.2 hW hs hc
  refine ⟨cell, h1, ?_⟩
  obtain ⟨cc1, ct1, f1, f2, f3⟩ := C.2.2.2.1 _ hnc
  have f1 : s.vm.findClass nm = some cc1 := f1
  cases h3.symm.trans f1
  obtain ⟨kC, hkC, -⟩ := Vm.findClass_spec h3
  cases hx : c.exceptionTable.toList with
  | nil => rw [hx] at ht; cases ht
  | cons x t =>
    cases t with
    | nil => rw [hx] at ht; cases ht
    | cons x2 t2 =>
      rw [hx] at ht
      have e := (List.cons.inj ht).1
      have e' := (List.cons.inj (List.cons.inj ht).2).1
      have e1 : x.startPc = a := congrArg (·.1) e
      have e2 : x.endPc = b := congrArg (·.2.1) e
      have e4 : x.catchType = ct0 := congrArg (·.2.2.2) e
      have e1' : x2.startPc = a := congrArg (·.1) e'
      have e2' : x2.endPc = b := congrArg (·.2.1) e'
      have e3' : x2.handlerPc = hp := congrArg (·.2.2.1) e'
      have e4' : x2.catchType = ct := congrArg (·.2.2.2) e'
      rw [← e3']
      refine xh_pass rfl (by simp [covers, e1, e2, hpc.1, hpc.2]) (by rw [e4]; exact hct0) C.1.2.2.2.1 (by rw [e4]; exact C.1.2.2.2.2 _ hl0) f2 h2 ⟨kC, hkC⟩ f3 ?_
      exact xh_catch rfl (by simp [covers, e1', e2', hpc.1, hpc.2]) (by rw [e4']; exact hct) C.1.2.2.2.1 (by rw [e4']; exact C.1.2.2.2.2 _ hl) h3 h2 (Vm.assignable_self _ _)
theorem xh_first {a b hp hp2 ct ct2 n ci N : Nat} {nm : String} {T : u_T} {H1 : Heap} {locs1 : List Loc} {u2 : CS} (C : CC p m c cc nL s args D dA own) (ht : c.exceptionTable.toList.map (fun h => (h.startPc, h.endPc, h.handlerPc, h.catchType)) = [(a, b, hp, ct), (a, b, hp2, ct2)]) (hpc : a ≤ pc ∧ pc < b) (hct : ct ≠ 0) (hl : Cond.classLink own ct nm ∈ lw_all) (hc : vwCl[ci]? = some (nm, T, N)) (hW : wc_W D dA h u2 H1) (hs : wc_T u2 n = some (.inl ci)) : ∃ (cell : Cell), H1[h + n]? = some cell ∧ xh_go p l e R s m args below meth c locs1 cells slots (F0 m pc ls rest) (h + n) cell c.exceptionTable.toList hp := by
  obtain ⟨cell, h1, h2, h3⟩ := wc_recv C.2 hW hs hc
  refine ⟨cell, h1, ?_⟩
  cases hx : c.exceptionTable.toList with
  | nil => rw [hx] at ht; cases ht
  | cons x t =>
    rw [hx] at ht
    have e := (List.cons.inj ht).1
    have e1 : x.startPc = a := congrArg (·.1) e
    have e2 : x.endPc = b := congrArg (·.2.1) e
    have e3 : x.handlerPc = hp := congrArg (·.2.2.1) e
    have e4 : x.catchType = ct := congrArg (·.2.2.2) e
    rw [← e3]
    exact xh_catch rfl (by simp [covers, e1, e2, hpc.1, hpc.2]) (by rw [e4]; exact hct) C.1.2.2.2.1 (by rw [e4]; exact C.1.2.2.2.2 _ hl) h3 h2 (Vm.assignable_self _ _)
end CX2
