/-! AN EXCEPTION COMES INTO A METHOD'S OWN HANDLER: the table is gone through entry by entry, the catch types cold or warm -/
section XH
variable {p : Program} {l : Launch} {e : Env} {R : Room} {s : State} {m : MethodId} {args : Array Value} {below : List Frame} {meth : Method} {c : Code} {H : Heap} {locs : List Loc} {cells slots : Nat} {Q : State → Prop} {cc : ByteArray} {nL pc : Nat} {ls : Array Slot} {rest : List Value}
/-- the search over the entries t finds the handler at hpc, for the object cell at a, from every point where the invocation stands with that heap -/
def xh_go (p : Program) (l : Launch) (e : Env) (R : Room) (s : State) (m : MethodId) (args : Array Value) (below : List Frame) (meth : Method) (c : Code) (locs : List Loc) (cells slots : Nat) (g : JFrame) (a : Addr) (cell : Cell) (t : List ExceptionTableEntry) (hpc : Nat) : Prop :=
  ∀ T : State, Stand p l e R s m args below meth c T locs cells slots → T.heap[a]? = some cell → ∃ vm' : Vm, Stand p l e R s m args below meth c (T.setVm vm') locs cells slots ∧
    ∀ (Q : Handler → Pre) (E : CtlPost) (d : Bool) (acts : List Action), wp (findHandler.go g a t) Q E e d acts ((T.setTop g).pushFrame (.throwing a)) ↔ Q (.found hpc) d acts (((T.setTop g).pushFrame (.throwing a)).setVm vm')
theorem xh_skip {g : JFrame} {a : Addr} {cell : Cell} {x : ExceptionTableEntry} {t : List ExceptionTableEntry} {hpc : Nat} (hx : covers x g.pc = false) (k : xh_go p l e R s m args below meth c locs cells slots g a cell t hpc) : xh_go p l e R s m args below meth c locs cells slots g a cell (x :: t) hpc := by
  intro T X hc
  obtain ⟨vm', X', h⟩ := k T X hc
  refine ⟨vm', X', fun Q E d acts => ?_⟩
  rw [W.findHandler_go_skip hx]
  exact h Q E d acts
theorem xh_link {own name : String} {i : Nat} {T : State} (X : Stand p l e R s m args below meth c T locs cells slots) (hown : s.vm.findClass own = some m.cls) (hlink : (Cond.classLink own i name).before args s = true) {cT : ClassId} (hcT : s.vm.findClass name = some cT) :
    Stand p l e R s m args below meth c (T.setVm (T.vm.noted m.cls i (.cls cT))) locs cells slots ∧ T.vm.ClassLinks e.platform m.cls i cT ∧ ∃ k, T.vm.classes[cT]? = some k := by
  have hpl : e.platform.magicAccessors = ({} : Platform).magicAccessors := by rw [X.admits.platform]
  obtain ⟨c', hc', hcl⟩ := Cond.classLink_spec hown hlink e.platform hpl
  cases hcT.symm.trans hc'
  obtain ⟨dk, _, _, kt, hd, _, _, _, _, hkt, _, hopen⟩ := hcl.here
  have hW' : s.WarmedH (T.vm.noted m.cls i (.cls cT)) := X.warmed.noted hd hopen (State.rightAt_cls hcl)
  obtain ⟨kt', hkt', -⟩ := X.warmed.alike.2.2 _ _ hkt
  exact ⟨X.noted hW', X.warmed.classLinks hcl, kt', hkt'⟩
theorem xh_catch {g : JFrame} {a : Addr} {cell : Cell} {x : ExceptionTableEntry} {t : List ExceptionTableEntry} {own name : String} {cT : ClassId} (hg : g.method = m) (hx : covers x g.pc = true) (h0 : x.catchType ≠ 0) (hown : s.vm.findClass own = some m.cls) (hlink : (Cond.classLink own x.catchType name).before args s = true) (hcT : s.vm.findClass name = some cT) (hobj : cell.vm.isStatics = false) (hfit : s.vm.assignable cell.cls cT = true) : xh_go p l e R s m args below meth c locs cells slots g a cell (x :: t) x.handlerPc := by
  intro T X hcell
  subst hg
  obtain ⟨X', hl, hk⟩ := xh_link X hown hlink hcT
  refine ⟨_, X', fun Q E d acts => ?_⟩
  have hfit' : T.vm.assignable cell.cls cT = true := by rw [X.warmed.alike.assignable]; exact hfit
  simp only [covers] at hx
  obtain ⟨ha, ht⟩ := (resolveClass_links e.toSetting hl).op (op := VmOp.resolveClass g.method.cls x.catchType) rfl
  have hal : T.vm.Alike (T.vm.noted g.method.cls x.catchType (.cls cT)) := (Vm.Alike.refl T.vm).noted _ _ _
  obtain ⟨k1, hk1⟩ := Vm.classAt_of_assignable hfit' hk
  obtain ⟨k2, hk2⟩ := hk
  obtain ⟨k1', hk1', -⟩ := hal.2.2 _ _ hk1
  obtain ⟨k2', hk2', -⟩ := hal.2.2 _ _ hk2
  have hfit2 : (T.vm.noted g.method.cls x.catchType (.cls cT)).assignable cell.cls cT = true := by rw [hal.assignable]; exact hfit'
  have hcell2 : ((T.setTop g).pushFrame (.throwing a)).heap[a]? = some cell := hcell
  have hvm : ((T.setTop g).pushFrame (.throwing a)).vm = T.vm := rfl
  simp [findHandler.go, hx, h0, hvm, ha, ht, hcell2, VmData.ne_statics_of hobj, hk1', hk2', hfit2, VmOp.dirties, VmOp.acts]
theorem xh_pass {g : JFrame} {a : Addr} {cell : Cell} {x : ExceptionTableEntry} {t : List ExceptionTableEntry} {own name : String} {cT : ClassId} {hpc : Nat} (hg : g.method = m) (hx : covers x g.pc = true) (h0 : x.catchType ≠ 0) (hown : s.vm.findClass own = some m.cls) (hlink : (Cond.classLink own x.catchType name).before args s = true) (hcT : s.vm.findClass name = some cT) (hobj : cell.vm.isStatics = false) (hkc : ∃ k, s.vm.classes[cell.cls]? = some k) (hfit : s.vm.assignable cell.cls cT = false) (k : xh_go p l e R s m args below meth c locs cells slots g a cell t hpc) : xh_go p l e R s m args below meth c locs cells slots g a cell (x :: t) hpc := by
  intro T X hcell
  subst hg
  obtain ⟨X1, hl, hk⟩ := xh_link X hown hlink hcT
  obtain ⟨vm', X', h⟩ := k _ X1 hcell
  refine ⟨vm', X', fun Q E d acts => ?_⟩
  have hfit' : T.vm.assignable cell.cls cT = false := by rw [X.warmed.alike.assignable]; exact hfit
  simp only [covers] at hx
  obtain ⟨ha, ht⟩ := (resolveClass_links e.toSetting hl).op (op := VmOp.resolveClass g.method.cls x.catchType) rfl
  have hal : T.vm.Alike (T.vm.noted g.method.cls x.catchType (.cls cT)) := (Vm.Alike.refl T.vm).noted _ _ _
  obtain ⟨k0, hk0⟩ := hkc
  obtain ⟨k1, hk1, -⟩ := X.warmed.alike.2.2 _ _ hk0
  obtain ⟨k2, hk2⟩ := hk
  obtain ⟨k1', hk1', -⟩ := hal.2.2 _ _ hk1
  obtain ⟨k2', hk2', -⟩ := hal.2.2 _ _ hk2
  have hfit2 : (T.vm.noted g.method.cls x.catchType (.cls cT)).assignable cell.cls cT = false := by rw [hal.assignable]; exact hfit'
  have hcell2 : ((T.setTop g).pushFrame (.throwing a)).heap[a]? = some cell := hcell
  have hvm : ((T.setTop g).pushFrame (.throwing a)).vm = T.vm := rfl
  have h1 := h Q E d acts
  rw [show (((T.setVm (T.vm.noted g.method.cls x.catchType (.cls cT))).setTop g).pushFrame (.throwing a)) = ((T.setTop g).pushFrame (.throwing a)).setVm (T.vm.noted g.method.cls x.catchType (.cls cT)) from rfl] at h1
  rw [show (((T.setTop g).pushFrame (.throwing a)).setVm vm') = ((((T.setTop g).pushFrame (.throwing a)).setVm (T.vm.noted g.method.cls x.catchType (.cls cT))).setVm vm') from rfl, ← h1]
  simp [findHandler.go, hx, h0, hvm, ha, ht, hcell2, VmData.ne_statics_of hobj, hk1', hk2', hfit2, VmOp.dirties, VmOp.acts]
/-- into the handler -/
theorem xh_into {g : JFrame} {a : Addr} {cell : Cell} {hpc : Nat} {T : State} (hg : g.method = m) (X : Stand p l e R s m args below meth c T locs cells slots) (hcell : T.heap[a]? = some cell) (hgo : xh_go p l e R s m args below meth c locs cells slots g a cell c.exceptionTable.toList hpc) :
    ∃ vm' : Vm, Stand p l e R s m args below meth c (T.setVm vm') locs cells slots ∧ ∀ target, Steps p.tables e below ((T.setVm vm').setTop { g with pc := hpc, stack := [.ref a] }) target → Steps p.tables e below ((T.setTop g).pushFrame (.throwing a)) target := by
  obtain ⟨vm', X', h⟩ := hgo T X hcell
  refine ⟨vm', X', fun target hrest => ?_⟩
  subst hg
  have hfind : ∀ (Q : Handler → Pre) (E : CtlPost) (d : Bool) (acts : List Action), wp (findHandler g a) Q E e d acts ((T.setTop g).pushFrame (.throwing a)) ↔ Q (.found hpc) d acts (((T.setTop g).pushFrame (.throwing a)).setVm vm') := by
    intro Q E d acts
    rw [W.findHandler_eq (s := (T.setTop g).pushFrame (.throwing a)) (meth := meth) (code := c) X.method' X.code]
    exact h Q E d acts
  obtain ⟨hgo1, hw⟩ := X.here.throwing a
  refine Steps.head hgo1 hw ?_
  have hst : ∀ r : List Frame, (stepThrowing e ((T.setTop g).pushFrame (.throwing a)) a (.java g :: r)).Is ((((T.setTop g).pushFrame (.throwing a)).setVm vm').setFrames (.java { g with pc := hpc, stack := [.ref a] } :: r)) [] := by
    intro r
    simp only [stepThrowing, searchFrame, vmDo]
    generalize hr : Sem.go _ e false [] ((T.setTop g).pushFrame (.throwing a)) = res
    obtain ⟨as, rfl, ha⟩ := Sem.eq_ok_of hr (a := Handler.found hpc) (s' := ((T.setTop g).pushFrame (.throwing a)).setVm vm') (acts' := []) (by simp [hfind _ _ _ _])
    exact ⟨rfl, ha⟩
  have hss : ∀ (u : State) (F G : List Frame), ((u.setFrames F).setVm vm').setFrames G = (u.setVm vm').setFrames G := by
    intro u F G
    have h1 : (u.setFrames F).setVm vm' = (u.setVm vm').setFrames F := rfl
    rw [h1, State.setFrames_setFrames]
  rw [stepThread_throwing (frames_entered X.here.top _), (hst _).1]
  obtain ⟨g₀, hg⟩ := Option.isSome_iff_exists.mp X.here.top
  obtain ⟨r, hr⟩ := State.topJava?_eq_some.mp hg
  have hr' : (T.setVm vm').frames = .java g₀ :: r := hr
  rw [State.setTop_of_frames _ hr'] at hrest
  rw [hr, List.tail_cons, State.pushFrame, hss, State.setTop_of_frames _ hr, hss]
  exact hrest
end XH
