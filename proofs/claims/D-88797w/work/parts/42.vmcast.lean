/-! checkcast that fails: the machine's ClassCastException, its text bounded by modulesRight_1 -/
def vm_home (b : Bool) : String := (match b with | true => "module java.base" | false => "unnamed module") ++ " of loader " ++ "'bootstrap'"
def vm_homes (A B : String) : Bool → Bool → Bool → String
  | true, x, _ => A ++ " and " ++ B ++ " are in " ++ vm_home x
  | false, x, y => A ++ " is in " ++ vm_home x ++ "; " ++ B ++ " is in " ++ vm_home y
def vm_text (A B : String) (z x y : Bool) : String := "class " ++ A ++ " cannot be cast to class " ++ B ++ " (" ++ vm_homes A B z x y ++ ")"
theorem vm_found {vm : Vm} {name : String} {c : ClassId} {k : Class} (h : vm.findClass name = some c) (hk : vm.classes[c]? = some k) : k.name = name ∧ k.hidden = none ∧ k.loader = none := by
  obtain ⟨hlt, hp, _⟩ := Array.findIdx?_eq_some_iff_getElem.mp h
  have e : vm.classes[c] = k := Option.some.inj ((Array.getElem?_eq_getElem hlt).symm.trans hk)
  rw [e] at hp
  simp only [Bool.and_eq_true, beq_iff_eq, Option.isNone_iff_eq_none] at hp
  exact ⟨hp.1.1.1, hp.1.1.2, hp.2⟩
theorem vm_home_eq {U : State} (hm : modulesRight_1 U = true) {k : Class} {nm : String} (hn : k.name = nm) (hl : k.loader = none) (hp : packageOf nm = "") : ∃ b : Bool, U.vm.home k = vm_home b := by
  have key : ∀ x, U.vm.moduleOf k = some x → x.name = "java.base" := by
    intro x hx
    unfold Vm.moduleOf at hx
    by_cases c : k.ofPrimitives = true
    · rw [if_pos c] at hx
      have := List.find?_some hx
      simpa using this
    · rw [if_neg c, hl, hn, hp] at hx
      have h1 := List.find?_some hx
      have h2 := List.mem_of_find?_eq_some hx
      unfold modulesRight_1 at hm
      have h3 := List.all_eq_true.mp hm x h2
      simp only [Bool.and_eq_true, beq_iff_eq] at h1
      simp [h1.1, castPackages_1] at h3
      rcases h3 with q | q
      · exact q
      · exact absurd (by simpa using h1.2) q.1
  unfold Vm.home
  rw [hl]
  cases hx : U.vm.moduleOf k with
  | none => exact ⟨false, rfl⟩
  | some x =>
    refine ⟨true, ?_⟩
    show ("module " ++ x.name) ++ " of loader " ++ "'bootstrap'" = _
    rw [key x hx]
    rfl
theorem vm_text_eq {U : State} (hm : modulesRight_1 U = true) {ka kb : Class} {A B : String} (ha : ka.name = A ∧ ka.hidden = none ∧ ka.loader = none) (hb : kb.name = B ∧ kb.hidden = none ∧ kb.loader = none) (pa : packageOf A = "") (pb : packageOf B = "") (da : dotted A = A) (db : dotted B = B) : ∃ z x y : Bool, Op.checkcast.message U.vm ka kb = vm_text A B z x y := by
  obtain ⟨x, hx⟩ := vm_home_eq hm ha.1 ha.2.2 pa
  obtain ⟨y, hy⟩ := vm_home_eq hm hb.1 hb.2.2 pb
  have sa : ka.shown = A := by unfold Class.shown; rw [ha.2.1, ha.1]; exact da
  have sb : kb.shown = B := by unfold Class.shown; rw [hb.2.1, hb.1]; exact db
  unfold Op.checkcast.message Vm.homes
  rw [sa, sb, hx, hy]
  by_cases c : U.vm.sameModule ka kb = true
  · rw [if_pos c]; exact ⟨true, x, y, rfl⟩
  · rw [if_neg c]; exact ⟨false, x, y, rfl⟩
section VM4
variable {p : Program} {l : Launch} {e : Env} {R : Room} {s : State} {m : MethodId} {args : Array Value} {below : List Frame} {meth : Method} {c : Code} {T : State} {H : Heap} {locs : List Loc} {cells slots : Nat} {Q : State → Prop} {cc : ByteArray} {nL pc : Nat} {ls : Array Slot} {rest : List Value} {D : va_G} {dA : Nat → ClassId} {h : Nat} {u : CS} {H0 : Heap} {own : String}
/-- checkcast that fails, cold or warm -/
theorem st_castNo (X : Stand p l e R s m args below meth c T locs cells slots) (hexec : p.tables.exec = Jvm.exec) {nm : String} {index : Nat} (hown : s.vm.findClass own = some m.cls) (hlink : (Cond.classLink own index nm).before args s = true)
    {a : Addr} {cell : Cell} {cT : ClassId} {ks : Class} (hcell : T.heap[a]? = some cell) (hobj : ∀ k, cell.vm ≠ .statics k) (hks : s.vm.classes[cell.cls]? = some ks) (hcT : s.vm.findClass nm = some cT) (hasg : s.vm.assignable cell.cls cT = false)
    {g : JFrame} (hg : g.method = m) (hstack : g.stack = .ref a :: rest) (hdg : decode c.code g.pc = .ok (.checkcast index, 3)) :
    ∃ (vm' : Vm) (ks' kt' : Class), Stand p l e R s m args below meth c (T.setVm vm') locs cells slots ∧ vm'.classes[cell.cls]? = some ks' ∧ vm'.classes[cT]? = some kt' ∧ s.vm.Alike vm' ∧
      ∀ target, Steps p.tables e below (((T.setVm vm').setTop g).pushFrame (.throwNew "java/lang/ClassCastException" (some (Op.checkcast.message vm' ks' kt')) none)) target → Steps p.tables e below (T.setTop g) target := by
  have hpl : e.platform.magicAccessors = ({} : Platform).magicAccessors := by rw [X.admits.platform]
  obtain ⟨c', hc', hcl⟩ := Cond.classLink_spec hown hlink e.platform hpl
  cases hcT.symm.trans hc'
  obtain ⟨dk, _, _, kt, hd, _, _, _, _, hkt, _, hopen⟩ := hcl.here
  have hcl₀ := X.warmed.classLinks hcl
  have hW' : s.WarmedH (T.vm.noted m.cls index (.cls cT)) := X.warmed.noted hd hopen (State.rightAt_cls hcl)
  obtain ⟨ks', hks', -⟩ := hW'.alike.2.2 _ _ hks
  obtain ⟨kt', hkt', -⟩ := hW'.alike.2.2 _ _ hkt
  refine ⟨_, ks', kt', X.noted hW', hks', hkt', hW'.alike, fun target hrest => ?_⟩
  subst hg
  jvm_step X.here [hexec, hdg, Op.checkcast.wp_cold (e := e) (s := T) (f := g) X.here.top hstack (resolveClass_links e.toSetting hcl₀) hcl₀.ready,
    Op.checkcast.wp_ready (e := e) (s := T.setVm (T.vm.noted g.method.cls index (.cls cT))) (f := g) X.here.top hcl₀.ready hstack]
  refine ⟨cell, hcell, hobj, ks', hks', kt', hkt', ?_⟩
  rw [if_neg (by rw [hW'.alike.assignable, hasg]; decide)]
  exact hrest
end VM4
