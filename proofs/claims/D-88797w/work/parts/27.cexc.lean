/-! METHODS OF THE COMPONENT THAT MAY THROW: rows -/
def wc_Qx (D : va_G) (dA : Nat → ClassId) (h : Nat) (V : Option Value ⊕ Nat) (u : CS) : Array Value → State → Outcome → State → Prop := fun _ st oc t => (match V with | .inl v => oc = .returned v | .inr n => oc = .threw (h + n)) ∧ wc_W D dA h u t.heap ∧ wc_S u ∧ va_F (CA h) st t
def wc_vi (V : Int32 ⊕ Nat) : Option Value ⊕ Nat := match V with
  | .inl r => .inl (some (.int r))
  | .inr n => .inr n
def wc_vl (V : Int64 ⊕ Nat) : Option Value ⊕ Nat := match V with
  | .inl r => .inl (some (.long r))
  | .inr n => .inr n
def wc_vv (V : Unit ⊕ Nat) : Option Value ⊕ Nat := match V with
  | .inl _ => .inl none
  | .inr n => .inr n
def wc_vr (h : Nat) (V : Option Nat ⊕ Nat) : Option Value ⊕ Nat := match V with
  | .inl r => .inl (some (wc_rf h r))
  | .inr n => .inr n
/-- a call that may throw -/
def o_bx {α β : Type} (x : Option ((α ⊕ Nat) × CS)) (K : α → CS → Option ((β ⊕ Nat) × CS)) : Option ((β ⊕ Nat) × CS) := match x with
  | none => none
  | some (.inl a, u) => K a u
  | some (.inr n, u) => some (.inr n, u)
theorem o_bx_some {α β : Type} {x : Option ((α ⊕ Nat) × CS)} {K : α → CS → Option ((β ⊕ Nat) × CS)} {V : β ⊕ Nat} {u1 : CS} (h : o_bx x K = some (V, u1)) : (∃ a u, x = some (.inl a, u) ∧ K a u = some (V, u1)) ∨ (∃ n, x = some (.inr n, u1) ∧ V = .inr n) := by
  rcases x with _ | ⟨a | n, u⟩
  · cases h
  · exact Or.inl ⟨a, u, rfl, h⟩
  · cases h
    exact Or.inr ⟨n, rfl, rfl⟩
/-- a call that may throw, with a handler -/
def o_by {α β : Type} (x : Option ((α ⊕ Nat) × CS)) (K : α → CS → Option β) (Kh : Nat → CS → Option β) : Option β := match x with
  | none => none
  | some (.inl a, u) => K a u
  | some (.inr n, u) => Kh n u
theorem o_by_some {α β : Type} {x : Option ((α ⊕ Nat) × CS)} {K : α → CS → Option β} {Kh : Nat → CS → Option β} {r : β} (h : o_by x K Kh = some r) : (∃ a u, x = some (.inl a, u) ∧ K a u = some r) ∨ (∃ n u, x = some (.inr n, u) ∧ Kh n u = some r) := by
  rcases x with _ | ⟨a | n, u⟩
  · cases h
  · exact Or.inl ⟨a, u, rfl, h⟩
  · exact Or.inr ⟨n, u, rfl, h⟩
section CX
variable {p : Program} {l : Launch} {e : Env} {R : Room} {s : State} {m : MethodId} {args : Array Value} {below : List Frame} {meth : Method} {c : Code} {H : Heap} {locs : List Loc} {cells slots : Nat} {Q : State → Prop} {cc : ByteArray} {nL pc : Nat} {ls : Array Slot} {rest : List Value} {D : va_G} {dA : Nat → ClassId} {h : Nat} {u : CS} {H0 : Heap} {own : String} {ρ : Type} {r0 : ρ}
/-- from the entry of a method that may throw and has no handlers -/
theorem wc_metX {y : MethodName} {bytes : ByteArray} {maxL mc ms : Nat} {ret : Option FieldType} {rm : Room} {av : List Value} {V : Option Value ⊕ Nat} {u1 : CS} {lv : List (Nat × Value)} (hy : plainName y.cls = true) (hyc : y.cls = own) (hn : Nat.ble (lg_sl av).length maxL = true) (hlv : lv_args 0 av = lv)
    (body : ∀ (p : Program) (e : Env) (s : State) (m : MethodId) (args : Array Value) (below : List Frame) (meth : Method) (c : Code) (ls : Array Slot), CC p m c bytes maxL s args D dA own → meth.sig.returnType = ret → meth.locks = false → c.exceptionTable.isEmpty = true → wc_W D dA h u s.heap → wc_S u → va_S (CA h) s.heap s.heap [] → lv_has ls maxL lv →
      W p l e rm s m args below meth c s.heap [] 0 0 (MQX below (wc_Qx D dA h V u1) args s mc ms (CA h)) (F0 m 0 ls [])) : MetX l y (ws_ y bytes maxL ret) rm (va_Pc av (wc_St D dA h u)) (wc_Qx D dA h V u1) mc ms (CA h) := by
  refine MetX.ofW (cc := bytes) (maxL := maxL) (ret := ret) hy rfl ?_
  intro p e s m args below meth c s₁ B hml hv
  obtain ⟨rfl, hT, hS, hK⟩ := hv
  have hts0 := atoms_spec (ws := ws_ y bytes maxL ret) B.pre
  have hts : ∀ w ∈ lw_all, w.before _ s = true := fun w h => hts0 w (List.mem_cons_of_mem _ h)
  have hown : s.vm.findClass y.cls = some m.cls := findClass_of_methodNamed B.named
  rw [lg_entry_eq]
  have hl := lv_entry av (n := maxL) (Nat.le_of_ble_eq_true hn)
  rw [hlv] at hl
  exact body p e s m _ below meth c _ ⟨⟨B.exec, B.bytes, hml, by rw [← hyc]; exact hown, hts⟩, hK⟩ B.returns B.notSynchronized (B.noHandlers (hts0 _ List.mem_cons_self)) hT hS va_S.rf hl
theorem wx_iret {x : Int32} {V : Int32 ⊕ Nat} {u1 : CS} (C : CC p m c cc nL s args D dA own) (hr : meth.sig.returnType = some .int) (hlocks : meth.locks = false) (hW : wc_W D dA h u H) (hS : wc_S u) (hV : va_S (CA h) s.heap H locs) (hE : some ((.inl x : Int32 ⊕ Nat), u) = some (V, u1)) (d : decode cc pc = .ok (.ireturn, 1)) : W p l e R s m args below meth c H locs cells slots (MQX below (wc_Qx D dA h (wc_vi V) u1) args s cells slots (CA h)) (F0 m pc ls [.int x]) := by
  cases hE
  exact W.mono (fun t q => MQ.toX t q) (wc_iret C hr hlocks hW hS hV rfl d)
theorem wx_zret {x : Int32} {V : Int32 ⊕ Nat} {u1 : CS} (C : CC p m c cc nL s args D dA own) (hr : meth.sig.returnType = some .boolean) (hlocks : meth.locks = false) (hW : wc_W D dA h u H) (hS : wc_S u) (hV : va_S (CA h) s.heap H locs) (hb1 : x = 0 ∨ x = 1) (hE : some ((.inl x : Int32 ⊕ Nat), u) = some (V, u1)) (d : decode cc pc = .ok (.ireturn, 1)) : W p l e R s m args below meth c H locs cells slots (MQX below (wc_Qx D dA h (wc_vi V) u1) args s cells slots (CA h)) (F0 m pc ls [.int x]) := by
  cases hE
  exact W.mono (fun t q => MQ.toX t q) (wc_zret C hr hlocks hW hS hV hb1 rfl d)
theorem wx_cret {x : Int32} {V : Int32 ⊕ Nat} {u1 : CS} (C : CC p m c cc nL s args D dA own) (hr : meth.sig.returnType = some .char) (hlocks : meth.locks = false) (hW : wc_W D dA h u H) (hS : wc_S u) (hV : va_S (CA h) s.heap H locs) (hb1 : narrow .char (.int x) = .int x) (hE : some ((.inl x : Int32 ⊕ Nat), u) = some (V, u1)) (d : decode cc pc = .ok (.ireturn, 1)) : W p l e R s m args below meth c H locs cells slots (MQX below (wc_Qx D dA h (wc_vi V) u1) args s cells slots (CA h)) (F0 m pc ls [.int x]) := by
  cases hE
  exact W.mono (fun t q => MQ.toX t q) (wc_cret C hr hlocks hW hS hV hb1 rfl d)
theorem wx_lret {x : Int64} {V : Int64 ⊕ Nat} {u1 : CS} (C : CC p m c cc nL s args D dA own) (hr : meth.sig.returnType = some .long) (hlocks : meth.locks = false) (hW : wc_W D dA h u H) (hS : wc_S u) (hV : va_S (CA h) s.heap H locs) (hE : some ((.inl x : Int64 ⊕ Nat), u) = some (V, u1)) (d : decode cc pc = .ok (.lreturn, 1)) : W p l e R s m args below meth c H locs cells slots (MQX below (wc_Qx D dA h (wc_vl V) u1) args s cells slots (CA h)) (F0 m pc ls [.long x]) := by
  cases hE
  exact W.mono (fun t q => MQ.toX t q) (wc_lret C hr hlocks hW hS hV rfl d)
theorem wx_vret {V : Unit ⊕ Nat} {u1 : CS} (C : CC p m c cc nL s args D dA own) (hr : meth.sig.returnType = none) (hlocks : meth.locks = false) (hW : wc_W D dA h u H) (hS : wc_S u) (hV : va_S (CA h) s.heap H locs) (hE : some ((.inl () : Unit ⊕ Nat), u) = some (V, u1)) (d : decode cc pc = .ok (.return_, 1)) : W p l e R s m args below meth c H locs cells slots (MQX below (wc_Qx D dA h (wc_vv V) u1) args s cells slots (CA h)) (F0 m pc ls []) := by
  cases hE
  exact W.mono (fun t q => MQ.toX t q) (wc_vret C hr hlocks hW hS hV rfl d)
theorem wx_aret {x : Option Nat} {V : Option Nat ⊕ Nat} {u1 : CS} {nm : String} (C : CC p m c cc nL s args D dA own) (hr : meth.sig.returnType = some (.object nm)) (hlocks : meth.locks = false) (hW : wc_W D dA h u H) (hS : wc_S u) (hV : va_S (CA h) s.heap H locs) (hE : some ((.inl x : Option Nat ⊕ Nat), u) = some (V, u1)) (d : decode cc pc = .ok (.areturn, 1)) : W p l e R s m args below meth c H locs cells slots (MQX below (wc_Qx D dA h (wc_vr h V) u1) args s cells slots (CA h)) (F0 m pc ls [wc_rf h x]) := by
  cases hE
  exact W.mono (fun t q => MQ.toX t q) (wc_aret C hr hlocks hW hS hV rfl d)
/-- athrow, no handler -/
theorem wx_throw {n : Nat} {V : Option Value ⊕ Nat} (C : CC p m c cc nL s args D dA own) (hlocks : meth.locks = false) (hnh : c.exceptionTable.isEmpty = true) (hW : wc_W D dA h u H) (hS : wc_S u) (hV : va_S (CA h) s.heap H locs) (hE : V = .inr n) (d : decode cc pc = .ok (.athrow, 1)) : W p l e R s m args below meth c H locs cells slots (MQX below (wc_Qx D dA h V u) args s cells slots (CA h)) (F0 m pc ls (.ref (h + n) :: rest)) := by
  subst hE
  intro T hT X
  have hout : ∀ x ∈ c.exceptionTable.toList, covers x pc = false := fun x hx => by
    have : c.exceptionTable.toList = [] := by simpa using hnh
    rw [this] at hx; cases hx
  obtain ⟨st, hrun, hend, hw, hsame⟩ := X.athrowLeaves C.1.1 (g := F0 m pc ls (.ref (h + n) :: rest)) rfl rfl rfl hout (a := h + n) (rest := rest) rfl (by rw [C.1.2.1]; exact d) hlocks
  refine ⟨_, st, .threw (h + n), hrun, hend, ⟨rfl, ?_, hS, ?_⟩, locs, ⟨hw, hsame⟩, hV.2.2⟩
  · show wc_W D dA h u T.heap
    rw [hT]; exact hW
  · exact hV.F hT
/-- a call of a method of the same class or another's that may throw: it returns, or the exception leaves this method too -/
theorem wx_call {A0 : Nat → Prop} {y : MethodName} {ws : List Cond} {rm : Room} {mc ms maxL index nn : Nat} {bytes : ByteArray} {ret : Option FieldType} {V : Option Value ⊕ Nat} {u1 : CS} {As : List Value} {b : Nat} {Cr : String} (C : CC p m c cc nL s args D dA own) (hM : MetX l y ws rm (va_Pc (.ref b :: As) (wc_St D dA h u)) (wc_Qx D dA h V u1) mc ms (CA h)) (cw : CallW R s args own Cr index y bytes maxL ret ws rm mc ms nn) (hp : PreV s H Cr b (va_Pc (.ref b :: As) (wc_St D dA h u)) As)
    (hn : As.length = nn) (hsz : ls.size = nL) (hro : (rest.map fun v => v.category).sum ≤ 8) (hdg : decode cc pc = .ok (.invokevirtual index, 3)) (hf : cells + mc ≤ R.cells ∧ slots + ms ≤ R.slots) (hV : va_S A0 H0 H locs) (hA : ∀ q, CA h q → A0 q)
    (kr : ∀ (v : Option Value) (H1 : Heap) (locs1 : List Loc), V = .inl v → wc_W D dA h u1 H1 → wc_S u1 → va_S A0 H0 H1 locs1 → W p l e R s m args below meth c H1 locs1 (cells + mc) (slots + ms) Q (F0 m (pc + 3) ls (v.toList ++ rest)))
    (kt : ∀ (n : Nat) (H1 : Heap) (locs1 : List Loc), V = .inr n → wc_W D dA h u1 H1 → wc_S u1 → va_S A0 H0 H1 locs1 → ∀ T : State, T.heap = H1 → Stand p l e R s m args below meth c T locs1 (cells + mc) (slots + ms) → ∃ t, Steps p.tables e below ((T.setTop (F0 m pc ls rest)).pushFrame (.throwing (h + n))) t ∧ Q t) :
    W p l e R s m args below meth c H locs cells slots Q (F0 m pc ls (As.reverse ++ .ref b :: rest)) := by
  obtain ⟨⟨hrc, hrs, hfr, hlo, hws, hcw, hcode, hini, hy, hlen, hl⟩, hin, hse⟩ := cw
  obtain ⟨hbl, ⟨cellB, hcB, hoB, hclB⟩, hPc⟩ := hp
  intro T hT X
  obtain ⟨mk, methM, hnamed, hmethM, hstM, habM⟩ := Cond.instanceMethod_spec hin
  obtain ⟨methM', cM, hmethM', -, -, -, -, -, -, hsigM⟩ := Cond.code_spec hnamed hcode
  cases hmethM.symm.trans hmethM'
  obtain ⟨c2, r2, m2, q1, q2, q3, q4, kP, hkP, hkPi⟩ := Cond.selects_spec hse
  cases hclB.symm.trans q1
  cases (State.methodFound?_of_named hnamed hy).symm.trans q2
  cases hnamed.symm.trans q3
  have hselP : selectMethod e.platform s.vm cellB.cls mk = .method mk := by rw [Launch.admits_selectMethod X.admits]; exact q4
  obtain ⟨vm₁, X₁, hstep₁⟩ := X.invokevirtual C.1.1 C.1.2.2.2.1 hl hnamed hmethM hstM hkP hkPi hy (a := b) (cell := cellB) (by rw [hT]; exact hcB)
    (fun z h => by rw [h] at hoB; cases hoB) hselP hmethM habM hkP hkPi (g := F0 m pc ls (As.reverse ++ .ref b :: rest)) rfl (argsL := As) (rest := rest) (hn.trans (hlen _ hsigM)) rfl (by rw [C.1.2.1]; exact hdg)
  obtain ⟨o, t, T', L, X', hL, e1, e2, ⟨ho, hw1, hs1, hz, hk⟩, hsteps⟩ := xc_back (bytes := bytes) (maxL := maxL) (ret := ret) (len := 3) hM hbl hrc hrs hfr hlo hws hcw (fun a' V hW => word_at hW (Or.inl (by first | rfl | simp [Cond.onTables, Cond.keeps, Cond.steady])) hini) X₁ (g := F0 m pc ls rest) (ig := .invokevirtual index) (a := (Value.ref b :: As).toArray) rfl (hsz.trans C.1.2.2.1.symm) (by rw [C.1.2.1]; exact hdg) (lv_room hro) (X₁.named hnamed) hf.1 hf.2 (hPc (T.setVm vm₁) hT X₁.warmed)
  have hz : H.size ≤ t.heap.size := by rw [← hT]; exact hz
  have hk : ∀ q : Nat, q < H.size → ¬ CA h q → t.heap[q]? = H[q]? := by rw [← hT]; exact hk
  have hS1 : va_S A0 H0 t.heap (locs ++ L) := ⟨Nat.le_trans hV.1 hz, fun q h1 h2 => by rw [hk q (Nat.lt_of_lt_of_le h1 hV.1) (fun z => h2 (hA q z))]; exact hV.2.1 q h1 h2, fun q hq => by
      rcases List.mem_append.mp hq with h | h
      · exact hV.2.2 q h
      · exact hA _ (hL q h)⟩
  cases V with
  | inl v =>
    subst ho
    obtain ⟨t2, a1, b1⟩ := kr v t.heap _ rfl hw1 hs1 hS1 T' e1 X'
    exact ⟨t2, hstep₁ _ fun acts => by rw [doInvoke_state]; exact hsteps.trans a1, b1⟩
  | inr n =>
    subst ho
    obtain ⟨t2, a1, b1⟩ := kt n t.heap _ rfl hw1 hs1 hS1 T' e1 X'
    exact ⟨t2, hstep₁ _ fun acts => by rw [doInvoke_state]; exact hsteps.trans a1, b1⟩
/-- the exception leaves this method, which has no handlers -/
theorem wx_thru {n : Nat} {V : Option Value ⊕ Nat} {T : State} (hlocks : meth.locks = false) (hnh : c.exceptionTable.isEmpty = true) (hW : wc_W D dA h u H) (hS : wc_S u) (hV : va_S (CA h) s.heap H locs) (hE : V = .inr n) (hT : T.heap = H) (X : Stand p l e R s m args below meth c T locs cells slots) : ∃ t, Steps p.tables e below ((T.setTop (F0 m pc ls rest)).pushFrame (.throwing (h + n))) t ∧ MQX below (wc_Qx D dA h V u) args s cells slots (CA h) t := by
  subst hE
  have hout : ∀ x ∈ c.exceptionTable.toList, covers x pc = false := fun x hx => by
    have : c.exceptionTable.toList = [] := by simpa using hnh
    rw [this] at hx; cases hx
  obtain ⟨st, hrun, hend, hw, hsame⟩ := X.leaveThrown (h + n) (g := F0 m pc ls rest) rfl rfl rfl hout hlocks
  refine ⟨_, st, .threw (h + n), hrun, hend, ⟨rfl, ?_, hS, ?_⟩, locs, ⟨hw, hsame⟩, hV.2.2⟩
  · show wc_W D dA h u T.heap
    rw [hT]; exact hW
  · exact hV.F hT
end CX
