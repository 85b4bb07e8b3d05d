/-! METHODS THAT MAY THROW AND MAKE OBJECTS -/
/-- a call that may throw and makes nothing, of one that may make -/
def o_be {α β : Type} (u : CS) (x : Option ((α ⊕ Nat) × CS)) (K : α → CS → Option ((β ⊕ Nat) × CS)) : Option ((β ⊕ Nat) × CS) := match x with
  | none => none
  | some (.inl a, v) => if wc_z v = wc_z u then K a v else none
  | some (.inr n, v) => if wc_z v = wc_z u then some (.inr n, v) else none
theorem o_be_some {α β : Type} {u : CS} {x : Option ((α ⊕ Nat) × CS)} {K : α → CS → Option ((β ⊕ Nat) × CS)} {V : β ⊕ Nat} {u1 : CS} (h : o_be u x K = some (V, u1)) : (∃ a v, x = some (.inl a, v) ∧ wc_z v = wc_z u ∧ K a v = some (V, u1)) ∨ (∃ n, x = some (.inr n, u1) ∧ wc_z u1 = wc_z u ∧ V = .inr n) := by
  rcases x with _ | ⟨a | n, v⟩
  · cases h
  · by_cases c : wc_z v = wc_z u
    · simp only [o_be, if_pos c] at h
      exact Or.inl ⟨a, v, rfl, c, h⟩
    · simp only [o_be, if_neg c] at h; cases h
  · by_cases c : wc_z v = wc_z u
    · simp only [o_be, if_pos c] at h
      cases h
      exact Or.inr ⟨n, rfl, c, rfl⟩
    · simp only [o_be, if_neg c] at h; cases h
/-- a call that may throw and may make, of one that may make -/
def o_bw {α β : Type} (u : CS) (x : Option ((α ⊕ Nat) × CS)) (K : α → CS → Option ((β ⊕ Nat) × CS)) : Option ((β ⊕ Nat) × CS) := match x with
  | none => none
  | some (.inl a, v) => o_zl (wc_z u) (wc_z v) (o_zc (fun r_ => wc_z r_.2) (wc_z v) (K a v))
  | some (.inr n, v) => o_zl (wc_z u) (wc_z v) (some (.inr n, v))
theorem o_bw_some {α β : Type} {u : CS} {x : Option ((α ⊕ Nat) × CS)} {K : α → CS → Option ((β ⊕ Nat) × CS)} {V : β ⊕ Nat} {u1 : CS} (h : o_bw u x K = some (V, u1)) : (∃ a v, x = some (.inl a, v) ∧ wc_z u ≤ wc_z v ∧ wc_z v ≤ wc_z u1 ∧ K a v = some (V, u1)) ∨ (∃ n, x = some (.inr n, u1) ∧ wc_z u ≤ wc_z u1 ∧ V = .inr n) := by
  rcases x with _ | ⟨a | n, v⟩
  · cases h
  · obtain ⟨h1, h2⟩ := o_zl_some h
    obtain ⟨h3, h4⟩ := o_zc_some h2
    exact Or.inl ⟨a, v, rfl, h1, h3, h4⟩
  · obtain ⟨h1, h2⟩ := o_zl_some h
    cases h2
    exact Or.inr ⟨n, rfl, h1, rfl⟩
section ZX
variable {p : Program} {l : Launch} {e : Env} {R : Room} {s : State} {m : MethodId} {args : Array Value} {below : List Frame} {meth : Method} {c : Code} {H : Heap} {locs : List Loc} {cells slots : Nat} {Q : State → Prop} {cc : ByteArray} {nL pc z0 : Nat} {ls : Array Slot} {rest : List Value} {D : va_G} {dA : Nat → ClassId} {h : Nat} {u : CS} {H0 : Heap} {own : String}
theorem wz_met {y : MethodName} {bytes : ByteArray} {maxL mc ms : Nat} {ret : Option FieldType} {rm : Room} {av : List Value} {V : Option Value ⊕ Nat} {u1 : CS} {lv : List (Nat × Value)} (hz0 : wc_z u = z0) (hy : plainName y.cls = true) (hyc : y.cls = own) (hn : Nat.ble (lg_sl av).length maxL = true) (hlv : lv_args 0 av = lv)
    (body : ∀ (p : Program) (e : Env) (s : State) (m : MethodId) (args : Array Value) (below : List Frame) (meth : Method) (c : Code) (ls : Array Slot), CC p m c bytes maxL s args D dA own → meth.sig.returnType = ret → meth.locks = false → c.exceptionTable.isEmpty = true → wc_W D dA h u s.heap → wc_S u → va_S (CA h) s.heap s.heap [] → lv_has ls maxL lv →
      W p l e rm s m args below meth c s.heap [] (wc_z u - z0) (4 * (wc_z u - z0)) (MQX below (wc_Qx D dA h V u1) args s mc ms (CA h)) (F0 m 0 ls [])) : MetX l y (ws_ y bytes maxL ret) rm (va_Pc av (wc_St D dA h u)) (wc_Qx D dA h V u1) mc ms (CA h) := by
  refine wc_metX hy hyc hn hlv (fun p e s m args below meth c ls C hr hlocks hnh hW hS hV hl => ?_)
  refine W.recount (k := wc_z u - z0) (n := 4 * (wc_z u - z0)) (by omega) (by omega) ?_
  exact body p e s m args below meth c ls C hr hlocks hnh hW hS hV hl
/-- a call that may throw and makes nothing -/
theorem wz_callE {α β : Type} {va : α ⊕ Nat → Option Value ⊕ Nat} {vf : β ⊕ Nat → Option Value ⊕ Nat} {f : α → Option Value} (hva : ∀ a, va (.inl a) = .inl (f a)) (hvn : ∀ n, va (.inr n) = .inr n) (hvf : ∀ n, vf (.inr n) = .inr n) {x : Option ((α ⊕ Nat) × CS)} {K : α → CS → Option ((β ⊕ Nat) × CS)} {Vf : β ⊕ Nat} {uF : CS} {y : MethodName} {ws : List Cond} {rm : Room} {maxL index nn : Nat} {bytes : ByteArray} {ret : Option FieldType} {As : List Value} {b : Nat} {Cr : String} (C : CC p m c cc nL s args D dA own) (hlocks : meth.locks = false) (hnh : c.exceptionTable.isEmpty = true) (hZ : z0 ≤ wc_z u ∧ wc_z u ≤ wc_z uF) (hRc : R.cells = wc_z uF - z0) (hRs : R.slots = 4 * (wc_z uF - z0)) (hE : o_be u x K = some (Vf, uF)) (hM : ∀ (V : α ⊕ Nat) (u1 : CS), x = some (V, u1) → MetX l y ws rm (va_Pc (.ref b :: As) (wc_St D dA h u)) (wc_Qx D dA h (va V) u1) 0 0 (CA h)) (cw : CallW R s args own Cr index y bytes maxL ret ws rm 0 0 nn) (hp : PreV s H Cr b (va_Pc (.ref b :: As) (wc_St D dA h u)) As)
    (hn : As.length = nn) (hsz : ls.size = nL) (hro : (rest.map fun v => v.category).sum ≤ 8) (hdg : decode cc pc = .ok (.invokevirtual index, 3)) (hV : va_S (CA h) s.heap H locs)
    (kk : ∀ (a : α) (u2 : CS) (H1 : Heap) (locs1 : List Loc), K a u2 = some (Vf, uF) → wc_W D dA h u2 H1 → wc_S u2 → va_S (CA h) s.heap H1 locs1 → (z0 ≤ wc_z u2 ∧ wc_z u2 ≤ wc_z uF) → W p l e R s m args below meth c H1 locs1 (wc_z u2 - z0) (4 * (wc_z u2 - z0)) (MQX below (wc_Qx D dA h (vf Vf) uF) args s (wc_z uF - z0) (4 * (wc_z uF - z0)) (CA h)) (F0 m (pc + 3) ls ((f a).toList ++ rest))) :
    W p l e R s m args below meth c H locs (wc_z u - z0) (4 * (wc_z u - z0)) (MQX below (wc_Qx D dA h (vf Vf) uF) args s (wc_z uF - z0) (4 * (wc_z uF - z0)) (CA h)) (F0 m pc ls (As.reverse ++ .ref b :: rest)) := by
  have hf : (wc_z u - z0) + 0 ≤ R.cells ∧ 4 * (wc_z u - z0) + 0 ≤ R.slots := by rw [hRc, hRs]; constructor <;> omega
  rcases o_be_some hE with ⟨a, u2, hc, hz, hE⟩ | ⟨n, hc, hz, hE⟩
  · refine wx_call C (hM _ _ hc) cw hp hn hsz hro hdg hf hV (fun _ z => z) (fun v H1 locs1 ev w1 w2 w3 => ?_) (fun n H1 locs1 ev => ?_)
    · rw [hva] at ev
      cases ev
      refine W.recount (k := wc_z u2 - z0) (n := 4 * (wc_z u2 - z0)) (by omega) (by omega) ?_
      exact kk a u2 H1 locs1 hE w1 w2 w3 (by omega)
    · rw [hva] at ev
      cases ev
  · refine wx_call C (hM _ _ hc) cw hp hn hsz hro hdg hf hV (fun _ z => z) (fun v H1 locs1 ev => ?_) (fun n2 H1 locs1 ev w1 w2 w3 T hT X => ?_)
    · rw [hvn] at ev
      cases ev
    · rw [hvn] at ev
      cases ev
      subst hE
      rw [show wc_z uF - z0 = wc_z u - z0 + 0 by omega, show 4 * (wc_z u - z0 + 0) = 4 * (wc_z u - z0) + 0 by omega]
      exact wx_thru hlocks hnh w1 w2 w3 (hvf n) hT X
/-- a call that may throw and may make -/
theorem wz_callW {α β : Type} {va : α ⊕ Nat → Option Value ⊕ Nat} {vf : β ⊕ Nat → Option Value ⊕ Nat} {f : α → Option Value} (hva : ∀ a, va (.inl a) = .inl (f a)) (hvn : ∀ n, va (.inr n) = .inr n) (hvf : ∀ n, vf (.inr n) = .inr n) {x : Option ((α ⊕ Nat) × CS)} {K : α → CS → Option ((β ⊕ Nat) × CS)} {Vf : β ⊕ Nat} {uF : CS} {y : MethodName} {ws : List Cond} {rm : CS → Room} {maxL index nn : Nat} {bytes : ByteArray} {ret : Option FieldType} {As : List Value} {b : Nat} {Cr : String} (C : CC p m c cc nL s args D dA own) (hlocks : meth.locks = false) (hnh : c.exceptionTable.isEmpty = true) (hZ : z0 ≤ wc_z u ∧ wc_z u ≤ wc_z uF) (hRc : R.cells = wc_z uF - z0) (hRs : R.slots = 4 * (wc_z uF - z0)) (hE : o_bw u x K = some (Vf, uF)) (hM : ∀ (V : α ⊕ Nat) (u1 : CS), wc_z u ≤ wc_z u1 → x = some (V, u1) → MetX l y ws (rm u1) (va_Pc (.ref b :: As) (wc_St D dA h u)) (wc_Qx D dA h (va V) u1) (wc_z u1 - wc_z u) (4 * (wc_z u1 - wc_z u)) (CA h)) (cw : ∀ u1 : CS, CallW R s args own Cr index y bytes maxL ret ws (rm u1) (wc_z u1 - wc_z u) (4 * (wc_z u1 - wc_z u)) nn) (hp : PreV s H Cr b (va_Pc (.ref b :: As) (wc_St D dA h u)) As)
    (hn : As.length = nn) (hsz : ls.size = nL) (hro : (rest.map fun v => v.category).sum ≤ 8) (hdg : decode cc pc = .ok (.invokevirtual index, 3)) (hV : va_S (CA h) s.heap H locs)
    (kk : ∀ (a : α) (u2 : CS) (H1 : Heap) (locs1 : List Loc), K a u2 = some (Vf, uF) → wc_W D dA h u2 H1 → wc_S u2 → va_S (CA h) s.heap H1 locs1 → (z0 ≤ wc_z u2 ∧ wc_z u2 ≤ wc_z uF) → W p l e R s m args below meth c H1 locs1 (wc_z u2 - z0) (4 * (wc_z u2 - z0)) (MQX below (wc_Qx D dA h (vf Vf) uF) args s (wc_z uF - z0) (4 * (wc_z uF - z0)) (CA h)) (F0 m (pc + 3) ls ((f a).toList ++ rest))) :
    W p l e R s m args below meth c H locs (wc_z u - z0) (4 * (wc_z u - z0)) (MQX below (wc_Qx D dA h (vf Vf) uF) args s (wc_z uF - z0) (4 * (wc_z uF - z0)) (CA h)) (F0 m pc ls (As.reverse ++ .ref b :: rest)) := by
  rcases o_bw_some hE with ⟨a, u2, hc, hz, hz2, hE⟩ | ⟨n, hc, hz, hE⟩
  · refine wx_call C (hM _ _ hz hc) (cw u2) hp hn hsz hro hdg (by rw [hRc, hRs]; constructor <;> omega) hV (fun _ z => z) (fun v H1 locs1 ev w1 w2 w3 => ?_) (fun n H1 locs1 ev => ?_)
    · rw [hva] at ev
      cases ev
      refine W.recount (k := wc_z u2 - z0) (n := 4 * (wc_z u2 - z0)) (by omega) (by omega) ?_
      exact kk a u2 H1 locs1 hE w1 w2 w3 (by omega)
    · rw [hva] at ev
      cases ev
  · refine wx_call C (hM _ _ hz hc) (cw uF) hp hn hsz hro hdg (by rw [hRc, hRs]; constructor <;> omega) hV (fun _ z => z) (fun v H1 locs1 ev => ?_) (fun n2 H1 locs1 ev w1 w2 w3 T hT X => ?_)
    · rw [hvn] at ev
      cases ev
    · rw [hvn] at ev
      cases ev
      subst hE
      have e1 : wc_z uF - z0 = wc_z u - z0 + (wc_z uF - wc_z u) := by omega
      have e2 : 4 * (wc_z uF - z0) = 4 * (wc_z u - z0) + 4 * (wc_z uF - wc_z u) := by omega
      rw [e2, e1]
      exact wx_thru hlocks hnh w1 w2 w3 (hvf n) hT X
end ZX
/-- a call that may throw and make, in a method with handlers that may make -/
def o_bh {α β : Type} (u : CS) (x : Option ((α ⊕ Nat) × CS)) (K : α → CS → Option (β × CS)) (Kh : Nat → CS → Option (β × CS)) : Option (β × CS) := match x with
  | none => none
  | some (.inl a, v) => o_zl (wc_z u) (wc_z v) (o_zc (fun r_ => wc_z r_.2) (wc_z v) (K a v))
  | some (.inr n, v) => o_zl (wc_z u) (wc_z v) (o_zc (fun r_ => wc_z r_.2) (wc_z v) (Kh n v))
theorem o_bh_some {α β : Type} {u : CS} {x : Option ((α ⊕ Nat) × CS)} {K : α → CS → Option (β × CS)} {Kh : Nat → CS → Option (β × CS)} {r : β} {u1 : CS} (h : o_bh u x K Kh = some (r, u1)) : (∃ a v, x = some (.inl a, v) ∧ wc_z u ≤ wc_z v ∧ wc_z v ≤ wc_z u1 ∧ K a v = some (r, u1)) ∨ (∃ n v, x = some (.inr n, v) ∧ wc_z u ≤ wc_z v ∧ wc_z v ≤ wc_z u1 ∧ Kh n v = some (r, u1)) := by
  rcases x with _ | ⟨a | n, v⟩
  · cases h
  · obtain ⟨h1, h2⟩ := o_zl_some h
    obtain ⟨h3, h4⟩ := o_zc_some h2
    exact Or.inl ⟨a, v, rfl, h1, h3, h4⟩
  · obtain ⟨h1, h2⟩ := o_zl_some h
    obtain ⟨h3, h4⟩ := o_zc_some h2
    exact Or.inr ⟨n, v, rfl, h1, h3, h4⟩
section ZH
variable {p : Program} {l : Launch} {e : Env} {R : Room} {s : State} {m : MethodId} {args : Array Value} {below : List Frame} {meth : Method} {c : Code} {H : Heap} {locs : List Loc} {cells slots : Nat} {Q : State → Prop} {cc : ByteArray} {nL pc z0 : Nat} {ls : Array Slot} {rest : List Value} {D : va_G} {dA : Nat → ClassId} {h : Nat} {u : CS} {H0 : Heap} {own : String} {ρ : Type} {r0 : ρ}
theorem wz_callH {α β : Type} {va : α ⊕ Nat → Option Value ⊕ Nat} {f : α → Option Value} (hva : ∀ a, va (.inl a) = .inl (f a)) (hvn : ∀ n, va (.inr n) = .inr n) {x : Option ((α ⊕ Nat) × CS)} {K : α → CS → Option (β × CS)} {Kh : Nat → CS → Option (β × CS)} {rF : β} {uF : CS} {y : MethodName} {ws : List Cond} {rm : CS → Room} {maxL index nn : Nat} {bytes : ByteArray} {ret : Option FieldType} {As : List Value} {b : Nat} {Cr : String} (C : CC p m c cc nL s args D dA own) (hZ : z0 ≤ wc_z u ∧ wc_z u ≤ wc_z uF) (hRc : R.cells = wc_z uF - z0) (hRs : R.slots = 4 * (wc_z uF - z0)) (hE : o_bh u x K Kh = some (rF, uF)) (hM : ∀ (V : α ⊕ Nat) (u1 : CS), wc_z u ≤ wc_z u1 → x = some (V, u1) → MetX l y ws (rm u1) (va_Pc (.ref b :: As) (wc_St D dA h u)) (wc_Qx D dA h (va V) u1) (wc_z u1 - wc_z u) (4 * (wc_z u1 - wc_z u)) (CA h)) (cw : ∀ u1 : CS, CallW R s args own Cr index y bytes maxL ret ws (rm u1) (wc_z u1 - wc_z u) (4 * (wc_z u1 - wc_z u)) nn) (hp : PreV s H Cr b (va_Pc (.ref b :: As) (wc_St D dA h u)) As)
    (hn : As.length = nn) (hsz : ls.size = nL) (hro : (rest.map fun v => v.category).sum ≤ 8) (hdg : decode cc pc = .ok (.invokevirtual index, 3)) (hV : va_S (CA h) s.heap H locs)
    (kk : ∀ (a : α) (u2 : CS) (H1 : Heap) (locs1 : List Loc), K a u2 = some (rF, uF) → wc_W D dA h u2 H1 → wc_S u2 → va_S (CA h) s.heap H1 locs1 → (z0 ≤ wc_z u2 ∧ wc_z u2 ≤ wc_z uF) → W p l e R s m args below meth c H1 locs1 (wc_z u2 - z0) (4 * (wc_z u2 - z0)) Q (F0 m (pc + 3) ls ((f a).toList ++ rest)))
    (kh : ∀ (n : Nat) (u2 : CS) (H1 : Heap) (locs1 : List Loc), Kh n u2 = some (rF, uF) → wc_W D dA h u2 H1 → wc_S u2 → va_S (CA h) s.heap H1 locs1 → (z0 ≤ wc_z u2 ∧ wc_z u2 ≤ wc_z uF) → ∃ (hpc : Nat) (cell : Cell), H1[h + n]? = some cell ∧ xh_go p l e R s m args below meth c locs1 (wc_z u2 - z0) (4 * (wc_z u2 - z0)) (F0 m pc ls rest) (h + n) cell c.exceptionTable.toList hpc ∧ W p l e R s m args below meth c H1 locs1 (wc_z u2 - z0) (4 * (wc_z u2 - z0)) Q (F0 m hpc ls [.ref (h + n)])) :
    W p l e R s m args below meth c H locs (wc_z u - z0) (4 * (wc_z u - z0)) Q (F0 m pc ls (As.reverse ++ .ref b :: rest)) := by
  rcases o_bh_some hE with ⟨a, u2, hc, hz, hz2, hE⟩ | ⟨n, u2, hc, hz, hz2, hE⟩
  · refine wx_call C (hM _ _ hz hc) (cw u2) hp hn hsz hro hdg (by rw [hRc, hRs]; constructor <;> omega) hV (fun _ z => z) (fun v H1 locs1 ev w1 w2 w3 => ?_) (fun n H1 locs1 ev => ?_)
    · rw [hva] at ev
      cases ev
      refine W.recount (k := wc_z u2 - z0) (n := 4 * (wc_z u2 - z0)) (by omega) (by omega) ?_
      exact kk a u2 H1 locs1 hE w1 w2 w3 (by omega)
    · rw [hva] at ev
      cases ev
  · refine wx_call C (hM _ _ hz hc) (cw u2) hp hn hsz hro hdg (by rw [hRc, hRs]; constructor <;> omega) hV (fun _ z => z) (fun v H1 locs1 ev => ?_) (fun n2 H1 locs1 ev w1 w2 w3 T hT X => ?_)
    · rw [hvn] at ev
      cases ev
    · rw [hvn] at ev
      cases ev
      obtain ⟨hpc, cell, hcell, hgo, hk⟩ := kh n u2 H1 locs1 hE w1 w2 w3 (by omega)
      have e1 : wc_z u - z0 + (wc_z u2 - wc_z u) = wc_z u2 - z0 := by omega
      have e2 : 4 * (wc_z u - z0) + 4 * (wc_z u2 - wc_z u) = 4 * (wc_z u2 - z0) := by omega
      rw [e1, e2] at X
      obtain ⟨vm', X', st⟩ := xh_into (g := F0 m pc ls rest) rfl X (by rw [hT]; exact hcell) hgo
      obtain ⟨t, a1, b1⟩ := hk (T.setVm vm') hT X'
      exact ⟨t, st t a1, b1⟩
theorem wa_metW {y : MethodName} {bytes : ByteArray} {maxL mc ms : Nat} {ret : Option FieldType} {hh : List (Nat × Nat × Nat × Nat)} {rm : Room} {av : List Value} {v : Option Value} {u1 : CS} {lv : List (Nat × Value)} (hz0 : wc_z u = z0) (hy : plainName y.cls = true) (hyc : y.cls = own) (hn : Nat.ble (lg_sl av).length maxL = true) (hlv : lv_args 0 av = lv)
    (body : ∀ (p : Program) (e : Env) (s : State) (m : MethodId) (args : Array Value) (below : List Frame) (meth : Method) (c : Code) (ls : Array Slot), CC p m c bytes maxL s args D dA own → meth.sig.returnType = ret → meth.locks = false → c.exceptionTable.toList.map (fun h => (h.startPc, h.endPc, h.handlerPc, h.catchType)) = hh → wc_W D dA h u s.heap → wc_S u → va_S (CA h) s.heap s.heap [] → lv_has ls maxL lv →
      W p l e rm s m args below meth c s.heap [] (wc_z u - z0) (4 * (wc_z u - z0)) (MQ below (wc_Qr D dA h v u1) args s mc ms (CA h)) (F0 m 0 ls [])) : Met l y (wsW_ y bytes maxL ret hh) rm (va_Pc av (wc_St D dA h u)) (wc_Qr D dA h v u1) mc ms (CA h) := by
  refine wc_metW hy hyc hn hlv (fun p e s m args below meth c ls C hr hlocks htb hW hS hV hl => ?_)
  refine W.recount (k := wc_z u - z0) (n := 4 * (wc_z u - z0)) (by omega) (by omega) ?_
  exact body p e s m args below meth c ls C hr hlocks htb hW hS hV hl
/-- aastore of a Line into an array of Lines -/
theorem wc_stq7 {i : Int32} {v : Nat} {K : CS → Option ρ} {n len : Nat} {J : CS → Prop} (C : CC p m c cc nL s args D dA own) (hW : wc_W D dA h u H) (hV : va_S (CA h) H0 H locs) (ht : wc_T u n = some (.inr (7, len))) (hv : wc_T u v = some (.inl 5)) (hJ : J (wc_uQ u n i.toNatClampNeg (some v))) (hE : o_ast len i (wc_uQ u n i.toNatClampNeg (some v)) K = some r0) (d : decode cc pc = .ok (.aastore, 1)) (k : ∀ (u1 : CS) (H1 : Heap) (locs1 : List Loc), K u1 = some r0 → wc_W D dA h u1 H1 → J u1 → va_S (CA h) H0 H1 locs1 → W p l e R s m args below meth c H1 locs1 cells slots Q (F0 m (pc + 1) ls rest)) : W p l e R s m args below meth c H locs cells slots Q (F0 m pc ls (.ref (h + v) :: .int i :: .ref (h + n) :: rest)) := by
  obtain ⟨hin, hE⟩ := o_ast_some hE
  have hlt : i.toNatClampNeg < len := Nat.not_le.mp fun q => hin (Or.inr q)
  have h0 : ¬ i < 0 := fun q => hin (Or.inl q)
  obtain ⟨cellV, g1, g2, g3⟩ := wc_recv C.2 hW hv (q := (RX5, TX5, 4)) rfl
  obtain ⟨kA, comp, k1, k2, k3, -⟩ := (C.2.1.2 7 _ rfl).2
  have g3 : s.vm.findClass "WoodState$Line" = some cellV.cls := g3
  cases k3.symm.trans g3
  obtain ⟨kC, hkC, -⟩ := Vm.findClass_spec g3
  have hcell : H[h + n]? = some (arrV (dA 7) len (fun j => va_rf ((wc_Q u n j).map (fun m => h + m)))) := hW.2.2.2 n _ (wc_cellA h dA ht)
  refine W.aast C.1.1 C.1.2.1 hcell (fun q h => by cases h) (fun h => by cases h) k1 k2 rfl hkC ⟨h0, by rw [arrV_size]; exact hlt⟩ g1 (fun q h => by rw [h] at g2; cases g2) hkC (Vm.assignable_self _ _) rfl rfl d fun H1 e z oq => ?_
  refine k _ H1 _ hE (hW.set rfl rfl (wc_neQ h dA u n _ (some v)) (wc_cellA h dA (u := wc_uQ u n i.toNatClampNeg (some v)) ht) ?_ z oq) hJ (hV.put z oq (hW.inA ht))
  show H1[h + n]? = some (arrV (dA 7) len fun j => va_rf ((up2 (wc_Q u) n i.toNatClampNeg (some v) n j).map (fun m => h + m)))
  rw [e, arrV_store]
  congr 2
  funext q
  rw [up2_at]
  by_cases hq : q = i.toNatClampNeg
  · simp [updV, hq, va_rf]
  · simp [updV, hq]
end ZH
