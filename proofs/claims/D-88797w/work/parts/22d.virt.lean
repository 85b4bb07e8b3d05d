/-- words of a call whose method is inherited, overridden or abstract -/
theorem lw_U {own : String} {idx : Nat} {C owner : String} {x y : MethodName} {b : ByteArray} {L : Nat} {r : Option FieldType} (h1 : Cond.methodLink own idx x ∈ lw_all) (h2 : Cond.sameMethod x.cls owner x.name x.desc ∈ lw_all) (h3 : Cond.selects C x y ∈ lw_all) (h4 : Cond.instanceMethod y ∈ lw_all) (h5 : Cond.initialized y.cls ∈ lw_all) (h6 : Cond.code y b L r ∈ lw_all) : GoodIn lw_all (va_wsU own idx C owner x y (ws_ y b L r)) := by
  refine lw_app ?_ (lw_meth h6)
  intro w hw
  simp only [List.mem_cons, List.not_mem_nil, or_false] at hw
  rcases hw with e | e | e | e | e
  · rw [e]; exact h1
  · rw [e]; exact h2
  · rw [e]; exact h3
  · rw [e]; exact h4
  · rw [e]; exact h5
theorem lw_O {own : String} {idx : Nat} {C owner : String} {x y : MethodName} {b : ByteArray} {L : Nat} {r : Option FieldType} (h1 : Cond.methodLink own idx x ∈ lw_all) (h2 : Cond.sameMethod x.cls owner x.name x.desc ∈ lw_all) (h0 : Cond.instanceMethod ⟨owner, x.name, x.desc⟩ ∈ lw_all) (h3 : Cond.selects C x y ∈ lw_all) (h4 : Cond.instanceMethod y ∈ lw_all) (h5 : Cond.initialized y.cls ∈ lw_all) (h6 : Cond.code y b L r ∈ lw_all) : GoodIn lw_all (va_wsO own idx C owner x y (ws_ y b L r)) := by
  refine lw_app ?_ (lw_meth h6)
  intro w hw
  simp only [List.mem_cons, List.not_mem_nil, or_false] at hw
  rcases hw with e | e | e | e | e | e
  · rw [e]; exact h1
  · rw [e]; exact h2
  · rw [e]; exact h0
  · rw [e]; exact h3
  · rw [e]; exact h4
  · rw [e]; exact h5
theorem lw_SU {own : String} {idx : Nat} {y : MethodName} {b : ByteArray} {L : Nat} {r : Option FieldType} (h1 : Cond.methodLink own idx y ∈ lw_all) (h2 : Cond.sameMethod y.cls y.cls y.name y.desc ∈ lw_all) (h3 : Cond.superclass own y.cls ∈ lw_all) (h4 : Cond.instanceMethod y ∈ lw_all) (h5 : Cond.initialized y.cls ∈ lw_all) (h6 : Cond.code y b L r ∈ lw_all) : GoodIn lw_all (va_wsSU own idx y (ws_ y b L r)) := by
  refine lw_app ?_ (lw_meth h6)
  intro w hw
  simp only [List.mem_cons, List.not_mem_nil, or_false] at hw
  rcases hw with e | e | e | e | e
  · rw [e]; exact h1
  · rw [e]; exact h2
  · rw [e]; exact h3
  · rw [e]; exact h4
  · rw [e]; exact h5
/-- what a cast lets pass: null, a lot -/
def o_cl {β : Type} (u : CS) (p : Option Nat) (K : Option β) : Option β := match p with
  | none => K
  | some n => o_lt u n K
theorem z_ti {x k : Int32} (h : ¬ x = k) : ¬ x.toInt = k.toInt := fun e => h (Int32.toInt_inj.mp e)
theorem z_tj {x k : Int32} {j : Int} (h : ¬ x = k) (e : k.toInt = j) : ¬ j = x.toInt := fun q => h (Int32.toInt_inj.mp (q.symm.trans e.symm))
section CRE
variable {p : Program} {l : Launch} {e : Env} {R : Room} {s : State} {m : MethodId} {args : Array Value} {below : List Frame} {meth : Method} {c : Code} {H : Heap} {locs : List Loc} {cells slots : Nat} {Q : State → Prop} {cc : ByteArray} {nL pc : Nat} {ls : Array Slot} {rest : List Value} {D : va_G} {dA : Nat → ClassId} {h : Nat} {u : CS} {H0 : Heap} {own : String} {ρ : Type} {r0 : ρ}
/-- checkcast to Lot, of a lot -/
theorem wc_castL {n index : Nat} (C : CC p m c cc nL s args D dA own) (hW : wc_W D dA h u H) (ht : wc_lot u n) (hl : Cond.classLink own index "WoodState$Lot" ∈ lw_all) (d : decode cc pc = .ok (.checkcast index, 3)) (k : W p l e R s m args below meth c H locs cells slots Q (F0 m (pc + 3) ls (.ref (h + n) :: rest))) : W p l e R s m args below meth c H locs cells slots Q (F0 m pc ls (.ref (h + n) :: rest)) := by
  rcases ht with ht | ht | ht
  · exact va_castS C.1.1 C.1.2.1 C.1.2.2.2.1 (C.1.2.2.2.2 _ hl) (C.2.1.1 8 (RX8, TX8, 3) rfl).2 (wc_recv C.2 hW ht (q := (RX8, TX8, 3)) rfl) d k
  · exact va_castY C.1.1 C.1.2.1 C.1.2.2.2.1 (C.1.2.2.2.2 _ hl) (C.2.2.at q2266 rfl) (wc_recv C.2 hW ht (q := (RX16, TX16, 4)) rfl) d k
  · exact va_castY C.1.1 C.1.2.1 C.1.2.2.2.1 (C.1.2.2.2.2 _ hl) (C.2.2.at q2267 rfl) (wc_recv C.2 hW ht (q := (RX9, TX9, 3)) rfl) d k
theorem wc_castLN {x : Option Nat} {index : Nat} {K : Option ρ} (C : CC p m c cc nL s args D dA own) (hW : wc_W D dA h u H) (hl : Cond.classLink own index "WoodState$Lot" ∈ lw_all) (hE : o_cl u x K = some r0) (d : decode cc pc = .ok (.checkcast index, 3)) (k : K = some r0 → W p l e R s m args below meth c H locs cells slots Q (F0 m (pc + 3) ls (wc_rf h x :: rest))) : W p l e R s m args below meth c H locs cells slots Q (F0 m pc ls (wc_rf h x :: rest)) := by
  cases x with
  | none => exact lv_castN C.1.1 C.1.2.1 d (k hE)
  | some n => exact wc_castL C hW (o_lt_some hE).1 hl d (k (o_lt_some hE).2)
/-- checkcast to a class, of an object of just that class -/
theorem wc_castX {n ci index N : Nat} {nm : String} {T : u_T} (C : CC p m c cc nL s args D dA own) (hW : wc_W D dA h u H) (ht : wc_T u n = some (.inl ci)) (hc : vwCl[ci]? = some (nm, T, N)) (hl : Cond.classLink own index nm ∈ lw_all) (d : decode cc pc = .ok (.checkcast index, 3)) (k : W p l e R s m args below meth c H locs cells slots Q (F0 m (pc + 3) ls (.ref (h + n) :: rest))) : W p l e R s m args below meth c H locs cells slots Q (F0 m pc ls (.ref (h + n) :: rest)) :=
  va_castS C.1.1 C.1.2.1 C.1.2.2.2.1 (C.1.2.2.2.2 _ hl) (C.2.1.1 ci (nm, T, N) hc).2 (wc_recv C.2 hW ht (q := (nm, T, N)) hc) d k
end CRE
theorem wc_sqL {F : Nat} (hF : wc_F F) (k : Nat) : wc_sq (F + 24) k = none := by
  rcases hF with rfl | rfl | rfl <;> rfl
/-- a value that is a char's -/
def o_ch {β : Type} (x : Int32) (K : Option β) : Option β := if (x.toUInt32 % 65536).toInt32 = x then K else none
theorem o_ch_some {β : Type} {x : Int32} {K : Option β} {R : β} (h : o_ch x K = some R) : (narrow .char (.int x) = .int x ∧ fits .char (.int x) = true) ∧ K = some R := by
  unfold o_ch at h
  by_cases c : (x.toUInt32 % 65536).toInt32 = x
  · rw [if_pos c] at h
    refine ⟨⟨?_, ?_⟩, h⟩
    · have := pk_nc x
      rw [c] at this; exact this
    · have := pk_fc x
      rw [c] at this; exact this
  · rw [if_neg c] at h; cases h
