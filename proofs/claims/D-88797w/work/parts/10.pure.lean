/-! PURE COMBINATORS of the generated functions: a name, a call's answer, an array's element, checks -/
def o_nm {α β : Type} (x : α) (K : α → β) : β := K x
def o_bd {α β : Type} (x : Option α) (K : α → Option β) : Option β := match x with
  | none => none
  | some a => K a
def o_bd2 {α γ β : Type} (x : Option (α × γ)) (K : α → γ → Option β) : Option β := match x with
  | none => none
  | some a => K a.1 a.2
def o_ald {α β : Type} (f : Nat → α) (n : Nat) (i : Int32) (K : α → Option β) : Option β := if i < 0 ∨ n ≤ i.toNatClampNeg then none else K (f i.toNatClampNeg)
def o_ast {S β : Type} (n : Nat) (i : Int32) (u : S) (K : S → Option β) : Option β := if i < 0 ∨ n ≤ i.toNatClampNeg then none else K u
def o_nz {β : Type} (y : Int32) (K : Option β) : Option β := if y = 0 then none else K
def o_nzl {β : Type} (y : Int64) (K : Option β) : Option β := if y = 0 then none else K
def o_bl {β : Type} (x : Int32) (K : Option β) : Option β := if x = 0 ∨ x = 1 then K else none
theorem o_bd_some {α β : Type} {x : Option α} {K : α → Option β} {R : β} (h : o_bd x K = some R) : ∃ a, x = some a ∧ K a = some R := by
  cases x with
  | none => cases h
  | some a => exact ⟨a, rfl, h⟩
theorem o_bd2_some {α γ β : Type} {x : Option (α × γ)} {K : α → γ → Option β} {R : β} (h : o_bd2 x K = some R) : ∃ a b, x = some (a, b) ∧ K a b = some R := by
  cases x with
  | none => cases h
  | some a => exact ⟨a.1, a.2, rfl, h⟩
theorem o_ald_some {α β : Type} {f : Nat → α} {n : Nat} {i : Int32} {K : α → Option β} {R : β} (h : o_ald f n i K = some R) : vp_in i n ∧ K (f i.toNatClampNeg) = some R := by
  unfold o_ald at h
  by_cases c : i < 0 ∨ n ≤ i.toNatClampNeg
  · rw [if_pos c] at h; cases h
  · rw [if_neg c] at h; exact ⟨c, h⟩
theorem o_ast_some {S β : Type} {n : Nat} {i : Int32} {u : S} {K : S → Option β} {R : β} (h : o_ast n i u K = some R) : vp_in i n ∧ K u = some R := by
  unfold o_ast at h
  by_cases c : i < 0 ∨ n ≤ i.toNatClampNeg
  · rw [if_pos c] at h; cases h
  · rw [if_neg c] at h; exact ⟨c, h⟩
theorem o_nz_some {β : Type} {y : Int32} {K : Option β} {R : β} (h : o_nz y K = some R) : ¬ y = 0 ∧ K = some R := by
  unfold o_nz at h
  by_cases c : y = 0
  · rw [if_pos c] at h; cases h
  · rw [if_neg c] at h; exact ⟨c, h⟩
theorem o_nzl_some {β : Type} {y : Int64} {K : Option β} {R : β} (h : o_nzl y K = some R) : ¬ y = 0 ∧ K = some R := by
  unfold o_nzl at h
  by_cases c : y = 0
  · rw [if_pos c] at h; cases h
  · rw [if_neg c] at h; exact ⟨c, h⟩
theorem o_bl_some {β : Type} {x : Int32} {K : Option β} {R : β} (h : o_bl x K = some R) : (x = 0 ∨ x = 1) ∧ K = some R := by
  unfold o_bl at h
  by_cases c : x = 0 ∨ x = 1
  · rw [if_pos c] at h; exact ⟨c, h⟩
  · rw [if_neg c] at h; cases h
theorem z_t {α : Type} {c : Prop} {i : Decidable c} {A B R : α} (h : c) (hE : (if c then A else B) = R) : A = R := (if_pos h).symm.trans hE
theorem z_f {α : Type} {c : Prop} {i : Decidable c} {A B R : α} (h : ¬ c) (hE : (if c then A else B) = R) : B = R := (if_neg h).symm.trans hE
theorem z_nar {x : Int32} (h : x = 0 ∨ x = 1) : narrow .boolean (.int x) = .int x := by
  rcases h with rfl | rfl <;> rfl
theorem z_vnar {x : Int32} (h : x = 0 ∨ x = 1) : vp_nar .boolean x = x := by
  rcases h with rfl | rfl <;> rfl
theorem z_fit {x : Int32} (h : x = 0 ∨ x = 1) : fits .boolean (.int x) = true := by
  rcases h with rfl | rfl <;> rfl
theorem z_swOut {x : Int32} {lo hi : Int} (h : ∀ k : Int, lo ≤ k → k ≤ hi → ¬ x = Int32.ofInt k) : x.toInt < lo ∨ hi < x.toInt := by
  by_cases h1 : x.toInt < lo
  · exact Or.inl h1
  · by_cases h2 : hi < x.toInt
    · exact Or.inr h2
    · exact absurd (Int32.ofInt_toInt x).symm (h x.toInt (by omega) (by omega))
section PW
variable {p : Program} {l : Launch} {e : Env} {R : Room} {s : State} {m : MethodId} {args : Array Value} {below : List Frame} {meth : Method} {c : Code} {H : Heap} {locs : List Loc} {cells slots : Nat} {Q : State → Prop} {cc : ByteArray} {pc : Nat} {ls : Array Slot} {rest : List Value} {ρ : Type} {r0 : ρ}
theorem z_nmi {x : Int32} {K : Int32 → Option ρ} (hE : o_nm x K = some r0) (k : ∀ y : Int32, K y = some r0 → W p l e R s m args below meth c H locs cells slots Q (F0 m pc ls (.int y :: rest))) : W p l e R s m args below meth c H locs cells slots Q (F0 m pc ls (.int x :: rest)) := k x hE
theorem z_nml {x : Int64} {K : Int64 → Option ρ} (hE : o_nm x K = some r0) (k : ∀ y : Int64, K y = some r0 → W p l e R s m args below meth c H locs cells slots Q (F0 m pc ls (.long y :: rest))) : W p l e R s m args below meth c H locs cells slots Q (F0 m pc ls (.long x :: rest)) := k x hE
theorem z_iinc (hexec : p.tables.exec = Jvm.exec) (hb : c.code = cc) {i nL k : Nat} {n : Int} {x v : Int32} {lv : List (Nat × Value)} {lw : Int32 → List (Nat × Value)} {K : Int32 → Option ρ} (hdg : decode cc pc = .ok (.iinc i n, 3)) (h : lv_has ls nL lv) (hE : o_nm v K = some r0) (hk : lv[k]? = some (i, .int x)) (hv : x + Int32.ofInt n = v) (hn : i < nL) (hl : ∀ y : Int32, (i, Value.int y) :: lv.filter (fun q => !(q.1 == i) && !(q.1 + 1 == i && q.2.category == 2)) = lw y)
    (kk : ∀ (y : Int32) (ls' : Array Slot), K y = some r0 → lv_has ls' nL (lw y) → W p l e R s m args below meth c H locs cells slots Q (F0 m (pc + 3) ls' rest)) : W p l e R s m args below meth c H locs cells slots Q (F0 m pc ls rest) :=
  lv_iinc (v := v) hexec hb hdg h hk hv hn (hl v) (fun ls' hl' => kk v ls' hE hl')
theorem z_sub {ls : Array Slot} {n : Nat} {lv lw : List (Nat × Value)} (h : lv_has ls n lv) (is : List Nat) (e : lv_pick lv is = lw) : lv_has ls n lw := lv_sub h is e
end PW
