/-! System.arraycopy -/
def o_cp {S β : Type} (ns nd : Nat) (sp dp n : Int32) (u1 : S) (K : S → Option β) : Option β := if sp < 0 ∨ dp < 0 ∨ n < 0 ∨ ns < sp.toNatClampNeg + n.toNatClampNeg ∨ nd < dp.toNatClampNeg + n.toNatClampNeg then none else K u1
theorem o_cp_some {S β : Type} {ns nd : Nat} {sp dp n : Int32} {u1 : S} {K : S → Option β} {R : β} (h : o_cp ns nd sp dp n u1 K = some R) : (¬ sp < 0 ∧ ¬ dp < 0 ∧ ¬ n < 0 ∧ sp.toNatClampNeg + n.toNatClampNeg ≤ ns ∧ dp.toNatClampNeg + n.toNatClampNeg ≤ nd) ∧ K u1 = some R := by
  unfold o_cp at h
  by_cases c : sp < 0 ∨ dp < 0 ∨ n < 0 ∨ ns < sp.toNatClampNeg + n.toNatClampNeg ∨ nd < dp.toNatClampNeg + n.toNatClampNeg
  · rw [if_pos c] at h; cases h
  · rw [if_neg c] at h
    refine ⟨⟨fun q => c (Or.inl q), fun q => c (Or.inr (Or.inl q)), fun q => c (Or.inr (Or.inr (Or.inl q))), ?_, ?_⟩, h⟩
    · exact Nat.le_of_not_lt fun q => c (Or.inr (Or.inr (Or.inr (Or.inl q))))
    · exact Nat.le_of_not_lt fun q => c (Or.inr (Or.inr (Or.inr (Or.inr q))))
/-- all elements are null or lines -/
def o_lq {β : Type} (u : CS) (n len : Nat) (K : Option β) : Option β := if (List.range len).all (fun i => match wc_Q u n i with | none => true | some m => decide (wc_T u m = some (.inl 5))) = true then K else none
theorem o_lq_some {β : Type} {u : CS} {n len : Nat} {K : Option β} {R : β} (h : o_lq u n len K = some R) : (∀ i, i < len → ∀ y, wc_Q u n i = some y → wc_T u y = some (.inl 5)) ∧ K = some R := by
  unfold o_lq at h
  by_cases c : (List.range len).all (fun i => match wc_Q u n i with | none => true | some m => decide (wc_T u m = some (.inl 5))) = true
  · rw [if_pos c] at h
    refine ⟨fun i hi y hy => ?_, h⟩
    have := List.all_eq_true.mp c i (List.mem_range.mpr hi)
    rw [hy] at this
    exact of_decide_eq_true this
  · rw [if_neg c] at h; cases h
section CPY
variable {p : Program} {l : Launch} {e : Env} {R : Room} {s : State} {m : MethodId} {args : Array Value} {below : List Frame} {meth : Method} {c : Code} {H : Heap} {locs : List Loc} {cells slots : Nat} {Q : State → Prop} {cc : ByteArray} {nL pc : Nat} {ls : Array Slot} {rest : List Value} {D : va_G} {dA : Nat → ClassId} {h : Nat} {u : CS} {H0 : Heap} {own : String} {ρ : Type} {r0 : ρ}
theorem wc_copyG {α : Type} (mk : α → Value) {f g : Nat → α} {ty : FieldType} {a0 a : Nat} {c0 c1 : ClassId} {n0 n1 index : Nat} (C : CallFix p m c cc nL s args lw_all own) (hml : c.maxLocals = ls.size) (hlink : (Cond.methodLink own index arraycopyName) ∈ lw_all) (hnat : (Cond.native arraycopyName) ∈ lw_all) (hstat : (Cond.static arraycopyName) ∈ lw_all) (hini : (Cond.initialized "java/lang/System") ∈ lw_all)
    (hc0 : H[a0]? = some (arrV c0 n0 (fun j => mk (f j)))) (hc1 : H[a]? = some (arrV c1 n1 (fun j => mk (g j)))) (hA0 : ArrOfT s c0 ty) (hA1 : ArrOfT s c1 ty)
    {sp dp n : Int32} (h1 : ¬ sp < 0) (h2 : ¬ dp < 0) (h3 : ¬ n < 0) (h4 : sp.toNatClampNeg + n.toNatClampNeg ≤ n0) (h5 : dp.toNatClampNeg + n.toNatClampNeg ≤ n1)
    (hk : ((refKind ty != refKind ty) || (!refKind ty && ty != ty)) = false) (hel : ∀ T : State, T.heap = H → ∀ vm₁ : Vm, s.vm.Alike vm₁ → ∀ (k1 : Class) (cm1 : ClassId), s.vm.classes[c1]? = some k1 → k1.kind = .array cm1 ty → ∀ i, i < n.toNatClampNeg → fits ty (mk (f (sp.toNatClampNeg + i))) = true ∧ (T.setVm vm₁).takes cm1 (mk (f (sp.toNatClampNeg + i))))
    (hframes : 1 ≤ R.frames) (hlocals : (rest.map fun v => v.category).sum + (nativeFrameWords "java/lang/System" "arraycopy" 5 + 11) ≤ R.locals) (hdg : decode cc pc = .ok (.invokestatic index, 3))
    (kk : ∀ (H1 : Heap) (L : List Loc), H1[a]? = some (arrV c1 n1 (fun j => mk (va_cpy f g sp.toNatClampNeg dp.toNatClampNeg n.toNatClampNeg j))) → H1.size = H.size → (∀ q : Nat, q ≠ a → H1[q]? = H[q]?) → (∀ x ∈ L, x.base = a) → W p l e R s m args below meth c H1 (locs ++ L) cells slots Q (F0 m (pc + 3) ls rest)) : W p l e R s m args below meth c H locs cells slots Q (F0 m pc ls (.int n :: .int dp :: .ref a :: .int sp :: .ref a0 :: rest)) := by
  have nn : ∀ z : Int32, ¬ z < 0 → z.toInt = (z.toNatClampNeg : Int) := by
    intro z hz
    have hz0 : (0 : Int) ≤ z.toInt := by
      have := Int32.not_lt.mp hz
      simpa using Int32.le_iff_toInt_le.mp this
    show z.toInt = ((z.toInt.toNat : Nat) : Int)
    omega
  intro T hT X
  obtain ⟨-, k0, hk0, cm0, hkk0⟩ := hA0 n0 (fun j => mk (f j))
  obtain ⟨-, k1, hk1, cm1, hkk1⟩ := hA1 n1 (fun j => mk (g j))
  obtain ⟨vm', X', step⟩ := X.arraycopy C.1 C.2.2.2.1 (C.2.2.2.2 _ hlink) (C.2.2.2.2 _ hnat) (C.2.2.2.2 _ hstat) (C.2.2.2.2 _ hini) (src := a0) (dst := a) (cs := arrV c0 n0 (fun j => mk (f j))) (cd := arrV c1 n1 (fun j => mk (g j))) (srcPos := sp) (destPos := dp) (n := n) (by rw [hT]; exact hc0) (by rw [hT]; exact hc1)
    (fun _ h => by cases h) (fun _ h => by cases h) (fun h => by cases h) (fun h => by cases h) hk0 hk1 hkk0 hkk1 hk h1 h2 h3
    (by rw [nn sp h1, nn n h3, arrV_size]; omega)
    (by rw [nn dp h2, nn n h3, arrV_size]; omega)
    (fun vm₁ hal i hi => by
      have e : (arrV c0 n0 (fun j => mk (f j))).slots.getD (sp.toNatClampNeg + i) .null = mk (f (sp.toNatClampNeg + i)) := by
        rw [Array.getD_eq_getD_getElem?, arrV_read _ _ (by omega)]
        rfl
      rw [e]
      exact hel T hT vm₁ hal k1 cm1 hk1 hkk1 i hi)
    (g := F0 m pc ls (.int n :: .int dp :: .ref a :: .int sp :: .ref a0 :: rest)) rfl (by rw [hml]) (rest := rest) rfl (by rw [C.2.1]; exact hdg) hframes (by show 2 * 0 + _ + _ ≤ _; omega)
  have e1 : copied (arrV c0 n0 (fun j => mk (f j))) (arrV c1 n1 (fun j => mk (g j))) sp dp n = arrV c1 n1 (fun j => mk (va_cpy f g sp.toNatClampNeg dp.toNatClampNeg n.toNatClampNeg j)) := va_copied mk c0 c1 f g h4
  rw [e1] at X' step
  have hl : a < H.size := (Array.getElem?_eq_some_iff.mp hc1).1
  have hheap : ((T.setVm vm').setCell a (arrV c1 n1 (fun j => mk (va_cpy f g sp.toNatClampNeg dp.toNatClampNeg n.toNatClampNeg j)))).heap = H.setIfInBounds a (arrV c1 n1 (fun j => mk (va_cpy f g sp.toNatClampNeg dp.toNatClampNeg n.toNatClampNeg j))) := by rw [← hT]; rfl
  obtain ⟨t, a1, b1⟩ := kk _ _ (by simp [Array.getElem?_setIfInBounds, hl]) (by simp) (fun q hq => by simp [Array.getElem?_setIfInBounds, Ne.symm hq]) (fun x hx => by
    obtain ⟨z, -, hz⟩ := List.mem_map.mp hx
    rw [← hz]) _ hheap X'
  exact ⟨t, step t a1, b1⟩
theorem wc_Spack {A : Nat → Prop} {H0 H H1 : Heap} {locs L : List Loc} {a : Nat} (hS : va_S A H0 H locs) (z : H1.size = H.size) (oq : ∀ q : Nat, q ≠ a → H1[q]? = H[q]?) (ha : A a) (hL : ∀ x ∈ L, x.base = a) : va_S A H0 H1 (locs ++ L) := by
  refine ⟨by rw [z]; exact hS.1, fun q g1 g2 => ?_, fun q hq => ?_⟩
  · rw [oq q (fun e => g2 (by rw [e]; exact ha))]
    exact hS.2.1 q g1 g2
  · rcases List.mem_append.mp hq with h | h
    · exact hS.2.2 q h
    · rw [hL q h]; exact ha
theorem wc_neaA (h : Nat) (dA : Nat → ClassId) (u : CS) (n : Nat) (g : Nat → Int32) : ∀ m, m ≠ n → wc_cell h dA (wc_aA u n g) m = wc_cell h dA u m := fun m hm => wc_cell_ne (n := n) h dA rfl rfl rfl (up1_ne _ _ hm) rfl rfl rfl
theorem wc_neaB (h : Nat) (dA : Nat → ClassId) (u : CS) (n : Nat) (g : Nat → Int64) : ∀ m, m ≠ n → wc_cell h dA (wc_aB u n g) m = wc_cell h dA u m := fun m hm => wc_cell_ne (n := n) h dA rfl rfl rfl rfl (up1_ne _ _ hm) rfl rfl
theorem wc_neaQ (h : Nat) (dA : Nat → ClassId) (u : CS) (n : Nat) (g : Nat → Option Nat) : ∀ m, m ≠ n → wc_cell h dA (wc_aQ u n g) m = wc_cell h dA u m := fun m hm => wc_cell_ne (n := n) h dA rfl rfl rfl rfl rfl rfl (up1_ne _ _ hm)
theorem wc_copyI {K : CS → Option ρ} {n0 n1 l0 l1 index : Nat} {J : CS → Prop} (C : CC p m c cc nL s args D dA own) (hsz : ls.size = nL) (hlink : (Cond.methodLink own index arraycopyName) ∈ lw_all) (hnat : (Cond.native arraycopyName) ∈ lw_all) (hstat : (Cond.static arraycopyName) ∈ lw_all) (hini : (Cond.initialized "java/lang/System") ∈ lw_all) (hW : wc_W D dA h u H) (hV : va_S (CA h) H0 H locs) (ht0 : wc_T u n0 = some (.inr (0, l0))) (ht1 : wc_T u n1 = some (.inr (0, l1)))
    {sp dp n : Int32} (hJ : J (wc_aA u n1 (va_cpy (wc_A u n0) (wc_A u n1) sp.toNatClampNeg dp.toNatClampNeg n.toNatClampNeg))) (hE : o_cp l0 l1 sp dp n (wc_aA u n1 (va_cpy (wc_A u n0) (wc_A u n1) sp.toNatClampNeg dp.toNatClampNeg n.toNatClampNeg)) K = some r0) (hframes : 1 ≤ R.frames) (hlocals : (rest.map fun v => v.category).sum + (nativeFrameWords "java/lang/System" "arraycopy" 5 + 11) ≤ R.locals) (hdg : decode cc pc = .ok (.invokestatic index, 3))
    (kk : ∀ (u1 : CS) (H1 : Heap) (locs1 : List Loc), K u1 = some r0 → wc_W D dA h u1 H1 → J u1 → va_S (CA h) H0 H1 locs1 → W p l e R s m args below meth c H1 locs1 cells slots Q (F0 m (pc + 3) ls rest)) : W p l e R s m args below meth c H locs cells slots Q (F0 m pc ls (.int n :: .int dp :: .ref (h + n1) :: .int sp :: .ref (h + n0) :: rest)) := by
  obtain ⟨⟨h1, h2, h3, h4, h5⟩, hE⟩ := o_cp_some hE
  refine wc_copyG (fun z => Value.int z) (f := wc_A u n0) (g := wc_A u n1) (ty := .int) C.1 (C.1.2.2.1.trans hsz.symm) hlink hnat hstat hini (hW.2.2.2 n0 _ (wc_cellA h dA ht0)) (hW.2.2.2 n1 _ (wc_cellA h dA ht1)) (C.2.1.2 0 _ rfl).1 (C.2.1.2 0 _ rfl).1 h1 h2 h3 h4 h5 rfl (fun T hT vm₁ hal k1 cm1 q1 q2 i hi => ⟨rfl, trivial⟩) hframes hlocals hdg (fun H1 L e1 z oq hL => ?_)
  refine kk _ H1 _ hE (hW.set rfl rfl (wc_neaA h dA u n1 _) (wc_cellA h dA (u := wc_aA u n1 (va_cpy (wc_A u n0) (wc_A u n1) sp.toNatClampNeg dp.toNatClampNeg n.toNatClampNeg)) ht1) ?_ z oq) hJ (wc_Spack hV z oq (hW.inA ht1) hL)
  show H1[h + n1]? = some (arrV (dA 0) l1 fun j => Value.int (up1 (wc_A u) n1 _ n1 j))
  rw [up1_at]
  exact e1
theorem wc_copyL {K : CS → Option ρ} {n0 n1 l0 l1 index : Nat} {J : CS → Prop} (C : CC p m c cc nL s args D dA own) (hsz : ls.size = nL) (hlink : (Cond.methodLink own index arraycopyName) ∈ lw_all) (hnat : (Cond.native arraycopyName) ∈ lw_all) (hstat : (Cond.static arraycopyName) ∈ lw_all) (hini : (Cond.initialized "java/lang/System") ∈ lw_all) (hW : wc_W D dA h u H) (hV : va_S (CA h) H0 H locs) (ht0 : wc_T u n0 = some (.inr (1, l0))) (ht1 : wc_T u n1 = some (.inr (1, l1)))
    {sp dp n : Int32} (hJ : J (wc_aB u n1 (va_cpy (wc_B u n0) (wc_B u n1) sp.toNatClampNeg dp.toNatClampNeg n.toNatClampNeg))) (hE : o_cp l0 l1 sp dp n (wc_aB u n1 (va_cpy (wc_B u n0) (wc_B u n1) sp.toNatClampNeg dp.toNatClampNeg n.toNatClampNeg)) K = some r0) (hframes : 1 ≤ R.frames) (hlocals : (rest.map fun v => v.category).sum + (nativeFrameWords "java/lang/System" "arraycopy" 5 + 11) ≤ R.locals) (hdg : decode cc pc = .ok (.invokestatic index, 3))
    (kk : ∀ (u1 : CS) (H1 : Heap) (locs1 : List Loc), K u1 = some r0 → wc_W D dA h u1 H1 → J u1 → va_S (CA h) H0 H1 locs1 → W p l e R s m args below meth c H1 locs1 cells slots Q (F0 m (pc + 3) ls rest)) : W p l e R s m args below meth c H locs cells slots Q (F0 m pc ls (.int n :: .int dp :: .ref (h + n1) :: .int sp :: .ref (h + n0) :: rest)) := by
  obtain ⟨⟨h1, h2, h3, h4, h5⟩, hE⟩ := o_cp_some hE
  refine wc_copyG (fun z => Value.long z) (f := wc_B u n0) (g := wc_B u n1) (ty := .long) C.1 (C.1.2.2.1.trans hsz.symm) hlink hnat hstat hini (hW.2.2.2 n0 _ (wc_cellA h dA ht0)) (hW.2.2.2 n1 _ (wc_cellA h dA ht1)) (C.2.1.2 1 _ rfl).1 (C.2.1.2 1 _ rfl).1 h1 h2 h3 h4 h5 rfl (fun T hT vm₁ hal k1 cm1 q1 q2 i hi => ⟨rfl, trivial⟩) hframes hlocals hdg (fun H1 L e1 z oq hL => ?_)
  refine kk _ H1 _ hE (hW.set rfl rfl (wc_neaB h dA u n1 _) (wc_cellA h dA (u := wc_aB u n1 (va_cpy (wc_B u n0) (wc_B u n1) sp.toNatClampNeg dp.toNatClampNeg n.toNatClampNeg)) ht1) ?_ z oq) hJ (wc_Spack hV z oq (hW.inA ht1) hL)
  show H1[h + n1]? = some (arrV (dA 1) l1 fun j => Value.long (up1 (wc_B u) n1 _ n1 j))
  rw [up1_at]
  exact e1
theorem wc_copyQ {K : CS → Option ρ} {n0 n1 l0 l1 index : Nat} {J : CS → Prop} (C : CC p m c cc nL s args D dA own) (hsz : ls.size = nL) (hlink : (Cond.methodLink own index arraycopyName) ∈ lw_all) (hnat : (Cond.native arraycopyName) ∈ lw_all) (hstat : (Cond.static arraycopyName) ∈ lw_all) (hini : (Cond.initialized "java/lang/System") ∈ lw_all) (hW : wc_W D dA h u H) (hV : va_S (CA h) H0 H locs) (ht0 : wc_T u n0 = some (.inr (7, l0))) (ht1 : wc_T u n1 = some (.inr (7, l1)))
    {sp dp n : Int32} (hJ : J (wc_aQ u n1 (va_cpy (wc_Q u n0) (wc_Q u n1) sp.toNatClampNeg dp.toNatClampNeg n.toNatClampNeg))) (hE0 : o_lq u n0 l0 (o_cp l0 l1 sp dp n (wc_aQ u n1 (va_cpy (wc_Q u n0) (wc_Q u n1) sp.toNatClampNeg dp.toNatClampNeg n.toNatClampNeg)) K) = some r0) (hframes : 1 ≤ R.frames) (hlocals : (rest.map fun v => v.category).sum + (nativeFrameWords "java/lang/System" "arraycopy" 5 + 11) ≤ R.locals) (hdg : decode cc pc = .ok (.invokestatic index, 3))
    (kk : ∀ (u1 : CS) (H1 : Heap) (locs1 : List Loc), K u1 = some r0 → wc_W D dA h u1 H1 → J u1 → va_S (CA h) H0 H1 locs1 → W p l e R s m args below meth c H1 locs1 cells slots Q (F0 m (pc + 3) ls rest)) : W p l e R s m args below meth c H locs cells slots Q (F0 m pc ls (.int n :: .int dp :: .ref (h + n1) :: .int sp :: .ref (h + n0) :: rest)) := by
  obtain ⟨hall, hE⟩ := o_lq_some hE0
  obtain ⟨⟨h1, h2, h3, h4, h5⟩, hE⟩ := o_cp_some hE
  refine wc_copyG (fun z => wc_rf h z) (f := wc_Q u n0) (g := wc_Q u n1) (ty := .object "WoodState$Line") (c0 := dA 7) (c1 := dA 7) (n0 := l0) (n1 := l1) C.1 (C.1.2.2.1.trans hsz.symm) hlink hnat hstat hini ?_ ?_ (C.2.1.2 7 _ rfl).1 (C.2.1.2 7 _ rfl).1 h1 h2 h3 h4 h5 rfl (fun T hT vm₁ hal k1 cm1 q1 q2 i hi => ?_) hframes hlocals hdg (fun H1 L e1 z oq hL => ?_)
  · have q := hW.2.2.2 n0 _ (wc_cellA h dA ht0)
    have q : H[h + n0]? = some (arrV (dA 7) l0 (fun j => va_rf ((wc_Q u n0 j).map (fun m => h + m)))) := q
    simpa only [wc_rf_map] using q
  · have q := hW.2.2.2 n1 _ (wc_cellA h dA ht1)
    have q : H[h + n1]? = some (arrV (dA 7) l1 (fun j => va_rf ((wc_Q u n1 j).map (fun m => h + m)))) := q
    simpa only [wc_rf_map] using q
  · cases hy : wc_Q u n0 (sp.toNatClampNeg + i) with
    | none => exact ⟨rfl, trivial⟩
    | some y =>
      obtain ⟨cellV, g1, g2, g3⟩ := wc_recv C.2 hW (hall _ (by omega) y hy) (q := (RX5, TX5, 4)) rfl
      obtain ⟨kA, comp, r1, r2, r3, -⟩ := (C.2.1.2 7 _ rfl).2
      cases q1.symm.trans r1
      cases q2.symm.trans r2
      have g3 : s.vm.findClass "WoodState$Line" = some cellV.cls := g3
      obtain ⟨kC, hkC, -⟩ := Vm.findClass_spec g3
      obtain ⟨kE, hkE, -⟩ := Vm.findClass_spec r3
      obtain ⟨kC', hkC', -⟩ := hal.2.2 _ _ hkC
      obtain ⟨kE', hkE', -⟩ := hal.2.2 _ _ hkE
      refine ⟨rfl, cellV, (show T.heap[h + y]? = some cellV by rw [hT]; exact g1), (fun q h => by rw [h] at g2; cases g2), ⟨kC', hkC'⟩, ⟨kE', hkE'⟩, ?_⟩
      show vm₁.assignable _ _ = true
      rw [hal.assignable]
      cases r3.symm.trans g3
      exact Vm.assignable_self _ _
  · refine kk _ H1 _ hE (hW.set rfl rfl (wc_neaQ h dA u n1 _) (wc_cellA h dA (u := wc_aQ u n1 (va_cpy (wc_Q u n0) (wc_Q u n1) sp.toNatClampNeg dp.toNatClampNeg n.toNatClampNeg)) ht1) ?_ z oq) hJ (wc_Spack hV z oq (hW.inA ht1) hL)
    show H1[h + n1]? = some (arrV (dA 7) l1 fun j => va_rf ((up1 (wc_Q u) n1 _ n1 j).map (fun m => h + m)))
    rw [up1_at]
    simpa only [wc_rf_map] using e1
end CPY
