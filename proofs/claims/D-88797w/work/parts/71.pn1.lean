/-! PLAIN LAW, METHODS 11: a forest becomes as another one -/
section PN1
variable {u u0 u1 u2 : CS} {t t1 : TS} {N F G : Nat} {s : Nat → Int32} {b : Nat → Int64}
def IsLot (u : CS) (q : Nat) : Prop := wc_T u q = some (.inl 8) ∨ wc_T u q = some (.inl 16) ∨ wc_T u q = some (.inl 9)
theorem lot_as {q q' : Nat} (h : IsLot u q) (hT : wc_T u q' = wc_T u q) (hne : q' ≠ q) : ∃ u1, fLot_as N u q' q = some u1 ∧ (∀ x, x ≠ q' → Sm u u1 x) ∧ wc_z u1 = wc_z u ∧ wc_P u1 = wc_P u ∧ wc_Q u1 = wc_Q u ∧ wc_T u1 = wc_T u ∧ wc_I u1 q' 0 = wc_I u q 0 ∧ wc_I u1 q' 1 = wc_I u q 1 ∧ wc_I u1 q' 2 = wc_I u q 2 ∧ (wc_T u q = some (.inl 16) → wc_I u1 q' 3 = wc_I u q 3) := by
  have h' : IsLot u q' := by unfold IsLot; rw [hT]; exact h
  have e8 : fX8_as N u q' q = some (wc_uI (wc_uI (wc_uI u q' 0 (wc_I u q 0)) q' 1 (wc_I u q 1)) q' 2 (wc_I u q 2)) := by
    unfold fX8_as
    rw [pl_lt3 h, pl_lt3 h']
    simp only [pl_nm]
    rw [pl_lt3 (u := wc_uI u q' 0 (wc_I u q 0)) h, pl_lt3 (u := wc_uI u q' 0 (wc_I u q 0)) h']
    have r1 : wc_I (wc_uI u q' 0 (wc_I u q 0)) q 1 = wc_I u q 1 := by simp only [rI_uI, vq2_ne (Ne.symm hne)]
    rw [r1]
    rw [pl_lt3 (u := wc_uI (wc_uI u q' 0 (wc_I u q 0)) q' 1 (wc_I u q 1)) h, pl_lt3 (u := wc_uI (wc_uI u q' 0 (wc_I u q 0)) q' 1 (wc_I u q 1)) h']
    have r2 : wc_I (wc_uI (wc_uI u q' 0 (wc_I u q 0)) q' 1 (wc_I u q 1)) q 2 = wc_I u q 2 := by simp only [rI_uI, vq2_ne (Ne.symm hne)]
    rw [r2]
  have s8 : ∀ x, x ≠ q' → Sm u (wc_uI (wc_uI (wc_uI u q' 0 (wc_I u q 0)) q' 1 (wc_I u q 1)) q' 2 (wc_I u q 2)) x := fun x hx => ((Sm.uI hx).trans (Sm.uI hx)).trans (Sm.uI hx)
  unfold fLot_as
  rw [hT]
  rcases h with e | e | e
  · rw [if_pos e]
    refine ⟨_, e8, s8, rfl, rfl, rfl, rfl, ?_, ?_, ?_, fun e' => by rw [e] at e'; cases e'⟩ <;> simp (disch := omega) only [rI_uI, up2_eq, up2_nk]
  · rw [if_neg (by rw [e]; decide), if_pos e]
    refine ⟨wc_uI (wc_uI (wc_uI (wc_uI u q' 0 (wc_I u q 0)) q' 1 (wc_I u q 1)) q' 2 (wc_I u q 2)) q' 3 (wc_I u q 3), ?_, fun x hx => (s8 x hx).trans (Sm.uI hx), rfl, rfl, rfl, rfl, ?_, ?_, ?_, fun _ => ?_⟩
    · unfold fX16_as
      have e' : wc_T u q' = some (.inl 16) := hT.trans e
      rw [pl_sh e', e8]
      simp only [pl_bd, pl_nm]
      have r3 : wc_I (wc_uI (wc_uI (wc_uI u q' 0 (wc_I u q 0)) q' 1 (wc_I u q 1)) q' 2 (wc_I u q 2)) q 3 = wc_I u q 3 := by simp only [rI_uI, vq2_ne (Ne.symm hne)]
      rw [r3]
      rw [pl_sh (u := wc_uI (wc_uI (wc_uI u q' 0 (wc_I u q 0)) q' 1 (wc_I u q 1)) q' 2 (wc_I u q 2)) e, pl_sh (u := wc_uI (wc_uI (wc_uI u q' 0 (wc_I u q 0)) q' 1 (wc_I u q 1)) q' 2 (wc_I u q 2)) e, pl_sh (u := wc_uI (wc_uI (wc_uI u q' 0 (wc_I u q 0)) q' 1 (wc_I u q 1)) q' 2 (wc_I u q 2)) e']
    all_goals simp (disch := omega) only [rI_uI, up2_eq, up2_nk]
  · rw [if_neg (by rw [e]; decide), if_neg (by rw [e]; decide), if_pos e]
    refine ⟨_, e8, s8, rfl, rfl, rfl, rfl, ?_, ?_, ?_, fun e' => by rw [e] at e'; cases e'⟩ <;> simp (disch := omega) only [rI_uI, up2_eq, up2_nk]
theorem lot_kd {q : Nat} (h : IsLot u q) : ∃ k : Int32, fLot_kind N u q = some (k, u) ∧ (wc_T u q = some (.inl 8) ∧ k = 0 ∨ wc_T u q = some (.inl 16) ∧ k = 1 ∨ wc_T u q = some (.inl 9) ∧ k = 2) := by
  unfold fLot_kind fX8_kind fX16_kind fX9_kind fX8_kind
  rcases h with e | e | e
  · rw [if_pos e]; exact ⟨0, rfl, Or.inl ⟨e, rfl⟩⟩
  · rw [if_neg (by rw [e]; decide), if_pos e, pl_sh e]; exact ⟨1, rfl, Or.inr (Or.inl ⟨e, rfl⟩)⟩
  · rw [if_neg (by rw [e]; decide), if_neg (by rw [e]; decide), if_pos e, pl_sh e]; exact ⟨2, rfl, Or.inr (Or.inr ⟨e, rfl⟩)⟩
theorem lot_an {q : Nat} (h : IsLot u q) : ∃ c : Nat, wc_T u q = some (.inl c) ∧ (c = 8 ∨ c = 16 ∨ c = 9) ∧ fLot_another N u q = some (some (wc_z u), wc_new u (.inl c)) := by
  have zz : ∀ c, o_zc (fun (r_ : Option Nat × CS) => wc_z r_.2) (wc_z u + 1) (some (some (wc_z u), wc_new u (.inl c))) = some (some (wc_z u), wc_new u (.inl c)) := fun c => by
    show (if wc_z u + 1 ≤ wc_z u + 1 then _ else _) = _
    rw [if_pos (Nat.le_refl _)]
  unfold fLot_another fX8_another fX16_another fX9_another fX16_init fX9_init fX8_init
  simp only [pl_nm, pl_bd, pl_ze]
  rcases h with e | e | e
  · rw [if_pos e]; exact ⟨8, e, Or.inl rfl, zz 8⟩
  · rw [if_neg (by rw [e]; decide), if_pos e]; exact ⟨16, e, Or.inr (Or.inl rfl), zz 16⟩
  · rw [if_neg (by rw [e]; decide), if_neg (by rw [e]; decide), if_pos e]; exact ⟨9, e, Or.inr (Or.inr rfl), zz 9⟩
/-- what a slot is behind it -/
def SlC (u u1 : CS) (a0 a1 : Nat) : Prop := (wc_P u a1 0 = none → wc_P u1 a0 0 = none) ∧ ∀ q, wc_P u a1 0 = some q → ∃ q', wc_P u1 a0 0 = some q' ∧ 362 ≤ q' ∧ q' < wc_z u1 ∧ wc_T u1 q' = wc_T u q ∧ wc_I u1 q' 0 = wc_I u q 0 ∧ wc_I u1 q' 1 = wc_I u q 1 ∧ wc_I u1 q' 2 = wc_I u q 2 ∧ (wc_T u q = some (.inl 16) → wc_I u1 q' 3 = wc_I u q 3)
theorem pl_cl {β : Type} {q : Nat} (h : IsLot u q) (K : Option β) : o_cl u (some q) K = K := pl_lt3 h K
theorem slot_as (w : RW u) {a0 a1 : Nat} (h0 : IsSlot a0) (h1 : IsSlot a1) (hne : a0 ≠ a1) (t0 : wc_T u a0 = some (.inl 2)) (t1 : wc_T u a1 = some (.inl 2)) :
    ∃ u1, fX2_as N u a0 a1 = some u1 ∧ wc_z u ≤ wc_z u1 ∧ wc_z u1 ≤ wc_z u + 1 ∧ SlC u u1 a0 a1 ∧ RW u1 ∧ (∀ x, x < wc_z u → x ≠ a0 → wc_P u a0 0 ≠ some x → Sm u u1 x) ∧ (∀ x, x < wc_z u → wc_T u1 x = wc_T u x) ∧ wc_I u1 a0 = wc_I u a0 ∧ wc_A u1 a0 = wc_A u a0 ∧ wc_B u1 a0 = wc_B u a0 ∧ wc_Q u1 a0 = wc_Q u a0 := by
  have hz := w.2.2.2
  have a0lt : a0 < 362 := by unfold IsSlot at h0; omega
  have a1lt : a1 < 362 := by unfold IsSlot at h1; omega
  have drop : ∀ (u' : CS) (v : Option Nat), RW u' → (∀ q, v = some q → 362 ≤ q ∧ q < wc_z u' ∧ IsLot u' q ∧ ∀ a, IsSlot a → a ≠ a0 → wc_P u' a 0 ≠ some q) → RW (wc_uP u' a0 0 v) := by
    intro u' v w' hv
    refine ⟨fun a q ha e => ?_, fun a a' q ha ha' e e' => ?_, w'.2.2.1, w'.2.2.2⟩
    · by_cases c : a = a0
      · subst c
        simp only [rP_uP, up2_eq] at e
        obtain ⟨x1, x2, x3, -⟩ := hv q e
        exact ⟨x1, x2, x3⟩
      · simp only [rP_uP, vq2_ne c] at e
        exact w'.1 a q ha e
    · by_cases c : a = a0
      · by_cases c' : a' = a0
        · rw [c, c']
        · subst c
          simp only [rP_uP, up2_eq] at e
          simp only [rP_uP, vq2_ne c'] at e'
          exact absurd e' ((hv q e).2.2.2 a' ha' c')
      · by_cases c' : a' = a0
        · subst c'
          simp only [rP_uP, up2_eq] at e'
          simp only [rP_uP, vq2_ne c] at e
          exact absurd e ((hv q e').2.2.2 a ha c)
        · simp only [rP_uP, vq2_ne c] at e
          simp only [rP_uP, vq2_ne c'] at e'
          exact w'.2.1 a a' q ha ha' e e'
  -- a new object of the other's kind
  have mk : ∀ q, wc_P u a1 0 = some q → IsLot u q → 362 ≤ q → q < wc_z u → ∃ u1, fX2_as_55 N u a0 (some q) = some u1 ∧ wc_z u ≤ wc_z u1 ∧ wc_z u1 ≤ wc_z u + 1 ∧ SlC u u1 a0 a1 ∧ RW u1 ∧ (∀ x, x < wc_z u → x ≠ a0 → Sm u u1 x) ∧ (∀ x, x < wc_z u → wc_T u1 x = wc_T u x) ∧ wc_I u1 a0 = wc_I u a0 ∧ wc_A u1 a0 = wc_A u a0 ∧ wc_B u1 a0 = wc_B u a0 ∧ wc_Q u1 a0 = wc_Q u a0 := by
    intro q hq hl q1 q2
    obtain ⟨c, c1, c2, c3⟩ := lot_an (N := N) hl
    have nw : ∀ x, x < wc_z u → Sm u (wc_new u (.inl c)) x := fun x hx => Sm.new hx
    have Tz : wc_T (wc_uP (wc_new u (.inl c)) a0 0 (some (wc_z u))) (wc_z u) = some (.inl c) := by
      show (if wc_z u = wc_z u then _ else _) = _
      rw [if_pos rfl]
    have Tq : wc_T (wc_uP (wc_new u (.inl c)) a0 0 (some (wc_z u))) q = wc_T u q := (nw q q2).2.2.2.2.2.2
    have lq : IsLot (wc_uP (wc_new u (.inl c)) a0 0 (some (wc_z u))) q := by unfold IsLot; rw [Tq]; exact hl
    obtain ⟨u1, r1, r2, r3, r4, r5, r6, r7, r8, r9, r10⟩ := lot_as (N := N) (q := q) (q' := wc_z u) lq (by rw [Tz, Tq, c1]) (by omega)
    have Iq : wc_I (wc_uP (wc_new u (.inl c)) a0 0 (some (wc_z u))) q = wc_I u q := (nw q q2).1
    have sx : ∀ x, x < wc_z u → x ≠ a0 → Sm u u1 x := fun x hx hxa => ((nw x hx).trans (Sm.uP hxa)).trans (r2 x (by omega))
    have w' : RW (wc_new u (.inl c)) := w.same (Nat.le_succ _) (fun a ha => (nw a (by unfold IsSlot at ha; omega)).2.2.2.2.1) (fun F' hF' => (nw _ (by omega)).2.2.2.2.2.1) (fun x _ hx => (nw x hx).2.2.2.2.2.2)
    have w1 : RW (wc_uP (wc_new u (.inl c)) a0 0 (some (wc_z u))) := drop _ _ w' (fun x hx => by
      cases hx
      refine ⟨hz, Nat.lt_succ_self _, ?_, fun a ha _ e => ?_⟩
      · have : wc_T (wc_new u (.inl c)) (wc_z u) = some (.inl c) := Tz
        unfold IsLot
        rw [this]
        rcases c2 with rfl | rfl | rfl <;> simp
      · rw [(nw a (by unfold IsSlot at ha; omega)).2.2.2.2.1] at e
        have := (w.1 a _ ha e).2.1
        omega)
    refine ⟨u1, ?_, by rw [r3]; exact Nat.le_succ _, by rw [r3]; exact Nat.le_refl _, ⟨fun e => absurd (hq.symm.trans e) (by simp), fun q' hq' => ?_⟩, ?_, sx, fun x hx => by rw [r6]; exact (nw x hx).2.2.2.2.2.2, ?_, ?_, ?_, ?_⟩
    · unfold fX2_as_55 fX2_as_65
      simp only [pl_nn, c3, pl_bd2]
      have z1 : o_zl (wc_z u) (wc_z (wc_new u (.inl c))) = fun (K : Option CS) => K := by
        funext K
        show (if wc_z u ≤ wc_z u + 1 then K else none) = K
        rw [if_pos (Nat.le_succ _)]
      rw [z1]
      simp only []
      rw [pl_sh (u := wc_new u (.inl c)) (by rw [(nw a0 (by omega)).2.2.2.2.2.2]; exact t0)]
      simp only [pl_nm, r1, pl_bd]
      rw [pl_zeq (by rw [r3])]
      unfold o_zc
      simp only []
      rw [if_pos (by rw [r3]; exact Nat.le_refl _)]
    · cases Option.some.inj (hq.symm.trans hq')
      refine ⟨wc_z u, by rw [r4]; simp only [rP_uP, up2_eq], hz, by rw [r3]; exact Nat.lt_succ_self _, by rw [r6, Tz, c1], by rw [r7, Iq], by rw [r8, Iq], by rw [r9, Iq], fun e => by rw [r10 (by rw [Tq]; exact e), Iq]⟩
    · refine w1.same (Nat.le_of_eq r3.symm) (fun a _ => by rw [r4]) (fun F' _ => by rw [r5]) (fun x _ _ => by rw [r6])
    · rw [(r2 a0 (by omega)).1]; exact (nw a0 (by omega)).1
    · rw [(r2 a0 (by omega)).2.2.1]; exact (nw a0 (by omega)).2.2.1
    · rw [(r2 a0 (by omega)).2.2.2.1]; exact (nw a0 (by omega)).2.2.2.1
    · rw [(r2 a0 (by omega)).2.2.2.2.2.1]; exact (nw a0 (by omega)).2.2.2.2.2.1
  unfold fX2_as
  rw [pl_sh t1]
  simp only [pl_nm]
  cases hq : wc_P u a1 0 with
  | none =>
    simp only [pl_nu0]
    rw [pl_sh t0]
    refine ⟨_, rfl, Nat.le_refl _, Nat.le_succ _, ⟨fun _ => by simp only [rP_uP, up2_eq], fun q e => by rw [hq] at e; cases e⟩, drop u none w (fun q e => by cases e), fun x _ hx _ => Sm.uP hx, fun _ _ => rfl, rfl, rfl, rfl, rfl⟩
  | some q =>
    obtain ⟨q1, q2, q3⟩ := w.1 a1 q h1 hq
    simp only [pl_nu]
    rw [pl_sh t1, pl_cl q3, pl_sh t0]
    cases hm : wc_P u a0 0 with
    | none =>
      simp only [pl_nu0, fX2_as_39]
      obtain ⟨u1, r1, r2, r3, r4, r5, r6, r7, r8⟩ := mk q hq q3 q1 q2
      exact ⟨u1, r1, r2, r3, r4, r5, fun x a b _ => r6 x a b, r7, r8⟩
    | some m =>
      obtain ⟨m1, m2, m3⟩ := w.1 a0 m h0 hm
      have nm : m ≠ q := fun e => by
        subst e
        exact hne (w.2.1 a0 a1 m h0 h1 hm hq)
      simp only [pl_nu]
      rw [pl_sh t0, pl_cl m3]
      unfold fX2_as_39
      obtain ⟨k1, k2, k3⟩ := lot_kd (N := N) m3
      obtain ⟨l1, l2, l3⟩ := lot_kd (N := N) q3
      simp only [pl_nu, k2, pl_bd2, pl_ze, pl_nn, l2]
      by_cases c : k1 = l1
      · rw [if_pos c]
        have hT : wc_T u m = wc_T u q := by
          rcases k3 with ⟨e, rfl⟩ | ⟨e, rfl⟩ | ⟨e, rfl⟩ <;> rcases l3 with ⟨e', rfl⟩ | ⟨e', rfl⟩ | ⟨e', rfl⟩ <;> first | exact e.trans e'.symm | exact absurd c (by decide)
        obtain ⟨u1, r1, r2, r3, r4, r5, r6, r7, r8, r9, r10⟩ := lot_as (N := N) (q := q) (q' := m) q3 hT nm
        unfold fX2_as_65
        simp only [pl_nn, r1, pl_bd]
        refine ⟨u1, pl_zeq r3 _, Nat.le_of_eq r3.symm, by omega, ⟨fun e => absurd (hq.symm.trans e) (by simp), fun q' hq' => ?_⟩, w.same (Nat.le_of_eq r3.symm) (fun a _ => by rw [r4]) (fun F' _ => by rw [r5]) (fun x _ _ => by rw [r6]), fun x _ _ hx => r2 x (fun e => hx (by rw [e])), fun x _ => by rw [r6], (r2 a0 (by omega)).1, (r2 a0 (by omega)).2.2.1, (r2 a0 (by omega)).2.2.2.1, (r2 a0 (by omega)).2.2.2.2.2.1⟩
        cases Option.some.inj (hq.symm.trans hq')
        exact ⟨m, by rw [r4]; exact hm, m1, by omega, by rw [r6]; exact hT, r7, r8, r9, r10⟩
      · rw [if_neg c]
        obtain ⟨u1, r1, r2, r3, r4, r5, r6, r7, r8⟩ := mk q hq q3 q1 q2
        exact ⟨u1, r1, r2, r3, r4, r5, fun x a b _ => r6 x a b, r7, r8⟩
end PN1
