/-! PLAIN LAW, METHODS 13: a forest becomes as another one: the whole -/
section PN3
variable {u u0 u1 u2 : CS} {t t1 : TS} {N F G : Nat} {s : Nat → Int32} {b : Nat → Int64} {LA : List (Nat × Nat)} {LI : List Nat} {lb lq : Bool}
theorem TwoF.slF (h : TwoF F G) {p : Nat} (hp : p < 60) : IsSlot (F + 38 + p) := isSlot_of h.1 hp
theorem TwoF.slG (h : TwoF F G) {p : Nat} (hp : p < 60) : IsSlot (G + 38 + p) := isSlot_of h.2.1 hp
/-- a slot's part of it stays while others go on -/
theorem SlC.keep {a0 a1 : Nat} (h : SlC u0 u a0 a1) (hz : wc_z u ≤ wc_z u1) (hP : wc_P u1 a0 = wc_P u a0) (hs : ∀ q, wc_P u a0 0 = some q → 362 ≤ q → q < wc_z u → Sm u u1 q) : SlC u0 u1 a0 a1 := by
  refine ⟨fun e => by rw [hP]; exact h.1 e, fun q e => ?_⟩
  obtain ⟨q', r1, r2, r3, r4, r5, r6, r7, r8⟩ := h.2 q e
  have k := hs q' r1 r2 r3
  exact ⟨q', by rw [hP]; exact r1, r2, Nat.lt_of_lt_of_le r3 hz, by rw [k.2.2.2.2.2.2]; exact r4, by rw [k.1]; exact r5, by rw [k.1]; exact r6, by rw [k.1]; exact r7, fun x => by rw [k.1]; exact r8 x⟩
theorem slots_loop (hFG : TwoF F G) (w0 : RW u0) (hQF : ∀ p, p < 60 → wc_Q u0 (F + 22) p = some (F + 38 + p) ∧ wc_T u0 (F + 38 + p) = some (.inl 2)) (hQG : ∀ p, p < 60 → wc_Q u0 (G + 22) p = some (G + 38 + p) ∧ wc_T u0 (G + 38 + p) = some (.inl 2)) (d : Nat) : ∀ (f : Nat) (u : CS) (k : Nat), d + k = 60 → d < f → Cp F G LA LI lb lq u0 u → (∀ p, p < k → SlC u0 u (F + 38 + p) (G + 38 + p)) → (∀ p, k ≤ p → p < 60 → wc_P u (F + 38 + p) = wc_P u0 (F + 38 + p)) → wc_z u ≤ wc_z u0 + k →
    ∃ u1, fX1_as_20 N F G f u (Int32.ofNat k) = some u1 ∧ wc_z u ≤ wc_z u1 ∧ wc_z u1 ≤ wc_z u0 + 60 ∧ Cp F G ((35, 960) :: (34, 24) :: (33, 6) :: (32, 6) :: (31, 100) :: (30, 12) :: (29, 30) :: (28, 30) :: (27, 30) :: (26, 16) :: (25, 16) :: LA) (33 :: 29 :: LI) true true u0 u1 ∧ ∀ p, p < 60 → SlC u0 u1 (F + 38 + p) (G + 38 + p) := by
  induction d with
  | zero =>
    intro f u k hd hf h hS _ hz
    obtain ⟨f, rfl⟩ : ∃ g, f = g + 1 := ⟨f - 1, by omega⟩
    have ek : k = 60 := by omega
    subst ek
    obtain ⟨u1, r1, r2, r3, r4, r5, r6⟩ := cp_tail (N := N) (f := f) hFG h
    exact ⟨u1, r1, Nat.le_of_eq r2.symm, by omega, r6, fun p hp => (hS p hp).keep (Nat.le_of_eq r2.symm) (by rw [r3]) (fun q _ hq _ => r5 q hq)⟩
  | succ d ih =>
    intro f u k hd hf h hS hR hz
    obtain ⟨f, rfl⟩ : ∃ g, f = g + 1 := ⟨f - 1, by omega⟩
    obtain ⟨c1, c2, c3, c4, c5, c6, c7, c8, c9, c10, c11⟩ := id h
    have hz0 := w0.2.2.2
    have kG := c1 (G + 38 + k) (by have := hFG.lt (p := 38 + k) (by omega); omega) (by have := hFG.nin (p := 38 + k) (by omega); rw [← Nat.add_assoc] at this; exact this)
    have ltF : F + 38 + k < 362 := by have := hFG.lt' (p := 38 + k) (by omega); omega
    have tF : wc_T u (F + 38 + k) = some (.inl 2) := by rw [c5 _ (by omega)]; exact (hQF k (by omega)).2
    have tG : wc_T u (G + 38 + k) = some (.inl 2) := by rw [kG.2.2.2.2.2.2]; exact (hQG k (by omega)).2
    have qF : wc_Q u (F + 22) k = some (F + 38 + k) := (c2 k (by omega)).trans (hQF k (by omega)).1
    have qG : wc_Q u (G + 22) k = some (G + 38 + k) := by rw [(c1 (G + 22) (hFG.lt (by omega)) (hFG.nin (by omega))).2.2.2.2.2.1]; exact (hQG k (by omega)).1
    have ne : F + 38 + k ≠ G + 38 + k := by have := hFG.2.2; omega
    obtain ⟨u1, r1, r2, r3, r4, r5, r6, r7, r8, r9, r10, r11⟩ := slot_as (N := N) c7 (hFG.slF (by omega)) (hFG.slG (by omega)) ne tF tG
    have Pk : wc_P u (F + 38 + k) 0 = wc_P u0 (F + 38 + k) 0 := by rw [hR k (by omega) (by omega)]
    -- what stays beside the slot and what it held
    have st : ∀ q, q < 362 → q ≠ F + 38 + k → Sm u u1 q := fun q hq hn => r6 q (by omega) hn (fun e => by
      have := (c7.1 _ _ (hFG.slF (by omega)) e).1
      omega)
    have dy : ∀ q, 362 ≤ q → q < wc_z u0 → ¬ Own F u0 q → Sm u u1 q := fun q a b c => r6 q (by omega) (by omega) (fun e => c ⟨k, by omega, by rw [← Pk]; exact e⟩)
    have h' : Cp F G LA LI lb lq u0 u1 := by
      refine ⟨fun q a b => (c1 q a b).trans (st q a (fun e => b (by subst e; unfold InF; omega))), fun p hp => ?_, ?_, by omega, fun q hq => by rw [r7 q (by omega)]; exact c5 q hq, fun q a b c => (c6 q a b c).trans (dy q a b c), r5, fun x hx h38 j hj => ?_, fun g hg => ?_, fun e j hj => ?_, fun e j hj => ?_⟩
      · rw [(st (F + 22) (by omega) (by omega)).2.2.2.2.2.1]; exact c2 p hp
      · rw [(st F (by omega) (by omega)).1]; exact c3
      · rw [(st (F + x.1) (by omega) (by omega)).2.2.1]; exact c8 x hx h38 j hj
      · rw [(st F (by omega) (by omega)).1]; exact c9 g hg
      · rw [(st (F + 23) (by omega) (by omega)).2.2.2.1]; exact c10 e j hj
      · rw [(st (F + 24) (by omega) (by omega)).2.2.2.2.2.1]; exact c11 e j hj
    have SG : ∀ q, wc_P u0 (G + 38 + k) 0 = some q → Sm u0 u q ∧ 362 ≤ q ∧ q < wc_z u0 := by
      intro q e
      obtain ⟨a1, a2, -⟩ := w0.1 _ _ (hFG.slG (by omega)) e
      refine ⟨c6 q a1 a2 (fun ⟨p, hp, e'⟩ => ?_), a1, a2⟩
      have := w0.2.1 _ _ q (hFG.slF hp) (hFG.slG (show k < 60 by omega)) e' e
      have q1 := hFG.nin (p := 38 + k) (by omega)
      unfold InF at q1
      omega
    have sk : SlC u0 u1 (F + 38 + k) (G + 38 + k) := by
      refine ⟨fun e => r4.1 (by rw [kG.2.2.2.2.1]; exact e), fun q e => ?_⟩
      obtain ⟨sm, -, -⟩ := SG q e
      obtain ⟨q', x1, x2, x3, x4, x5, x6, x7, x8⟩ := r4.2 q (by rw [kG.2.2.2.2.1]; exact e)
      exact ⟨q', x1, x2, x3, by rw [x4, sm.2.2.2.2.2.2], by rw [x5, sm.1], by rw [x6, sm.1], by rw [x7, sm.1], fun y => by rw [x8 (by rw [sm.2.2.2.2.2.2]; exact y), sm.1]⟩
    obtain ⟨u2, y1, y2, y3, y4, y5⟩ := ih f u1 (k + 1) (by omega) (by omega) h' (fun p hp => by
      by_cases cp : p = k
      · rw [cp]; exact sk
      · have ltp : F + 38 + p < 362 := by have := hFG.lt' (p := 38 + p) (by omega); omega
        refine (hS p (by omega)).keep r2 (by rw [(st _ ltp (by omega)).2.2.2.2.1]) (fun q e a1 a2 => r6 q a2 (by omega) (fun e' => ?_))
        have := c7.2.1 _ _ q (hFG.slF (show p < 60 by omega)) (hFG.slF (show k < 60 by omega)) e e'
        omega) (fun p hp1 hp2 => by
      have ltp : F + 38 + p < 362 := by have := hFG.lt' (p := 38 + p) (by omega); omega
      rw [(st _ ltp (by omega)).2.2.2.2.1]; exact hR p (by omega) hp2) (by omega)
    refine ⟨u2, ?_, by omega, y3, y4, y5⟩
    unfold fX1_as_20
    rw [if_neg (by rw [pl_leR (by omega) (by omega)]; omega)]
    simp (disch := omega) only [pl_ald, pl_nm, qF, qG, pl_nn]
    rw [pl_sh tF, r1]
    simp only [pl_bd]
    unfold o_zl
    rw [if_pos r2, pl_addL, y1]
    unfold o_zc
    simp only []
    rw [if_pos (by omega)]
theorem as_slots (hS : wc_S u) {F : Nat} (hF : F = 3 ∨ F = 101 ∨ F = 199) {p : Nat} (hp : p < 60) : wc_Q u (F + 22) p = some (F + 38 + p) ∧ wc_T u (F + 38 + p) = some (.inl 2) := by
  refine ⟨hS.2.2.1 _ _ _ ?_, hS.1 _ _ ?_⟩
  · unfold wc_sq
    rw [if_neg (by omega), if_pos (by omega), if_pos hp]
  · have q : ∀ p : Fin 60, wc_shF (38 + p.1) = some (.inl 2) := by decide
    have q := q ⟨p, hp⟩
    have q : wc_shF (38 + p) = some (.inl 2) := q
    unfold wc_sh
    rcases hF with rfl | rfl | rfl
    · rw [if_neg (by omega), if_pos (by omega), show 3 + 38 + p - 3 = 38 + p by omega]; exact q
    · rw [if_neg (by omega), if_neg (by omega), if_pos (by omega), show 101 + 38 + p - 101 = 38 + p by omega]; exact q
    · rw [if_neg (by omega), if_neg (by omega), if_neg (by omega), if_pos (by omega), show 199 + 38 + p - 199 = 38 + p by omega]; exact q
theorem as_ok (hN : 100000 ≤ N) (hFG : TwoF F G) (hS : wc_S u) (w : RW u) : ∃ u1 LA LI, fX1_as N F G u = some u1 ∧ wc_z u ≤ wc_z u1 ∧ wc_z u1 ≤ wc_z u + 60 ∧ Cp F G LA LI true true u u1 ∧ (∀ p, p < 60 → SlC u u1 (F + 38 + p) (G + 38 + p)) ∧ (∀ x ∈ fr_tab, ∃ y ∈ LA, y.1 = fe_p x ∧ fe_c x + fe_d x * (fe_n x - 1) < y.2) ∧ (12, 60) ∈ LA ∧ (13, 60) ∈ LA ∧ (17, 6) ∈ LA ∧ ∀ x ∈ fs_tab, x.1 ∈ LI := by
  have hQ : ∀ F, F = 3 ∨ F = 101 ∨ F = 199 → ∀ p, p < 60 → wc_Q u (F + 22) p = some (F + 38 + p) ∧ wc_T u (F + 38 + p) = some (.inl 2) := fun F hF p hp => as_slots hS hF hp
  have c0 : Cp F G [] [] false false u u := ⟨fun _ _ _ => Sm.rfl' _ _, fun _ _ => rfl, rfl, Nat.le_refl _, fun _ _ => rfl, fun _ _ _ _ => Sm.rfl' _ _, w, fun _ h => absurd h List.not_mem_nil, fun _ h => absurd h List.not_mem_nil, fun h => absurd h (by decide), fun h => absurd h (by decide)⟩
  have c1 := cp_int hFG (f := 0) (by decide) c0
  obtain ⟨u2, a1, a2, a3, a4, a5⟩ := cp_stands (N := N) hFG c1
  obtain ⟨u3, b1, b2, b3, b4, b5⟩ := cp_lands (N := N) hFG a5
  obtain ⟨u4, d1, d2, d3, d4, d5⟩ := slots_loop (N := N) hFG w (hQ F hFG.1) (hQ G hFG.2.1) 60 N u3 0 (by omega) (by omega) b5 (fun p hp => by omega) (fun p _ _ => by rw [b3, a3]; rfl) (by rw [b2, a2]; exact Nat.le_refl _)
  refine ⟨u4, _, _, ?_, by rw [b2, a2] at d2; exact d2, d3, d4, d5, by decide, by decide, by decide, by decide, by decide⟩
  unfold fX1_as
  simp only [pl_nm, a1, pl_bd, b1]
  rw [pl_zeq a2, pl_zeq b2]
  exact d1
/-- the copy stands for what the other one stands for -/
theorem FR.copy (hFG : TwoF F G) (w : RW u) (hT : ∀ p, p < 60 → wc_Q u (F + 22) p = some (F + 38 + p) ∧ wc_T u (F + 38 + p) = some (.inl 2)) (h : FR G u s b) (hc : Cp F G LA LI true true u u1) (hs : ∀ p, p < 60 → SlC u u1 (F + 38 + p) (G + 38 + p)) (h1 : ∀ x ∈ fr_tab, ∃ y ∈ LA, y.1 = fe_p x ∧ fe_c x + fe_d x * (fe_n x - 1) < y.2) (h2 : (12, 60) ∈ LA) (h3 : (13, 60) ∈ LA) (h4 : (17, 6) ∈ LA) (h5 : ∀ x ∈ fs_tab, x.1 ∈ LI) : FR F u1 s b := by
  obtain ⟨c1, c2, c3, c4, c5, c6, c7, c8, c9, c10, c11⟩ := hc
  have hz0 := w.2.2.2
  have nOwn : ∀ q, 362 ≤ q → q < wc_z u → (wc_T u q = some (.inl 5) ∨ IsPart u q) → ¬ Own F u q := by
    intro q a b c ⟨p, hp, e⟩
    have k := (w.1 _ _ (hFG.slF hp) e).2.2
    rcases c with c | c | c | c | c | c <;> rcases k with k | k | k <;> rw [c] at k <;> cases k
  refine ⟨fun k j x hx hj => ?_, fun x hx => ?_, ?_, fun b hb => ?_, fun p hp => ?_, fun k hk hk2 => ?_, fun k hk => ?_, h.x⟩
  · obtain ⟨y, y1, y2, y3⟩ := h1 x (List.mem_of_getElem? hx)
    have l : fe_c x + fe_d x * j ≤ fe_c x + fe_d x * (fe_n x - 1) := Nat.add_le_add_left (Nat.mul_le_mul_left _ (by omega)) _
    have e := c8 y y1 (by rw [y2]; exact (fr_plc x (List.mem_of_getElem? hx)).2.1) (fe_c x + fe_d x * j) (by omega)
    rw [y2] at e
    rw [e]
    exact h.t k j x hx hj
  · rw [c9 x.1 (h5 x hx)]; exact h.n x hx
  · obtain ⟨l, q1, q2, q3, q4, q5⟩ := h.m
    refine ⟨l, q1, q2, fun i x hi => ?_, q4, q5⟩
    have hi2 := (List.getElem?_eq_some_iff.mp hi).1
    rw [c8 (12, 60) h2 (by decide) i (by show i < 60; omega), c8 (13, 60) h3 (by decide) i (by show i < 60; omega)]
    exact q3 i x hi
  · rw [c8 (17, 6) h4 (by decide) b hb]; exact h.h b hb
  · have lt := hFG.lt' (p := 38 + p) (by omega)
    refine ⟨⟨(c2 p hp).trans (hT p hp).1, by rw [c5 _ (by omega)]; exact (hT p hp).2⟩, ?_⟩
    rcases (h.p p hp).2 with ⟨e1, e2⟩ | ⟨q, e1, e2, e3, e4, e5⟩
    · exact Or.inl ⟨(hs p hp).1 e1, e2⟩
    · obtain ⟨q', x1, x2, x3, x4, x5, x6, x7, x8⟩ := (hs p hp).2 q e1
      refine Or.inr ⟨q', x1, e2, x2, x3, ?_⟩
      obtain ⟨k1, k2, k3, k4, k5, k6⟩ := e5
      refine ⟨?_, x5.trans k2, x6.trans k3, x7.trans k4, k5, k6⟩
      rw [x4]
      rcases k1 with k | ⟨ka, kb, kc⟩ | k
      · exact Or.inl k
      · exact Or.inr (Or.inl ⟨ka, kb, (x8 ka).trans kc⟩)
      · exact Or.inr (Or.inr k)
  · obtain ⟨q, ln, a1, a2, a3, a4, a5, a6⟩ := h.l k hk hk2
    have kq := c6 q a2 a3 (nOwn q a2 a3 (Or.inl a4))
    exact ⟨q, ln, (c11 rfl k hk).trans a1, a2, Nat.lt_of_lt_of_le a3 c4, by rw [kq.2.2.2.2.2.2]; exact a4, a5.keep c4 kq (fun q a b c => c6 q a b (nOwn q a b (Or.inr c))), a6⟩
  · rw [c10 rfl k hk]; exact h.bk k hk
/-- another forest stays what it is -/
theorem FR.aside {H : Nat} (hFG : TwoF F H) (w : RW u) (h : FR H u s b) (hc : Cp F G LA LI lb lq u u1) : FR H u1 s b := by
  obtain ⟨c1, c2, c3, c4, c5, c6, c7, c8, c9, c10, c11⟩ := hc
  refine h.keep2 c4 (fun q hq => ?_)
  rcases hq with c | ⟨a, b, c⟩ | ⟨a, b, p, hp, e⟩
  · unfold InF at c
    have q1 := hFG.nin (p := q - H) (by omega)
    have q2 := hFG.lt (p := q - H) (by omega)
    rw [show H + (q - H) = q by omega] at q1 q2
    exact c1 q q2 q1
  · refine c6 q a b (fun ⟨p, hp, e⟩ => ?_)
    have k := (w.1 _ _ (hFG.slF hp) e).2.2
    rcases c with c | c | c | c | c | c <;> rcases k with k | k | k <;> rw [c] at k <;> cases k
  · refine c6 q a b (fun ⟨p', hp', e'⟩ => ?_)
    have := w.2.1 _ _ q (hFG.slF hp') (hFG.slG hp) e' e
    have q1 := hFG.nin (p := 38 + p) (by omega)
    unfold InF at q1
    omega
end PN3
