/-! PLAIN LAW, METHODS 12: a forest becomes as another one: all of it -/
section PN2
variable {u u0 u1 u2 : CS} {t t1 : TS} {N F G : Nat} {s : Nat → Int32} {b : Nat → Int64} {LA : List (Nat × Nat)} {LI : List Nat} {lb lq : Bool}
def Own (F : Nat) (u : CS) (q : Nat) : Prop := ∃ p, p < 60 ∧ wc_P u (F + 38 + p) 0 = some q
/-- two forests of the three -/
def TwoF (F G : Nat) : Prop := (F = 3 ∨ F = 101 ∨ F = 199) ∧ (G = 3 ∨ G = 101 ∨ G = 199) ∧ F ≠ G
/-- what has been copied till now -/
def Cp (F G : Nat) (LA : List (Nat × Nat)) (LI : List Nat) (lb lq : Bool) (u0 u : CS) : Prop :=
  (∀ q, q < 362 → ¬ InF F q → Sm u0 u q) ∧ (∀ p, p < 60 → wc_Q u (F + 22) p = wc_Q u0 (F + 22) p) ∧ wc_I u F 43 = wc_I u0 F 43 ∧ (wc_z u0 ≤ wc_z u) ∧ (∀ q, q < wc_z u0 → wc_T u q = wc_T u0 q) ∧ (∀ q, 362 ≤ q → q < wc_z u0 → ¬ Own F u0 q → Sm u0 u q) ∧ RW u ∧
  (∀ x ∈ LA, x.1 < 38 → ∀ j, j < x.2 → wc_A u (F + x.1) j = wc_A u0 (G + x.1) j) ∧ (∀ f ∈ LI, wc_I u F f = wc_I u0 G f) ∧ (lb = true → ∀ j, j < 8 → wc_B u (F + 23) j = wc_B u0 (G + 23) j) ∧ (lq = true → ∀ j, j < 16 → wc_Q u (F + 24) j = wc_Q u0 (G + 24) j)
theorem TwoF.nin (h : TwoF F G) {p : Nat} (hp : p < 98) : ¬ InF F (G + p) := by
  obtain ⟨h1, h2, h3⟩ := h
  unfold InF
  omega
theorem TwoF.lt (h : TwoF F G) {p : Nat} (hp : p < 98) : G + p < 362 := by
  obtain ⟨h1, h2, h3⟩ := h
  omega
theorem TwoF.lt' (h : TwoF F G) {p : Nat} (hp : p < 98) : F + p < 362 := by
  obtain ⟨h1, h2, h3⟩ := h
  omega
theorem cp_int (hFG : TwoF F G) {f : Nat} (hf : f ≠ 43) (h : Cp F G LA LI lb lq u0 u) : Cp F G LA (f :: LI) lb lq u0 (wc_uI u F f (wc_I u G f)) := by
  obtain ⟨c1, c2, c3, c4, c5, c6, c7, c8, c9, c10, c11⟩ := h
  have hF := hFG.lt' (p := 0) (by omega)
  refine ⟨fun q a b => (c1 q a b).trans (Sm.uI (fun e => b (by subst e; unfold InF; omega))), c2, by simp (disch := omega) only [rI_uI, up2_nk]; exact c3, c4, c5, fun q a b c => (c6 q a b c).trans (Sm.uI (by omega)), c7, c8, fun g hg => ?_, c10, c11⟩
  have e := (c1 G (hFG.lt (p := 0) (by omega)) (by have := hFG.nin (p := 0) (by omega); simpa using this)).1
  by_cases cg : g = f
  · subst cg
    simp only [rI_uI, up2_eq]
    rw [e]
  · simp only [rI_uI, up2_nk cg]
    rcases List.mem_cons.mp hg with q | q
    · exact absurd q cg
    · exact c9 g q
theorem cp_arr (hFG : TwoF F G) {p n : Nat} (hp : 1 ≤ p ∧ p < 38) (h : Cp F G LA LI lb lq u0 u) : Cp F G ((p, n) :: LA) LI lb lq u0 (wc_aA u (F + p) (va_cpy (wc_A u (G + p)) (wc_A u (F + p)) 0 0 n)) := by
  obtain ⟨c1, c2, c3, c4, c5, c6, c7, c8, c9, c10, c11⟩ := h
  have hF := hFG.lt' (p := p) (by omega)
  refine ⟨fun q a b => (c1 q a b).trans (Sm.aA (fun e => b (by subst e; unfold InF; omega))), c2, c3, c4, c5, fun q a b c => (c6 q a b c).trans (Sm.aA (by omega)), c7, fun x hx h38 j hj => ?_, c9, c10, c11⟩
  have e := (c1 (G + p) (hFG.lt (by omega)) (hFG.nin (by omega))).2.2.1
  by_cases cx : x.1 = p
  · rw [cx]
    simp only [rA_aA, up1_eq]
    unfold va_cpy
    by_cases cj : 0 ≤ j ∧ j < 0 + n
    · rw [if_pos cj, e, show 0 + (j - 0) = j by omega]
    · rw [if_neg cj]
      rcases List.mem_cons.mp hx with q | q
      · rw [q] at hj
        have : j < n := hj
        omega
      · have := c8 x q h38 j hj
        rw [cx] at this
        exact this
  · simp (disch := omega) only [rA_aA, vq1_ne]
    rcases List.mem_cons.mp hx with q | q
    · exact absurd (congrArg (·.1) q) cx
    · exact c8 x q h38 j hj
theorem cp_B (hFG : TwoF F G) (h : Cp F G LA LI lb lq u0 u) : Cp F G LA LI true lq u0 (wc_aB u (F + 23) (va_cpy (wc_B u (G + 23)) (wc_B u (F + 23)) 0 0 8)) := by
  obtain ⟨c1, c2, c3, c4, c5, c6, c7, c8, c9, c10, c11⟩ := h
  have hF := hFG.lt' (p := 23) (by omega)
  refine ⟨fun q a b => (c1 q a b).trans (Sm.aB (fun e => b (by subst e; unfold InF; omega))), c2, c3, c4, c5, fun q a b c => (c6 q a b c).trans (Sm.aB (by omega)), c7, c8, c9, fun _ j hj => ?_, c11⟩
  simp only [rB_aB, up1_eq]
  unfold va_cpy
  rw [if_pos (by omega), (c1 (G + 23) (hFG.lt (by omega)) (hFG.nin (by omega))).2.2.2.1, show 0 + (j - 0) = j by omega]
theorem cp_Q (hFG : TwoF F G) (h : Cp F G LA LI lb lq u0 u) : Cp F G LA LI lb true u0 (wc_aQ u (F + 24) (va_cpy (wc_Q u (G + 24)) (wc_Q u (F + 24)) 0 0 16)) := by
  obtain ⟨c1, c2, c3, c4, c5, c6, c7, c8, c9, c10, c11⟩ := h
  have hF := hFG.lt' (p := 24) (by omega)
  refine ⟨fun q a b => (c1 q a b).trans (Sm.aQ (fun e => b (by subst e; unfold InF; omega))), fun p hp => by simp (disch := omega) only [rQ_aQ, vq1_ne]; exact c2 p hp, c3, c4, c5, fun q a b c => (c6 q a b c).trans (Sm.aQ (by omega)), ⟨c7.1, c7.2.1, fun F' k q hF' hk e => ?_, c7.2.2.2⟩, c8, c9, c10, fun _ j hj => ?_⟩
  · by_cases cf : F' = F
    · subst cf
      simp only [rQ_aQ, up1_eq] at e
      unfold va_cpy at e
      rw [if_pos (by omega), show 0 + (k - 0) = k by omega] at e
      exact c7.2.2.1 G k q hFG.2.1 hk e
    · have : F' + 24 ≠ F + 24 := by omega
      simp only [rQ_aQ, vq1_ne this] at e
      exact c7.2.2.1 F' k q hF' hk e
  · simp only [rQ_aQ, up1_eq]
    unfold va_cpy
    rw [if_pos (by omega), (c1 (G + 24) (hFG.lt (by omega)) (hFG.nin (by omega))).2.2.2.2.2.1, show 0 + (j - 0) = j by omega]
theorem pl_cp {S β : Type} {n : Nat} (h : n < 2147483648) (x : S) (K : S → Option β) : o_cp n n (0 : Int32) (0 : Int32) (Int32.ofNat n) x K = K x := by
  unfold o_cp
  rw [if_neg]
  have e0 : (0 : Int32).toNatClampNeg = 0 := rfl
  have e2 : ¬ (Int32.ofNat n < 0) := by
    rw [Int32.lt_iff_toInt_lt, pl_ti h]
    have q0 : (0 : Int32).toInt = 0 := rfl
    rw [q0]
    omega
  have e3 : ¬ ((0 : Int32) < 0) := by decide
  intro hc
  rw [e0, pl_nc h] at hc
  rcases hc with q | q | q | q | q
  · exact e3 q
  · exact e3 q
  · exact e2 q
  · omega
  · omega
theorem pl_cpL {S β : Type} {m : Nat} (h : OfNat.ofNat m < 2147483648) (x : S) (K : S → Option β) : o_cp (no_index (OfNat.ofNat m)) (no_index (OfNat.ofNat m)) (0 : Int32) (0 : Int32) (no_index (OfNat.ofNat m : Int32)) x K = K x := pl_cp h x K
theorem cp_stands (hFG : TwoF F G) (h : Cp F G LA LI lb lq u0 u) : ∃ u1, fX1_asStands N F G u = some u1 ∧ wc_z u1 = wc_z u ∧ wc_P u1 = wc_P u ∧ wc_T u1 = wc_T u ∧ Cp F G ((13, 60) :: (12, 60) :: (11, 24) :: (10, 24) :: (9, 24) :: (8, 24) :: (7, 24) :: (6, 24) :: (5, 24) :: (4, 24) :: (3, 24) :: (2, 24) :: (1, 24) :: LA) (16 :: 13 :: 1 :: LI) lb lq u0 u1 := by
  unfold fX1_asStands
  simp (disch := decide) only [pl_cpL, pl_nm, pl_ncL]
  refine ⟨_, rfl, rfl, rfl, rfl, ?_⟩
  exact cp_int hFG (by decide) (cp_arr hFG (by decide) (cp_arr hFG (by decide) (cp_int hFG (by decide) (cp_arr hFG (by decide) (cp_arr hFG (by decide) (cp_arr hFG (by decide) (cp_arr hFG (by decide) (cp_arr hFG (by decide) (cp_arr hFG (by decide) (cp_arr hFG (by decide) (cp_arr hFG (by decide) (cp_arr hFG (by decide) (cp_arr hFG (by decide) (cp_arr hFG (by decide) (cp_int hFG (by decide) h)))))))))))))))
theorem cp_lands (hFG : TwoF F G) (h : Cp F G LA LI lb lq u0 u) : ∃ u1, fX1_asLands N F G u = some u1 ∧ wc_z u1 = wc_z u ∧ wc_P u1 = wc_P u ∧ wc_T u1 = wc_T u ∧ Cp F G ((21, 8) :: (20, 8) :: (19, 8) :: (18, 8) :: (17, 6) :: (16, 12) :: (15, 12) :: (14, 12) :: LA) (22 :: 17 :: LI) lb lq u0 u1 := by
  unfold fX1_asLands
  simp (disch := decide) only [pl_cpL, pl_nm, pl_ncL]
  refine ⟨_, rfl, rfl, rfl, rfl, ?_⟩
  exact cp_arr hFG (by decide) (cp_arr hFG (by decide) (cp_arr hFG (by decide) (cp_arr hFG (by decide) (cp_int hFG (by decide) (cp_arr hFG (by decide) (cp_arr hFG (by decide) (cp_arr hFG (by decide) (cp_arr hFG (by decide) (cp_int hFG (by decide) h)))))))))
theorem pl_lq (w : RW u) {F : Nat} (hF : F = 3 ∨ F = 101 ∨ F = 199) {β : Type} (K : Option β) : o_lq u (F + 24) 16 K = K := by
  unfold o_lq
  rw [if_pos]
  rw [List.all_eq_true]
  intro k hk
  cases e : wc_Q u (F + 24) k with
  | none => rfl
  | some q => simpa using (w.2.2.1 F k q hF (List.mem_range.mp hk) e).2.2
/-- the end of it -/
theorem cp_tail (hFG : TwoF F G) (h : Cp F G LA LI lb lq u0 u) {f : Nat} : ∃ u1, fX1_as_20 N F G (f + 1) u (Int32.ofNat 60) = some u1 ∧ wc_z u1 = wc_z u ∧ wc_P u1 = wc_P u ∧ wc_T u1 = wc_T u ∧ (∀ q, 362 ≤ q → Sm u u1 q) ∧ Cp F G ((35, 960) :: (34, 24) :: (33, 6) :: (32, 6) :: (31, 100) :: (30, 12) :: (29, 30) :: (28, 30) :: (27, 30) :: (26, 16) :: (25, 16) :: LA) (33 :: 29 :: LI) true true u0 u1 := by
  have hF := hFG.lt' (p := 40) (by omega)
  have h1 := cp_int hFG (f := 29) (by decide) (cp_B hFG h)
  unfold fX1_as_20
  rw [if_pos (by decide)]
  simp (disch := decide) only [pl_cpL, pl_nm, pl_ncL]
  rw [pl_lq h1.2.2.2.2.2.2.1 hFG.2.1]
  refine ⟨_, rfl, rfl, rfl, rfl, fun q hq => ?_, ?_⟩
  · exact (((((((((((((((Sm.aB (by omega)).trans (Sm.uI (by omega))).trans (Sm.aQ (by omega))).trans (Sm.aA (by omega))).trans (Sm.aA (by omega))).trans (Sm.uI (by omega))).trans (Sm.aA (by omega))).trans (Sm.aA (by omega))).trans (Sm.aA (by omega))).trans (Sm.aA (by omega))).trans (Sm.aA (by omega))).trans (Sm.aA (by omega))).trans (Sm.aA (by omega))).trans (Sm.aA (by omega))).trans (Sm.aA (by omega)))
  · exact cp_arr hFG (by decide) (cp_arr hFG (by decide) (cp_arr hFG (by decide) (cp_arr hFG (by decide) (cp_arr hFG (by decide) (cp_arr hFG (by decide) (cp_arr hFG (by decide) (cp_arr hFG (by decide) (cp_arr hFG (by decide) (cp_int hFG (by decide) (cp_arr hFG (by decide) (cp_arr hFG (by decide) (cp_Q hFG h1))))))))))))
end PN2
