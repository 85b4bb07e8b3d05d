/-! PLAIN LAW, METHODS 14: image, back -/
section PN4
variable {u u0 u1 u2 : CS} {t t1 : TS} {N F G : Nat} {s : Nat → Int32} {b : Nat → Int64} {LA : List (Nat × Nat)} {LI : List Nat} {lb lq : Bool}
theorem Cp.rest (hFG : TwoF F G) (h : RR u t) (hc : Cp F G LA LI lb lq u u1) : RF u1 t ∧ RTp u1 t ∧ RRo u1 t ∧ RO u1 t ∧ (∀ q, q < 362 → ¬ InF F q → Sm u u1 q) ∧ RW u1 := by
  obtain ⟨c1, c2, c3, c4, c5, c6, c7, c8, c9, c10, c11⟩ := hc
  have hF := hFG.1
  have st : ∀ q, q < 362 → (q < 3 ∨ 297 ≤ q) → Sm u u1 q := fun q a b => c1 q a (by unfold InF; omega)
  have nO : ∀ q n, wc_T u q = some (.inr (0, n)) → ¬ Own F u q := by
    intro q n e ⟨p, hp, e'⟩
    rcases (h.w.1 _ _ (hFG.slF hp) e').2.2 with k | k | k <;> rw [e] at k <;> cases k
  refine ⟨⟨fun i hi => by rw [(st 2 (by omega) (by omega)).2.2.1]; exact h.rf.1 i hi, fun k a b => by rw [(st (334 + k) (by omega) (by omega)).1]; exact h.rf.2 k a b⟩, ?_, ⟨?_, fun n q hn e => ?_⟩, ?_, c1, c7⟩
  · obtain ⟨⟨m, m1, m2, m3, m4⟩, w⟩ := h.tp
    refine ⟨⟨m, m1, by rw [(st 297 (by omega) (by omega)).1]; exact m2, m3, fun i hi => by rw [(st 298 (by omega) (by omega)).2.2.1]; exact m4 i hi⟩, fun w' l hl j x hx => ?_⟩
    have hw : w' < 23 := (List.getElem?_eq_some_iff.mp hl).1
    rw [(st (301 + w') (by omega) (by omega)).2.2.1]; exact w w' l hl j x hx
  · rw [(st 0 (by omega) (by omega)).2.2.2.2.1]
    rcases h.ro.1 with e | ⟨q, m, e1, e2, e3, e4, e5, e6⟩
    · exact Or.inl e
    · obtain ⟨r1, r2, r3⟩ := h.ro.2 m q e3 e5
      refine Or.inr ⟨q, m, e1, e2, e3, e4, by rw [(st 334 (by omega) (by omega)).2.2.2.2.2.1]; exact e5, fun i hi => ?_⟩
      rw [(c6 q r1 r2 (nO q m r3)).2.2.1]; exact e6 i hi
  · rw [(st 334 (by omega) (by omega)).2.2.2.2.2.1] at e
    obtain ⟨r1, r2, r3⟩ := h.ro.2 n q hn e
    exact ⟨r1, Nat.lt_of_lt_of_le r2 c4, by rw [c5 q r2]; exact r3⟩
  · have o : ∀ H, (H = 3 ∨ H = 101 ∨ H = 199) → wc_I u1 H 43 = wc_I u H 43 := by
      intro H hH
      by_cases c : H = F
      · rw [c]; exact c3
      · rw [(c1 H (by omega) (by unfold InF; omega)).1]
    exact ⟨by rw [o 3 (by omega)]; exact h.o.1, by rw [o 101 (by omega)]; exact h.o.2.1, by rw [o 199 (by omega)]; exact h.o.2.2.1, h.o.2.2.2⟩
theorem cls_4536 {i : Nat} (hi : fr_cls i ≤ 5) : i < 4536 := by
  rcases Nat.lt_or_ge i 4536 with q | q
  · exact q
  · exfalso
    unfold fr_cls at hi
    rw [if_neg (by omega), if_neg (by omega), if_neg (by omega), if_neg (by omega), if_neg (by omega), if_neg (by omega), if_neg (by omega), if_neg (by omega), if_neg (by omega), if_neg (by omega)] at hi
    omega
theorem FR.cg8 (hF : F ≤ 199) {s' : Nat → Int32} {b' : Nat → Int64} (h : FR F u s b) (hs : ∀ i, i < 4536 → s' i = s i) (hb : ∀ k, k < 8 → b' k = b k) : FR F u s' b' := by
  have q := h.cgS hF (s' := s') (fun i hi => hs i (cls_4536 hi))
  exact ⟨q.t, q.n, q.m, q.h, q.p, q.l, fun k hk => by rw [hb k hk]; exact q.bk k hk, q.x⟩
theorem KR.cg {K : Int32} {a a' s s' : Nat → Int32} (h : KR K a s) (hs : ∀ i, i < 4536 → s' i = s i) (ha : ∀ k, k < 24 → a' k = a k) : KR K a' s' := by
  unfold KR
  rw [hs 1 (by omega), hs 8 (by omega), hs 9 (by omega)]
  refine ⟨h.1, h.2.1, ?_⟩
  rcases h.2.2 with e | ⟨e1, e2, e3, e4⟩
  · exact Or.inl e
  · exact Or.inr ⟨e1, e2, e3, fun k hk hb => by rw [ha k hk, hs _ (by omega)]; exact e4 k hk hb⟩
theorem t_img29 (d : Nat) : ∀ (f : Nat) (t : TS) (k : Nat), d + k = 8 → d < f → ∃ t1, fX7_image_29 N f t (Int32.ofNat k) = some (tS t 0, t1) ∧ (∀ j, t1.1 j = if j = 35 then 1 else t.1 j) ∧ t1.2.1 = t.2.1 ∧ t1.2.2.1 = t.2.2.1 ∧ (∀ a, a ≠ 34 → t1.2.2.2 a = t.2.2.2 a) ∧ ∀ j, t1.2.2.2 34 j = if k ≤ j ∧ j < 8 then t.2.2.2 2 j else t.2.2.2 34 j := by
  induction d with
  | zero =>
    intro f t k hd hf
    obtain ⟨f, rfl⟩ : ∃ g, f = g + 1 := ⟨f - 1, by omega⟩
    have ek : k = 8 := by omega
    subst ek
    refine ⟨mt_uI t 35 1, ?_, fun j => rfl, rfl, rfl, fun _ _ => rfl, fun j => by rw [if_neg (by omega)]; rfl⟩
    unfold fX7_image_29
    rw [if_pos (by decide)]
    simp (disch := omega) only [pl_bd, pl_bd2, pl_nm, pl_id, pl_ald, pl_ast, pl_aldL, pl_astL, pl_nc, pl_ncL, pl_add, pl_addL, pl_addR, pl_mul, pl_mulL, pl_mulR, pl_sub, pl_subL, pl_eq, pl_eqL, pl_eqR, pl_eqN, pl_le, pl_leL, pl_leR, pl_lt, pl_ltL, pl_ltR, pl_div, pl_divL, pl_01, pl_bl, pl_bl0, pl_bl1, ite_not, c_in, t_in, Int32.reduceToInt, Int64.reduceToInt, upd_eq, upd_ne, up2_eq, up2_nk, vq2_ne, up1_eq, vq1_ne, Nat.reduceAdd, Nat.reduceMul, if_true, if_false, rI_uI, rI_uL, rI_uA, rI_uB, rI_uP, rI_uQ, rI_aA, rI_aB, rI_aQ, rL_uI, rL_uL, rL_uA, rL_uB, rL_uP, rL_uQ, rL_aA, rL_aB, rL_aQ, rA_uI, rA_uL, rA_uA, rA_uB, rA_uP, rA_uQ, rA_aA, rA_aB, rA_aQ, rB_uI, rB_uL, rB_uA, rB_uB, rB_uP, rB_uQ, rB_aA, rB_aB, rB_aQ, rP_uI, rP_uL, rP_uA, rP_uB, rP_uP, rP_uQ, rP_aA, rP_aB, rP_aQ, rQ_uI, rQ_uL, rQ_uA, rQ_uB, rQ_uP, rQ_uQ, rQ_aA, rQ_aB, rQ_aQ, rT_uI, rT_uL, rT_uA, rT_uB, rT_uP, rT_uQ, rT_aA, rT_aB, rT_aQ, rz_uI, rz_uL, rz_uA, rz_uB, rz_uP, rz_uQ, rz_aA, rz_aB, rz_aQ, rtI_L, rtI_A, rtI_B, rtL_I, rtL_A, rtL_B, rtA_I, rtA_L, rtA_B, rtB_I, rtB_L, rtB_A, rtI_I, rtL_L, rtA_A, rtA_An, rtB_B, rtB_Bn, updL_eq, updL_ne]
  | succ d ih =>
    intro f t k hd hf
    obtain ⟨f, rfl⟩ : ∃ g, f = g + 1 := ⟨f - 1, by omega⟩
    obtain ⟨t1, r1, r2, r3, r4, r5, r6⟩ := ih f (mt_uB t 34 k (t.2.2.2 2 k)) (k + 1) (by omega) (by omega)
    refine ⟨t1, ?_, r2, r3, r4, fun a ha => (r5 a ha).trans (rtB_Bn ha), fun j => ?_⟩
    · unfold fX7_image_29
      rw [if_neg (by rw [pl_leR (by omega) (by omega)]; omega)]
      simp (disch := omega) only [pl_bd, pl_bd2, pl_nm, pl_id, pl_ald, pl_ast, pl_aldL, pl_astL, pl_nc, pl_ncL, pl_add, pl_addL, pl_addR, pl_mul, pl_mulL, pl_mulR, pl_sub, pl_subL, pl_eq, pl_eqL, pl_eqR, pl_eqN, pl_le, pl_leL, pl_leR, pl_lt, pl_ltL, pl_ltR, pl_div, pl_divL, pl_01, pl_bl, pl_bl0, pl_bl1, ite_not, c_in, t_in, Int32.reduceToInt, Int64.reduceToInt, upd_eq, upd_ne, up2_eq, up2_nk, vq2_ne, up1_eq, vq1_ne, Nat.reduceAdd, Nat.reduceMul, if_true, if_false, rI_uI, rI_uL, rI_uA, rI_uB, rI_uP, rI_uQ, rI_aA, rI_aB, rI_aQ, rL_uI, rL_uL, rL_uA, rL_uB, rL_uP, rL_uQ, rL_aA, rL_aB, rL_aQ, rA_uI, rA_uL, rA_uA, rA_uB, rA_uP, rA_uQ, rA_aA, rA_aB, rA_aQ, rB_uI, rB_uL, rB_uA, rB_uB, rB_uP, rB_uQ, rB_aA, rB_aB, rB_aQ, rP_uI, rP_uL, rP_uA, rP_uB, rP_uP, rP_uQ, rP_aA, rP_aB, rP_aQ, rQ_uI, rQ_uL, rQ_uA, rQ_uB, rQ_uP, rQ_uQ, rQ_aA, rQ_aB, rQ_aQ, rT_uI, rT_uL, rT_uA, rT_uB, rT_uP, rT_uQ, rT_aA, rT_aB, rT_aQ, rz_uI, rz_uL, rz_uA, rz_uB, rz_uP, rz_uQ, rz_aA, rz_aB, rz_aQ, rtI_L, rtI_A, rtI_B, rtL_I, rtL_A, rtL_B, rtA_I, rtA_L, rtA_B, rtB_I, rtB_L, rtB_A, rtI_I, rtL_L, rtA_A, rtA_An, rtB_B, rtB_Bn, updL_eq, updL_ne]
      exact r1
    · rw [r6 j, rtB_B, rtB_Bn (by omega)]
      by_cases c : j = k
      · subst c
        rw [if_neg (by omega), updL_eq, if_pos (by omega)]
      · rw [updL_ne c]
        by_cases c2 : k + 1 ≤ j ∧ j < 8
        · rw [if_pos c2, if_pos (by omega)]
        · rw [if_neg c2, if_neg (by omega)]
theorem t_img2 (hN : 100000 ≤ N) (d : Nat) : ∀ (f : Nat) (t : TS) (k : Nat), d + k = 4536 → d < f → ∃ t1, fX7_image_2 N f t (Int32.ofNat k) = some (tS t 0, t1) ∧ (∀ j, t1.1 j = if j = 35 then 1 else t.1 j) ∧ t1.2.1 = t.2.1 ∧ (∀ a, a ≠ 33 → t1.2.2.1 a = t.2.2.1 a) ∧ (∀ i, i < 4536 → k ≤ i → t1.2.2.1 33 i = tS t i) ∧ (∀ i, i < k → t1.2.2.1 33 i = t.2.2.1 33 i) ∧ (∀ a, a ≠ 34 → t1.2.2.2 a = t.2.2.2 a) ∧ ∀ j, j < 8 → t1.2.2.2 34 j = t.2.2.2 2 j := by
  induction d with
  | zero =>
    intro f t k hd hf
    obtain ⟨f, rfl⟩ : ∃ g, f = g + 1 := ⟨f - 1, by omega⟩
    have ek : k = 4536 := by omega
    subst ek
    obtain ⟨t1, r1, r2, r3, r4, r5, r6⟩ := t_img29 (N := N) 8 N t 0 (by omega) (by omega)
    refine ⟨t1, ?_, r2, r3, fun a _ => by rw [r4], fun i h1 h2 => by omega, fun i _ => by rw [r4], r5, fun j hj => by rw [r6 j, if_pos (by omega)]⟩
    unfold fX7_image_2
    rw [if_pos (by decide)]
    exact r1
  | succ d ih =>
    intro f t k hd hf
    obtain ⟨f, rfl⟩ : ∃ g, f = g + 1 := ⟨f - 1, by omega⟩
    obtain ⟨t1, r1, r2, r3, r4, r5, r6, r7, r8⟩ := ih f (mt_uA t 33 k (tS t k)) (k + 1) (by omega) (by omega)
    refine ⟨t1, ?_, r2, r3, fun a ha => (r4 a ha).trans (rtA_An ha), fun i h1 h2 => ?_, fun i hi => ?_, r7, r8⟩
    · unfold fX7_image_2
      rw [if_neg (by rw [pl_leR (by omega) (by omega)]; omega)]
      simp (disch := omega) only [pl_bd, pl_bd2, pl_nm, pl_id, pl_ald, pl_ast, pl_aldL, pl_astL, pl_nc, pl_ncL, pl_add, pl_addL, pl_addR, pl_mul, pl_mulL, pl_mulR, pl_sub, pl_subL, pl_eq, pl_eqL, pl_eqR, pl_eqN, pl_le, pl_leL, pl_leR, pl_lt, pl_ltL, pl_ltR, pl_div, pl_divL, pl_01, pl_bl, pl_bl0, pl_bl1, ite_not, c_in, t_in, Int32.reduceToInt, Int64.reduceToInt, upd_eq, upd_ne, up2_eq, up2_nk, vq2_ne, up1_eq, vq1_ne, Nat.reduceAdd, Nat.reduceMul, if_true, if_false, rI_uI, rI_uL, rI_uA, rI_uB, rI_uP, rI_uQ, rI_aA, rI_aB, rI_aQ, rL_uI, rL_uL, rL_uA, rL_uB, rL_uP, rL_uQ, rL_aA, rL_aB, rL_aQ, rA_uI, rA_uL, rA_uA, rA_uB, rA_uP, rA_uQ, rA_aA, rA_aB, rA_aQ, rB_uI, rB_uL, rB_uA, rB_uB, rB_uP, rB_uQ, rB_aA, rB_aB, rB_aQ, rP_uI, rP_uL, rP_uA, rP_uB, rP_uP, rP_uQ, rP_aA, rP_aB, rP_aQ, rQ_uI, rQ_uL, rQ_uA, rQ_uB, rQ_uP, rQ_uQ, rQ_aA, rQ_aB, rQ_aQ, rT_uI, rT_uL, rT_uA, rT_uB, rT_uP, rT_uQ, rT_aA, rT_aB, rT_aQ, rz_uI, rz_uL, rz_uA, rz_uB, rz_uP, rz_uQ, rz_aA, rz_aB, rz_aQ, rtI_L, rtI_A, rtI_B, rtL_I, rtL_A, rtL_B, rtA_I, rtA_L, rtA_B, rtB_I, rtB_L, rtB_A, rtI_I, rtL_L, rtA_A, rtA_An, rtB_B, rtB_Bn, updL_eq, updL_ne]
      exact r1
    · by_cases c : i = k
      · subst c
        rw [r6 i (by omega), rtA_A, upd_eq]
      · rw [r5 i h1 (by omega)]
        exact congrFun (rtA_An (t := t) (k := 33) (i := k) (j := 1) (x := tS t k) (by omega)) i
    · rw [r6 i (by omega), rtA_A, upd_ne (by omega)]
theorem t_bk43 (d : Nat) : ∀ (f : Nat) (t : TS) (k : Nat), d + k = 8 → d < f → ∃ t1, fX7_back_43 N f t (Int32.ofNat k) = some (tS t 0, t1) ∧ t1.1 = t.1 ∧ t1.2.1 = t.2.1 ∧ t1.2.2.1 = t.2.2.1 ∧ (∀ a, a ≠ 2 → t1.2.2.2 a = t.2.2.2 a) ∧ ∀ j, t1.2.2.2 2 j = if k ≤ j ∧ j < 8 then t.2.2.2 34 j else t.2.2.2 2 j := by
  induction d with
  | zero =>
    intro f t k hd hf
    obtain ⟨f, rfl⟩ : ∃ g, f = g + 1 := ⟨f - 1, by omega⟩
    have ek : k = 8 := by omega
    subst ek
    refine ⟨t, ?_, rfl, rfl, rfl, fun _ _ => rfl, fun j => by rw [if_neg (by omega)]⟩
    unfold fX7_back_43
    rw [if_pos (by decide)]
    simp (disch := omega) only [pl_bd, pl_bd2, pl_nm, pl_id, pl_ald, pl_ast, pl_aldL, pl_astL, pl_nc, pl_ncL, pl_add, pl_addL, pl_addR, pl_mul, pl_mulL, pl_mulR, pl_sub, pl_subL, pl_eq, pl_eqL, pl_eqR, pl_eqN, pl_le, pl_leL, pl_leR, pl_lt, pl_ltL, pl_ltR, pl_div, pl_divL, pl_01, pl_bl, pl_bl0, pl_bl1, ite_not, c_in, t_in, Int32.reduceToInt, Int64.reduceToInt, upd_eq, upd_ne, up2_eq, up2_nk, vq2_ne, up1_eq, vq1_ne, Nat.reduceAdd, Nat.reduceMul, if_true, if_false, rI_uI, rI_uL, rI_uA, rI_uB, rI_uP, rI_uQ, rI_aA, rI_aB, rI_aQ, rL_uI, rL_uL, rL_uA, rL_uB, rL_uP, rL_uQ, rL_aA, rL_aB, rL_aQ, rA_uI, rA_uL, rA_uA, rA_uB, rA_uP, rA_uQ, rA_aA, rA_aB, rA_aQ, rB_uI, rB_uL, rB_uA, rB_uB, rB_uP, rB_uQ, rB_aA, rB_aB, rB_aQ, rP_uI, rP_uL, rP_uA, rP_uB, rP_uP, rP_uQ, rP_aA, rP_aB, rP_aQ, rQ_uI, rQ_uL, rQ_uA, rQ_uB, rQ_uP, rQ_uQ, rQ_aA, rQ_aB, rQ_aQ, rT_uI, rT_uL, rT_uA, rT_uB, rT_uP, rT_uQ, rT_aA, rT_aB, rT_aQ, rz_uI, rz_uL, rz_uA, rz_uB, rz_uP, rz_uQ, rz_aA, rz_aB, rz_aQ, rtI_L, rtI_A, rtI_B, rtL_I, rtL_A, rtL_B, rtA_I, rtA_L, rtA_B, rtB_I, rtB_L, rtB_A, rtI_I, rtL_L, rtA_A, rtA_An, rtB_B, rtB_Bn, updL_eq, updL_ne]
  | succ d ih =>
    intro f t k hd hf
    obtain ⟨f, rfl⟩ : ∃ g, f = g + 1 := ⟨f - 1, by omega⟩
    obtain ⟨t1, r1, r2, r3, r4, r5, r6⟩ := ih f (mt_uB t 2 k (t.2.2.2 34 k)) (k + 1) (by omega) (by omega)
    refine ⟨t1, ?_, r2, r3, r4, fun a ha => (r5 a ha).trans (rtB_Bn ha), fun j => ?_⟩
    · unfold fX7_back_43
      rw [if_neg (by rw [pl_leR (by omega) (by omega)]; omega)]
      simp (disch := omega) only [pl_bd, pl_bd2, pl_nm, pl_id, pl_ald, pl_ast, pl_aldL, pl_astL, pl_nc, pl_ncL, pl_add, pl_addL, pl_addR, pl_mul, pl_mulL, pl_mulR, pl_sub, pl_subL, pl_eq, pl_eqL, pl_eqR, pl_eqN, pl_le, pl_leL, pl_leR, pl_lt, pl_ltL, pl_ltR, pl_div, pl_divL, pl_01, pl_bl, pl_bl0, pl_bl1, ite_not, c_in, t_in, Int32.reduceToInt, Int64.reduceToInt, upd_eq, upd_ne, up2_eq, up2_nk, vq2_ne, up1_eq, vq1_ne, Nat.reduceAdd, Nat.reduceMul, if_true, if_false, rI_uI, rI_uL, rI_uA, rI_uB, rI_uP, rI_uQ, rI_aA, rI_aB, rI_aQ, rL_uI, rL_uL, rL_uA, rL_uB, rL_uP, rL_uQ, rL_aA, rL_aB, rL_aQ, rA_uI, rA_uL, rA_uA, rA_uB, rA_uP, rA_uQ, rA_aA, rA_aB, rA_aQ, rB_uI, rB_uL, rB_uA, rB_uB, rB_uP, rB_uQ, rB_aA, rB_aB, rB_aQ, rP_uI, rP_uL, rP_uA, rP_uB, rP_uP, rP_uQ, rP_aA, rP_aB, rP_aQ, rQ_uI, rQ_uL, rQ_uA, rQ_uB, rQ_uP, rQ_uQ, rQ_aA, rQ_aB, rQ_aQ, rT_uI, rT_uL, rT_uA, rT_uB, rT_uP, rT_uQ, rT_aA, rT_aB, rT_aQ, rz_uI, rz_uL, rz_uA, rz_uB, rz_uP, rz_uQ, rz_aA, rz_aB, rz_aQ, rtI_L, rtI_A, rtI_B, rtL_I, rtL_A, rtL_B, rtA_I, rtA_L, rtA_B, rtB_I, rtB_L, rtB_A, rtI_I, rtL_L, rtA_A, rtA_An, rtB_B, rtB_Bn, updL_eq, updL_ne]
      exact r1
    · rw [r6 j, rtB_B, rtB_Bn (by omega)]
      by_cases c : j = k
      · subst c
        rw [if_neg (by omega), updL_eq, if_pos (by omega)]
      · rw [updL_ne c]
        by_cases c2 : k + 1 ≤ j ∧ j < 8
        · rw [if_pos c2, if_pos (by omega)]
        · rw [if_neg c2, if_neg (by omega)]
theorem t_bk16 (hN : 100000 ≤ N) (d : Nat) : ∀ (f : Nat) (t : TS) (k : Nat), d + k = 4536 → d < f → ∃ t1, fX7_back_16 N f t (Int32.ofNat k) = some (tS t1 0, t1) ∧ t1.1 = t.1 ∧ t1.2.1 = t.2.1 ∧ (∀ a, a ≠ 1 → t1.2.2.1 a = t.2.2.1 a) ∧ (∀ i, i < 4536 → k ≤ i → tS t1 i = t.2.2.1 33 i) ∧ (∀ i, i < k → tS t1 i = tS t i) ∧ (∀ a, a ≠ 2 → t1.2.2.2 a = t.2.2.2 a) ∧ ∀ j, j < 8 → tB t1 j = t.2.2.2 34 j := by
  induction d with
  | zero =>
    intro f t k hd hf
    obtain ⟨f, rfl⟩ : ∃ g, f = g + 1 := ⟨f - 1, by omega⟩
    have ek : k = 4536 := by omega
    subst ek
    obtain ⟨t1, r1, r2, r3, r4, r5, r6⟩ := t_bk43 (N := N) 8 N t 0 (by omega) (by omega)
    refine ⟨t1, ?_, r2, r3, fun a _ => by rw [r4], fun i h1 h2 => by omega, fun i _ => by show t1.2.2.1 1 i = _; rw [r4], r5, fun j hj => by show t1.2.2.2 2 j = _; rw [r6 j, if_pos (by omega)]⟩
    unfold fX7_back_16
    rw [if_pos (by decide)]
    rw [show tS t1 0 = tS t 0 by show t1.2.2.1 1 0 = _; rw [r4]]
    exact r1
  | succ d ih =>
    intro f t k hd hf
    obtain ⟨f, rfl⟩ : ∃ g, f = g + 1 := ⟨f - 1, by omega⟩
    obtain ⟨t1, r1, r2, r3, r4, r5, r6, r7, r8⟩ := ih f (mt_uA t 1 k (t.2.2.1 33 k)) (k + 1) (by omega) (by omega)
    refine ⟨t1, ?_, r2, r3, fun a ha => (r4 a ha).trans (rtA_An ha), fun i h1 h2 => ?_, fun i hi => ?_, r7, r8⟩
    · unfold fX7_back_16
      rw [if_neg (by rw [pl_leR (by omega) (by omega)]; omega)]
      simp (disch := omega) only [pl_bd, pl_bd2, pl_nm, pl_id, pl_ald, pl_ast, pl_aldL, pl_astL, pl_nc, pl_ncL, pl_add, pl_addL, pl_addR, pl_mul, pl_mulL, pl_mulR, pl_sub, pl_subL, pl_eq, pl_eqL, pl_eqR, pl_eqN, pl_le, pl_leL, pl_leR, pl_lt, pl_ltL, pl_ltR, pl_div, pl_divL, pl_01, pl_bl, pl_bl0, pl_bl1, ite_not, c_in, t_in, Int32.reduceToInt, Int64.reduceToInt, upd_eq, upd_ne, up2_eq, up2_nk, vq2_ne, up1_eq, vq1_ne, Nat.reduceAdd, Nat.reduceMul, if_true, if_false, rI_uI, rI_uL, rI_uA, rI_uB, rI_uP, rI_uQ, rI_aA, rI_aB, rI_aQ, rL_uI, rL_uL, rL_uA, rL_uB, rL_uP, rL_uQ, rL_aA, rL_aB, rL_aQ, rA_uI, rA_uL, rA_uA, rA_uB, rA_uP, rA_uQ, rA_aA, rA_aB, rA_aQ, rB_uI, rB_uL, rB_uA, rB_uB, rB_uP, rB_uQ, rB_aA, rB_aB, rB_aQ, rP_uI, rP_uL, rP_uA, rP_uB, rP_uP, rP_uQ, rP_aA, rP_aB, rP_aQ, rQ_uI, rQ_uL, rQ_uA, rQ_uB, rQ_uP, rQ_uQ, rQ_aA, rQ_aB, rQ_aQ, rT_uI, rT_uL, rT_uA, rT_uB, rT_uP, rT_uQ, rT_aA, rT_aB, rT_aQ, rz_uI, rz_uL, rz_uA, rz_uB, rz_uP, rz_uQ, rz_aA, rz_aB, rz_aQ, rtI_L, rtI_A, rtI_B, rtL_I, rtL_A, rtL_B, rtA_I, rtA_L, rtA_B, rtB_I, rtB_L, rtB_A, rtI_I, rtL_L, rtA_A, rtA_An, rtB_B, rtB_Bn, updL_eq, updL_ne]
      exact r1
    · by_cases c : i = k
      · subst c
        rw [r6 i (by omega)]
        show (mt_uA t 1 i (t.2.2.1 33 i)).2.2.1 1 i = _
        rw [rtA_A, upd_eq]
      · rw [r5 i h1 (by omega)]
        exact congrFun (rtA_An (t := t) (k := 1) (i := k) (j := 33) (x := t.2.2.1 33 k) (by omega)) i
    · rw [r6 i (by omega)]
      show (mt_uA t 1 k (t.2.2.1 33 k)).2.2.1 1 i = _
      rw [rtA_A, upd_ne (by omega)]
theorem pl_zc {ρ : Type} {pz : ρ → Nat} {z : Nat} {r : ρ} (h : z ≤ pz r) : o_zc pz z (some r) = some r := by
  show (if z ≤ pz r then some r else none) = some r
  rw [if_pos h]
theorem m_image (hN : 100000 ≤ N) (hS : wc_S u) (h : RR u t) : Same 60 u (fX0_image N u) (fX7_image N t) := by
  have hFG : TwoF 199 3 := ⟨by omega, by omega, by omega⟩
  obtain ⟨u1, LA, LI, r1, r2, r3, r4, r5, r6, r7, r8, r9, r10⟩ := as_ok (N := N) hN hFG hS h.w
  obtain ⟨t1, q1, q2, q3, q4, q5, q6, q7, q8⟩ := t_img2 hN 4536 N t 0 (by omega) (by omega)
  obtain ⟨x1, x2, x3, x4, x5, x6⟩ := r4.rest hFG h
  have hT := fun p hp => (as_slots hS (show (199 : Nat) = 3 ∨ (199 : Nat) = 101 ∨ (199 : Nat) = 199 by omega) (p := p) hp)
  have f3 := FR.aside (H := 3) hFG h.w h.f r4
  have f1 := FR.copy hFG h.w hT h.f r4 r5 r6 r7 r8 r9 r10
  have e0 : wc_I u1 3 0 = t.2.2.1 1 0 := (f3.n (0, 0, 0, 400) (by decide)).1
  have s0 := x5 0 (by omega) (by unfold InF; omega)
  have s332 := x5 332 (by omega) (by unfold InF; omega)
  unfold fX0_image fX7_image
  simp only [r1, pl_bd]
  unfold o_zl
  rw [if_pos r2]
  simp (disch := decide) only [pl_cpL, pl_nm, pl_ncL]
  have fin : RR (wc_aA (wc_uI (wc_uI u1 0 5 1) 0 23 (wc_I (wc_uI u1 0 5 1) 0 21)) 333 (va_cpy (wc_A (wc_uI (wc_uI u1 0 5 1) 0 23 (wc_I (wc_uI u1 0 5 1) 0 21)) 332) (wc_A (wc_uI (wc_uI u1 0 5 1) 0 23 (wc_I (wc_uI u1 0 5 1) 0 21)) 333) 0 0 24)) t1 := by
    have sm : ∀ q, q ≠ 0 → q ≠ 333 → Sm u1 (wc_aA (wc_uI (wc_uI u1 0 5 1) 0 23 (wc_I (wc_uI u1 0 5 1) 0 21)) 333 (va_cpy (wc_A (wc_uI (wc_uI u1 0 5 1) 0 23 (wc_I (wc_uI u1 0 5 1) 0 21)) 332) (wc_A (wc_uI (wc_uI u1 0 5 1) 0 23 (wc_I (wc_uI u1 0 5 1) 0 21)) 333) 0 0 24)) q := fun q a b => ((Sm.uI a).trans (Sm.uI a)).trans (Sm.aA b)
    have kp : ∀ H s b, 3 ≤ H → H ≤ 199 → FR H u1 s b → FR H (wc_aA (wc_uI (wc_uI u1 0 5 1) 0 23 (wc_I (wc_uI u1 0 5 1) 0 21)) 333 (va_cpy (wc_A (wc_uI (wc_uI u1 0 5 1) 0 23 (wc_I (wc_uI u1 0 5 1) 0 21)) 332) (wc_A (wc_uI (wc_uI u1 0 5 1) 0 23 (wc_I (wc_uI u1 0 5 1) 0 21)) 333) 0 0 24)) s b := fun H s b h1 h2 hf => hf.keep (Nat.le_refl _) (fun q hq => sm q (by unfold InF at hq; omega) (by unfold InF at hq; omega))
    have tS1 : tS t1 = tS t := q4 1 (by omega)
    have tB1 : tB t1 = tB t := q7 2 (by omega)
    have i21 : wc_I (wc_uI u1 0 5 1) 0 21 = wc_I u 0 21 := by simp (disch := omega) only [rI_uI, up2_nk]; rw [s0.1]
    refine ⟨by rw [tS1, tB1]; exact kp 3 _ _ (by omega) (by omega) f3, ?_, ?_, ?_, ?_, ?_, ?_, ?_⟩
    · exact x6
    · refine ⟨?_, Or.inr ⟨by rw [q2 35, if_pos rfl], kp 199 _ _ (by omega) (by omega) (f1.cg8 (by omega) (fun i hi => q5 i hi (by omega)) (fun k hk => q8 k hk)), ?_⟩⟩
      · simp (disch := omega) only [rI_aA, rI_uI, up2_nk, up2_eq]
        rw [q2 35, if_pos rfl]
      · simp (disch := omega) only [rI_aA, rI_uI, up2_nk, up2_eq, rA_aA, up1_eq, rA_uI]
        rw [s0.1]
        refine h.k.cg (fun i hi => q5 i hi (by omega)) (fun k hk => ?_)
        unfold va_cpy
        rw [if_pos (by omega), s332.2.2.1, show 0 + (k - 0) = k by omega]
    · simp (disch := omega) only [rI_aA, rI_uI, up2_nk, rA_aA, vq1_ne, rA_uI]
      rw [s0.1, s332.2.2.1, tS1]
      exact h.k
    · refine ⟨fun i hi => ?_, fun k a b => ?_⟩
      · simp (disch := omega) only [rA_aA, vq1_ne, rA_uI]
        rw [q4 3 (by omega)]
        exact x1.1 i hi
      · simp (disch := omega) only [rI_aA, rI_uI, vq2_ne]
        exact x1.2 k a b
    · obtain ⟨⟨m, m1, m2, m3, m4⟩, w⟩ := x2
      refine ⟨⟨m, m1, by simp (disch := omega) only [rI_aA, rI_uI, vq2_ne]; exact m2, by rw [q2 5, if_neg (by omega)]; exact m3, fun i hi => ?_⟩, fun w' l hl j x hx => ?_⟩
      · simp (disch := omega) only [rA_aA, vq1_ne, rA_uI]
        rw [q4 4 (by omega)]
        exact m4 i hi
      · have hw : w' < 23 := (List.getElem?_eq_some_iff.mp hl).1
        simp (disch := omega) only [rA_aA, vq1_ne, rA_uI]
        exact w w' l hl j x hx
    · refine ⟨?_, x3.2⟩
      rw [q2 40, q2 39, if_neg (by omega), if_neg (by omega), q4 38 (by omega)]
      rcases x3.1 with e | ⟨q, m, e1, e2, e3, e4, e5, e6⟩
      · exact Or.inl e
      · refine Or.inr ⟨q, m, e1, e2, e3, e4, e5, fun i hi => ?_⟩
        have := (x3.2 m q e3 e5).1
        simp (disch := omega) only [rA_aA, vq1_ne, rA_uI]
        exact e6 i hi
    · refine ⟨?_, ?_, ?_, ?_⟩
      · simp (disch := omega) only [rI_aA, rI_uI, vq2_ne]; exact x4.1
      · simp (disch := omega) only [rI_aA, rI_uI, vq2_ne]; exact x4.2.1
      · simp (disch := omega) only [rI_aA, rI_uI, vq2_ne]; exact x4.2.2.1
      · rw [q2 17, if_neg (by omega)]; exact x4.2.2.2
  refine ⟨tS t 0, _, t1, ?_, q1, fin, r2, r3⟩
  refine Eq.trans (pl_zc ?_) ?_
  · exact Nat.le_refl (wc_z u1)
  simp (disch := omega) only [rI_aA, rI_uI, vq2_ne]
  rw [e0]
theorem m_back (hN : 100000 ≤ N) (hS : wc_S u) (h : RR u t) : Same 60 u (fX0_back N u) (fX7_back N t) := by
  have hFG : TwoF 3 199 := ⟨by omega, by omega, by omega⟩
  unfold fX0_back fX7_back
  rw [h.i.1]
  rcases h.i.2 with c | ⟨c, f199, k199⟩
  · rw [if_pos c, if_pos c, pl_id]
    exact ((Same.refL h (by decide)).ze).mono (by omega)
  rw [if_neg (by rw [c]; decide), if_neg (by rw [c]; decide)]
  obtain ⟨u1, LA, LI, r1, r2, r3, r4, r5, r6, r7, r8, r9, r10⟩ := as_ok (N := N) hN hFG hS h.w
  obtain ⟨t1, q1, q2, q3, q4, q5, q6, q7, q8⟩ := t_bk16 hN 4536 N t 0 (by omega) (by omega)
  obtain ⟨x1, x2, x3, x4, x5, x6⟩ := r4.rest hFG h
  have hT := fun p hp => (as_slots hS (show (3 : Nat) = 3 ∨ (3 : Nat) = 101 ∨ (3 : Nat) = 199 by omega) (p := p) hp)
  have f3 := FR.aside (H := 199) hFG h.w f199 r4
  have f1 := (FR.copy hFG h.w hT f199 r4 r5 r6 r7 r8 r9 r10).cg8 (s' := tS t1) (b' := tB t1) (by omega) (fun i hi => q5 i hi (by omega)) (fun k hk => q8 k hk)
  have e0 : wc_I u1 3 0 = tS t1 0 := (f1.n (0, 0, 0, 400) (by decide)).1
  have s0 := x5 0 (by omega) (by unfold InF; omega)
  have s333 := x5 333 (by omega) (by unfold InF; omega)
  simp only [r1, pl_bd]
  unfold o_zl
  rw [if_pos r2]
  simp (disch := decide) only [pl_cpL, pl_nm, pl_ncL]
  have fin : RR (wc_aA (wc_uI u1 0 21 (wc_I u1 0 23)) 332 (va_cpy (wc_A (wc_uI u1 0 21 (wc_I u1 0 23)) 333) (wc_A (wc_uI u1 0 21 (wc_I u1 0 23)) 332) 0 0 24)) t1 := by
    have sm : ∀ q, q ≠ 0 → q ≠ 332 → Sm u1 (wc_aA (wc_uI u1 0 21 (wc_I u1 0 23)) 332 (va_cpy (wc_A (wc_uI u1 0 21 (wc_I u1 0 23)) 333) (wc_A (wc_uI u1 0 21 (wc_I u1 0 23)) 332) 0 0 24)) q := fun q a b => (Sm.uI a).trans (Sm.aA b)
    have kp : ∀ H s b, 3 ≤ H → H ≤ 199 → FR H u1 s b → FR H (wc_aA (wc_uI u1 0 21 (wc_I u1 0 23)) 332 (va_cpy (wc_A (wc_uI u1 0 21 (wc_I u1 0 23)) 333) (wc_A (wc_uI u1 0 21 (wc_I u1 0 23)) 332) 0 0 24)) s b := fun H s b h1 h2 hf => hf.keep (Nat.le_refl _) (fun q hq => sm q (by unfold InF at hq; omega) (by unfold InF at hq; omega))
    refine ⟨kp 3 _ _ (by omega) (by omega) f1, x6, ?_, ?_, ?_, ?_, ?_, ?_⟩
    · refine ⟨?_, Or.inr ⟨by rw [q2]; exact c, ?_, ?_⟩⟩
      · simp (disch := omega) only [rI_aA, rI_uI, up2_nk]
        rw [q2, s0.1]; exact h.i.1
      · rw [q4 33 (by omega), q7 34 (by omega)]
        exact kp 199 _ _ (by omega) (by omega) f3
      · simp (disch := omega) only [rI_aA, rI_uI, up2_nk, rA_aA, vq1_ne, rA_uI]
        rw [s0.1, s333.2.2.1, q4 33 (by omega)]
        exact k199
    · simp (disch := omega) only [rI_aA, rI_uI, up2_eq, rA_aA, up1_eq, rA_uI]
      rw [s0.1]
      refine k199.cg (fun i hi => q5 i hi (by omega)) (fun k hk => ?_)
      unfold va_cpy
      rw [if_pos (by omega), s333.2.2.1, show 0 + (k - 0) = k by omega]
    · refine ⟨fun i hi => ?_, fun k a b => ?_⟩
      · simp (disch := omega) only [rA_aA, vq1_ne, rA_uI]
        rw [q4 3 (by omega)]
        exact x1.1 i hi
      · simp (disch := omega) only [rI_aA, rI_uI, vq2_ne]
        exact x1.2 k a b
    · obtain ⟨⟨m, m1, m2, m3, m4⟩, w⟩ := x2
      refine ⟨⟨m, m1, by simp (disch := omega) only [rI_aA, rI_uI, vq2_ne]; exact m2, by rw [q2]; exact m3, fun i hi => ?_⟩, fun w' l hl j x hx => ?_⟩
      · simp (disch := omega) only [rA_aA, vq1_ne, rA_uI]
        rw [q4 4 (by omega)]
        exact m4 i hi
      · have hw : w' < 23 := (List.getElem?_eq_some_iff.mp hl).1
        simp (disch := omega) only [rA_aA, vq1_ne, rA_uI]
        exact w w' l hl j x hx
    · refine ⟨?_, x3.2⟩
      rw [q2, q4 38 (by omega)]
      rcases x3.1 with e | ⟨q, m, e1, e2, e3, e4, e5, e6⟩
      · exact Or.inl e
      · refine Or.inr ⟨q, m, e1, e2, e3, e4, e5, fun i hi => ?_⟩
        have := (x3.2 m q e3 e5).1
        simp (disch := omega) only [rA_aA, vq1_ne, rA_uI]
        exact e6 i hi
    · refine ⟨?_, ?_, ?_, ?_⟩
      · simp (disch := omega) only [rI_aA, rI_uI, vq2_ne]; exact x4.1
      · simp (disch := omega) only [rI_aA, rI_uI, vq2_ne]; exact x4.2.1
      · simp (disch := omega) only [rI_aA, rI_uI, vq2_ne]; exact x4.2.2.1
      · rw [q2]; exact x4.2.2.2
  refine ⟨tS t1 0, _, t1, ?_, q1, fin, r2, r3⟩
  refine Eq.trans (pl_zc ?_) ?_
  · exact Nat.le_refl (wc_z u1)
  simp (disch := omega) only [rI_aA, rI_uI, vq2_ne]
  rw [e0]
end PN4
