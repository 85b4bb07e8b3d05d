/-! PLAIN LAW, METHODS 5: neighbours -/
section PM5
variable {u u1 : CS} {t t1 : TS} {N F : Nat} {s : Nat → Int32} {b : Nat → Int64}
theorem mem_drop_cons {l : List (Nat × Nat)} {i : Nat} {x y : Nat × Nat} (h : l[i]? = some x) : y ∈ l.drop i ↔ y = x ∨ y ∈ l.drop (i + 1) := by
  obtain ⟨hi, e⟩ := List.getElem?_eq_some_iff.mp h
  rw [List.drop_eq_getElem_cons hi, e, List.mem_cons]
theorem c_nearLoop {l : List (Nat × Nat)} (e : wc_I u F 13 = Int32.ofNat l.length) (hl : l.length ≤ 60) (h3 : ∀ (i : Nat) (x : Nat × Nat), l[i]? = some x → wc_A u (F + 12) i = Int32.ofNat x.1 ∧ wc_A u (F + 13) i = Int32.ofNat x.2 ∧ x.1 < 24 ∧ x.2 < 24) {a c : Nat} (ha : a < 24) (hc : c < 24) :
    ∀ (d f i : Nat), d + i = l.length → d < f → fX1_areNeighbours_2 N F f u (Int32.ofNat a) (Int32.ofNat c) (Int32.ofNat i) = some (if (a, c) ∈ l.drop i ∨ (c, a) ∈ l.drop i then 1 else 0, u) := by
  intro d
  induction d with
  | zero =>
    intro f i hd hf
    obtain ⟨f, rfl⟩ : ∃ g, f = g + 1 := ⟨f - 1, by omega⟩
    show (if _ then _ else _) = _
    rw [e, if_pos (by rw [pl_le (by omega) (by omega)]; omega), List.drop_eq_nil_of_le (by omega), if_neg (by simp)]
  | succ d ih =>
    intro f i hd hf
    obtain ⟨f, rfl⟩ : ∃ g, f = g + 1 := ⟨f - 1, by omega⟩
    obtain ⟨x, hx⟩ : ∃ x, l[i]? = some x := ⟨_, List.getElem?_eq_getElem (show i < l.length by omega)⟩
    obtain ⟨q1, q2, q3, q4⟩ := h3 i x hx
    have q := ih f (i + 1) (by omega) (by omega)
    show (if _ then _ else _) = _
    rw [e, if_neg (by rw [pl_le (by omega) (by omega)]; omega)]
    unfold fX1_areNeighbours_30 fX1_areNeighbours_50 fX1_areNeighbours_52
    simp (disch := omega) only [pl_bd, pl_bd2, pl_nm, pl_id, pl_ald, pl_ast, pl_aldL, pl_astL, pl_nc, pl_ncL, pl_add, pl_addL, pl_addR, pl_mul, pl_mulL, pl_mulR, pl_sub, pl_subL, pl_eq, pl_eqL, pl_eqR, pl_eqN, pl_le, pl_leL, pl_leR, pl_lt, pl_ltL, pl_ltR, pl_div, pl_divL, pl_01, pl_bl, pl_bl0, pl_bl1, ite_not, c_in, t_in, Int32.reduceToInt, Int64.reduceToInt, upd_eq, upd_ne, up2_eq, up2_nk, vq2_ne, up1_eq, vq1_ne, Nat.reduceAdd, Nat.reduceMul, if_true, if_false, rI_uI, rI_uL, rI_uA, rI_uB, rI_uP, rI_uQ, rI_aA, rI_aB, rI_aQ, rL_uI, rL_uL, rL_uA, rL_uB, rL_uP, rL_uQ, rL_aA, rL_aB, rL_aQ, rA_uI, rA_uL, rA_uA, rA_uB, rA_uP, rA_uQ, rA_aA, rA_aB, rA_aQ, rB_uI, rB_uL, rB_uA, rB_uB, rB_uP, rB_uQ, rB_aA, rB_aB, rB_aQ, rP_uI, rP_uL, rP_uA, rP_uB, rP_uP, rP_uQ, rP_aA, rP_aB, rP_aQ, rQ_uI, rQ_uL, rQ_uA, rQ_uB, rQ_uP, rQ_uQ, rQ_aA, rQ_aB, rQ_aQ, rT_uI, rT_uL, rT_uA, rT_uB, rT_uP, rT_uQ, rT_aA, rT_aB, rT_aQ, rz_uI, rz_uL, rz_uA, rz_uB, rz_uP, rz_uQ, rz_aA, rz_aB, rz_aQ, rtI_L, rtI_A, rtI_B, rtL_I, rtL_A, rtL_B, rtA_I, rtA_L, rtA_B, rtB_I, rtB_L, rtB_A, rtI_I, rtL_L, rtA_A, rtA_An, rtB_B, rtB_Bn, updL_eq, updL_ne, q1, q2, mem_drop_cons hx, q]
    obtain ⟨x1, x2⟩ := x
    by_cases d1 : x1 = a
    · subst d1
      by_cases d2 : x2 = c
      · subst d2
        simp
      · have d2' : ¬ c = x2 := fun h => d2 h.symm
        by_cases d3 : x1 = c
        · subst d3
          simp [d2, d2']
        · have d3' : ¬ c = x1 := fun h => d3 h.symm
          simp [d2, d2', d3, d3']
    · have d1' : ¬ a = x1 := fun h => d1 h.symm
      by_cases d3 : x1 = c
      · subst d3
        by_cases d4 : x2 = a
        · subst d4; simp [d1, d1']
        · have d4' : ¬ a = x2 := fun h => d4 h.symm
          simp [d1, d1', d4, d4']
      · have d3' : ¬ c = x1 := fun h => d3 h.symm
        simp [d1, d1', d3, d3']
theorem FRm.lt (h : FRm F u s) (hs : (s 1).toInt ≤ 24) : ∃ l : List (Nat × Nat), s 2 = Int32.ofNat l.length ∧ l.length ≤ 60 ∧ (∀ (i : Nat) (x : Nat × Nat), l[i]? = some x → wc_A u (F + 12) i = Int32.ofNat x.1 ∧ wc_A u (F + 13) i = Int32.ofNat x.2 ∧ x.1 < 24 ∧ x.2 < 24) ∧ ∀ a b : Nat, a < 24 → b < 24 → s (352 + 24 * a + b) = if (a, b) ∈ l ∨ (b, a) ∈ l then 1 else 0 := by
  obtain ⟨l, q1, q2, q3, q4, q5⟩ := h
  exact ⟨l, q1, q2, fun i x hi => ⟨(q3 i x hi).1, (q3 i x hi).2.1, by have := (q3 i x hi).2.2.2.1; omega, by have := (q3 i x hi).2.2.2.2; omega⟩, q5⟩
theorem c_near (hN : 100000 ≤ N) (h : FRm F u s) (hn : FRs F u s) {a c : Nat} (ha : a < 24) (hc : c < 24) : fX1_areNeighbours N F u (Int32.ofNat a) (Int32.ofNat c) = some (s (352 + 24 * a + c), u) := by
  obtain ⟨l, q1, q2, q3, q4⟩ := h.lt (hn (1, 1, 0, 24) (by decide)).2.2
  have e : wc_I u F 13 = Int32.ofNat l.length := (hn (13, 2, 0, 60) (by decide)).1.trans q1
  have q := c_nearLoop (N := N) e q2 q3 ha hc l.length N 0 (by omega) (by omega)
  unfold fX1_areNeighbours
  rw [show (0 : Int32) = Int32.ofNat 0 from rfl, q, q4 a c ha hc]
  rfl
theorem t_near (h : FRm F u (tS t)) (hn : FRs F u (tS t)) {a c : Nat} (ha : a < 24) (hc : c < 24) : fX7_areNear N t (Int32.ofNat a) (Int32.ofNat c) = some (tS t (352 + 24 * a + c), t) := by
  obtain ⟨l, q1, q2, q3, q4⟩ := h.lt (hn (1, 1, 0, 24) (by decide)).2.2
  have q := q4 a c ha hc
  unfold fX7_areNear fX7_areNear_24
  have q : t.2.2.1 1 (352 + 24 * a + c) = _ := q
  show _ = some (t.2.2.1 1 (352 + 24 * a + c), t)
  simp (disch := omega) only [pl_bd, pl_bd2, pl_nm, pl_id, pl_ald, pl_ast, pl_aldL, pl_astL, pl_nc, pl_ncL, pl_add, pl_addL, pl_addR, pl_mul, pl_mulL, pl_mulR, pl_sub, pl_subL, pl_eq, pl_eqL, pl_eqR, pl_eqN, pl_le, pl_leL, pl_leR, pl_lt, pl_ltL, pl_ltR, pl_div, pl_divL, pl_01, pl_bl, pl_bl0, pl_bl1, ite_not, c_in, t_in, Int32.reduceToInt, Int64.reduceToInt, upd_eq, upd_ne, up2_eq, up2_nk, vq2_ne, up1_eq, vq1_ne, Nat.reduceAdd, Nat.reduceMul, if_true, if_false, rI_uI, rI_uL, rI_uA, rI_uB, rI_uP, rI_uQ, rI_aA, rI_aB, rI_aQ, rL_uI, rL_uL, rL_uA, rL_uB, rL_uP, rL_uQ, rL_aA, rL_aB, rL_aQ, rA_uI, rA_uL, rA_uA, rA_uB, rA_uP, rA_uQ, rA_aA, rA_aB, rA_aQ, rB_uI, rB_uL, rB_uA, rB_uB, rB_uP, rB_uQ, rB_aA, rB_aB, rB_aQ, rP_uI, rP_uL, rP_uA, rP_uB, rP_uP, rP_uQ, rP_aA, rP_aB, rP_aQ, rQ_uI, rQ_uL, rQ_uA, rQ_uB, rQ_uP, rQ_uQ, rQ_aA, rQ_aB, rQ_aQ, rT_uI, rT_uL, rT_uA, rT_uB, rT_uP, rT_uQ, rT_aA, rT_aB, rT_aQ, rz_uI, rz_uL, rz_uA, rz_uB, rz_uP, rz_uQ, rz_aA, rz_aB, rz_aQ, rtI_L, rtI_A, rtI_B, rtL_I, rtL_A, rtL_B, rtA_I, rtA_L, rtA_B, rtB_I, rtB_L, rtB_A, rtI_I, rtL_L, rtA_A, rtA_An, rtB_B, rtB_Bn, updL_eq, updL_ne]
  rw [q]
  by_cases d : (a, c) ∈ l ∨ (c, a) ∈ l
  · simp only [if_pos d]; rfl
  · simp only [if_neg d]; rfl
theorem near_01 (h : FRm F u s) (hn : FRs F u s) {a c : Nat} (ha : a < 24) (hc : c < 24) : s (352 + 24 * a + c) = 0 ∨ s (352 + 24 * a + c) = 1 := by
  obtain ⟨l, q1, q2, q3, q4⟩ := h.lt (hn (1, 1, 0, 24) (by decide)).2.2
  rw [q4 a c ha hc]
  split
  · exact Or.inr rfl
  · exact Or.inl rfl
/-- one pair more -/
theorem FRm.add (h : FRm F u s) (hF : F ≤ 199) {a c p : Nat} (ha : (a : Int) < (s 1).toInt) (hc : (c : Int) < (s 1).toInt) (ha2 : a < 24) (hc2 : c < 24) (hne : a ≠ c) (ep : s 2 = Int32.ofNat p) (hp : p < 60) (h0 : s (352 + 24 * a + c) = 0) :
    FRm F (wc_uI (wc_uA (wc_uA u (F + 12) p (Int32.ofNat a)) (F + 13) p (Int32.ofNat c)) F 13 (Int32.ofNat (p + 1))) (upd (upd (upd s (352 + 24 * a + c) 1) (352 + 24 * c + a) 1) 2 (Int32.ofNat (p + 1))) := by
  obtain ⟨l, q1, q2, q3, q4, q5⟩ := h
  have el : l.length = p := by
    rw [q1, pl_eq (by omega) (by omega)] at ep
    exact ep
  have hno : ¬ ((a, c) ∈ l ∨ (c, a) ∈ l) := by
    intro d
    rw [q5 a c ha2 hc2, if_pos d] at h0
    exact absurd h0 (by decide)
  refine ⟨l ++ [(a, c)], ?_, ?_, fun i x hi => ?_, ?_, fun a' b' ha' hb' => ?_⟩
  · rw [upd_eq, List.length_append, el]; rfl
  · rw [List.length_append, el]; show p + 1 ≤ 60; omega
  · simp (disch := omega) only [rA_uI, rA_uA, upd_ne]
    rcases Nat.lt_or_ge i p with hi2 | hi2
    · rw [List.getElem?_append_left (by omega)] at hi
      have q := q3 i x hi
      rw [vq2_ne (by omega), up2_nk (by omega), up2_nk (by omega), vq2_ne (by omega)]
      exact q
    · rw [List.getElem?_append_right (by omega), el] at hi
      have e0 : i - p = 0 := by
        rcases Nat.eq_zero_or_pos (i - p) with z | z
        · exact z
        · rw [List.getElem?_eq_none (by simp; omega)] at hi; cases hi
      rw [e0] at hi
      cases Option.some.inj hi
      have ei : i = p := by omega
      subst ei
      rw [vq2_ne (by omega), up2_eq, up2_eq]
      exact ⟨rfl, rfl, hne, ha, hc⟩
  · rw [List.pairwise_append]
    refine ⟨q4, by simp, fun x hx y hy => ?_⟩
    rw [List.mem_singleton] at hy
    subst hy
    refine ⟨fun e => hno (Or.inl (e ▸ hx)), fun e => hno (Or.inr (e ▸ hx))⟩
  · rw [upd_ne (by omega)]
    by_cases c1 : 352 + 24 * a' + b' = 352 + 24 * c + a
    · rw [c1, upd_eq, if_pos]
      have e1 : a' = c := by omega
      have e2 : b' = a := by omega
      subst e1 e2
      right; simp
    · rw [upd_ne c1]
      by_cases c2 : 352 + 24 * a' + b' = 352 + 24 * a + c
      · rw [c2, upd_eq, if_pos]
        have e1 : a' = a := by omega
        have e2 : b' = c := by omega
        subst e1 e2
        left; simp
      · rw [upd_ne c2, q5 a' b' ha' hb']
        have n1 : (a', b') ≠ (a, c) := fun e => c2 (by obtain ⟨rfl, rfl⟩ := Prod.mk.inj e; rfl)
        have n2 : (b', a') ≠ (a, c) := fun e => c1 (by obtain ⟨rfl, rfl⟩ := Prod.mk.inj e; rfl)
        simp [List.mem_append, n1, n2]
theorem m_neighbours (hN : 100000 ≤ N) (h : RR u t) (a1 a2 : Int32) : Same 0 u (fX0_neighbours N u a1 a2) (fX7_neighbours N t a1 a2) := by
  obtain ⟨n, hn, e1, e2⟩ := fs_st h.f.n
  obtain ⟨p, hp, p1, p2⟩ := fs_pa h.f.n
  unfold fX0_neighbours fX0_neighbours_40 fX0_neighbours_16 fX7_neighbours fX7_neighbours_37 fX7_neighbours_16
  simp only [c_isStand hn e1, t_isStand hn e2, pl_bd, pl_bd2, pl_nm, pl_id, pl_ald, pl_ast, pl_aldL, pl_astL, pl_nc, pl_ncL, pl_add, pl_addL, pl_addR, pl_mul, pl_mulL, pl_mulR, pl_sub, pl_subL, pl_eq, pl_eqL, pl_eqR, pl_eqN, pl_le, pl_leL, pl_leR, pl_lt, pl_ltL, pl_ltR, pl_div, pl_divL, pl_01, pl_bl, pl_bl0, pl_bl1, ite_not, c_in, t_in, Int32.reduceToInt, Int64.reduceToInt, upd_eq, upd_ne, up2_eq, up2_nk, vq2_ne, up1_eq, vq1_ne, Nat.reduceAdd, Nat.reduceMul, if_true, if_false, rI_uI, rI_uL, rI_uA, rI_uB, rI_uP, rI_uQ, rI_aA, rI_aB, rI_aQ, rL_uI, rL_uL, rL_uA, rL_uB, rL_uP, rL_uQ, rL_aA, rL_aB, rL_aQ, rA_uI, rA_uL, rA_uA, rA_uB, rA_uP, rA_uQ, rA_aA, rA_aB, rA_aQ, rB_uI, rB_uL, rB_uA, rB_uB, rB_uP, rB_uQ, rB_aA, rB_aB, rB_aQ, rP_uI, rP_uL, rP_uA, rP_uB, rP_uP, rP_uQ, rP_aA, rP_aB, rP_aQ, rQ_uI, rQ_uL, rQ_uA, rQ_uB, rQ_uP, rQ_uQ, rQ_aA, rQ_aB, rQ_aQ, rT_uI, rT_uL, rT_uA, rT_uB, rT_uP, rT_uQ, rT_aA, rT_aB, rT_aQ, rz_uI, rz_uL, rz_uA, rz_uB, rz_uP, rz_uQ, rz_aA, rz_aB, rz_aQ, rtI_L, rtI_A, rtI_B, rtL_I, rtL_A, rtL_B, rtA_I, rtA_L, rtA_B, rtB_I, rtB_L, rtB_A, rtI_I, rtL_L, rtA_A, rtA_An, rtB_B, rtB_Bn, updL_eq, updL_ne]
  by_cases c1 : inB a1 0 ((n : Int) - 1)
  · simp only [if_pos c1]
    by_cases c2 : inB a2 0 ((n : Int) - 1)
    · simp only [if_pos c2]
      obtain ⟨a, ha, rfl⟩ := inB_nat c1
      obtain ⟨c, hc, rfl⟩ := inB_nat c2
      simp (disch := omega) only [pl_eq, c_near hN h.f.m h.f.n (show a < 24 by omega) (show c < 24 by omega), t_near h.f.m h.f.n (show a < 24 by omega) (show c < 24 by omega), pl_bd2]
      by_cases c3 : a = c
      · simp only [if_pos c3]; exact Same.refL h (by decide)
      · simp only [if_neg c3]
        rcases near_01 h.f.m h.f.n (show a < 24 by omega) (show c < 24 by omega) with z | z
        · rw [z, if_pos rfl, if_pos rfl]
          have p2' : t.2.2.1 1 2 = Int32.ofNat p := p2
          simp (disch := omega) only [pl_bd, pl_bd2, pl_nm, pl_id, pl_ald, pl_ast, pl_aldL, pl_astL, pl_nc, pl_ncL, pl_add, pl_addL, pl_addR, pl_mul, pl_mulL, pl_mulR, pl_sub, pl_subL, pl_eq, pl_eqL, pl_eqR, pl_eqN, pl_le, pl_leL, pl_leR, pl_lt, pl_ltL, pl_ltR, pl_div, pl_divL, pl_01, pl_bl, pl_bl0, pl_bl1, ite_not, c_in, t_in, Int32.reduceToInt, Int64.reduceToInt, upd_eq, upd_ne, up2_eq, up2_nk, vq2_ne, up1_eq, vq1_ne, Nat.reduceAdd, Nat.reduceMul, if_true, if_false, rI_uI, rI_uL, rI_uA, rI_uB, rI_uP, rI_uQ, rI_aA, rI_aB, rI_aQ, rL_uI, rL_uL, rL_uA, rL_uB, rL_uP, rL_uQ, rL_aA, rL_aB, rL_aQ, rA_uI, rA_uL, rA_uA, rA_uB, rA_uP, rA_uQ, rA_aA, rA_aB, rA_aQ, rB_uI, rB_uL, rB_uA, rB_uB, rB_uP, rB_uQ, rB_aA, rB_aB, rB_aQ, rP_uI, rP_uL, rP_uA, rP_uB, rP_uP, rP_uQ, rP_aA, rP_aB, rP_aQ, rQ_uI, rQ_uL, rQ_uA, rQ_uB, rQ_uP, rQ_uQ, rQ_aA, rQ_aB, rQ_aQ, rT_uI, rT_uL, rT_uA, rT_uB, rT_uP, rT_uQ, rT_aA, rT_aB, rT_aQ, rz_uI, rz_uL, rz_uA, rz_uB, rz_uP, rz_uQ, rz_aA, rz_aB, rz_aQ, rtI_L, rtI_A, rtI_B, rtL_I, rtL_A, rtL_B, rtA_I, rtA_L, rtA_B, rtB_I, rtB_L, rtB_A, rtI_I, rtL_L, rtA_A, rtA_An, rtB_B, rtB_Bn, updL_eq, updL_ne, p1, p2']
          by_cases c4 : p = 60
          · simp only [if_pos c4]; exact Same.refL h (by decide)
          · simp only [if_neg c4]
            have s1 : (tS t 1).toInt = n := by rw [e2]; exact pl_ti (by omega)
            have fm := h.f.m.add (by omega) (a := a) (c := c) (p := p) (by rw [s1]; omega) (by rw [s1]; omega) (by omega) (by omega) c3 p2 (by omega) z
            have hs : ∀ i, fr_cls i ≠ 2 → i ≠ 2 → upd (upd (upd (tS t) (352 + 24 * a + c) 1) (352 + 24 * c + a) 1) 2 (Int32.ofNat (p + 1)) i = tS t i := by
              intro i hi h2
              rw [upd_ne h2, upd_ne (fun e => hi (by rw [e]; exact cls_m (by omega) (by omega))), upd_ne (fun e => hi (by rw [e]; exact cls_m (by omega) (by omega)))]
            have hs2 : ∀ i, fr_cls i ≠ 2 → upd (upd (tS t) (352 + 24 * a + c) 1) (352 + 24 * c + a) 1 i = tS t i := by
              intro i hi
              rw [upd_ne (fun e => hi (by rw [e]; exact cls_m (by omega) (by omega))), upd_ne (fun e => hi (by rw [e]; exact cls_m (by omega) (by omega)))]
            have fs0 : FRs 3 (wc_uA (wc_uA u 15 p (Int32.ofNat a)) 16 p (Int32.ofNat c)) (upd (upd (tS t) (352 + 24 * a + c) 1) (352 + 24 * c + a) 1) := h.f.n.cg (fun i hi => hs2 i (by omega)) (fun _ _ => rfl)
            have fs := fs0.put (x := (13, 2, 0, 60)) (v := Int32.ofNat (p + 1)) (by decide) (by rw [pl_ti (by omega)]; show (0 : Int) ≤ _; omega) (by rw [pl_ti (by omega)]; show _ ≤ (60 : Int); omega)
            have n2 : ∀ i, fr_cls i ≠ 1 → i ≠ 2 := fun i hi e => hi (by rw [e]; rfl)
            refine ⟨_, _, _, rfl, rfl, h.nx (((NX.rfl'.uA (by unfold InF; omega)).uA (by unfold InF; omega)).uI (by omega)) (((TX.rfl'.uA (by omega) (by omega)).uA (by omega) (by omega)).uA (by omega) (by omega)) ⟨?_, fs, fm, ?_, ?_, ?_, h.f.bk, ?_⟩, Nat.le_refl _, Nat.le_refl _⟩
            · refine h.f.t.cg (fun i hi => hs i (by omega) (n2 i (by omega))) (fun x hx => ?_)
              have := fr_plc x hx
              simp (disch := omega) only [rA_uI, rA_uA, vq2_ne]
            · exact h.f.h.cg (fun i hi => hs i (by omega) (n2 i (by omega))) (by simp (disch := omega) only [rA_uI, rA_uA, vq2_ne])
            · exact h.f.p.cg (fun i hi => hs i (by omega) (n2 i (by omega))) (Nat.le_refl _) (fun _ _ => ⟨rfl, rfl⟩) rfl (fun q hq _ _ => ⟨by simp (disch := omega) only [rI_uI, rI_uA, vq2_ne], rfl⟩)
            · exact h.f.l.cg (hs 4 (by decide) (by omega)) (fun i hi => hs i (by omega) (n2 i (by omega))) (Nat.le_refl _) rfl (fun q hq _ _ => ((Sm.uA (by omega)).trans (Sm.uA (by omega))).trans (Sm.uI (by omega)))
            · refine FRx.sn (FRx.far (FRx.far h.f.x (by omega) (by omega) (by omega) (by omega)) (by omega) (by omega) (by omega) (by omega)) (by omega)
        · rw [z, if_neg (by decide), if_neg (by decide)]; exact Same.refL h (by decide)
    · simp only [if_neg c2]; exact Same.refL h (by decide)
  · simp only [if_neg c1]; exact Same.refL h (by decide)
end PM5
