/-! PLAIN LAW, METHODS 2: ordered, lineOf, wipe, tear, row, set, counted, lack -/
section PM2
variable {u u1 : CS} {t t1 : TS} {N F : Nat} {s : Nat → Int32}
theorem inB_ne {a : Int32} {lo hi : Int} (h : ¬ inB a lo hi) {x : Int32} (hx : lo ≤ x.toInt ∧ x.toInt ≤ hi) : ¬ a = x := fun e => h (e ▸ hx)
theorem c_isOrder {n : Nat} (hn : n ≤ 30) (e : wc_I u 3 33 = Int32.ofNat n) (a : Int32) : fX0_isOrder N u a = some (if inB a 0 ((n : Int) - 1) then 1 else 0, u) := by
  unfold fX0_isOrder fX0_isOrder_19 fX0_isOrder_20
  rw [e]
  simp only [pl_bl0, pl_bl1]
  rw [pl_rng (by omega)]
  split <;> rfl
theorem m_ordered (h : RR u t) (a1 a2 : Int32) : Same 0 u (fX0_ordered N u a1 a2) (fX7_ordered N t a1 a2) := by
  obtain ⟨n, hn, e1, e2⟩ := fs_or h.f.n
  unfold fX0_ordered fX7_ordered fX7_ordered_47 fX7_od
  simp (disch := omega) only [c_isOrder hn e1, e2, pl_bd, pl_bd2, pl_nm, pl_id, pl_ald, pl_ast, pl_aldL, pl_astL, pl_nc, pl_ncL, pl_add, pl_addL, pl_addR, pl_mul, pl_mulL, pl_mulR, pl_sub, pl_subL, pl_eq, pl_eqL, pl_eqR, pl_eqN, pl_le, pl_leL, pl_leR, pl_lt, pl_ltL, pl_ltR, pl_div, pl_divL, pl_01, pl_bl, pl_bl0, pl_bl1, ite_not, c_in, t_in, Int32.reduceToInt, Int64.reduceToInt, upd_eq, upd_ne, up2_eq, up2_nk, vq2_ne, up1_eq, vq1_ne, Nat.reduceAdd, Nat.reduceMul, if_true, if_false, rI_uI, rI_uL, rI_uA, rI_uB, rI_uP, rI_uQ, rI_aA, rI_aB, rI_aQ, rL_uI, rL_uL, rL_uA, rL_uB, rL_uP, rL_uQ, rL_aA, rL_aB, rL_aQ, rA_uI, rA_uL, rA_uA, rA_uB, rA_uP, rA_uQ, rA_aA, rA_aB, rA_aQ, rB_uI, rB_uL, rB_uA, rB_uB, rB_uP, rB_uQ, rB_aA, rB_aB, rB_aQ, rP_uI, rP_uL, rP_uA, rP_uB, rP_uP, rP_uQ, rP_aA, rP_aB, rP_aQ, rQ_uI, rQ_uL, rQ_uA, rQ_uB, rQ_uP, rQ_uQ, rQ_aA, rQ_aB, rQ_aQ, rT_uI, rT_uL, rT_uA, rT_uB, rT_uP, rT_uQ, rT_aA, rT_aB, rT_aQ, rz_uI, rz_uL, rz_uA, rz_uB, rz_uP, rz_uQ, rz_aA, rz_aB, rz_aQ, rtI_L, rtI_A, rtI_B, rtL_I, rtL_A, rtL_B, rtA_I, rtA_L, rtA_B, rtB_I, rtB_L, rtB_A, rtI_I, rtL_L, rtA_A, rtA_An, rtB_B, rtB_Bn, updL_eq, updL_ne, pl_m1]
  by_cases c1 : inB a1 0 ((n : Int) - 1)
  · simp only [if_pos c1]
    obtain ⟨k, hk, rfl⟩ := inB_nat c1
    have hk8 : k < 30 := by omega
    by_cases c2 : inB a2 0 2
    · obtain ⟨j, hj, rfl⟩ := inB_nat' (m := 2) c2
      simp (disch := omega) only [if_pos c2, pl_bd, pl_bd2, pl_nm, pl_id, pl_ald, pl_ast, pl_aldL, pl_astL, pl_nc, pl_ncL, pl_add, pl_addL, pl_addR, pl_mul, pl_mulL, pl_mulR, pl_sub, pl_subL, pl_eq, pl_eqL, pl_eqR, pl_eqN, pl_le, pl_leL, pl_leR, pl_lt, pl_ltL, pl_ltR, pl_div, pl_divL, pl_01, pl_bl, pl_bl0, pl_bl1, ite_not, c_in, t_in, Int32.reduceToInt, Int64.reduceToInt, upd_eq, upd_ne, up2_eq, up2_nk, vq2_ne, up1_eq, vq1_ne, Nat.reduceAdd, Nat.reduceMul, if_true, if_false, rI_uI, rI_uL, rI_uA, rI_uB, rI_uP, rI_uQ, rI_aA, rI_aB, rI_aQ, rL_uI, rL_uL, rL_uA, rL_uB, rL_uP, rL_uQ, rL_aA, rL_aB, rL_aQ, rA_uI, rA_uL, rA_uA, rA_uB, rA_uP, rA_uQ, rA_aA, rA_aB, rA_aQ, rB_uI, rB_uL, rB_uA, rB_uB, rB_uP, rB_uQ, rB_aA, rB_aB, rB_aQ, rP_uI, rP_uL, rP_uA, rP_uB, rP_uP, rP_uQ, rP_aA, rP_aB, rP_aQ, rQ_uI, rQ_uL, rQ_uA, rQ_uB, rQ_uP, rQ_uQ, rQ_aA, rQ_aB, rQ_aQ, rT_uI, rT_uL, rT_uA, rT_uB, rT_uP, rT_uQ, rT_aA, rT_aB, rT_aQ, rz_uI, rz_uL, rz_uA, rz_uB, rz_uP, rz_uQ, rz_aA, rz_aB, rz_aQ, rtI_L, rtI_A, rtI_B, rtL_I, rtL_A, rtL_B, rtA_I, rtA_L, rtA_B, rtB_I, rtB_L, rtB_A, rtI_I, rtL_L, rtA_A, rtA_An, rtB_B, rtB_Bn, updL_eq, updL_ne]
      rcases (by omega : j = 0 ∨ j = 1 ∨ j = 2) with rfl | rfl | rfl
      · rw [if_pos rfl, show wc_A u 30 k = _ from (fr_os h.f.t hk8).1]; exact Same.ans h
      · rw [if_neg (by omega), if_pos rfl, show wc_A u 31 k = _ from (fr_oo h.f.t hk8).1]; exact Same.ans h
      · rw [if_neg (by omega), if_neg (by omega), if_pos rfl, show wc_A u 32 k = _ from (fr_ot h.f.t hk8).1]; exact Same.ans h
    · simp only [if_neg c2, if_neg (inB_ne c2 (x := 0) (by decide)), if_neg (inB_ne c2 (x := 1) (by decide)), if_neg (inB_ne c2 (x := 2) (by decide))]; exact Same.refL h (by decide)
  · simp only [if_neg c1]; exact Same.refL h (by decide)
theorem pl_rng2 {a : Int32} {n : Nat} (hn : n < 2147483648) {α : Type} (A B : α) : (if a < 0 then A else if a < Int32.ofNat n then B else A) = if inB a 0 ((n : Int) - 1) then B else A := by
  simp only [Int32.lt_iff_toInt_lt, pl_ti hn]
  have e0 : (0 : Int32).toInt = 0 := rfl
  rw [e0]
  by_cases c : a.toInt < 0
  · rw [if_pos c, if_neg (fun h => by omega)]
  · rw [if_neg c]
    by_cases d : a.toInt < (n : Int)
    · rw [if_pos d, if_pos ⟨by omega, by omega⟩]
    · rw [if_neg d, if_neg (fun h => by omega)]
theorem pl_sh {β : Type} {n : Nat} {x : CSh} (h : wc_T u n = some x) (K : Option β) : o_sh u n x K = K := by unfold o_sh; rw [if_pos h]
theorem pl_nn {β : Type} {p : Nat} (K : Nat → Option β) : o_nn (some p) K = K p := rfl
theorem pl_nu {β : Type} {p : Nat} (A : Option β) (K : Nat → Option β) : o_nu (some p) A K = K p := rfl
theorem pl_nu0 {β : Type} (A : Option β) (K : Nat → Option β) : o_nu none A K = A := rfl
theorem m_lineOf (h : RR u t) (a1 a2 : Int32) : Same 0 u (fX0_lineOf N u a1 a2) (fX7_lineOf N t a1 a2) := by
  obtain ⟨n, hn, e1, e2⟩ := fs_li h.f.n
  unfold fX0_lineOf fX0_lineOf_15 fX7_lineOf fX7_lineOf_56
  rw [e1]
  rw [pl_rng2 (by omega)]
  simp (disch := omega) only [e2, pl_bd, pl_bd2, pl_nm, pl_id, pl_ald, pl_ast, pl_aldL, pl_astL, pl_nc, pl_ncL, pl_add, pl_addL, pl_addR, pl_mul, pl_mulL, pl_mulR, pl_sub, pl_subL, pl_eq, pl_eqL, pl_eqR, pl_eqN, pl_le, pl_leL, pl_leR, pl_lt, pl_ltL, pl_ltR, pl_div, pl_divL, pl_01, pl_bl, pl_bl0, pl_bl1, ite_not, c_in, t_in, Int32.reduceToInt, Int64.reduceToInt, upd_eq, upd_ne, up2_eq, up2_nk, vq2_ne, up1_eq, vq1_ne, Nat.reduceAdd, Nat.reduceMul, if_true, if_false, rI_uI, rI_uL, rI_uA, rI_uB, rI_uP, rI_uQ, rI_aA, rI_aB, rI_aQ, rL_uI, rL_uL, rL_uA, rL_uB, rL_uP, rL_uQ, rL_aA, rL_aB, rL_aQ, rA_uI, rA_uL, rA_uA, rA_uB, rA_uP, rA_uQ, rA_aA, rA_aB, rA_aQ, rB_uI, rB_uL, rB_uA, rB_uB, rB_uP, rB_uQ, rB_aA, rB_aB, rB_aQ, rP_uI, rP_uL, rP_uA, rP_uB, rP_uP, rP_uQ, rP_aA, rP_aB, rP_aQ, rQ_uI, rQ_uL, rQ_uA, rQ_uB, rQ_uP, rQ_uQ, rQ_aA, rQ_aB, rQ_aQ, rT_uI, rT_uL, rT_uA, rT_uB, rT_uP, rT_uQ, rT_aA, rT_aB, rT_aQ, rz_uI, rz_uL, rz_uA, rz_uB, rz_uP, rz_uQ, rz_aA, rz_aB, rz_aQ, rtI_L, rtI_A, rtI_B, rtL_I, rtL_A, rtL_B, rtA_I, rtA_L, rtA_B, rtB_I, rtB_L, rtB_A, rtI_I, rtL_L, rtA_A, rtA_An, rtB_B, rtB_Bn, updL_eq, updL_ne, pl_m1]
  by_cases c1 : inB a1 0 ((n : Int) - 1)
  · simp only [if_pos c1]
    obtain ⟨k, hk, rfl⟩ := inB_nat c1
    have hk8 : k < 16 := by omega
    obtain ⟨q, ln, q1, q2, q3, q4, q5, q6⟩ := h.f.l k hk8 (by rw [show tS t 4 = _ from e2, pl_ti (by omega)]; omega)
    obtain ⟨m, -, -, -, -, q7⟩ := q6
    have q1 : wc_Q u 27 k = some q := q1
    have r : wc_I u q 0 = t.2.2.1 1 (1320 + 125 * k + 0) ∧ wc_I u q 3 = t.2.2.1 1 (1320 + 125 * k + 3) := by
      rcases ln with x | ⟨x, y, z⟩
      · exact ⟨q5.1.trans q7.1.symm, q5.2.trans q7.2.symm⟩
      · exact ⟨q5.1.trans q7.1.symm, q5.2.2.1.trans q7.2.symm⟩
    by_cases c2 : inB a2 0 3
    · obtain ⟨j, hj, rfl⟩ := inB_nat' (m := 3) c2
      simp (disch := omega) only [if_pos c2, pl_bd, pl_bd2, pl_nm, pl_id, pl_ald, pl_ast, pl_aldL, pl_astL, pl_nc, pl_ncL, pl_add, pl_addL, pl_addR, pl_mul, pl_mulL, pl_mulR, pl_sub, pl_subL, pl_eq, pl_eqL, pl_eqR, pl_eqN, pl_le, pl_leL, pl_leR, pl_lt, pl_ltL, pl_ltR, pl_div, pl_divL, pl_01, pl_bl, pl_bl0, pl_bl1, ite_not, c_in, t_in, Int32.reduceToInt, Int64.reduceToInt, upd_eq, upd_ne, up2_eq, up2_nk, vq2_ne, up1_eq, vq1_ne, Nat.reduceAdd, Nat.reduceMul, if_true, if_false, rI_uI, rI_uL, rI_uA, rI_uB, rI_uP, rI_uQ, rI_aA, rI_aB, rI_aQ, rL_uI, rL_uL, rL_uA, rL_uB, rL_uP, rL_uQ, rL_aA, rL_aB, rL_aQ, rA_uI, rA_uL, rA_uA, rA_uB, rA_uP, rA_uQ, rA_aA, rA_aB, rA_aQ, rB_uI, rB_uL, rB_uA, rB_uB, rB_uP, rB_uQ, rB_aA, rB_aB, rB_aQ, rP_uI, rP_uL, rP_uA, rP_uB, rP_uP, rP_uQ, rP_aA, rP_aB, rP_aQ, rQ_uI, rQ_uL, rQ_uA, rQ_uB, rQ_uP, rQ_uQ, rQ_aA, rQ_aB, rQ_aQ, rT_uI, rT_uL, rT_uA, rT_uB, rT_uP, rT_uQ, rT_aA, rT_aB, rT_aQ, rz_uI, rz_uL, rz_uA, rz_uB, rz_uP, rz_uQ, rz_aA, rz_aB, rz_aQ, rtI_L, rtI_A, rtI_B, rtL_I, rtL_A, rtL_B, rtA_I, rtA_L, rtA_B, rtB_I, rtB_L, rtB_A, rtI_I, rtL_L, rtA_A, rtA_An, rtB_B, rtB_Bn, updL_eq, updL_ne, q1, pl_nn, pl_sh q4]
      rcases (by omega : j = 0 ∨ j = 1 ∨ j = 2 ∨ j = 3) with rfl | rfl | rfl | rfl
      · rw [if_pos rfl, r.1]; exact Same.ans h
      · rw [if_neg (by omega), if_pos rfl, show wc_A u 28 k = _ from (fr_ca h.f.t hk8).1]; exact Same.ans h
      · rw [if_neg (by omega), if_neg (by omega), if_pos rfl, show wc_A u 29 k = _ from (fr_sk h.f.t hk8).1]; exact Same.ans h
      · rw [if_neg (by omega), if_neg (by omega), if_neg (by omega), if_pos rfl, r.2]; exact Same.ans h
    · simp only [if_neg c2, if_neg (inB_ne c2 (x := 0) (by decide)), if_neg (inB_ne c2 (x := 1) (by decide)), if_neg (inB_ne c2 (x := 2) (by decide)), if_neg (inB_ne c2 (x := 3) (by decide))]; exact Same.refL h (by decide)
  · simp only [if_neg c1]; exact Same.refL h (by decide)
theorem m_wipe (h : RR u t) : Same 0 u (fX0_wipe N u) (fX7_wipe N t) := by
  obtain ⟨⟨m, m1, m2, m3, m4⟩, w⟩ := h.tp
  unfold fX0_wipe fX7_wipe
  simp only [pl_nm, m2, m3]
  refine ⟨_, _, _, rfl, rfl, h.side (Nat.le_refl _) (fun q a b => Sm.uI (by omega)) (fun q c a _ _ => Sm.uI (by omega)) (fun k a b => by simp (disch := omega) only [rI_uI, vq2_ne]) (by simp (disch := omega) only [rI_uI, vq2_ne]) (by simp (disch := omega) only [rI_uI, vq2_ne]) (by simp (disch := omega) only [rI_uI, vq2_ne]) rfl rfl rfl rfl rfl rfl rfl rfl rfl ?_ h.ro, Nat.le_refl _, Nat.le_refl _⟩
  exact ⟨⟨0, by omega, by simp only [rI_uI, up2_eq]; rfl, by simp only [rtI_I, upd_eq]; rfl, fun i hi => by omega⟩, w⟩
theorem m_tear (h : RR u t) : Same 0 u (fX0_tear N u) (fX7_tear N t) := by
  have fin : RR (wc_uP u 0 25 none) (mt_uI t 40 0) := by
    refine h.side (Nat.le_refl _) (fun q a b => Sm.uP (by omega)) (fun q c a _ _ => Sm.uP (by omega)) (fun _ _ _ => rfl) rfl rfl rfl rfl rfl rfl rfl rfl rfl rfl rfl rfl h.tp ⟨Or.inl ⟨by simp only [rP_uP, up2_eq], by simp only [rtI_I, upd_eq]⟩, h.ro.2⟩
  unfold fX0_tear fX0_tear_12 fX0_tear_27 fX7_tear fX7_tear_12
  simp only [pl_nm]
  rcases h.ro.1 with ⟨e1, e2⟩ | ⟨q, m, e1, e2, -⟩
  · rw [e1, e2]
    exact ⟨_, _, _, rfl, rfl, fin, Nat.le_refl _, Nat.le_refl _⟩
  · rw [e1, e2]
    exact ⟨_, _, _, rfl, rfl, fin, Nat.le_refl _, Nat.le_refl _⟩
theorem pl_ln {β : Type} {n m : Nat} (h : wc_T u n = some (.inr (0, m))) (K : Nat → Option β) : o_ln u n 0 K = K m := by
  unfold o_ln
  rw [h]
  rfl
theorem m_row (h : RR u t) (a1 : Int32) : Same 0 u (fX0_row N u a1) (fX7_row N t a1) := by
  unfold fX0_row fX0_row_36 fX0_row_42 fX7_row fX7_row_43
  simp only [pl_nm]
  rcases h.ro.1 with ⟨e1, e2⟩ | ⟨q, m, e1, e2, e3, e4, e5, e6⟩
  · rw [e1, e2]
    simp only [pl_id, pl_nu0, if_true]
    exact Same.husL h (by decide)
  · obtain ⟨r1, r2, r3⟩ := h.ro.2 m q e3 e5
    simp only [e1, e2, e4, pl_nu, pl_nn, pl_ln r3]
    rw [pl_rng (by omega)]
    simp (disch := omega) only [pl_bd, pl_bd2, pl_nm, pl_id, pl_ald, pl_ast, pl_aldL, pl_astL, pl_nc, pl_ncL, pl_add, pl_addL, pl_addR, pl_mul, pl_mulL, pl_mulR, pl_sub, pl_subL, pl_eq, pl_eqL, pl_eqR, pl_eqN, pl_le, pl_leL, pl_leR, pl_lt, pl_ltL, pl_ltR, pl_div, pl_divL, pl_01, pl_bl, pl_bl0, pl_bl1, ite_not, c_in, t_in, Int32.reduceToInt, Int64.reduceToInt, upd_eq, upd_ne, up2_eq, up2_nk, vq2_ne, up1_eq, vq1_ne, Nat.reduceAdd, Nat.reduceMul, if_true, if_false, rI_uI, rI_uL, rI_uA, rI_uB, rI_uP, rI_uQ, rI_aA, rI_aB, rI_aQ, rL_uI, rL_uL, rL_uA, rL_uB, rL_uP, rL_uQ, rL_aA, rL_aB, rL_aQ, rA_uI, rA_uL, rA_uA, rA_uB, rA_uP, rA_uQ, rA_aA, rA_aB, rA_aQ, rB_uI, rB_uL, rB_uA, rB_uB, rB_uP, rB_uQ, rB_aA, rB_aB, rB_aQ, rP_uI, rP_uL, rP_uA, rP_uB, rP_uP, rP_uQ, rP_aA, rP_aB, rP_aQ, rQ_uI, rQ_uL, rQ_uA, rQ_uB, rQ_uP, rQ_uQ, rQ_aA, rQ_aB, rQ_aQ, rT_uI, rT_uL, rT_uA, rT_uB, rT_uP, rT_uQ, rT_aA, rT_aB, rT_aQ, rz_uI, rz_uL, rz_uA, rz_uB, rz_uP, rz_uQ, rz_aA, rz_aB, rz_aQ, rtI_L, rtI_A, rtI_B, rtL_I, rtL_A, rtL_B, rtA_I, rtA_L, rtA_B, rtB_I, rtB_L, rtB_A, rtI_I, rtL_L, rtA_A, rtA_An, rtB_B, rtB_Bn, updL_eq, updL_ne, pl_m1]
    simp only [if_neg (show ¬ ((1 : Int32) = 0) by decide)]
    by_cases c1 : inB a1 0 ((m : Int) - 1)
    · obtain ⟨k, hk, rfl⟩ := inB_nat c1
      simp (disch := omega) only [if_pos c1, pl_bd, pl_bd2, pl_nm, pl_id, pl_ald, pl_ast, pl_aldL, pl_astL, pl_nc, pl_ncL, pl_add, pl_addL, pl_addR, pl_mul, pl_mulL, pl_mulR, pl_sub, pl_subL, pl_eq, pl_eqL, pl_eqR, pl_eqN, pl_le, pl_leL, pl_leR, pl_lt, pl_ltL, pl_ltR, pl_div, pl_divL, pl_01, pl_bl, pl_bl0, pl_bl1, ite_not, c_in, t_in, Int32.reduceToInt, Int64.reduceToInt, upd_eq, upd_ne, up2_eq, up2_nk, vq2_ne, up1_eq, vq1_ne, Nat.reduceAdd, Nat.reduceMul, if_true, if_false, rI_uI, rI_uL, rI_uA, rI_uB, rI_uP, rI_uQ, rI_aA, rI_aB, rI_aQ, rL_uI, rL_uL, rL_uA, rL_uB, rL_uP, rL_uQ, rL_aA, rL_aB, rL_aQ, rA_uI, rA_uL, rA_uA, rA_uB, rA_uP, rA_uQ, rA_aA, rA_aB, rA_aQ, rB_uI, rB_uL, rB_uA, rB_uB, rB_uP, rB_uQ, rB_aA, rB_aB, rB_aQ, rP_uI, rP_uL, rP_uA, rP_uB, rP_uP, rP_uQ, rP_aA, rP_aB, rP_aQ, rQ_uI, rQ_uL, rQ_uA, rQ_uB, rQ_uP, rQ_uQ, rQ_aA, rQ_aB, rQ_aQ, rT_uI, rT_uL, rT_uA, rT_uB, rT_uP, rT_uQ, rT_aA, rT_aB, rT_aQ, rz_uI, rz_uL, rz_uA, rz_uB, rz_uP, rz_uQ, rz_aA, rz_aB, rz_aQ, rtI_L, rtI_A, rtI_B, rtL_I, rtL_A, rtL_B, rtA_I, rtA_L, rtA_B, rtB_I, rtB_L, rtB_A, rtI_I, rtL_L, rtA_A, rtA_An, rtB_B, rtB_Bn, updL_eq, updL_ne]
      rw [e6 k hk]
      exact Same.ans h
    · simp only [if_neg c1]; exact Same.husL h (by decide)
theorem m_set (h : RR u t) (a1 a2 : Int32) : Same 0 u (fX0_set N u a1 a2) (fX7_set N t a1 a2) := by
  unfold fX0_set fX0_set_27 fX7_set
  simp only [pl_nm]
  rcases h.ro.1 with ⟨e1, e2⟩ | ⟨q, m, e1, e2, e3, e4, e5, e6⟩
  · rw [e1, e2]
    simp only [pl_id, pl_nu0, if_true]
    exact Same.husL h (by decide)
  · obtain ⟨r1, r2, r3⟩ := h.ro.2 m q e3 e5
    simp only [e1, e2, e4, pl_nu, pl_nn, pl_ln r3]
    rw [pl_rng2 (by omega)]
    simp (disch := omega) only [pl_bd, pl_bd2, pl_nm, pl_id, pl_ald, pl_ast, pl_aldL, pl_astL, pl_nc, pl_ncL, pl_add, pl_addL, pl_addR, pl_mul, pl_mulL, pl_mulR, pl_sub, pl_subL, pl_eq, pl_eqL, pl_eqR, pl_eqN, pl_le, pl_leL, pl_leR, pl_lt, pl_ltL, pl_ltR, pl_div, pl_divL, pl_01, pl_bl, pl_bl0, pl_bl1, ite_not, c_in, t_in, Int32.reduceToInt, Int64.reduceToInt, upd_eq, upd_ne, up2_eq, up2_nk, vq2_ne, up1_eq, vq1_ne, Nat.reduceAdd, Nat.reduceMul, if_true, if_false, rI_uI, rI_uL, rI_uA, rI_uB, rI_uP, rI_uQ, rI_aA, rI_aB, rI_aQ, rL_uI, rL_uL, rL_uA, rL_uB, rL_uP, rL_uQ, rL_aA, rL_aB, rL_aQ, rA_uI, rA_uL, rA_uA, rA_uB, rA_uP, rA_uQ, rA_aA, rA_aB, rA_aQ, rB_uI, rB_uL, rB_uA, rB_uB, rB_uP, rB_uQ, rB_aA, rB_aB, rB_aQ, rP_uI, rP_uL, rP_uA, rP_uB, rP_uP, rP_uQ, rP_aA, rP_aB, rP_aQ, rQ_uI, rQ_uL, rQ_uA, rQ_uB, rQ_uP, rQ_uQ, rQ_aA, rQ_aB, rQ_aQ, rT_uI, rT_uL, rT_uA, rT_uB, rT_uP, rT_uQ, rT_aA, rT_aB, rT_aQ, rz_uI, rz_uL, rz_uA, rz_uB, rz_uP, rz_uQ, rz_aA, rz_aB, rz_aQ, rtI_L, rtI_A, rtI_B, rtL_I, rtL_A, rtL_B, rtA_I, rtA_L, rtA_B, rtB_I, rtB_L, rtB_A, rtI_I, rtL_L, rtA_A, rtA_An, rtB_B, rtB_Bn, updL_eq, updL_ne, pl_m1]
    simp only [if_neg (show ¬ ((1 : Int32) = 0) by decide)]
    by_cases c1 : inB a1 0 ((m : Int) - 1)
    · obtain ⟨k, hk, rfl⟩ := inB_nat c1
      simp (disch := omega) only [if_pos c1, pl_bd, pl_bd2, pl_nm, pl_id, pl_ald, pl_ast, pl_aldL, pl_astL, pl_nc, pl_ncL, pl_add, pl_addL, pl_addR, pl_mul, pl_mulL, pl_mulR, pl_sub, pl_subL, pl_eq, pl_eqL, pl_eqR, pl_eqN, pl_le, pl_leL, pl_leR, pl_lt, pl_ltL, pl_ltR, pl_div, pl_divL, pl_01, pl_bl, pl_bl0, pl_bl1, ite_not, c_in, t_in, Int32.reduceToInt, Int64.reduceToInt, upd_eq, upd_ne, up2_eq, up2_nk, vq2_ne, up1_eq, vq1_ne, Nat.reduceAdd, Nat.reduceMul, if_true, if_false, rI_uI, rI_uL, rI_uA, rI_uB, rI_uP, rI_uQ, rI_aA, rI_aB, rI_aQ, rL_uI, rL_uL, rL_uA, rL_uB, rL_uP, rL_uQ, rL_aA, rL_aB, rL_aQ, rA_uI, rA_uL, rA_uA, rA_uB, rA_uP, rA_uQ, rA_aA, rA_aB, rA_aQ, rB_uI, rB_uL, rB_uA, rB_uB, rB_uP, rB_uQ, rB_aA, rB_aB, rB_aQ, rP_uI, rP_uL, rP_uA, rP_uB, rP_uP, rP_uQ, rP_aA, rP_aB, rP_aQ, rQ_uI, rQ_uL, rQ_uA, rQ_uB, rQ_uP, rQ_uQ, rQ_aA, rQ_aB, rQ_aQ, rT_uI, rT_uL, rT_uA, rT_uB, rT_uP, rT_uQ, rT_aA, rT_aB, rT_aQ, rz_uI, rz_uL, rz_uA, rz_uB, rz_uP, rz_uQ, rz_aA, rz_aB, rz_aQ, rtI_L, rtI_A, rtI_B, rtL_I, rtL_A, rtL_B, rtA_I, rtA_L, rtA_B, rtB_I, rtB_L, rtB_A, rtI_I, rtL_L, rtA_A, rtA_An, rtB_B, rtB_Bn, updL_eq, updL_ne]
      rw [e6 k hk]
      refine ⟨_, _, _, rfl, rfl, h.side (Nat.le_refl _) (fun q' a b => Sm.uA (by omega)) (fun q' c a _ d => Sm.uA (fun e => by rw [e, r3] at d; cases d)) (fun _ _ _ => rfl) rfl rfl rfl (vq2_ne (by omega)) (vq2_ne (by omega)) rfl rfl rfl rfl rfl rfl rfl ?_ ?_, Nat.le_refl _, Nat.le_refl _⟩
      · obtain ⟨⟨m', m1, m2, m3, m4⟩, w⟩ := h.tp
        refine ⟨⟨m', m1, m2, m3, fun i hi => ?_⟩, fun w' l hl j x hx => ?_⟩
        · simp (disch := omega) only [rA_uA, vq2_ne, rtA_An]; exact m4 i hi
        · have := (List.getElem?_eq_some_iff.mp hl).1
          have : lx_words.length = 23 := rfl
          simp (disch := omega) only [rA_uA, vq2_ne]; exact w w' l hl j x hx
      · refine ⟨Or.inr ⟨q, m, e1, e2, e3, e4, e5, fun i hi => ?_⟩, h.ro.2⟩
        simp only [rA_uA, rtA_A]
        by_cases c : i = k
        · rw [c, up2_eq, upd_eq]
        · rw [up2_nk c, upd_ne c]; exact e6 i hi
    · simp only [if_neg c1]; exact Same.husL h (by decide)
theorem fr_ct (h : FRt F u s) {k i w : Nat} (hk : k < 24) (hi : i < 8) (hw : w < 5) : wc_A u (F + 35) (5 * (8 * k + i) + w) = s (3570 + 40 * k + 5 * i + w) ∧ ((w = 0 ∨ w = 1) → 0 ≤ (s (3570 + 40 * k + 5 * i + w)).toInt ∧ (s (3570 + 40 * k + 5 * i + w)).toInt ≤ 400) := by
  have q : ∀ x : FrE, fr_tab[28 + w]? = some x → x = (35, 192, w, 5, 3570 + w, 5, fe_lo x, fe_hi x) ∧ ((w = 0 ∨ w = 1) → fe_lo x = 0 ∧ fe_hi x = 400) := by
    intro x hx
    rcases (by omega : w = 0 ∨ w = 1 ∨ w = 2 ∨ w = 3 ∨ w = 4) with rfl | rfl | rfl | rfl | rfl <;> cases hx <;> exact ⟨rfl, by decide⟩
  have hl : 28 + w < fr_tab.length := by rw [fr_len]; omega
  obtain ⟨x, hx⟩ : ∃ x, fr_tab[28 + w]? = some x := ⟨_, List.getElem?_eq_getElem hl⟩
  obtain ⟨q1, q2⟩ := q x hx
  have a := h (28 + w) (8 * k + i) x hx (by rw [q1]; show 8 * k + i < 192; omega)
  have a1 : fe_p x = 35 := by rw [q1]; rfl
  have a2 : fe_c x = w := by rw [q1]; rfl
  have a3 : fe_d x = 5 := by rw [q1]; rfl
  have a4 : fe_b x = 3570 + w := by rw [q1]; rfl
  have a5 : fe_e x = 5 := by rw [q1]; rfl
  rw [a1, a2, a3, a4, a5, show w + 5 * (8 * k + i) = 5 * (8 * k + i) + w by omega, show 3570 + w + 5 * (8 * k + i) = 3570 + 40 * k + 5 * i + w by omega] at a
  refine ⟨a.1, fun hw2 => ?_⟩
  rw [(q2 hw2).1, (q2 hw2).2] at a
  exact a.2
/-- what is read of counts -/
theorem c_cnt (h : FRt F u s) {k i w : Nat} (hk : k < 24) (hi : i < 8) (hw : w < 5) : fX1_countAt N F u (Int32.ofNat k) (Int32.ofNat i) (Int32.ofNat w) = some (s (3570 + 40 * k + 5 * i + w), u) := by
  unfold fX1_countAt
  simp (disch := omega) only [pl_bd, pl_bd2, pl_nm, pl_id, pl_ald, pl_ast, pl_aldL, pl_astL, pl_nc, pl_ncL, pl_add, pl_addL, pl_addR, pl_mul, pl_mulL, pl_mulR, pl_sub, pl_subL, pl_eq, pl_eqL, pl_eqR, pl_eqN, pl_le, pl_leL, pl_leR, pl_lt, pl_ltL, pl_ltR, pl_div, pl_divL, pl_01, pl_bl, pl_bl0, pl_bl1, ite_not, c_in, t_in, Int32.reduceToInt, Int64.reduceToInt, upd_eq, upd_ne, up2_eq, up2_nk, vq2_ne, up1_eq, vq1_ne, Nat.reduceAdd, Nat.reduceMul, if_true, if_false, rI_uI, rI_uL, rI_uA, rI_uB, rI_uP, rI_uQ, rI_aA, rI_aB, rI_aQ, rL_uI, rL_uL, rL_uA, rL_uB, rL_uP, rL_uQ, rL_aA, rL_aB, rL_aQ, rA_uI, rA_uL, rA_uA, rA_uB, rA_uP, rA_uQ, rA_aA, rA_aB, rA_aQ, rB_uI, rB_uL, rB_uA, rB_uB, rB_uP, rB_uQ, rB_aA, rB_aB, rB_aQ, rP_uI, rP_uL, rP_uA, rP_uB, rP_uP, rP_uQ, rP_aA, rP_aB, rP_aQ, rQ_uI, rQ_uL, rQ_uA, rQ_uB, rQ_uP, rQ_uQ, rQ_aA, rQ_aB, rQ_aQ, rT_uI, rT_uL, rT_uA, rT_uB, rT_uP, rT_uQ, rT_aA, rT_aB, rT_aQ, rz_uI, rz_uL, rz_uA, rz_uB, rz_uP, rz_uQ, rz_aA, rz_aB, rz_aQ, rtI_L, rtI_A, rtI_B, rtL_I, rtL_A, rtL_B, rtA_I, rtA_L, rtA_B, rtB_I, rtB_L, rtB_A, rtI_I, rtL_L, rtA_A, rtA_An, rtB_B, rtB_Bn, updL_eq, updL_ne]
  rw [(fr_ct h hk hi hw).1]
theorem c_cntL (h : FRt F u s) {k i w : Nat} (hk : k < 24) (hi : i < 8) (hw : OfNat.ofNat w < 5) : fX1_countAt N F u (Int32.ofNat k) (Int32.ofNat i) (no_index (OfNat.ofNat w : Int32)) = some (s (3570 + 40 * k + 5 * i + OfNat.ofNat w), u) := c_cnt h hk hi hw
/-- what a count has grown to -/
def grownV (s : Nat → Int32) (k i : Nat) : Int32 :=
  if feetN (nt (s (16 + 14 * k + 2))) (nt (s (16 + 14 * k + 1))) (nt (s (3570 + 40 * k + 5 * i + 1))) = 0 then 0
  else if s (3570 + 40 * k + 5 * i + 0) ≤ s (16 + 14 * k + 9) then 0 else if s (3570 + 40 * k + 5 * i + 0) ≤ s (16 + 14 * k + 10) then 0
  else Int64.toInt32 (Int32.toInt64 (s (3570 + 40 * k + 5 * i + 3)) * Int32.toInt64 (Int32.ofNat (feetN (nt (s (16 + 14 * k + 2))) (nt (s (16 + 14 * k + 1))) (nt (s (16 + 14 * k + 5))))) / Int32.toInt64 (Int32.ofNat (feetN (nt (s (16 + 14 * k + 2))) (nt (s (16 + 14 * k + 1))) (nt (s (3570 + 40 * k + 5 * i + 1))))))
theorem pl_nzl {β : Type} {n : Nat} (h1 : n < 2147483648) (h0 : 0 < n) (K : Option β) : o_nzl (Int32.toInt64 (Int32.ofNat n)) K = K := by
  unfold o_nzl
  rw [pq_to h1, if_neg (pq_ne (by omega) h0)]
theorem c_grown (h : FRt F u s) {k i : Nat} (hk : k < 24) (hi : i < 8) : fX1_grown N F u (Int32.ofNat k) (Int32.ofNat i) = some (grownV s k i, u) := by
  obtain ⟨x1, q1, e1⟩ := fr_ki_n h hk
  obtain ⟨x2, q2, e2⟩ := fr_si_n h hk
  obtain ⟨x3, q3, e3⟩ := fr_ag_n h hk
  obtain ⟨x4, q4, e4⟩ := pl_nat (m := 400) ((fr_ct h hk hi (w := 1) (by omega)).2 (by omega)).1 ((fr_ct h hk hi (w := 1) (by omega)).2 (by omega)).2
  obtain ⟨x5, q5, e5⟩ := pl_nat (m := 400) ((fr_ct h hk hi (w := 0) (by omega)).2 (by omega)).1 ((fr_ct h hk hi (w := 0) (by omega)).2 (by omega)).2
  have g1 := feetN_le (k := x1) (ag := x4) q2
  have g2 := feetN_le (k := x1) (ag := x3) q2
  have m1 : ¬ (Int32.ofNat x5 ≤ -1) := by rw [Int32.le_iff_toInt_le, pl_ti (by omega), show (-1 : Int32).toInt = -1 from rfl]; omega
  unfold fX1_grown fX1_grown_57 fX1_grown_80 fX1_grown_78
  unfold grownV
  simp (disch := omega) only [pl_bd, pl_bd2, pl_nm, pl_id, pl_ald, pl_ast, pl_aldL, pl_astL, pl_nc, pl_ncL, pl_add, pl_addL, pl_addR, pl_mul, pl_mulL, pl_mulR, pl_sub, pl_subL, pl_eq, pl_eqL, pl_eqR, pl_eqN, pl_le, pl_leL, pl_leR, pl_lt, pl_ltL, pl_ltR, pl_div, pl_divL, pl_01, pl_bl, pl_bl0, pl_bl1, ite_not, c_in, t_in, Int32.reduceToInt, Int64.reduceToInt, upd_eq, upd_ne, up2_eq, up2_nk, vq2_ne, up1_eq, vq1_ne, Nat.reduceAdd, Nat.reduceMul, if_true, if_false, rI_uI, rI_uL, rI_uA, rI_uB, rI_uP, rI_uQ, rI_aA, rI_aB, rI_aQ, rL_uI, rL_uL, rL_uA, rL_uB, rL_uP, rL_uQ, rL_aA, rL_aB, rL_aQ, rA_uI, rA_uL, rA_uA, rA_uB, rA_uP, rA_uQ, rA_aA, rA_aB, rA_aQ, rB_uI, rB_uL, rB_uA, rB_uB, rB_uP, rB_uQ, rB_aA, rB_aB, rB_aQ, rP_uI, rP_uL, rP_uA, rP_uB, rP_uP, rP_uQ, rP_aA, rP_aB, rP_aQ, rQ_uI, rQ_uL, rQ_uA, rQ_uB, rQ_uP, rQ_uQ, rQ_aA, rQ_aB, rQ_aQ, rT_uI, rT_uL, rT_uA, rT_uB, rT_uP, rT_uQ, rT_aA, rT_aB, rT_aQ, rz_uI, rz_uL, rz_uA, rz_uB, rz_uP, rz_uQ, rz_aA, rz_aB, rz_aQ, rtI_L, rtI_A, rtI_B, rtL_I, rtL_A, rtL_B, rtA_I, rtA_L, rtA_B, rtB_I, rtB_L, rtB_A, rtI_I, rtL_L, rtA_A, rtA_An, rtB_B, rtB_Bn, updL_eq, updL_ne, c_cntL h hk hi, (fr_ki h hk).1, (fr_si h hk).1, (fr_ag h hk).1, (fr_cu h hk).1, (fr_pl h hk).1, e1, e2, e3, e4, e5, c_feet]
  by_cases d1 : feetN x1 x2 x4 = 0
  · simp only [if_pos d1]
  · simp (disch := omega) only [if_neg d1, pl_nzl]
    by_cases d2 : s (16 + 14 * k + 9) = -1
    · simp only [d2, if_true, if_neg m1]
      by_cases d3 : s (16 + 14 * k + 10) = -1
      · simp only [d3, if_true, if_neg m1]
      · simp only [if_neg d3]
        by_cases d4 : s (16 + 14 * k + 10) < Int32.ofNat x5
        · rw [if_pos d4, if_neg (fun e => Int32.not_le.mpr d4 e)]
        · rw [if_neg d4, if_pos (Int32.not_lt.mp d4)]
    · simp only [if_neg d2]
      by_cases d5 : Int32.ofNat x5 ≤ s (16 + 14 * k + 9)
      · simp only [if_pos d5]
      · simp only [if_neg d5]
        by_cases d3 : s (16 + 14 * k + 10) = -1
        · simp only [d3, if_true, if_neg m1]
        · simp only [if_neg d3]
          by_cases d4 : s (16 + 14 * k + 10) < Int32.ofNat x5
          · rw [if_pos d4, if_neg (fun e => Int32.not_le.mpr d4 e)]
          · rw [if_neg d4, if_pos (Int32.not_lt.mp d4)]
theorem t_grown (h : FRt F u (tS t)) {k i : Nat} (hk : k < 24) (hi : i < 8) : fX7_grown N t (Int32.ofNat k) (Int32.ofNat i) = some (grownV (tS t) k i, t) := by
  obtain ⟨x1, q1, e1⟩ := fr_ki_n h hk
  obtain ⟨x2, q2, e2⟩ := fr_si_n h hk
  obtain ⟨x3, q3, e3⟩ := fr_ag_n h hk
  obtain ⟨x4, q4, e4⟩ := pl_nat (m := 400) ((fr_ct h hk hi (w := 1) (by omega)).2 (by omega)).1 ((fr_ct h hk hi (w := 1) (by omega)).2 (by omega)).2
  have g1 := feetN_le (k := x1) (ag := x4) q2
  unfold fX7_grown fX7_grown_75
  unfold grownV
  simp (disch := omega) only [pl_bd, pl_bd2, pl_nm, pl_id, pl_ald, pl_ast, pl_aldL, pl_astL, pl_nc, pl_ncL, pl_add, pl_addL, pl_addR, pl_mul, pl_mulL, pl_mulR, pl_sub, pl_subL, pl_eq, pl_eqL, pl_eqR, pl_eqN, pl_le, pl_leL, pl_leR, pl_lt, pl_ltL, pl_ltR, pl_div, pl_divL, pl_01, pl_bl, pl_bl0, pl_bl1, ite_not, c_in, t_in, Int32.reduceToInt, Int64.reduceToInt, upd_eq, upd_ne, up2_eq, up2_nk, vq2_ne, up1_eq, vq1_ne, Nat.reduceAdd, Nat.reduceMul, if_true, if_false, rI_uI, rI_uL, rI_uA, rI_uB, rI_uP, rI_uQ, rI_aA, rI_aB, rI_aQ, rL_uI, rL_uL, rL_uA, rL_uB, rL_uP, rL_uQ, rL_aA, rL_aB, rL_aQ, rA_uI, rA_uL, rA_uA, rA_uB, rA_uP, rA_uQ, rA_aA, rA_aB, rA_aQ, rB_uI, rB_uL, rB_uA, rB_uB, rB_uP, rB_uQ, rB_aA, rB_aB, rB_aQ, rP_uI, rP_uL, rP_uA, rP_uB, rP_uP, rP_uQ, rP_aA, rP_aB, rP_aQ, rQ_uI, rQ_uL, rQ_uA, rQ_uB, rQ_uP, rQ_uQ, rQ_aA, rQ_aB, rQ_aQ, rT_uI, rT_uL, rT_uA, rT_uB, rT_uP, rT_uQ, rT_aA, rT_aB, rT_aQ, rz_uI, rz_uL, rz_uA, rz_uB, rz_uP, rz_uQ, rz_aA, rz_aB, rz_aQ, rtI_L, rtI_A, rtI_B, rtL_I, rtL_A, rtL_B, rtA_I, rtA_L, rtA_B, rtB_I, rtB_L, rtB_A, rtI_I, rtL_L, rtA_A, rtA_An, rtB_B, rtB_Bn, updL_eq, updL_ne, t_stL, e1, e2, e3, e4, t_feet]
  by_cases d1 : feetN x1 x2 x4 = 0
  · simp only [if_pos d1]
  · simp (disch := omega) only [if_neg d1, pl_nzl]
    by_cases d5 : t.2.2.1 1 (3570 + 40 * k + 5 * i) ≤ t.2.2.1 1 (16 + 14 * k + 9)
    · simp only [Nat.add_zero, if_pos d5]
    · simp only [Nat.add_zero, if_neg d5]
      by_cases d4 : t.2.2.1 1 (16 + 14 * k + 10) < t.2.2.1 1 (3570 + 40 * k + 5 * i)
      · rw [if_pos d4, if_neg (fun e => Int32.not_le.mpr d4 e)]
      · rw [if_neg d4, if_pos (Int32.not_lt.mp d4)]
theorem m_counted (h : RR u t) (a1 a2 a3 : Int32) : Same 0 u (fX0_counted N u a1 a2 a3) (fX7_counted N t a1 a2 a3) := by
  obtain ⟨n, hn, e1, e2⟩ := fs_st h.f.n
  unfold fX0_counted fX0_counted_78 fX0_counted_25 fX7_counted fX7_counted_83 fX7_counted_25
  simp only [c_isStand hn e1, t_isStand hn e2, pl_bd, pl_bd2, pl_nm, pl_id, pl_ald, pl_ast, pl_aldL, pl_astL, pl_nc, pl_ncL, pl_add, pl_addL, pl_addR, pl_mul, pl_mulL, pl_mulR, pl_sub, pl_subL, pl_eq, pl_eqL, pl_eqR, pl_eqN, pl_le, pl_leL, pl_leR, pl_lt, pl_ltL, pl_ltR, pl_div, pl_divL, pl_01, pl_bl, pl_bl0, pl_bl1, ite_not, c_in, t_in, Int32.reduceToInt, Int64.reduceToInt, upd_eq, upd_ne, up2_eq, up2_nk, vq2_ne, up1_eq, vq1_ne, Nat.reduceAdd, Nat.reduceMul, if_true, if_false, rI_uI, rI_uL, rI_uA, rI_uB, rI_uP, rI_uQ, rI_aA, rI_aB, rI_aQ, rL_uI, rL_uL, rL_uA, rL_uB, rL_uP, rL_uQ, rL_aA, rL_aB, rL_aQ, rA_uI, rA_uL, rA_uA, rA_uB, rA_uP, rA_uQ, rA_aA, rA_aB, rA_aQ, rB_uI, rB_uL, rB_uA, rB_uB, rB_uP, rB_uQ, rB_aA, rB_aB, rB_aQ, rP_uI, rP_uL, rP_uA, rP_uB, rP_uP, rP_uQ, rP_aA, rP_aB, rP_aQ, rQ_uI, rQ_uL, rQ_uA, rQ_uB, rQ_uP, rQ_uQ, rQ_aA, rQ_aB, rQ_aQ, rT_uI, rT_uL, rT_uA, rT_uB, rT_uP, rT_uQ, rT_aA, rT_aB, rT_aQ, rz_uI, rz_uL, rz_uA, rz_uB, rz_uP, rz_uQ, rz_aA, rz_aB, rz_aQ, rtI_L, rtI_A, rtI_B, rtL_I, rtL_A, rtL_B, rtA_I, rtA_L, rtA_B, rtB_I, rtB_L, rtB_A, rtI_I, rtL_L, rtA_A, rtA_An, rtB_B, rtB_Bn, updL_eq, updL_ne]
  by_cases c1 : inB a1 0 ((n : Int) - 1)
  · simp only [if_pos c1]
    obtain ⟨k, hk, rfl⟩ := inB_nat c1
    have hk8 : k < 24 := by omega
    obtain ⟨m, hm, e3⟩ := fr_cm_n h.f.t hk8
    simp (disch := omega) only [pl_bd, pl_bd2, pl_nm, pl_id, pl_ald, pl_ast, pl_aldL, pl_astL, pl_nc, pl_ncL, pl_add, pl_addL, pl_addR, pl_mul, pl_mulL, pl_mulR, pl_sub, pl_subL, pl_eq, pl_eqL, pl_eqR, pl_eqN, pl_le, pl_leL, pl_leR, pl_lt, pl_ltL, pl_ltR, pl_div, pl_divL, pl_01, pl_bl, pl_bl0, pl_bl1, ite_not, c_in, t_in, Int32.reduceToInt, Int64.reduceToInt, upd_eq, upd_ne, up2_eq, up2_nk, vq2_ne, up1_eq, vq1_ne, Nat.reduceAdd, Nat.reduceMul, if_true, if_false, rI_uI, rI_uL, rI_uA, rI_uB, rI_uP, rI_uQ, rI_aA, rI_aB, rI_aQ, rL_uI, rL_uL, rL_uA, rL_uB, rL_uP, rL_uQ, rL_aA, rL_aB, rL_aQ, rA_uI, rA_uL, rA_uA, rA_uB, rA_uP, rA_uQ, rA_aA, rA_aB, rA_aQ, rB_uI, rB_uL, rB_uA, rB_uB, rB_uP, rB_uQ, rB_aA, rB_aB, rB_aQ, rP_uI, rP_uL, rP_uA, rP_uB, rP_uP, rP_uQ, rP_aA, rP_aB, rP_aQ, rQ_uI, rQ_uL, rQ_uA, rQ_uB, rQ_uP, rQ_uQ, rQ_aA, rQ_aB, rQ_aQ, rT_uI, rT_uL, rT_uA, rT_uB, rT_uP, rT_uQ, rT_aA, rT_aB, rT_aQ, rz_uI, rz_uL, rz_uA, rz_uB, rz_uP, rz_uQ, rz_aA, rz_aB, rz_aQ, rtI_L, rtI_A, rtI_B, rtL_I, rtL_A, rtL_B, rtA_I, rtA_L, rtA_B, rtB_I, rtB_L, rtB_A, rtI_I, rtL_L, rtA_A, rtA_An, rtB_B, rtB_Bn, updL_eq, updL_ne, t_stL, show wc_A u 37 k = _ from (fr_cm h.f.t hk8).1, e3, pl_m1]
    rw [pl_rng2 (by omega)]
    by_cases c2 : inB a2 0 ((m : Int) - 1)
    · simp only [if_pos c2]
      obtain ⟨i, hi, rfl⟩ := inB_nat c2
      simp only [c_grown h.f.t hk8 (show i < 8 by omega), t_grown h.f.t hk8 (show i < 8 by omega), pl_bd2]
      by_cases c3 : a3 = 5
      · subst c3
        rw [if_pos (show inB 5 0 5 by decide), if_pos rfl]
        exact Same.ans h
      · simp only [if_neg c3]
        by_cases c4 : inB a3 0 4
        · obtain ⟨w, hw, rfl⟩ := inB_nat' (m := 4) c4
          rw [if_pos (show inB (Int32.ofNat w) 0 5 from ⟨c4.1, by have := c4.2; omega⟩), if_pos c4, c_cnt h.f.t hk8 (by omega) (by omega)]
          simp (disch := omega) only [pl_bd, pl_bd2, pl_nm, pl_id, pl_ald, pl_ast, pl_aldL, pl_astL, pl_nc, pl_ncL, pl_add, pl_addL, pl_addR, pl_mul, pl_mulL, pl_mulR, pl_sub, pl_subL, pl_eq, pl_eqL, pl_eqR, pl_eqN, pl_le, pl_leL, pl_leR, pl_lt, pl_ltL, pl_ltR, pl_div, pl_divL, pl_01, pl_bl, pl_bl0, pl_bl1, ite_not, c_in, t_in, Int32.reduceToInt, Int64.reduceToInt, upd_eq, upd_ne, up2_eq, up2_nk, vq2_ne, up1_eq, vq1_ne, Nat.reduceAdd, Nat.reduceMul, if_true, if_false, rI_uI, rI_uL, rI_uA, rI_uB, rI_uP, rI_uQ, rI_aA, rI_aB, rI_aQ, rL_uI, rL_uL, rL_uA, rL_uB, rL_uP, rL_uQ, rL_aA, rL_aB, rL_aQ, rA_uI, rA_uL, rA_uA, rA_uB, rA_uP, rA_uQ, rA_aA, rA_aB, rA_aQ, rB_uI, rB_uL, rB_uA, rB_uB, rB_uP, rB_uQ, rB_aA, rB_aB, rB_aQ, rP_uI, rP_uL, rP_uA, rP_uB, rP_uP, rP_uQ, rP_aA, rP_aB, rP_aQ, rQ_uI, rQ_uL, rQ_uA, rQ_uB, rQ_uP, rQ_uQ, rQ_aA, rQ_aB, rQ_aQ, rT_uI, rT_uL, rT_uA, rT_uB, rT_uP, rT_uQ, rT_aA, rT_aB, rT_aQ, rz_uI, rz_uL, rz_uA, rz_uB, rz_uP, rz_uQ, rz_aA, rz_aB, rz_aQ, rtI_L, rtI_A, rtI_B, rtL_I, rtL_A, rtL_B, rtA_I, rtA_L, rtA_B, rtB_I, rtB_L, rtB_A, rtI_I, rtL_L, rtA_A, rtA_An, rtB_B, rtB_Bn, updL_eq, updL_ne]
          exact Same.ans h
        · rw [if_neg (show ¬ inB a3 0 5 from fun q => ?_), if_neg c4]
          · exact Same.refL h (by decide)
          · have : a3.toInt ≠ 5 := fun e => c3 (Int32.toInt_inj.mp e)
            exact c4 ⟨q.1, by have := q.2; omega⟩
    · simp only [if_neg c2]; exact Same.refL h (by decide)
  · simp only [if_neg c1]; exact Same.refL h (by decide)
/-- what is lacking of the last count -/
def lackV (s : Nat → Int32) (k : Nat) : Int32 :=
  if 0 < grownV s k (nt (s (16 + 14 * k + 11)) - 2) - s (3570 + 40 * k + 5 * (nt (s (16 + 14 * k + 11)) - 1) + 4) then grownV s k (nt (s (16 + 14 * k + 11)) - 2) - s (3570 + 40 * k + 5 * (nt (s (16 + 14 * k + 11)) - 1) + 4) else 0
theorem c_lack (h : FRt F u s) {k m : Nat} (hk : k < 24) (em : s (16 + 14 * k + 11) = Int32.ofNat m) (h2 : 2 ≤ m) (h8 : m ≤ 8) : fX1_lack N F u (Int32.ofNat k) = some (lackV s k, u) := by
  unfold fX1_lack lackV
  simp (disch := omega) only [pl_bd, pl_bd2, pl_nm, pl_id, pl_ald, pl_ast, pl_aldL, pl_astL, pl_nc, pl_ncL, pl_add, pl_addL, pl_addR, pl_mul, pl_mulL, pl_mulR, pl_sub, pl_subL, pl_eq, pl_eqL, pl_eqR, pl_eqN, pl_le, pl_leL, pl_leR, pl_lt, pl_ltL, pl_ltR, pl_div, pl_divL, pl_01, pl_bl, pl_bl0, pl_bl1, ite_not, c_in, t_in, Int32.reduceToInt, Int64.reduceToInt, upd_eq, upd_ne, up2_eq, up2_nk, vq2_ne, up1_eq, vq1_ne, Nat.reduceAdd, Nat.reduceMul, if_true, if_false, rI_uI, rI_uL, rI_uA, rI_uB, rI_uP, rI_uQ, rI_aA, rI_aB, rI_aQ, rL_uI, rL_uL, rL_uA, rL_uB, rL_uP, rL_uQ, rL_aA, rL_aB, rL_aQ, rA_uI, rA_uL, rA_uA, rA_uB, rA_uP, rA_uQ, rA_aA, rA_aB, rA_aQ, rB_uI, rB_uL, rB_uA, rB_uB, rB_uP, rB_uQ, rB_aA, rB_aB, rB_aQ, rP_uI, rP_uL, rP_uA, rP_uB, rP_uP, rP_uQ, rP_aA, rP_aB, rP_aQ, rQ_uI, rQ_uL, rQ_uA, rQ_uB, rQ_uP, rQ_uQ, rQ_aA, rQ_aB, rQ_aQ, rT_uI, rT_uL, rT_uA, rT_uB, rT_uP, rT_uQ, rT_aA, rT_aB, rT_aQ, rz_uI, rz_uL, rz_uA, rz_uB, rz_uP, rz_uQ, rz_aA, rz_aB, rz_aQ, rtI_L, rtI_A, rtI_B, rtL_I, rtL_A, rtL_B, rtA_I, rtA_L, rtA_B, rtB_I, rtB_L, rtB_A, rtI_I, rtL_L, rtA_A, rtA_An, rtB_B, rtB_Bn, updL_eq, updL_ne, (fr_cm h hk).1, em, c_grown h hk, c_cntL h hk]
theorem t_lack (h : FRt F u (tS t)) {k m : Nat} (hk : k < 24) (em : tS t (16 + 14 * k + 11) = Int32.ofNat m) (h2 : 2 ≤ m) (h8 : m ≤ 8) : fX7_lackOf N t (Int32.ofNat k) = some (lackV (tS t) k, t) := by
  unfold fX7_lackOf fX7_lackOf_52
  unfold lackV
  simp (disch := omega) only [pl_bd, pl_bd2, pl_nm, pl_id, pl_ald, pl_ast, pl_aldL, pl_astL, pl_nc, pl_ncL, pl_add, pl_addL, pl_addR, pl_mul, pl_mulL, pl_mulR, pl_sub, pl_subL, pl_eq, pl_eqL, pl_eqR, pl_eqN, pl_le, pl_leL, pl_leR, pl_lt, pl_ltL, pl_ltR, pl_div, pl_divL, pl_01, pl_bl, pl_bl0, pl_bl1, ite_not, c_in, t_in, Int32.reduceToInt, Int64.reduceToInt, upd_eq, upd_ne, up2_eq, up2_nk, vq2_ne, up1_eq, vq1_ne, Nat.reduceAdd, Nat.reduceMul, if_true, if_false, rI_uI, rI_uL, rI_uA, rI_uB, rI_uP, rI_uQ, rI_aA, rI_aB, rI_aQ, rL_uI, rL_uL, rL_uA, rL_uB, rL_uP, rL_uQ, rL_aA, rL_aB, rL_aQ, rA_uI, rA_uL, rA_uA, rA_uB, rA_uP, rA_uQ, rA_aA, rA_aB, rA_aQ, rB_uI, rB_uL, rB_uA, rB_uB, rB_uP, rB_uQ, rB_aA, rB_aB, rB_aQ, rP_uI, rP_uL, rP_uA, rP_uB, rP_uP, rP_uQ, rP_aA, rP_aB, rP_aQ, rQ_uI, rQ_uL, rQ_uA, rQ_uB, rQ_uP, rQ_uQ, rQ_aA, rQ_aB, rQ_aQ, rT_uI, rT_uL, rT_uA, rT_uB, rT_uP, rT_uQ, rT_aA, rT_aB, rT_aQ, rz_uI, rz_uL, rz_uA, rz_uB, rz_uP, rz_uQ, rz_aA, rz_aB, rz_aQ, rtI_L, rtI_A, rtI_B, rtL_I, rtL_A, rtL_B, rtA_I, rtA_L, rtA_B, rtB_I, rtB_L, rtB_A, rtI_I, rtL_L, rtA_A, rtA_An, rtB_B, rtB_Bn, updL_eq, updL_ne, t_stL, em, t_grown h hk]
  generalize grownV (t.2.2.1 1) k (m - 2) - t.2.2.1 1 (3570 + 40 * k + 5 * (m - 1) + 4) = x
  by_cases c : 0 < x
  · rw [if_pos c, if_pos (Int32.le_of_lt c)]
  · rw [if_neg c]
    by_cases d : 0 ≤ x
    · rw [if_pos d, Int32.le_antisymm (Int32.not_lt.mp c) d]
    · rw [if_neg d]
theorem m_lack (h : RR u t) (a1 : Int32) : Same 0 u (fX0_lack N u a1) (fX7_lack N t a1) := by
  obtain ⟨n, hn, e1, e2⟩ := fs_st h.f.n
  unfold fX0_lack fX0_lack_45 fX7_lack fX7_lack_40
  simp only [c_isStand hn e1, t_isStand hn e2, pl_bd, pl_bd2, pl_nm, pl_id, pl_ald, pl_ast, pl_aldL, pl_astL, pl_nc, pl_ncL, pl_add, pl_addL, pl_addR, pl_mul, pl_mulL, pl_mulR, pl_sub, pl_subL, pl_eq, pl_eqL, pl_eqR, pl_eqN, pl_le, pl_leL, pl_leR, pl_lt, pl_ltL, pl_ltR, pl_div, pl_divL, pl_01, pl_bl, pl_bl0, pl_bl1, ite_not, c_in, t_in, Int32.reduceToInt, Int64.reduceToInt, upd_eq, upd_ne, up2_eq, up2_nk, vq2_ne, up1_eq, vq1_ne, Nat.reduceAdd, Nat.reduceMul, if_true, if_false, rI_uI, rI_uL, rI_uA, rI_uB, rI_uP, rI_uQ, rI_aA, rI_aB, rI_aQ, rL_uI, rL_uL, rL_uA, rL_uB, rL_uP, rL_uQ, rL_aA, rL_aB, rL_aQ, rA_uI, rA_uL, rA_uA, rA_uB, rA_uP, rA_uQ, rA_aA, rA_aB, rA_aQ, rB_uI, rB_uL, rB_uA, rB_uB, rB_uP, rB_uQ, rB_aA, rB_aB, rB_aQ, rP_uI, rP_uL, rP_uA, rP_uB, rP_uP, rP_uQ, rP_aA, rP_aB, rP_aQ, rQ_uI, rQ_uL, rQ_uA, rQ_uB, rQ_uP, rQ_uQ, rQ_aA, rQ_aB, rQ_aQ, rT_uI, rT_uL, rT_uA, rT_uB, rT_uP, rT_uQ, rT_aA, rT_aB, rT_aQ, rz_uI, rz_uL, rz_uA, rz_uB, rz_uP, rz_uQ, rz_aA, rz_aB, rz_aQ, rtI_L, rtI_A, rtI_B, rtL_I, rtL_A, rtL_B, rtA_I, rtA_L, rtA_B, rtB_I, rtB_L, rtB_A, rtI_I, rtL_L, rtA_A, rtA_An, rtB_B, rtB_Bn, updL_eq, updL_ne]
  by_cases c1 : inB a1 0 ((n : Int) - 1)
  · simp only [if_pos c1]
    obtain ⟨k, hk, rfl⟩ := inB_nat c1
    have hk8 : k < 24 := by omega
    obtain ⟨m, hm, e3⟩ := fr_cm_n h.f.t hk8
    simp (disch := omega) only [pl_bd, pl_bd2, pl_nm, pl_id, pl_ald, pl_ast, pl_aldL, pl_astL, pl_nc, pl_ncL, pl_add, pl_addL, pl_addR, pl_mul, pl_mulL, pl_mulR, pl_sub, pl_subL, pl_eq, pl_eqL, pl_eqR, pl_eqN, pl_le, pl_leL, pl_leR, pl_lt, pl_ltL, pl_ltR, pl_div, pl_divL, pl_01, pl_bl, pl_bl0, pl_bl1, ite_not, c_in, t_in, Int32.reduceToInt, Int64.reduceToInt, upd_eq, upd_ne, up2_eq, up2_nk, vq2_ne, up1_eq, vq1_ne, Nat.reduceAdd, Nat.reduceMul, if_true, if_false, rI_uI, rI_uL, rI_uA, rI_uB, rI_uP, rI_uQ, rI_aA, rI_aB, rI_aQ, rL_uI, rL_uL, rL_uA, rL_uB, rL_uP, rL_uQ, rL_aA, rL_aB, rL_aQ, rA_uI, rA_uL, rA_uA, rA_uB, rA_uP, rA_uQ, rA_aA, rA_aB, rA_aQ, rB_uI, rB_uL, rB_uA, rB_uB, rB_uP, rB_uQ, rB_aA, rB_aB, rB_aQ, rP_uI, rP_uL, rP_uA, rP_uB, rP_uP, rP_uQ, rP_aA, rP_aB, rP_aQ, rQ_uI, rQ_uL, rQ_uA, rQ_uB, rQ_uP, rQ_uQ, rQ_aA, rQ_aB, rQ_aQ, rT_uI, rT_uL, rT_uA, rT_uB, rT_uP, rT_uQ, rT_aA, rT_aB, rT_aQ, rz_uI, rz_uL, rz_uA, rz_uB, rz_uP, rz_uQ, rz_aA, rz_aB, rz_aQ, rtI_L, rtI_A, rtI_B, rtL_I, rtL_A, rtL_B, rtA_I, rtA_L, rtA_B, rtB_I, rtB_L, rtB_A, rtI_I, rtL_L, rtA_A, rtA_An, rtB_B, rtB_Bn, updL_eq, updL_ne, t_stL, show wc_A u 37 k = _ from (fr_cm h.f.t hk8).1, e3]
    by_cases c2 : 2 ≤ m
    · simp only [if_pos c2, c_lack h.f.t hk8 e3 c2 hm, t_lack h.f.t hk8 e3 c2 hm, pl_bd2]
      exact Same.ans h
    · simp only [if_neg c2]; exact Same.refL h (by decide)
  · simp only [if_neg c1]; exact Same.refL h (by decide)
end PM2
