/-! PLAIN LAW, METHODS 1: village, people, watch, wind, sow, nursery, book, status, haul, feet -/
section PM1
variable {u u1 : CS} {t t1 : TS} {N : Nat}
theorem Same.map {α β : Type} {k : Nat} {x : Option (α × CS)} {y : Option (α × TS)} (f : α → β) (h : Same k u x y) : Same k u (o_bd2 x (fun r u => some (f r, u))) (o_bd2 y (fun r t => some (f r, t))) := by
  obtain ⟨r, u1, t1, rfl, rfl, a, b, c⟩ := h
  exact ⟨f r, u1, t1, rfl, rfl, a, b, c⟩
theorem m_village (h : RR u t) (a1 a2 a3 : Int32) : Same 0 u (fX0_village N u a1 a2 a3) (fX7_village N t a1 a2 a3) := by
  unfold fX0_village fX0_village_38 fX7_village fX7_village_36 fX0_isBlock fX7_isBlock
  simp only [pl_bd, pl_bd2, pl_nm, pl_id, pl_ald, pl_ast, pl_aldL, pl_astL, pl_nc, pl_ncL, pl_add, pl_addL, pl_addR, pl_mul, pl_mulL, pl_mulR, pl_sub, pl_subL, pl_eq, pl_eqL, pl_eqR, pl_eqN, pl_le, pl_leL, pl_leR, pl_lt, pl_ltL, pl_ltR, pl_div, pl_divL, pl_01, pl_bl, pl_bl0, pl_bl1, ite_not, c_in, t_in, Int32.reduceToInt, Int64.reduceToInt, upd_eq, upd_ne, up2_eq, up2_nk, vq2_ne, up1_eq, vq1_ne, Nat.reduceAdd, Nat.reduceMul, if_true, if_false, rI_uI, rI_uL, rI_uA, rI_uB, rI_uP, rI_uQ, rI_aA, rI_aB, rI_aQ, rL_uI, rL_uL, rL_uA, rL_uB, rL_uP, rL_uQ, rL_aA, rL_aB, rL_aQ, rA_uI, rA_uL, rA_uA, rA_uB, rA_uP, rA_uQ, rA_aA, rA_aB, rA_aQ, rB_uI, rB_uL, rB_uA, rB_uB, rB_uP, rB_uQ, rB_aA, rB_aB, rB_aQ, rP_uI, rP_uL, rP_uA, rP_uB, rP_uP, rP_uQ, rP_aA, rP_aB, rP_aQ, rQ_uI, rQ_uL, rQ_uA, rQ_uB, rQ_uP, rQ_uQ, rQ_aA, rQ_aB, rQ_aQ, rT_uI, rT_uL, rT_uA, rT_uB, rT_uP, rT_uQ, rT_aA, rT_aB, rT_aQ, rz_uI, rz_uL, rz_uA, rz_uB, rz_uP, rz_uQ, rz_aA, rz_aB, rz_aQ, rtI_L, rtI_A, rtI_B, rtL_I, rtL_A, rtL_B, rtA_I, rtA_L, rtA_B, rtB_I, rtB_L, rtB_A, rtI_I, rtL_L, rtA_A, rtA_An, rtB_B, rtB_Bn, updL_eq, updL_ne]
  by_cases c1 : inB a1 0 5
  · simp only [if_pos c1]
    by_cases c2 : inB a2 0 999
    · simp only [if_pos c2]
      by_cases c3 : inB a3 0 999
      · simp only [if_pos c3]
        obtain ⟨n, hn, e1, e2⟩ := fs_vi h.f.n
        simp (disch := omega) only [e1, e2, pl_bd, pl_bd2, pl_nm, pl_id, pl_ald, pl_ast, pl_aldL, pl_astL, pl_nc, pl_ncL, pl_add, pl_addL, pl_addR, pl_mul, pl_mulL, pl_mulR, pl_sub, pl_subL, pl_eq, pl_eqL, pl_eqR, pl_eqN, pl_le, pl_leL, pl_leR, pl_lt, pl_ltL, pl_ltR, pl_div, pl_divL, pl_01, pl_bl, pl_bl0, pl_bl1, ite_not, c_in, t_in, Int32.reduceToInt, Int64.reduceToInt, upd_eq, upd_ne, up2_eq, up2_nk, vq2_ne, up1_eq, vq1_ne, Nat.reduceAdd, Nat.reduceMul, if_true, if_false, rI_uI, rI_uL, rI_uA, rI_uB, rI_uP, rI_uQ, rI_aA, rI_aB, rI_aQ, rL_uI, rL_uL, rL_uA, rL_uB, rL_uP, rL_uQ, rL_aA, rL_aB, rL_aQ, rA_uI, rA_uL, rA_uA, rA_uB, rA_uP, rA_uQ, rA_aA, rA_aB, rA_aQ, rB_uI, rB_uL, rB_uA, rB_uB, rB_uP, rB_uQ, rB_aA, rB_aB, rB_aQ, rP_uI, rP_uL, rP_uA, rP_uB, rP_uP, rP_uQ, rP_aA, rP_aB, rP_aQ, rQ_uI, rQ_uL, rQ_uA, rQ_uB, rQ_uP, rQ_uQ, rQ_aA, rQ_aB, rQ_aQ, rT_uI, rT_uL, rT_uA, rT_uB, rT_uP, rT_uQ, rT_aA, rT_aB, rT_aQ, rz_uI, rz_uL, rz_uA, rz_uB, rz_uP, rz_uQ, rz_aA, rz_aB, rz_aQ, rtI_L, rtI_A, rtI_B, rtL_I, rtL_A, rtL_B, rtA_I, rtA_L, rtA_B, rtB_I, rtB_L, rtB_A, rtI_I, rtL_L, rtA_A, rtA_An, rtB_B, rtB_Bn, updL_eq, updL_ne]
        by_cases c4 : n = 8
        · simp only [if_pos c4]; exact Same.refL h (by decide)
        · simp only [if_neg c4]
          have hn' : n < 8 := by omega
          have x0 := h.f.x.2.2.2.2.2.2 n hn' (by rw [show tS t 3 = _ from e2, pl_ti (by omega)]; omega)
          have f1 := fq_ho (k := n) (v := a1) (by omega) h.f hn' c1.1 c1.2 (h.f.x.far (by omega) (by omega) (by omega) (by omega))
          have f2 := fq_he (k := n) (v := a2) (by omega) f1 hn' c2.1 c2.2 (f1.x.far (by omega) (by omega) (by omega) (by omega))
          have f3 := fq_hd (k := n) (v := a3) (by omega) f2 hn' c3.1 c3.2 (f2.x.far (by omega) (by omega) (by omega) (by omega))
          have f4 := f3.putN (f := 22) (i := 3) (lo := 0) (hi := 8) (v := Int32.ofNat (n + 1)) (by omega) (by decide) (by rw [pl_ti (by omega)]; omega) (by rw [pl_ti (by omega)]; omega) (by omega) (f3.x.s3 (by simp (disch := omega) only [upd_ne, show tS t 3 = _ from e2, pl_ti]; omega))
          refine ⟨_, _, _, rfl, rfl, h.nx ((((NX.rfl'.uA (by unfold InF; omega)).uA (by unfold InF; omega)).uA (by unfold InF; omega)).uI (by omega)) (((((TX.rfl'.uA (by omega) (by omega)).uA (by omega) (by omega)).uA (by omega) (by omega)).uA (by omega) (by omega)).uA (by omega) (by omega)) ?_, Nat.le_refl _, Nat.le_refl _⟩
          simp (disch := omega) only [tS, rtA_A]
          rw [upd_self (i := 928 + 4 * n + 3) (by simp (disch := omega) only [upd_ne]; exact x0)]
          exact f4
      · simp only [if_neg c3]; exact Same.refL h (by decide)
    · simp only [if_neg c2]; exact Same.refL h (by decide)
  · simp only [if_neg c1]; exact Same.refL h (by decide)
theorem m_people (h : RR u t) (a1 a2 a3 : Int32) : Same 0 u (fX0_people N u a1 a2 a3) (fX7_people N t a1 a2 a3) := by
  obtain ⟨n, hn, e1, e2⟩ := fs_vi h.f.n
  unfold fX0_people fX0_people_39 fX7_people fX7_people_37
  simp only [c_isVillage hn e1, t_isVillage hn e2, pl_bd, pl_bd2, pl_nm, pl_id, pl_ald, pl_ast, pl_aldL, pl_astL, pl_nc, pl_ncL, pl_add, pl_addL, pl_addR, pl_mul, pl_mulL, pl_mulR, pl_sub, pl_subL, pl_eq, pl_eqL, pl_eqR, pl_eqN, pl_le, pl_leL, pl_leR, pl_lt, pl_ltL, pl_ltR, pl_div, pl_divL, pl_01, pl_bl, pl_bl0, pl_bl1, ite_not, c_in, t_in, Int32.reduceToInt, Int64.reduceToInt, upd_eq, upd_ne, up2_eq, up2_nk, vq2_ne, up1_eq, vq1_ne, Nat.reduceAdd, Nat.reduceMul, if_true, if_false, rI_uI, rI_uL, rI_uA, rI_uB, rI_uP, rI_uQ, rI_aA, rI_aB, rI_aQ, rL_uI, rL_uL, rL_uA, rL_uB, rL_uP, rL_uQ, rL_aA, rL_aB, rL_aQ, rA_uI, rA_uL, rA_uA, rA_uB, rA_uP, rA_uQ, rA_aA, rA_aB, rA_aQ, rB_uI, rB_uL, rB_uA, rB_uB, rB_uP, rB_uQ, rB_aA, rB_aB, rB_aQ, rP_uI, rP_uL, rP_uA, rP_uB, rP_uP, rP_uQ, rP_aA, rP_aB, rP_aQ, rQ_uI, rQ_uL, rQ_uA, rQ_uB, rQ_uP, rQ_uQ, rQ_aA, rQ_aB, rQ_aQ, rT_uI, rT_uL, rT_uA, rT_uB, rT_uP, rT_uQ, rT_aA, rT_aB, rT_aQ, rz_uI, rz_uL, rz_uA, rz_uB, rz_uP, rz_uQ, rz_aA, rz_aB, rz_aQ, rtI_L, rtI_A, rtI_B, rtL_I, rtL_A, rtL_B, rtA_I, rtA_L, rtA_B, rtB_I, rtB_L, rtB_A, rtI_I, rtL_L, rtA_A, rtA_An, rtB_B, rtB_Bn, updL_eq, updL_ne]
  by_cases c1 : inB a1 0 ((n : Int) - 1)
  · simp only [if_pos c1]
    obtain ⟨k, hk, rfl⟩ := inB_nat c1
    have hk8 : k < 8 := by omega
    by_cases c2 : inB a2 0 999
    · simp only [if_pos c2]
      by_cases c3 : inB a3 0 999
      · simp only [if_pos c3]
        simp (disch := omega) only [pl_bd, pl_bd2, pl_nm, pl_id, pl_ald, pl_ast, pl_aldL, pl_astL, pl_nc, pl_ncL, pl_add, pl_addL, pl_addR, pl_mul, pl_mulL, pl_mulR, pl_sub, pl_subL, pl_eq, pl_eqL, pl_eqR, pl_eqN, pl_le, pl_leL, pl_leR, pl_lt, pl_ltL, pl_ltR, pl_div, pl_divL, pl_01, pl_bl, pl_bl0, pl_bl1, ite_not, c_in, t_in, Int32.reduceToInt, Int64.reduceToInt, upd_eq, upd_ne, up2_eq, up2_nk, vq2_ne, up1_eq, vq1_ne, Nat.reduceAdd, Nat.reduceMul, if_true, if_false, rI_uI, rI_uL, rI_uA, rI_uB, rI_uP, rI_uQ, rI_aA, rI_aB, rI_aQ, rL_uI, rL_uL, rL_uA, rL_uB, rL_uP, rL_uQ, rL_aA, rL_aB, rL_aQ, rA_uI, rA_uL, rA_uA, rA_uB, rA_uP, rA_uQ, rA_aA, rA_aB, rA_aQ, rB_uI, rB_uL, rB_uA, rB_uB, rB_uP, rB_uQ, rB_aA, rB_aB, rB_aQ, rP_uI, rP_uL, rP_uA, rP_uB, rP_uP, rP_uQ, rP_aA, rP_aB, rP_aQ, rQ_uI, rQ_uL, rQ_uA, rQ_uB, rQ_uP, rQ_uQ, rQ_aA, rQ_aB, rQ_aQ, rT_uI, rT_uL, rT_uA, rT_uB, rT_uP, rT_uQ, rT_aA, rT_aB, rT_aQ, rz_uI, rz_uL, rz_uA, rz_uB, rz_uP, rz_uQ, rz_aA, rz_aB, rz_aQ, rtI_L, rtI_A, rtI_B, rtL_I, rtL_A, rtL_B, rtA_I, rtA_L, rtA_B, rtB_I, rtB_L, rtB_A, rtI_I, rtL_L, rtA_A, rtA_An, rtB_B, rtB_Bn, updL_eq, updL_ne]
        rw [(fr_he h.f.t hk8).1]
        have f2 := fq_he (k := k) (v := a2) (by omega) h.f hk8 c2.1 c2.2 (h.f.x.far (by omega) (by omega) (by omega) (by omega))
        have f3 := fq_hd (k := k) (v := a3) (by omega) f2 hk8 c3.1 c3.2 (f2.x.far (by omega) (by omega) (by omega) (by omega))
        exact ⟨_, _, _, rfl, rfl, h.nx ((NX.rfl'.uA (by unfold InF; omega)).uA (by unfold InF; omega)) ((TX.rfl'.uA (by omega) (by omega)).uA (by omega) (by omega)) f3, Nat.le_refl _, Nat.le_refl _⟩
      · simp only [if_neg c3]; exact Same.refL h (by decide)
    · simp only [if_neg c2]; exact Same.refL h (by decide)
  · simp only [if_neg c1]; exact Same.refL h (by decide)
theorem m_watch (h : RR u t) (a1 a2 a3 : Int32) : Same 0 u (fX0_watch N u a1 a2 a3) (fX7_watch N t a1 a2 a3) := by
  unfold fX0_watch fX0_watch_38 fX7_watch fX7_watch_35 fX0_isBlock fX7_isBlock
  simp only [pl_bd, pl_bd2, pl_nm, pl_id, pl_ald, pl_ast, pl_aldL, pl_astL, pl_nc, pl_ncL, pl_add, pl_addL, pl_addR, pl_mul, pl_mulL, pl_mulR, pl_sub, pl_subL, pl_eq, pl_eqL, pl_eqR, pl_eqN, pl_le, pl_leL, pl_leR, pl_lt, pl_ltL, pl_ltR, pl_div, pl_divL, pl_01, pl_bl, pl_bl0, pl_bl1, ite_not, c_in, t_in, Int32.reduceToInt, Int64.reduceToInt, upd_eq, upd_ne, up2_eq, up2_nk, vq2_ne, up1_eq, vq1_ne, Nat.reduceAdd, Nat.reduceMul, if_true, if_false, rI_uI, rI_uL, rI_uA, rI_uB, rI_uP, rI_uQ, rI_aA, rI_aB, rI_aQ, rL_uI, rL_uL, rL_uA, rL_uB, rL_uP, rL_uQ, rL_aA, rL_aB, rL_aQ, rA_uI, rA_uL, rA_uA, rA_uB, rA_uP, rA_uQ, rA_aA, rA_aB, rA_aQ, rB_uI, rB_uL, rB_uA, rB_uB, rB_uP, rB_uQ, rB_aA, rB_aB, rB_aQ, rP_uI, rP_uL, rP_uA, rP_uB, rP_uP, rP_uQ, rP_aA, rP_aB, rP_aQ, rQ_uI, rQ_uL, rQ_uA, rQ_uB, rQ_uP, rQ_uQ, rQ_aA, rQ_aB, rQ_aQ, rT_uI, rT_uL, rT_uA, rT_uB, rT_uP, rT_uQ, rT_aA, rT_aB, rT_aQ, rz_uI, rz_uL, rz_uA, rz_uB, rz_uP, rz_uQ, rz_aA, rz_aB, rz_aQ, rtI_L, rtI_A, rtI_B, rtL_I, rtL_A, rtL_B, rtA_I, rtA_L, rtA_B, rtB_I, rtB_L, rtB_A, rtI_I, rtL_L, rtA_A, rtA_An, rtB_B, rtB_Bn, updL_eq, updL_ne]
  by_cases c1 : inB a1 0 5
  · simp only [if_pos c1]
    obtain ⟨k, hk, rfl⟩ := inB_nat' (m := 5) c1
    have hk6 : k < 6 := by omega
    by_cases c2 : inB a2 0 999
    · simp only [if_pos c2]
      by_cases c3 : inB a3 0 99
      · simp only [if_pos c3]
        simp (disch := omega) only [pl_bd, pl_bd2, pl_nm, pl_id, pl_ald, pl_ast, pl_aldL, pl_astL, pl_nc, pl_ncL, pl_add, pl_addL, pl_addR, pl_mul, pl_mulL, pl_mulR, pl_sub, pl_subL, pl_eq, pl_eqL, pl_eqR, pl_eqN, pl_le, pl_leL, pl_leR, pl_lt, pl_ltL, pl_ltR, pl_div, pl_divL, pl_01, pl_bl, pl_bl0, pl_bl1, ite_not, c_in, t_in, Int32.reduceToInt, Int64.reduceToInt, upd_eq, upd_ne, up2_eq, up2_nk, vq2_ne, up1_eq, vq1_ne, Nat.reduceAdd, Nat.reduceMul, if_true, if_false, rI_uI, rI_uL, rI_uA, rI_uB, rI_uP, rI_uQ, rI_aA, rI_aB, rI_aQ, rL_uI, rL_uL, rL_uA, rL_uB, rL_uP, rL_uQ, rL_aA, rL_aB, rL_aQ, rA_uI, rA_uL, rA_uA, rA_uB, rA_uP, rA_uQ, rA_aA, rA_aB, rA_aQ, rB_uI, rB_uL, rB_uA, rB_uB, rB_uP, rB_uQ, rB_aA, rB_aB, rB_aQ, rP_uI, rP_uL, rP_uA, rP_uB, rP_uP, rP_uQ, rP_aA, rP_aB, rP_aQ, rQ_uI, rQ_uL, rQ_uA, rQ_uB, rQ_uP, rQ_uQ, rQ_aA, rQ_aB, rQ_aQ, rT_uI, rT_uL, rT_uA, rT_uB, rT_uP, rT_uQ, rT_aA, rT_aB, rT_aQ, rz_uI, rz_uL, rz_uA, rz_uB, rz_uP, rz_uQ, rz_aA, rz_aB, rz_aQ, rtI_L, rtI_A, rtI_B, rtL_I, rtL_A, rtL_B, rtA_I, rtA_L, rtA_B, rtB_I, rtB_L, rtB_A, rtI_I, rtL_L, rtA_A, rtA_An, rtB_B, rtB_Bn, updL_eq, updL_ne]
        rw [(fr_th h.f.t hk6).1]
        have f2 := fq_th (k := k) (v := a2) (by omega) h.f hk6 c2.1 c2.2 (h.f.x.far (by omega) (by omega) (by omega) (by omega))
        have f3 := fq_gu (k := k) (v := a3) (by omega) f2 hk6 c3.1 c3.2 (f2.x.far (by omega) (by omega) (by omega) (by omega))
        exact ⟨_, _, _, rfl, rfl, h.nx ((NX.rfl'.uA (by unfold InF; omega)).uA (by unfold InF; omega)) ((TX.rfl'.uA (by omega) (by omega)).uA (by omega) (by omega)) f3, Nat.le_refl _, Nat.le_refl _⟩
      · simp only [if_neg c3]; exact Same.refL h (by decide)
    · simp only [if_neg c2]; exact Same.refL h (by decide)
  · simp only [if_neg c1]; exact Same.refL h (by decide)
theorem m_wind (h : RR u t) (a1 a2 : Int32) : Same 0 u (fX0_wind N u a1 a2) (fX7_wind N t a1 a2) := by
  unfold fX0_wind fX0_wind_38 fX7_wind fX0_isWind
  simp only [pl_bd, pl_bd2, pl_nm, pl_id, pl_ald, pl_ast, pl_aldL, pl_astL, pl_nc, pl_ncL, pl_add, pl_addL, pl_addR, pl_mul, pl_mulL, pl_mulR, pl_sub, pl_subL, pl_eq, pl_eqL, pl_eqR, pl_eqN, pl_le, pl_leL, pl_leR, pl_lt, pl_ltL, pl_ltR, pl_div, pl_divL, pl_01, pl_bl, pl_bl0, pl_bl1, ite_not, c_in, t_in, Int32.reduceToInt, Int64.reduceToInt, upd_eq, upd_ne, up2_eq, up2_nk, vq2_ne, up1_eq, vq1_ne, Nat.reduceAdd, Nat.reduceMul, if_true, if_false, rI_uI, rI_uL, rI_uA, rI_uB, rI_uP, rI_uQ, rI_aA, rI_aB, rI_aQ, rL_uI, rL_uL, rL_uA, rL_uB, rL_uP, rL_uQ, rL_aA, rL_aB, rL_aQ, rA_uI, rA_uL, rA_uA, rA_uB, rA_uP, rA_uQ, rA_aA, rA_aB, rA_aQ, rB_uI, rB_uL, rB_uA, rB_uB, rB_uP, rB_uQ, rB_aA, rB_aB, rB_aQ, rP_uI, rP_uL, rP_uA, rP_uB, rP_uP, rP_uQ, rP_aA, rP_aB, rP_aQ, rQ_uI, rQ_uL, rQ_uA, rQ_uB, rQ_uP, rQ_uQ, rQ_aA, rQ_aB, rQ_aQ, rT_uI, rT_uL, rT_uA, rT_uB, rT_uP, rT_uQ, rT_aA, rT_aB, rT_aQ, rz_uI, rz_uL, rz_uA, rz_uB, rz_uP, rz_uQ, rz_aA, rz_aB, rz_aQ, rtI_L, rtI_A, rtI_B, rtL_I, rtL_A, rtL_B, rtA_I, rtA_L, rtA_B, rtB_I, rtB_L, rtB_A, rtI_I, rtL_L, rtA_A, rtA_An, rtB_B, rtB_Bn, updL_eq, updL_ne]
  by_cases c1 : inB a1 0 99
  · simp only [if_pos c1]
    obtain ⟨k, hk, rfl⟩ := inB_nat' (m := 99) c1
    have hk6 : k < 100 := by omega
    have go : inB a2 (-1) 99 → Same 0 u (some (wc_A u 34 k, wc_uA u 34 k a2)) (some (tS t (3458 + k), mt_uA t 1 (3458 + k) a2)) := by
      intro c2
      rw [(fr_wi h.f.t hk6).1]
      have f2 := fq_wi (k := k) (v := a2) (by omega) h.f hk6 c2.1 c2.2 (h.f.x.far (by omega) (by omega) (by omega) (by omega))
      exact ⟨_, _, _, rfl, rfl, h.nx (NX.rfl'.uA (by unfold InF; omega)) (TX.rfl'.uA (by omega) (by omega)) f2, Nat.le_refl _, Nat.le_refl _⟩
    by_cases c2 : a2 = -1
    · subst c2
      simp (disch := omega) only [pl_bd, pl_bd2, pl_nm, pl_id, pl_ald, pl_ast, pl_aldL, pl_astL, pl_nc, pl_ncL, pl_add, pl_addL, pl_addR, pl_mul, pl_mulL, pl_mulR, pl_sub, pl_subL, pl_eq, pl_eqL, pl_eqR, pl_eqN, pl_le, pl_leL, pl_leR, pl_lt, pl_ltL, pl_ltR, pl_div, pl_divL, pl_01, pl_bl, pl_bl0, pl_bl1, ite_not, c_in, t_in, Int32.reduceToInt, Int64.reduceToInt, upd_eq, upd_ne, up2_eq, up2_nk, vq2_ne, up1_eq, vq1_ne, Nat.reduceAdd, Nat.reduceMul, if_true, if_false, rI_uI, rI_uL, rI_uA, rI_uB, rI_uP, rI_uQ, rI_aA, rI_aB, rI_aQ, rL_uI, rL_uL, rL_uA, rL_uB, rL_uP, rL_uQ, rL_aA, rL_aB, rL_aQ, rA_uI, rA_uL, rA_uA, rA_uB, rA_uP, rA_uQ, rA_aA, rA_aB, rA_aQ, rB_uI, rB_uL, rB_uA, rB_uB, rB_uP, rB_uQ, rB_aA, rB_aB, rB_aQ, rP_uI, rP_uL, rP_uA, rP_uB, rP_uP, rP_uQ, rP_aA, rP_aB, rP_aQ, rQ_uI, rQ_uL, rQ_uA, rQ_uB, rQ_uP, rQ_uQ, rQ_aA, rQ_aB, rQ_aQ, rT_uI, rT_uL, rT_uA, rT_uB, rT_uP, rT_uQ, rT_aA, rT_aB, rT_aQ, rz_uI, rz_uL, rz_uA, rz_uB, rz_uP, rz_uQ, rz_aA, rz_aB, rz_aQ, rtI_L, rtI_A, rtI_B, rtL_I, rtL_A, rtL_B, rtA_I, rtA_L, rtA_B, rtB_I, rtB_L, rtB_A, rtI_I, rtL_L, rtA_A, rtA_An, rtB_B, rtB_Bn, updL_eq, updL_ne]
      rw [if_pos (show inB (-1) (-1) 99 by decide)]
      exact go (by decide)
    · simp only [if_neg c2]
      by_cases c3 : inB a2 0 99
      · simp (disch := omega) only [if_pos c3, pl_bd, pl_bd2, pl_nm, pl_id, pl_ald, pl_ast, pl_aldL, pl_astL, pl_nc, pl_ncL, pl_add, pl_addL, pl_addR, pl_mul, pl_mulL, pl_mulR, pl_sub, pl_subL, pl_eq, pl_eqL, pl_eqR, pl_eqN, pl_le, pl_leL, pl_leR, pl_lt, pl_ltL, pl_ltR, pl_div, pl_divL, pl_01, pl_bl, pl_bl0, pl_bl1, ite_not, c_in, t_in, Int32.reduceToInt, Int64.reduceToInt, upd_eq, upd_ne, up2_eq, up2_nk, vq2_ne, up1_eq, vq1_ne, Nat.reduceAdd, Nat.reduceMul, if_true, if_false, rI_uI, rI_uL, rI_uA, rI_uB, rI_uP, rI_uQ, rI_aA, rI_aB, rI_aQ, rL_uI, rL_uL, rL_uA, rL_uB, rL_uP, rL_uQ, rL_aA, rL_aB, rL_aQ, rA_uI, rA_uL, rA_uA, rA_uB, rA_uP, rA_uQ, rA_aA, rA_aB, rA_aQ, rB_uI, rB_uL, rB_uA, rB_uB, rB_uP, rB_uQ, rB_aA, rB_aB, rB_aQ, rP_uI, rP_uL, rP_uA, rP_uB, rP_uP, rP_uQ, rP_aA, rP_aB, rP_aQ, rQ_uI, rQ_uL, rQ_uA, rQ_uB, rQ_uP, rQ_uQ, rQ_aA, rQ_aB, rQ_aQ, rT_uI, rT_uL, rT_uA, rT_uB, rT_uP, rT_uQ, rT_aA, rT_aB, rT_aQ, rz_uI, rz_uL, rz_uA, rz_uB, rz_uP, rz_uQ, rz_aA, rz_aB, rz_aQ, rtI_L, rtI_A, rtI_B, rtL_I, rtL_A, rtL_B, rtA_I, rtA_L, rtA_B, rtB_I, rtB_L, rtB_A, rtI_I, rtL_L, rtA_A, rtA_An, rtB_B, rtB_Bn, updL_eq, updL_ne]
        have c4 : inB a2 (-1) 99 := ⟨by have := c3.1; omega, c3.2⟩
        rw [if_pos c4]
        exact go c4
      · have c4 : ¬ inB a2 (-1) 99 := fun q => by
          have : a2.toInt ≠ -1 := fun e => c2 (Int32.toInt_inj.mp e)
          exact c3 ⟨by have := q.1; omega, q.2⟩
        simp only [if_neg c3, if_neg c4]; exact Same.husL h (by decide)
  · simp only [if_neg c1]; exact Same.husL h (by decide)
theorem m_sow (h : RR u t) (a1 a2 : Int32) : Same 0 u (fX0_sow N u a1 a2) (fX7_sow N t a1 a2) := by
  unfold fX0_sow fX7_sow
  simp only [pl_bd, pl_bd2, pl_nm, pl_id, pl_ald, pl_ast, pl_aldL, pl_astL, pl_nc, pl_ncL, pl_add, pl_addL, pl_addR, pl_mul, pl_mulL, pl_mulR, pl_sub, pl_subL, pl_eq, pl_eqL, pl_eqR, pl_eqN, pl_le, pl_leL, pl_leR, pl_lt, pl_ltL, pl_ltR, pl_div, pl_divL, pl_01, pl_bl, pl_bl0, pl_bl1, ite_not, c_in, t_in, Int32.reduceToInt, Int64.reduceToInt, upd_eq, upd_ne, up2_eq, up2_nk, vq2_ne, up1_eq, vq1_ne, Nat.reduceAdd, Nat.reduceMul, if_true, if_false, rI_uI, rI_uL, rI_uA, rI_uB, rI_uP, rI_uQ, rI_aA, rI_aB, rI_aQ, rL_uI, rL_uL, rL_uA, rL_uB, rL_uP, rL_uQ, rL_aA, rL_aB, rL_aQ, rA_uI, rA_uL, rA_uA, rA_uB, rA_uP, rA_uQ, rA_aA, rA_aB, rA_aQ, rB_uI, rB_uL, rB_uA, rB_uB, rB_uP, rB_uQ, rB_aA, rB_aB, rB_aQ, rP_uI, rP_uL, rP_uA, rP_uB, rP_uP, rP_uQ, rP_aA, rP_aB, rP_aQ, rQ_uI, rQ_uL, rQ_uA, rQ_uB, rQ_uP, rQ_uQ, rQ_aA, rQ_aB, rQ_aQ, rT_uI, rT_uL, rT_uA, rT_uB, rT_uP, rT_uQ, rT_aA, rT_aB, rT_aQ, rz_uI, rz_uL, rz_uA, rz_uB, rz_uP, rz_uQ, rz_aA, rz_aB, rz_aQ, rtI_L, rtI_A, rtI_B, rtL_I, rtL_A, rtL_B, rtA_I, rtA_L, rtA_B, rtB_I, rtB_L, rtB_A, rtI_I, rtL_L, rtA_A, rtA_An, rtB_B, rtB_Bn, updL_eq, updL_ne]
  by_cases c1 : inB a1 0 3
  · simp only [if_pos c1]
    obtain ⟨k, hk, rfl⟩ := inB_nat' (m := 3) c1
    by_cases c2 : inB a2 1 999
    · simp (disch := omega) only [if_pos c2, pl_bd, pl_bd2, pl_nm, pl_id, pl_ald, pl_ast, pl_aldL, pl_astL, pl_nc, pl_ncL, pl_add, pl_addL, pl_addR, pl_mul, pl_mulL, pl_mulR, pl_sub, pl_subL, pl_eq, pl_eqL, pl_eqR, pl_eqN, pl_le, pl_leL, pl_leR, pl_lt, pl_ltL, pl_ltR, pl_div, pl_divL, pl_01, pl_bl, pl_bl0, pl_bl1, ite_not, c_in, t_in, Int32.reduceToInt, Int64.reduceToInt, upd_eq, upd_ne, up2_eq, up2_nk, vq2_ne, up1_eq, vq1_ne, Nat.reduceAdd, Nat.reduceMul, if_true, if_false, rI_uI, rI_uL, rI_uA, rI_uB, rI_uP, rI_uQ, rI_aA, rI_aB, rI_aQ, rL_uI, rL_uL, rL_uA, rL_uB, rL_uP, rL_uQ, rL_aA, rL_aB, rL_aQ, rA_uI, rA_uL, rA_uA, rA_uB, rA_uP, rA_uQ, rA_aA, rA_aB, rA_aQ, rB_uI, rB_uL, rB_uA, rB_uB, rB_uP, rB_uQ, rB_aA, rB_aB, rB_aQ, rP_uI, rP_uL, rP_uA, rP_uB, rP_uP, rP_uQ, rP_aA, rP_aB, rP_aQ, rQ_uI, rQ_uL, rQ_uA, rQ_uB, rQ_uP, rQ_uQ, rQ_aA, rQ_aB, rQ_aQ, rT_uI, rT_uL, rT_uA, rT_uB, rT_uP, rT_uQ, rT_aA, rT_aB, rT_aQ, rz_uI, rz_uL, rz_uA, rz_uB, rz_uP, rz_uQ, rz_aA, rz_aB, rz_aQ, rtI_L, rtI_A, rtI_B, rtL_I, rtL_A, rtL_B, rtA_I, rtA_L, rtA_B, rtB_I, rtB_L, rtB_A, rtI_I, rtL_L, rtA_A, rtA_An, rtB_B, rtB_Bn, updL_eq, updL_ne]
      have e0 := (fr_so h.f.t (k := 3 * k) (by omega)).1
      have e1 := (fr_so h.f.t (k := 3 * k + 1) (by omega)).1
      have e2 := (fr_so h.f.t (k := 3 * k + 2) (by omega)).1
      simp only [Nat.reduceAdd, ← Nat.add_assoc] at e0 e1 e2
      rw [e0, e1, e2]
      by_cases c3 : tS t (3446 + 3 * k) + tS t (3446 + 3 * k + 1) + tS t (3446 + 3 * k + 2) + a2 ≤ 9999
      · simp only [if_pos c3]
        have f2 := fq_so (k := 3 * k + 2) (v := tS t (3446 + 3 * k + 2) + a2) (by omega) h.f (by omega) (Int32.le_toInt _) (by have := Int32.toInt_lt (tS t (3446 + 3 * k + 2) + a2); omega) (h.f.x.far (by omega) (by omega) (by omega) (by omega))
        exact ⟨_, _, _, rfl, rfl, h.nx (NX.rfl'.uA (by unfold InF; omega)) (TX.rfl'.uA (by omega) (by omega)) f2, Nat.le_refl _, Nat.le_refl _⟩
      · simp only [if_neg c3]; exact Same.refL h (by decide)
    · simp only [if_neg c2]; exact Same.refL h (by decide)
  · simp only [if_neg c1]; exact Same.refL h (by decide)
theorem m_nursery (h : RR u t) (a1 a2 : Int32) : Same 0 u (fX0_nursery N u a1 a2) (fX7_nursery N t a1 a2) := by
  unfold fX0_nursery fX0_nursery_53 fX7_nursery fX7_nursery_48
  simp only [pl_bd, pl_bd2, pl_nm, pl_id, pl_ald, pl_ast, pl_aldL, pl_astL, pl_nc, pl_ncL, pl_add, pl_addL, pl_addR, pl_mul, pl_mulL, pl_mulR, pl_sub, pl_subL, pl_eq, pl_eqL, pl_eqR, pl_eqN, pl_le, pl_leL, pl_leR, pl_lt, pl_ltL, pl_ltR, pl_div, pl_divL, pl_01, pl_bl, pl_bl0, pl_bl1, ite_not, c_in, t_in, Int32.reduceToInt, Int64.reduceToInt, upd_eq, upd_ne, up2_eq, up2_nk, vq2_ne, up1_eq, vq1_ne, Nat.reduceAdd, Nat.reduceMul, if_true, if_false, rI_uI, rI_uL, rI_uA, rI_uB, rI_uP, rI_uQ, rI_aA, rI_aB, rI_aQ, rL_uI, rL_uL, rL_uA, rL_uB, rL_uP, rL_uQ, rL_aA, rL_aB, rL_aQ, rA_uI, rA_uL, rA_uA, rA_uB, rA_uP, rA_uQ, rA_aA, rA_aB, rA_aQ, rB_uI, rB_uL, rB_uA, rB_uB, rB_uP, rB_uQ, rB_aA, rB_aB, rB_aQ, rP_uI, rP_uL, rP_uA, rP_uB, rP_uP, rP_uQ, rP_aA, rP_aB, rP_aQ, rQ_uI, rQ_uL, rQ_uA, rQ_uB, rQ_uP, rQ_uQ, rQ_aA, rQ_aB, rQ_aQ, rT_uI, rT_uL, rT_uA, rT_uB, rT_uP, rT_uQ, rT_aA, rT_aB, rT_aQ, rz_uI, rz_uL, rz_uA, rz_uB, rz_uP, rz_uQ, rz_aA, rz_aB, rz_aQ, rtI_L, rtI_A, rtI_B, rtL_I, rtL_A, rtL_B, rtA_I, rtA_L, rtA_B, rtB_I, rtB_L, rtB_A, rtI_I, rtL_L, rtA_A, rtA_An, rtB_B, rtB_Bn, updL_eq, updL_ne]
  by_cases c1 : inB a1 0 3
  · simp only [if_pos c1]
    obtain ⟨k, hk, rfl⟩ := inB_nat' (m := 3) c1
    by_cases c2 : inB a2 0 2
    · obtain ⟨j, hj, rfl⟩ := inB_nat' (m := 2) c2
      simp (disch := omega) only [if_pos c2, pl_bd, pl_bd2, pl_nm, pl_id, pl_ald, pl_ast, pl_aldL, pl_astL, pl_nc, pl_ncL, pl_add, pl_addL, pl_addR, pl_mul, pl_mulL, pl_mulR, pl_sub, pl_subL, pl_eq, pl_eqL, pl_eqR, pl_eqN, pl_le, pl_leL, pl_leR, pl_lt, pl_ltL, pl_ltR, pl_div, pl_divL, pl_01, pl_bl, pl_bl0, pl_bl1, ite_not, c_in, t_in, Int32.reduceToInt, Int64.reduceToInt, upd_eq, upd_ne, up2_eq, up2_nk, vq2_ne, up1_eq, vq1_ne, Nat.reduceAdd, Nat.reduceMul, if_true, if_false, rI_uI, rI_uL, rI_uA, rI_uB, rI_uP, rI_uQ, rI_aA, rI_aB, rI_aQ, rL_uI, rL_uL, rL_uA, rL_uB, rL_uP, rL_uQ, rL_aA, rL_aB, rL_aQ, rA_uI, rA_uL, rA_uA, rA_uB, rA_uP, rA_uQ, rA_aA, rA_aB, rA_aQ, rB_uI, rB_uL, rB_uA, rB_uB, rB_uP, rB_uQ, rB_aA, rB_aB, rB_aQ, rP_uI, rP_uL, rP_uA, rP_uB, rP_uP, rP_uQ, rP_aA, rP_aB, rP_aQ, rQ_uI, rQ_uL, rQ_uA, rQ_uB, rQ_uP, rQ_uQ, rQ_aA, rQ_aB, rQ_aQ, rT_uI, rT_uL, rT_uA, rT_uB, rT_uP, rT_uQ, rT_aA, rT_aB, rT_aQ, rz_uI, rz_uL, rz_uA, rz_uB, rz_uP, rz_uQ, rz_aA, rz_aB, rz_aQ, rtI_L, rtI_A, rtI_B, rtL_I, rtL_A, rtL_B, rtA_I, rtA_L, rtA_B, rtB_I, rtB_L, rtB_A, rtI_I, rtL_L, rtA_A, rtA_An, rtB_B, rtB_Bn, updL_eq, updL_ne]
      have e2 := (fr_so h.f.t (k := 3 * k + j) (by omega)).1
      simp only [Nat.reduceAdd, ← Nat.add_assoc] at e2
      rw [e2]
      exact Same.ans h
    · simp only [if_neg c2]; exact Same.refL h (by decide)
  · simp only [if_neg c1]; exact Same.refL h (by decide)
theorem m_book (h : RR u t) (a1 : Int32) : Same 0 u (fX0_book N u a1) (fX7_book N t a1) := by
  unfold fX0_book fX0_book_31 fX7_book fX7_book_26
  simp only [pl_bd, pl_bd2, pl_nm, pl_id, pl_ald, pl_ast, pl_aldL, pl_astL, pl_nc, pl_ncL, pl_add, pl_addL, pl_addR, pl_mul, pl_mulL, pl_mulR, pl_sub, pl_subL, pl_eq, pl_eqL, pl_eqR, pl_eqN, pl_le, pl_leL, pl_leR, pl_lt, pl_ltL, pl_ltR, pl_div, pl_divL, pl_01, pl_bl, pl_bl0, pl_bl1, ite_not, c_in, t_in, Int32.reduceToInt, Int64.reduceToInt, upd_eq, upd_ne, up2_eq, up2_nk, vq2_ne, up1_eq, vq1_ne, Nat.reduceAdd, Nat.reduceMul, if_true, if_false, rI_uI, rI_uL, rI_uA, rI_uB, rI_uP, rI_uQ, rI_aA, rI_aB, rI_aQ, rL_uI, rL_uL, rL_uA, rL_uB, rL_uP, rL_uQ, rL_aA, rL_aB, rL_aQ, rA_uI, rA_uL, rA_uA, rA_uB, rA_uP, rA_uQ, rA_aA, rA_aB, rA_aQ, rB_uI, rB_uL, rB_uA, rB_uB, rB_uP, rB_uQ, rB_aA, rB_aB, rB_aQ, rP_uI, rP_uL, rP_uA, rP_uB, rP_uP, rP_uQ, rP_aA, rP_aB, rP_aQ, rQ_uI, rQ_uL, rQ_uA, rQ_uB, rQ_uP, rQ_uQ, rQ_aA, rQ_aB, rQ_aQ, rT_uI, rT_uL, rT_uA, rT_uB, rT_uP, rT_uQ, rT_aA, rT_aB, rT_aQ, rz_uI, rz_uL, rz_uA, rz_uB, rz_uP, rz_uQ, rz_aA, rz_aB, rz_aQ, rtI_L, rtI_A, rtI_B, rtL_I, rtL_A, rtL_B, rtA_I, rtA_L, rtA_B, rtB_I, rtB_L, rtB_A, rtI_I, rtL_L, rtA_A, rtA_An, rtB_B, rtB_Bn, updL_eq, updL_ne]
  by_cases c1 : inB a1 0 7
  · simp only [if_pos c1]
    obtain ⟨k, hk, rfl⟩ := inB_nat' (m := 7) c1
    simp (disch := omega) only [pl_bd, pl_bd2, pl_nm, pl_id, pl_ald, pl_ast, pl_aldL, pl_astL, pl_nc, pl_ncL, pl_add, pl_addL, pl_addR, pl_mul, pl_mulL, pl_mulR, pl_sub, pl_subL, pl_eq, pl_eqL, pl_eqR, pl_eqN, pl_le, pl_leL, pl_leR, pl_lt, pl_ltL, pl_ltR, pl_div, pl_divL, pl_01, pl_bl, pl_bl0, pl_bl1, ite_not, c_in, t_in, Int32.reduceToInt, Int64.reduceToInt, upd_eq, upd_ne, up2_eq, up2_nk, vq2_ne, up1_eq, vq1_ne, Nat.reduceAdd, Nat.reduceMul, if_true, if_false, rI_uI, rI_uL, rI_uA, rI_uB, rI_uP, rI_uQ, rI_aA, rI_aB, rI_aQ, rL_uI, rL_uL, rL_uA, rL_uB, rL_uP, rL_uQ, rL_aA, rL_aB, rL_aQ, rA_uI, rA_uL, rA_uA, rA_uB, rA_uP, rA_uQ, rA_aA, rA_aB, rA_aQ, rB_uI, rB_uL, rB_uA, rB_uB, rB_uP, rB_uQ, rB_aA, rB_aB, rB_aQ, rP_uI, rP_uL, rP_uA, rP_uB, rP_uP, rP_uQ, rP_aA, rP_aB, rP_aQ, rQ_uI, rQ_uL, rQ_uA, rQ_uB, rQ_uP, rQ_uQ, rQ_aA, rQ_aB, rQ_aQ, rT_uI, rT_uL, rT_uA, rT_uB, rT_uP, rT_uQ, rT_aA, rT_aB, rT_aQ, rz_uI, rz_uL, rz_uA, rz_uB, rz_uP, rz_uQ, rz_aA, rz_aB, rz_aQ, rtI_L, rtI_A, rtI_B, rtL_I, rtL_A, rtL_B, rtA_I, rtA_L, rtA_B, rtB_I, rtB_L, rtB_A, rtI_I, rtL_L, rtA_A, rtA_An, rtB_B, rtB_Bn, updL_eq, updL_ne]
    rw [show wc_B u 26 k = _ from h.f.bk k (by omega)]
    exact Same.ans h
  · simp only [if_neg c1]; exact (Same.husL h (by decide)).map _
theorem m_status (h : RR u t) (a1 : Int32) : Same 0 u (fX0_status N u a1) (fX7_status N t a1) := by
  unfold fX0_status fX0_status_30 fX7_status fX7_status_27
  simp only [pl_bd, pl_bd2, pl_nm, pl_id, pl_ald, pl_ast, pl_aldL, pl_astL, pl_nc, pl_ncL, pl_add, pl_addL, pl_addR, pl_mul, pl_mulL, pl_mulR, pl_sub, pl_subL, pl_eq, pl_eqL, pl_eqR, pl_eqN, pl_le, pl_leL, pl_leR, pl_lt, pl_ltL, pl_ltR, pl_div, pl_divL, pl_01, pl_bl, pl_bl0, pl_bl1, ite_not, c_in, t_in, Int32.reduceToInt, Int64.reduceToInt, upd_eq, upd_ne, up2_eq, up2_nk, vq2_ne, up1_eq, vq1_ne, Nat.reduceAdd, Nat.reduceMul, if_true, if_false, rI_uI, rI_uL, rI_uA, rI_uB, rI_uP, rI_uQ, rI_aA, rI_aB, rI_aQ, rL_uI, rL_uL, rL_uA, rL_uB, rL_uP, rL_uQ, rL_aA, rL_aB, rL_aQ, rA_uI, rA_uL, rA_uA, rA_uB, rA_uP, rA_uQ, rA_aA, rA_aB, rA_aQ, rB_uI, rB_uL, rB_uA, rB_uB, rB_uP, rB_uQ, rB_aA, rB_aB, rB_aQ, rP_uI, rP_uL, rP_uA, rP_uB, rP_uP, rP_uQ, rP_aA, rP_aB, rP_aQ, rQ_uI, rQ_uL, rQ_uA, rQ_uB, rQ_uP, rQ_uQ, rQ_aA, rQ_aB, rQ_aQ, rT_uI, rT_uL, rT_uA, rT_uB, rT_uP, rT_uQ, rT_aA, rT_aB, rT_aQ, rz_uI, rz_uL, rz_uA, rz_uB, rz_uP, rz_uQ, rz_aA, rz_aB, rz_aQ, rtI_L, rtI_A, rtI_B, rtL_I, rtL_A, rtL_B, rtA_I, rtA_L, rtA_B, rtB_I, rtB_L, rtB_A, rtI_I, rtL_L, rtA_A, rtA_An, rtB_B, rtB_Bn, updL_eq, updL_ne]
  by_cases c1 : inB a1 (-8) (-2)
  · simp only [if_pos c1]
    have e : (-a1).toInt = -a1.toInt := by rw [Int32.toInt_neg]; exact pl_bm (by have := c1.2; omega) (by have := c1.1; omega)
    obtain ⟨k, hk, e2⟩ := pl_nat (x := -a1) (m := 8) (by rw [e]; have := c1.2; omega) (by rw [e]; have := c1.1; omega)
    rw [e2]
    simp (disch := omega) only [pl_bd, pl_bd2, pl_nm, pl_id, pl_ald, pl_ast, pl_aldL, pl_astL, pl_nc, pl_ncL, pl_add, pl_addL, pl_addR, pl_mul, pl_mulL, pl_mulR, pl_sub, pl_subL, pl_eq, pl_eqL, pl_eqR, pl_eqN, pl_le, pl_leL, pl_leR, pl_lt, pl_ltL, pl_ltR, pl_div, pl_divL, pl_01, pl_bl, pl_bl0, pl_bl1, ite_not, c_in, t_in, Int32.reduceToInt, Int64.reduceToInt, upd_eq, upd_ne, up2_eq, up2_nk, vq2_ne, up1_eq, vq1_ne, Nat.reduceAdd, Nat.reduceMul, if_true, if_false, rI_uI, rI_uL, rI_uA, rI_uB, rI_uP, rI_uQ, rI_aA, rI_aB, rI_aQ, rL_uI, rL_uL, rL_uA, rL_uB, rL_uP, rL_uQ, rL_aA, rL_aB, rL_aQ, rA_uI, rA_uL, rA_uA, rA_uB, rA_uP, rA_uQ, rA_aA, rA_aB, rA_aQ, rB_uI, rB_uL, rB_uA, rB_uB, rB_uP, rB_uQ, rB_aA, rB_aB, rB_aQ, rP_uI, rP_uL, rP_uA, rP_uB, rP_uP, rP_uQ, rP_aA, rP_aB, rP_aQ, rQ_uI, rQ_uL, rQ_uA, rQ_uB, rQ_uP, rQ_uQ, rQ_aA, rQ_aB, rQ_aQ, rT_uI, rT_uL, rT_uA, rT_uB, rT_uP, rT_uQ, rT_aA, rT_aB, rT_aQ, rz_uI, rz_uL, rz_uA, rz_uB, rz_uP, rz_uQ, rz_aA, rz_aB, rz_aQ, rtI_L, rtI_A, rtI_B, rtL_I, rtL_A, rtL_B, rtA_I, rtA_L, rtA_B, rtB_I, rtB_L, rtB_A, rtI_I, rtL_L, rtA_A, rtA_An, rtB_B, rtB_Bn, updL_eq, updL_ne]
    rw [h.rf.1 k (by omega)]
    exact Same.ans h
  · simp only [if_neg c1]; exact Same.refL h (by decide)
theorem m_haul (h : RR u t) (a1 : Int32) : Same 0 u (fX0_haul N u a1) (fX7_haul N t a1) := by
  unfold fX0_haul fX0_haul_41 fX7_haul fX7_haul_43 fX0_isBlock fX7_isBlock
  simp only [pl_bd, pl_bd2, pl_nm, pl_id, pl_ald, pl_ast, pl_aldL, pl_astL, pl_nc, pl_ncL, pl_add, pl_addL, pl_addR, pl_mul, pl_mulL, pl_mulR, pl_sub, pl_subL, pl_eq, pl_eqL, pl_eqR, pl_eqN, pl_le, pl_leL, pl_leR, pl_lt, pl_ltL, pl_ltR, pl_div, pl_divL, pl_01, pl_bl, pl_bl0, pl_bl1, ite_not, c_in, t_in, Int32.reduceToInt, Int64.reduceToInt, upd_eq, upd_ne, up2_eq, up2_nk, vq2_ne, up1_eq, vq1_ne, Nat.reduceAdd, Nat.reduceMul, if_true, if_false, rI_uI, rI_uL, rI_uA, rI_uB, rI_uP, rI_uQ, rI_aA, rI_aB, rI_aQ, rL_uI, rL_uL, rL_uA, rL_uB, rL_uP, rL_uQ, rL_aA, rL_aB, rL_aQ, rA_uI, rA_uL, rA_uA, rA_uB, rA_uP, rA_uQ, rA_aA, rA_aB, rA_aQ, rB_uI, rB_uL, rB_uA, rB_uB, rB_uP, rB_uQ, rB_aA, rB_aB, rB_aQ, rP_uI, rP_uL, rP_uA, rP_uB, rP_uP, rP_uQ, rP_aA, rP_aB, rP_aQ, rQ_uI, rQ_uL, rQ_uA, rQ_uB, rQ_uP, rQ_uQ, rQ_aA, rQ_aB, rQ_aQ, rT_uI, rT_uL, rT_uA, rT_uB, rT_uP, rT_uQ, rT_aA, rT_aB, rT_aQ, rz_uI, rz_uL, rz_uA, rz_uB, rz_uP, rz_uQ, rz_aA, rz_aB, rz_aQ, rtI_L, rtI_A, rtI_B, rtL_I, rtL_A, rtL_B, rtA_I, rtA_L, rtA_B, rtB_I, rtB_L, rtB_A, rtI_I, rtL_L, rtA_A, rtA_An, rtB_B, rtB_Bn, updL_eq, updL_ne]
  by_cases c1 : inB a1 0 5
  · simp only [if_pos c1]
    obtain ⟨k, hk, rfl⟩ := inB_nat' (m := 5) c1
    simp (disch := omega) only [pl_bd, pl_bd2, pl_nm, pl_id, pl_ald, pl_ast, pl_aldL, pl_astL, pl_nc, pl_ncL, pl_add, pl_addL, pl_addR, pl_mul, pl_mulL, pl_mulR, pl_sub, pl_subL, pl_eq, pl_eqL, pl_eqR, pl_eqN, pl_le, pl_leL, pl_leR, pl_lt, pl_ltL, pl_ltR, pl_div, pl_divL, pl_01, pl_bl, pl_bl0, pl_bl1, ite_not, c_in, t_in, Int32.reduceToInt, Int64.reduceToInt, upd_eq, upd_ne, up2_eq, up2_nk, vq2_ne, up1_eq, vq1_ne, Nat.reduceAdd, Nat.reduceMul, if_true, if_false, rI_uI, rI_uL, rI_uA, rI_uB, rI_uP, rI_uQ, rI_aA, rI_aB, rI_aQ, rL_uI, rL_uL, rL_uA, rL_uB, rL_uP, rL_uQ, rL_aA, rL_aB, rL_aQ, rA_uI, rA_uL, rA_uA, rA_uB, rA_uP, rA_uQ, rA_aA, rA_aB, rA_aQ, rB_uI, rB_uL, rB_uA, rB_uB, rB_uP, rB_uQ, rB_aA, rB_aB, rB_aQ, rP_uI, rP_uL, rP_uA, rP_uB, rP_uP, rP_uQ, rP_aA, rP_aB, rP_aQ, rQ_uI, rQ_uL, rQ_uA, rQ_uB, rQ_uP, rQ_uQ, rQ_aA, rQ_aB, rQ_aQ, rT_uI, rT_uL, rT_uA, rT_uB, rT_uP, rT_uQ, rT_aA, rT_aB, rT_aQ, rz_uI, rz_uL, rz_uA, rz_uB, rz_uP, rz_uQ, rz_aA, rz_aB, rz_aQ, rtI_L, rtI_A, rtI_B, rtL_I, rtL_A, rtL_B, rtA_I, rtA_L, rtA_B, rtB_I, rtB_L, rtB_A, rtI_I, rtL_L, rtA_A, rtA_An, rtB_B, rtB_Bn, updL_eq, updL_ne]
    rcases h.f.h k (by omega) with ⟨d, hd, e1, e2⟩ | ⟨e1, e2⟩
    · have e1 : wc_A u 20 k = Int32.ofNat d := e1
      rw [e1, show t.2.2.1 1 (4530 + k) = _ from e2]
      simp (disch := omega) only [pl_bd, pl_bd2, pl_nm, pl_id, pl_ald, pl_ast, pl_aldL, pl_astL, pl_nc, pl_ncL, pl_add, pl_addL, pl_addR, pl_mul, pl_mulL, pl_mulR, pl_sub, pl_subL, pl_eq, pl_eqL, pl_eqR, pl_eqN, pl_le, pl_leL, pl_leR, pl_lt, pl_ltL, pl_ltR, pl_div, pl_divL, pl_01, pl_bl, pl_bl0, pl_bl1, ite_not, c_in, t_in, Int32.reduceToInt, Int64.reduceToInt, upd_eq, upd_ne, up2_eq, up2_nk, vq2_ne, up1_eq, vq1_ne, Nat.reduceAdd, Nat.reduceMul, if_true, if_false, rI_uI, rI_uL, rI_uA, rI_uB, rI_uP, rI_uQ, rI_aA, rI_aB, rI_aQ, rL_uI, rL_uL, rL_uA, rL_uB, rL_uP, rL_uQ, rL_aA, rL_aB, rL_aQ, rA_uI, rA_uL, rA_uA, rA_uB, rA_uP, rA_uQ, rA_aA, rA_aB, rA_aQ, rB_uI, rB_uL, rB_uA, rB_uB, rB_uP, rB_uQ, rB_aA, rB_aB, rB_aQ, rP_uI, rP_uL, rP_uA, rP_uB, rP_uP, rP_uQ, rP_aA, rP_aB, rP_aQ, rQ_uI, rQ_uL, rQ_uA, rQ_uB, rQ_uP, rQ_uQ, rQ_aA, rQ_aB, rQ_aQ, rT_uI, rT_uL, rT_uA, rT_uB, rT_uP, rT_uQ, rT_aA, rT_aB, rT_aQ, rz_uI, rz_uL, rz_uA, rz_uB, rz_uP, rz_uQ, rz_aA, rz_aB, rz_aQ, rtI_L, rtI_A, rtI_B, rtL_I, rtL_A, rtL_B, rtA_I, rtA_L, rtA_B, rtB_I, rtB_L, rtB_A, rtI_I, rtL_L, rtA_A, rtA_An, rtB_B, rtB_Bn, updL_eq, updL_ne]
      rw [if_neg (by omega), if_pos (by omega)]
      exact Same.ans h
    · have e1 : wc_A u 20 k = 100000000 := e1
      rw [e1, show t.2.2.1 1 (4530 + k) = _ from e2]
      exact Same.ans h
  · simp only [if_neg c1]; exact Same.refL h (by decide)
theorem m_feet (h : RR u t) (a1 a2 a3 : Int32) : Same 0 u (fX0_feet N u a1 a2 a3) (fX7_feet N t a1 a2 a3) := by
  unfold fX0_feet fX0_feet_58 fX0_feet_24 fX7_feet fX7_feet_51 fX7_feet_18
  simp only [pl_bd, pl_bd2, pl_nm, pl_id, pl_ald, pl_ast, pl_aldL, pl_astL, pl_nc, pl_ncL, pl_add, pl_addL, pl_addR, pl_mul, pl_mulL, pl_mulR, pl_sub, pl_subL, pl_eq, pl_eqL, pl_eqR, pl_eqN, pl_le, pl_leL, pl_leR, pl_lt, pl_ltL, pl_ltR, pl_div, pl_divL, pl_01, pl_bl, pl_bl0, pl_bl1, ite_not, c_in, t_in, Int32.reduceToInt, Int64.reduceToInt, upd_eq, upd_ne, up2_eq, up2_nk, vq2_ne, up1_eq, vq1_ne, Nat.reduceAdd, Nat.reduceMul, if_true, if_false, rI_uI, rI_uL, rI_uA, rI_uB, rI_uP, rI_uQ, rI_aA, rI_aB, rI_aQ, rL_uI, rL_uL, rL_uA, rL_uB, rL_uP, rL_uQ, rL_aA, rL_aB, rL_aQ, rA_uI, rA_uL, rA_uA, rA_uB, rA_uP, rA_uQ, rA_aA, rA_aB, rA_aQ, rB_uI, rB_uL, rB_uA, rB_uB, rB_uP, rB_uQ, rB_aA, rB_aB, rB_aQ, rP_uI, rP_uL, rP_uA, rP_uB, rP_uP, rP_uQ, rP_aA, rP_aB, rP_aQ, rQ_uI, rQ_uL, rQ_uA, rQ_uB, rQ_uP, rQ_uQ, rQ_aA, rQ_aB, rQ_aQ, rT_uI, rT_uL, rT_uA, rT_uB, rT_uP, rT_uQ, rT_aA, rT_aB, rT_aQ, rz_uI, rz_uL, rz_uA, rz_uB, rz_uP, rz_uQ, rz_aA, rz_aB, rz_aQ, rtI_L, rtI_A, rtI_B, rtL_I, rtL_A, rtL_B, rtA_I, rtA_L, rtA_B, rtB_I, rtB_L, rtB_A, rtI_I, rtL_L, rtA_A, rtA_An, rtB_B, rtB_Bn, updL_eq, updL_ne]
  by_cases c1 : inB a1 0 3
  · simp only [if_pos c1]
    obtain ⟨k, hk, rfl⟩ := inB_nat' (m := 3) c1
    by_cases c2 : inB a2 0 4
    · obtain ⟨j, hj, rfl⟩ := inB_nat' (m := 4) c2
      simp only [if_pos c2]
      by_cases c3 : inB a3 0 500
      · obtain ⟨i, hi, rfl⟩ := inB_nat' (m := 500) c3
        simp only [if_pos c3, c_feet hk hj hi, t_feet hk hj hi, pl_bd]
        exact Same.ans h
      · simp only [if_neg c3]; exact Same.refL h (by decide)
    · simp only [if_neg c2]; exact Same.refL h (by decide)
  · simp only [if_neg c1]; exact Same.refL h (by decide)
end PM1
