/-! PLAIN LAW, METHODS 4: stand -/
section PM4
variable {u u1 : CS} {t t1 : TS} {N F : Nat} {s : Nat → Int32}
/-- the twin's new stand is all 0 first -/
theorem t_zero (x1 x2 x3 x4 : Int32) {p : Nat} (hp : p + 14 ≤ 4536) : ∀ (d f : Nat) (t : TS), d ≤ 14 → ∃ t1, fX7_stand_126 N (d + f) t x1 x2 x3 x4 (Int32.ofNat p) (Int32.ofNat (14 - d)) = fX7_stand_126 N f t1 x1 x2 x3 x4 (Int32.ofNat p) (Int32.ofNat 14) ∧ t1.1 = t.1 ∧ t1.2.1 = t.2.1 ∧ t1.2.2.2 = t.2.2.2 ∧ (∀ a, a ≠ 1 → t1.2.2.1 a = t.2.2.1 a) ∧ ∀ i, tS t1 i = if p + (14 - d) ≤ i ∧ i < p + 14 then 0 else tS t i
  | 0, f, t, _ => by
    refine ⟨t, by rw [Nat.zero_add], rfl, rfl, rfl, fun _ _ => rfl, fun i => ?_⟩
    rw [if_neg (by omega)]
  | d + 1, f, t, hd => by
    obtain ⟨t1, e, e1, e2, e3, e4, e5⟩ := t_zero x1 x2 x3 x4 hp d f (mt_uA t 1 (p + (14 - (d + 1))) 0) (by omega)
    refine ⟨t1, ?_, e1, e2, e3, fun a ha => (e4 a ha).trans (rtA_An ha), fun i => ?_⟩
    · rw [← e, show d + 1 + f = d + f + 1 by omega]
      show (if _ then _ else _) = _
      simp (disch := omega) only [pl_bd, pl_bd2, pl_nm, pl_id, pl_ald, pl_ast, pl_aldL, pl_astL, pl_nc, pl_ncL, pl_add, pl_addL, pl_addR, pl_mul, pl_mulL, pl_mulR, pl_sub, pl_subL, pl_eq, pl_eqL, pl_eqR, pl_eqN, pl_le, pl_leL, pl_leR, pl_lt, pl_ltL, pl_ltR, pl_div, pl_divL, pl_01, pl_bl, pl_bl0, pl_bl1, ite_not, c_in, t_in, Int32.reduceToInt, Int64.reduceToInt, upd_eq, upd_ne, up2_eq, up2_nk, vq2_ne, up1_eq, vq1_ne, Nat.reduceAdd, Nat.reduceMul, if_true, if_false, rI_uI, rI_uL, rI_uA, rI_uB, rI_uP, rI_uQ, rI_aA, rI_aB, rI_aQ, rL_uI, rL_uL, rL_uA, rL_uB, rL_uP, rL_uQ, rL_aA, rL_aB, rL_aQ, rA_uI, rA_uL, rA_uA, rA_uB, rA_uP, rA_uQ, rA_aA, rA_aB, rA_aQ, rB_uI, rB_uL, rB_uA, rB_uB, rB_uP, rB_uQ, rB_aA, rB_aB, rB_aQ, rP_uI, rP_uL, rP_uA, rP_uB, rP_uP, rP_uQ, rP_aA, rP_aB, rP_aQ, rQ_uI, rQ_uL, rQ_uA, rQ_uB, rQ_uP, rQ_uQ, rQ_aA, rQ_aB, rQ_aQ, rT_uI, rT_uL, rT_uA, rT_uB, rT_uP, rT_uQ, rT_aA, rT_aB, rT_aQ, rz_uI, rz_uL, rz_uA, rz_uB, rz_uP, rz_uQ, rz_aA, rz_aB, rz_aQ, rtI_L, rtI_A, rtI_B, rtL_I, rtL_A, rtL_B, rtA_I, rtA_L, rtA_B, rtB_I, rtB_L, rtB_A, rtI_I, rtL_L, rtA_A, rtA_An, rtB_B, rtB_Bn, updL_eq, updL_ne]
      rw [if_neg (by omega), show 14 - (d + 1) + 1 = 14 - d by omega]
    · rw [e5 i]
      show (if p + (14 - d) ≤ i ∧ i < p + 14 then 0 else upd (tS t) (p + (14 - (d + 1))) 0 i) = _
      by_cases c : i = p + (14 - (d + 1))
      · rw [if_neg (by omega), c, upd_eq, if_pos (by omega)]
      · rw [upd_ne c]
        by_cases c2 : p + (14 - d) ≤ i ∧ i < p + 14
        · rw [if_pos c2, if_pos (by omega)]
        · rw [if_neg c2, if_neg (by omega)]
/-- a new stand's cells -/
theorem stand_new (hN : 100000 ≤ N) (h : RR u t) {k n : Nat} {a2 a3 a4 : Int32} (hn : n < 24) (e1 : wc_I u 3 1 = Int32.ofNat n) (e2 : tS t 1 = Int32.ofNat n) (hk : k ≤ 1999) (h1 : k / 100 % 10 < 6) (h2 : k / 10 % 10 ≤ 4) (h3 : k % 10 ≤ 3) (c2 : inB a2 1 999) (c3 : inB a3 0 400) (c4 : inB a4 0 100) (c5 : a4 = 0 → a3 = 0) :
    Same 0 u (fX0_stand_72 N u (Int32.ofNat k) a2 a3 a4) (fX7_stand_91 N t (Int32.ofNat k) a2 a3 a4) := by
  obtain ⟨t0, z0, z1, z2, z3, z4, z5⟩ := t_zero (N := N) (Int32.ofNat k) a2 a3 a4 (p := 16 + 14 * n) (by omega) 14 (N - 14) t (by omega)
  rw [show 14 + (N - 14) = N - 15 + 1 + 14 by omega] at z0
  have eN : N = N - 15 + 1 + 14 := by omega
  have eN' : N - 14 = N - 15 + 1 := by omega
  have zz : ∀ i, fr_cls i ≤ 5 → tS t0 i = tS t i := by
    intro i hi
    rw [z5 i]
    by_cases c : 16 + 14 * n + (14 - 14) ≤ i ∧ i < 16 + 14 * n + 14
    · rw [if_pos c]
      have hw : i - (16 + 14 * n) < 12 := by
        rcases Nat.lt_or_ge (i - (16 + 14 * n)) 12 with q | q
        · exact q
        · exfalso
          unfold fr_cls at hi
          rw [if_neg (by omega), if_neg (by omega), if_neg (by omega), if_pos (by omega), if_neg (by omega)] at hi
          by_cases c6 : (i - 16) % 14 = 12
          · rw [if_pos c6] at hi; omega
          · rw [if_neg c6] at hi; omega
      have q := h.f.x.2.2.1 n (i - (16 + 14 * n)) hn (by rw [e2, pl_ti (by omega)]; omega) hw
      rw [show 16 + 14 * n + (i - (16 + 14 * n)) = i by omega] at q
      exact q.symm
    · rw [if_neg c]
  have e2' : t0.2.2.1 1 1 = Int32.ofNat n := (zz 1 (by decide)).trans e2
  have f0 := h.f.cgS (by omega) zz
  rw [show tB t = tB t0 by show t.2.2.2 2 = t0.2.2.2 2; rw [z3]] at f0
  unfold fX0_stand_72 fX7_stand_91
  have e2'' : t.2.2.1 1 1 = Int32.ofNat n := e2
  simp (disch := omega) only [pl_bd, pl_bd2, pl_nm, pl_id, pl_ald, pl_ast, pl_aldL, pl_astL, pl_nc, pl_ncL, pl_add, pl_addL, pl_addR, pl_mul, pl_mulL, pl_mulR, pl_sub, pl_subL, pl_eq, pl_eqL, pl_eqR, pl_eqN, pl_le, pl_leL, pl_leR, pl_lt, pl_ltL, pl_ltR, pl_div, pl_divL, pl_01, pl_bl, pl_bl0, pl_bl1, ite_not, c_in, t_in, Int32.reduceToInt, Int64.reduceToInt, upd_eq, upd_ne, up2_eq, up2_nk, vq2_ne, up1_eq, vq1_ne, Nat.reduceAdd, Nat.reduceMul, if_true, if_false, rI_uI, rI_uL, rI_uA, rI_uB, rI_uP, rI_uQ, rI_aA, rI_aB, rI_aQ, rL_uI, rL_uL, rL_uA, rL_uB, rL_uP, rL_uQ, rL_aA, rL_aB, rL_aQ, rA_uI, rA_uL, rA_uA, rA_uB, rA_uP, rA_uQ, rA_aA, rA_aB, rA_aQ, rB_uI, rB_uL, rB_uA, rB_uB, rB_uP, rB_uQ, rB_aA, rB_aB, rB_aQ, rP_uI, rP_uL, rP_uA, rP_uB, rP_uP, rP_uQ, rP_aA, rP_aB, rP_aQ, rQ_uI, rQ_uL, rQ_uA, rQ_uB, rQ_uP, rQ_uQ, rQ_aA, rQ_aB, rQ_aQ, rT_uI, rT_uL, rT_uA, rT_uB, rT_uP, rT_uQ, rT_aA, rT_aB, rT_aQ, rz_uI, rz_uL, rz_uA, rz_uB, rz_uP, rz_uQ, rz_aA, rz_aB, rz_aQ, rtI_L, rtI_A, rtI_B, rtL_I, rtL_A, rtL_B, rtA_I, rtA_L, rtA_B, rtB_I, rtB_L, rtB_A, rtI_I, rtL_L, rtA_A, rtA_An, rtB_B, rtB_Bn, updL_eq, updL_ne, e1, e2'']
  rw [if_neg (by omega), if_neg (by omega)]
  have zq : fX7_stand_126 N N t (Int32.ofNat k) a2 a3 a4 (Int32.ofNat (16 + 14 * n)) 0 = fX7_stand_126 N (N - 15 + 1) t0 (Int32.ofNat k) a2 a3 a4 (Int32.ofNat (16 + 14 * n)) (Int32.ofNat 14) := by
    rw [← eN', ← z0, ← eN]
    rfl
  rw [zq]
  have fin : fX7_stand_126 N (N - 15 + 1) t0 (Int32.ofNat k) a2 a3 a4 (Int32.ofNat (16 + 14 * n)) (Int32.ofNat 14) = some (Int32.ofNat n, mt_uA (mt_uA (mt_uA (mt_uA (mt_uA (mt_uA (mt_uA (mt_uA (mt_uA (mt_uA t0 1 (16 + 14 * n + 3) (Int32.ofNat (k / 1000))) 1 (16 + 14 * n + 0) (Int32.ofNat (k / 100 - k / 100 / 10 * 10))) 1 (16 + 14 * n + 1) (Int32.ofNat (k / 10 - k / 10 / 10 * 10))) 1 (16 + 14 * n + 2) (Int32.ofNat (k - k / 10 * 10))) 1 (16 + 14 * n + 4) a2) 1 (16 + 14 * n + 5) a3) 1 (16 + 14 * n + 6) a4) 1 (16 + 14 * n + 9) (-1)) 1 (16 + 14 * n + 10) (-1)) 1 1 (Int32.ofNat (n + 1))) := by
    show (if _ then _ else _) = _
    simp (disch := omega) only [pl_bd, pl_bd2, pl_nm, pl_id, pl_ald, pl_ast, pl_aldL, pl_astL, pl_nc, pl_ncL, pl_add, pl_addL, pl_addR, pl_mul, pl_mulL, pl_mulR, pl_sub, pl_subL, pl_eq, pl_eqL, pl_eqR, pl_eqN, pl_le, pl_leL, pl_leR, pl_lt, pl_ltL, pl_ltR, pl_div, pl_divL, pl_01, pl_bl, pl_bl0, pl_bl1, ite_not, c_in, t_in, Int32.reduceToInt, Int64.reduceToInt, upd_eq, upd_ne, up2_eq, up2_nk, vq2_ne, up1_eq, vq1_ne, Nat.reduceAdd, Nat.reduceMul, if_true, if_false, rI_uI, rI_uL, rI_uA, rI_uB, rI_uP, rI_uQ, rI_aA, rI_aB, rI_aQ, rL_uI, rL_uL, rL_uA, rL_uB, rL_uP, rL_uQ, rL_aA, rL_aB, rL_aQ, rA_uI, rA_uL, rA_uA, rA_uB, rA_uP, rA_uQ, rA_aA, rA_aB, rA_aQ, rB_uI, rB_uL, rB_uA, rB_uB, rB_uP, rB_uQ, rB_aA, rB_aB, rB_aQ, rP_uI, rP_uL, rP_uA, rP_uB, rP_uP, rP_uQ, rP_aA, rP_aB, rP_aQ, rQ_uI, rQ_uL, rQ_uA, rQ_uB, rQ_uP, rQ_uQ, rQ_aA, rQ_aB, rQ_aQ, rT_uI, rT_uL, rT_uA, rT_uB, rT_uP, rT_uQ, rT_aA, rT_aB, rT_aQ, rz_uI, rz_uL, rz_uA, rz_uB, rz_uP, rz_uQ, rz_aA, rz_aB, rz_aQ, rtI_L, rtI_A, rtI_B, rtL_I, rtL_A, rtL_B, rtA_I, rtA_L, rtA_B, rtB_I, rtB_L, rtB_A, rtI_I, rtL_L, rtA_A, rtA_An, rtB_B, rtB_Bn, updL_eq, updL_ne, e2', if_pos (show 14 ≤ 14 from Nat.le_refl _), Nat.add_sub_cancel]
  rw [fin]
  have g1 := gq_sp (k := n) (v := Int32.ofNat (k / 1000)) (by omega) f0.o hn (by rw [pl_ti (by omega)]; omega) (by rw [pl_ti (by omega)]; omega)
  have g2 := gq_bl (k := n) (v := Int32.ofNat (k / 100 - k / 100 / 10 * 10)) (by omega) g1 hn (by rw [pl_ti (by omega)]; omega) (by rw [pl_ti (by omega)]; omega)
  have g3 := gq_si (k := n) (v := Int32.ofNat (k / 10 - k / 10 / 10 * 10)) (by omega) g2 hn (by rw [pl_ti (by omega)]; omega) (by rw [pl_ti (by omega)]; omega)
  have g4 := gq_ki (k := n) (v := Int32.ofNat (k - k / 10 * 10)) (by omega) g3 hn (by rw [pl_ti (by omega)]; omega) (by rw [pl_ti (by omega)]; omega)
  have g5 := gq_ac (k := n) (v := a2) (by omega) g4 hn (by have := c2.1; omega) c2.2
  have g6 := gq_ag (k := n) (v := a3) (by omega) g5 hn c3.1 c3.2
  have g7 := gq_fu (k := n) (v := a4) (by omega) g6 hn c4.1 c4.2
  have g8 := gq_cu (k := n) (v := -1) (by omega) g7 hn (by decide) (by decide)
  have g9 := gq_pl (k := n) (v := -1) (by omega) g8 hn (by decide) (by decide)
  have s1 : (Int32.ofNat n).toInt = n := pl_ti (by omega)
  have s2 : (Int32.ofNat (n + 1)).toInt = ((n + 1 : Nat) : Int) := pl_ti (by omega)
  have gA := g9.putS (x := (1, 1, 0, 24)) (v := Int32.ofNat (n + 1)) (by omega) (by decide) (by rw [s2]; show (0 : Int) ≤ _; omega) (by rw [s2]; show _ ≤ (24 : Int); omega) (g9.m.s1 (by simp (disch := omega) only [upd_ne]; rw [show tS t0 1 = _ from e2', s1, s2]; omega)) (g9.l.put (by omega) (by decide) (by decide))
  have X := f0.x
  have T1 : (tS t0 1).toInt = n := by rw [show tS t0 1 = _ from e2']; exact s1
  refine ⟨_, _, _, rfl, rfl, h.nxK ((((((((((NX.rfl'.uA (by unfold InF; omega)).uA (by unfold InF; omega)).uA (by unfold InF; omega)).uA (by unfold InF; omega)).uA (by unfold InF; omega)).uA (by unfold InF; omega)).uA (by unfold InF; omega)).uA (by unfold InF; omega)).uA (by unfold InF; omega)).uI (by omega)) ?_ ?_ (gA.mk ?_), Nat.le_refl _, Nat.le_refl _⟩
  · have b : TSm t t0 := ⟨fun k _ => by rw [z1], fun k hk => z4 k (by omega), by rw [z3]⟩
    exact (((((((((b.trans TSm.uA1).trans TSm.uA1).trans TSm.uA1).trans TSm.uA1).trans TSm.uA1).trans TSm.uA1).trans TSm.uA1).trans TSm.uA1).trans TSm.uA1).trans TSm.uA1
  · obtain ⟨k1, k2, k3⟩ := h.k
    have e2n : (tS t 1).toNatClampNeg = n := by rw [e2]; exact pl_nc (by omega)
    rw [e2n] at k2
    unfold KR
    simp (disch := omega) only [tS, rtA_A, upd_eq, upd_ne, pl_nc]
    have q8 : t0.2.2.1 1 8 = t.2.2.1 1 8 := by have := z5 8; rw [if_neg (by omega)] at this; exact this
    have q9 : t0.2.2.1 1 9 = t.2.2.1 1 9 := by have := z5 9; rw [if_neg (by omega)] at this; exact this
    refine ⟨k1, Int.lt_of_lt_of_le k2 (by
      have := Nat.pow_le_pow_right (show 0 < 2 by omega) (show n ≤ n + 1 by omega)
      exact_mod_cast this), ?_⟩
    rw [q8, q9]
    rcases k3 with e | ⟨d1, d2, d3, d4⟩
    · exact Or.inl e
    · refine Or.inr ⟨d1, d2, d3, fun k' hk' hb => ?_⟩
      have kn : k' ≠ n := fun e => by
        subst e
        rw [Int.ediv_eq_zero_of_lt k1 k2] at hb
        omega
      have := z5 (16 + 14 * k' + 12)
      rw [if_neg (by omega)] at this
      try simp (disch := omega) only [upd_ne]
      rw [show t0.2.2.1 1 (16 + 14 * k' + 12) = _ from this]
      exact d4 k' hk' hb
  · unfold FRx
    simp (disch := omega) only [upd_eq, upd_ne, s2]
    refine ⟨fun k' hk' q => ?_, fun k' hk' => ?_, fun k' w hk' q hw => ?_, fun m hm q => ?_, fun m hm q => ?_, fun w hw => ?_, fun w hw q => ?_⟩
    · by_cases c : k' = n
      · subst c
        try simp (disch := omega) only [upd_eq, upd_ne]
        exact c2.1
      · try simp (disch := omega) only [upd_eq, upd_ne]
        exact X.1 k' hk' (by rw [T1]; omega)
    · by_cases c : k' = n
      · subst c
        try simp (disch := omega) only [upd_eq, upd_ne]
        exact c5
      · try simp (disch := omega) only [upd_eq, upd_ne]
        exact X.2.1 k' hk'
    · try simp (disch := omega) only [upd_eq, upd_ne]
      exact X.2.2.1 k' w hk' (by rw [T1]; omega) hw
    · try simp (disch := omega) only [upd_eq, upd_ne]
      exact X.2.2.2.1 m hm q
    · try simp (disch := omega) only [upd_eq, upd_ne]
      have := X.2.2.2.2.1 m hm q
      rw [T1] at this
      omega
    · try simp (disch := omega) only [upd_eq, upd_ne]
      exact X.2.2.2.2.2.1 w hw
    · try simp (disch := omega) only [upd_eq, upd_ne]
      exact X.2.2.2.2.2.2 w hw q
theorem m_stand (hN : 100000 ≤ N) (h : RR u t) (a1 a2 a3 a4 : Int32) : Same 0 u (fX0_stand N u a1 a2 a3 a4) (fX7_stand N t a1 a2 a3 a4) := by
  obtain ⟨n, hn, e1, e2⟩ := fs_st h.f.n
  have rf : Same 0 u (fX0_refuse N u (-7)) (fX7_refuse N t (-7)) := Same.refL h (by decide)
  by_cases c1 : inB a1 0 1999
  · obtain ⟨k, hk, rfl⟩ := inB_nat' (m := 1999) c1
    unfold fX0_stand fX0_isStandTold fX0_isStandTold_48 fX0_isStandTold_49 fX0_stand_48 fX0_stand_49 fX0_stand_65 fX7_stand fX7_stand_84
    simp (disch := omega) only [pl_bd, pl_bd2, pl_nm, pl_id, pl_ald, pl_ast, pl_aldL, pl_astL, pl_nc, pl_ncL, pl_add, pl_addL, pl_addR, pl_mul, pl_mulL, pl_mulR, pl_sub, pl_subL, pl_eq, pl_eqL, pl_eqR, pl_eqN, pl_le, pl_leL, pl_leR, pl_lt, pl_ltL, pl_ltR, pl_div, pl_divL, pl_01, pl_bl, pl_bl0, pl_bl1, ite_not, c_in, t_in, Int32.reduceToInt, Int64.reduceToInt, upd_eq, upd_ne, up2_eq, up2_nk, vq2_ne, up1_eq, vq1_ne, Nat.reduceAdd, Nat.reduceMul, if_true, if_false, rI_uI, rI_uL, rI_uA, rI_uB, rI_uP, rI_uQ, rI_aA, rI_aB, rI_aQ, rL_uI, rL_uL, rL_uA, rL_uB, rL_uP, rL_uQ, rL_aA, rL_aB, rL_aQ, rA_uI, rA_uL, rA_uA, rA_uB, rA_uP, rA_uQ, rA_aA, rA_aB, rA_aQ, rB_uI, rB_uL, rB_uA, rB_uB, rB_uP, rB_uQ, rB_aA, rB_aB, rB_aQ, rP_uI, rP_uL, rP_uA, rP_uB, rP_uP, rP_uQ, rP_aA, rP_aB, rP_aQ, rQ_uI, rQ_uL, rQ_uA, rQ_uB, rQ_uP, rQ_uQ, rQ_aA, rQ_aB, rQ_aQ, rT_uI, rT_uL, rT_uA, rT_uB, rT_uP, rT_uQ, rT_aA, rT_aB, rT_aQ, rz_uI, rz_uL, rz_uA, rz_uB, rz_uP, rz_uQ, rz_aA, rz_aB, rz_aQ, rtI_L, rtI_A, rtI_B, rtL_I, rtL_A, rtL_B, rtA_I, rtA_L, rtA_B, rtB_I, rtB_L, rtB_A, rtI_I, rtL_L, rtA_A, rtA_An, rtB_B, rtB_Bn, updL_eq, updL_ne, if_pos c1]
    rw [if_neg (by omega), if_neg (by omega)]
    by_cases d1 : 6 ≤ k / 100 - k / 100 / 10 * 10
    · simp only [if_pos d1, pl_bl0, pl_bd, if_true]; exact rf
    simp only [if_neg d1]
    by_cases d2 : 4 < k / 10 - k / 10 / 10 * 10
    · simp only [if_pos d2, pl_bl0, pl_bd, if_true]; exact rf
    simp only [if_neg d2]
    by_cases d3 : 3 < k - k / 10 * 10
    · simp only [if_pos d3, pl_bl0, pl_bd, if_true]; exact rf
    simp only [if_neg d3, pl_bl1, pl_bd, if_neg (show ¬ ((1 : Int32) = 0) by decide)]
    by_cases c2 : inB a2 1 999
    · simp only [if_pos c2]
      by_cases c3 : inB a3 0 400
      · simp only [if_pos c3]
        by_cases c4 : inB a4 0 100
        · simp only [if_pos c4]
          have go : (a4 = 0 → a3 = 0) → Same 0 u (fX0_stand_72 N u (Int32.ofNat k) a2 a3 a4) (fX7_stand_91 N t (Int32.ofNat k) a2 a3 a4) := by
            intro c5
            by_cases c6 : n = 24
            · unfold fX0_stand_72 fX7_stand_91
              have e2 : t.2.2.1 1 1 = Int32.ofNat n := e2
              simp (disch := omega) only [pl_bd, pl_bd2, pl_nm, pl_id, pl_ald, pl_ast, pl_aldL, pl_astL, pl_nc, pl_ncL, pl_add, pl_addL, pl_addR, pl_mul, pl_mulL, pl_mulR, pl_sub, pl_subL, pl_eq, pl_eqL, pl_eqR, pl_eqN, pl_le, pl_leL, pl_leR, pl_lt, pl_ltL, pl_ltR, pl_div, pl_divL, pl_01, pl_bl, pl_bl0, pl_bl1, ite_not, c_in, t_in, Int32.reduceToInt, Int64.reduceToInt, upd_eq, upd_ne, up2_eq, up2_nk, vq2_ne, up1_eq, vq1_ne, Nat.reduceAdd, Nat.reduceMul, if_true, if_false, rI_uI, rI_uL, rI_uA, rI_uB, rI_uP, rI_uQ, rI_aA, rI_aB, rI_aQ, rL_uI, rL_uL, rL_uA, rL_uB, rL_uP, rL_uQ, rL_aA, rL_aB, rL_aQ, rA_uI, rA_uL, rA_uA, rA_uB, rA_uP, rA_uQ, rA_aA, rA_aB, rA_aQ, rB_uI, rB_uL, rB_uA, rB_uB, rB_uP, rB_uQ, rB_aA, rB_aB, rB_aQ, rP_uI, rP_uL, rP_uA, rP_uB, rP_uP, rP_uQ, rP_aA, rP_aB, rP_aQ, rQ_uI, rQ_uL, rQ_uA, rQ_uB, rQ_uP, rQ_uQ, rQ_aA, rQ_aB, rQ_aQ, rT_uI, rT_uL, rT_uA, rT_uB, rT_uP, rT_uQ, rT_aA, rT_aB, rT_aQ, rz_uI, rz_uL, rz_uA, rz_uB, rz_uP, rz_uQ, rz_aA, rz_aB, rz_aQ, rtI_L, rtI_A, rtI_B, rtL_I, rtL_A, rtL_B, rtA_I, rtA_L, rtA_B, rtB_I, rtB_L, rtB_A, rtI_I, rtL_L, rtA_A, rtA_An, rtB_B, rtB_Bn, updL_eq, updL_ne, e1, e2]
              simp only [if_pos c6]
              exact Same.refL h (by decide)
            · exact stand_new hN h (by omega) e1 e2 hk (by omega) (by omega) (by omega) c2 c3 c4 c5
          by_cases c5 : a4 = 0
          · simp only [if_pos c5]
            by_cases c6 : a3 ≤ 0
            · simp only [if_pos c6]
              refine go (fun _ => Int32.toInt_inj.mp ?_)
              rw [Int32.le_iff_toInt_le] at c6
              have e0 : (0 : Int32).toInt = 0 := rfl
              have := c3.1
              omega
            · simp only [if_neg c6]; exact rf
          · simp only [if_neg c5]
            exact go (fun q => absurd q c5)
        · simp only [if_neg c4, if_true]; exact rf
      · simp only [if_neg c3, if_true]; exact rf
    · simp only [if_neg c2, if_true]; exact rf
  · have e : fX0_isStandTold a1 = some 0 := by
      unfold fX0_isStandTold fX0_isStandTold_48 fX0_isStandTold_49
      by_cases d : a1 < 0
      · rw [if_pos d]; rfl
      · rw [if_neg d]
        rw [Int32.lt_iff_toInt_lt] at d
        have e0 : (0 : Int32).toInt = 0 := rfl
        have d' : (0 : Int) ≤ a1.toInt := by omega
        have l : a1.toInt < 2147483648 := Int32.toInt_lt a1
        obtain ⟨k, hk, rfl⟩ := pl_nat (m := 2147483647) d' (by omega)
        have hk2 : 2000 ≤ k := by
          rcases Nat.lt_or_ge k 2000 with q | q
          · exact absurd ⟨by rw [pl_ti (by omega)]; omega, by rw [pl_ti (by omega)]; omega⟩ c1
          · exact q
        rw [pl_divL (by omega) (by omega), if_pos (by rw [pl_ltR (by omega) (by omega)]; omega)]
        rfl
    unfold fX0_stand fX0_stand_48 fX0_stand_49 fX0_stand_65 fX7_stand fX7_stand_84
    rw [e]
    simp only [pl_bd, pl_bd2, pl_nm, pl_id, pl_ald, pl_ast, pl_aldL, pl_astL, pl_nc, pl_ncL, pl_add, pl_addL, pl_addR, pl_mul, pl_mulL, pl_mulR, pl_sub, pl_subL, pl_eq, pl_eqL, pl_eqR, pl_eqN, pl_le, pl_leL, pl_leR, pl_lt, pl_ltL, pl_ltR, pl_div, pl_divL, pl_01, pl_bl, pl_bl0, pl_bl1, ite_not, c_in, t_in, Int32.reduceToInt, Int64.reduceToInt, upd_eq, upd_ne, up2_eq, up2_nk, vq2_ne, up1_eq, vq1_ne, Nat.reduceAdd, Nat.reduceMul, if_true, if_false, rI_uI, rI_uL, rI_uA, rI_uB, rI_uP, rI_uQ, rI_aA, rI_aB, rI_aQ, rL_uI, rL_uL, rL_uA, rL_uB, rL_uP, rL_uQ, rL_aA, rL_aB, rL_aQ, rA_uI, rA_uL, rA_uA, rA_uB, rA_uP, rA_uQ, rA_aA, rA_aB, rA_aQ, rB_uI, rB_uL, rB_uA, rB_uB, rB_uP, rB_uQ, rB_aA, rB_aB, rB_aQ, rP_uI, rP_uL, rP_uA, rP_uB, rP_uP, rP_uQ, rP_aA, rP_aB, rP_aQ, rQ_uI, rQ_uL, rQ_uA, rQ_uB, rQ_uP, rQ_uQ, rQ_aA, rQ_aB, rQ_aQ, rT_uI, rT_uL, rT_uA, rT_uB, rT_uP, rT_uQ, rT_aA, rT_aB, rT_aQ, rz_uI, rz_uL, rz_uA, rz_uB, rz_uP, rz_uQ, rz_aA, rz_aB, rz_aQ, rtI_L, rtI_A, rtI_B, rtL_I, rtL_A, rtL_B, rtA_I, rtA_L, rtA_B, rtB_I, rtB_L, rtB_A, rtI_I, rtL_L, rtA_A, rtA_An, rtB_B, rtB_Bn, updL_eq, updL_ne, if_neg c1]
    exact rf
end PM4
