/-! PLAIN LAW, METHODS 10: bits; planned -/
theorem pl_31 {k : Nat} (hk : k < 24) : Int32.ofNat k &&& 31 = Int32.ofNat k := by
  have : ∀ k : Fin 24, Int32.ofNat k.1 &&& 31 = Int32.ofNat k.1 := by decide
  exact this ⟨k, hk⟩
theorem pl_shr (K : Int32) {k : Nat} (hk : k < 24) : (K >>> (Int32.ofNat k &&& 31)).toInt = K.toInt / 2 ^ k := by
  rw [pl_31 hk]
  show (K >>> Int32.ofNat k).toBitVec.toInt = _
  rw [Int32.toBitVec_shiftRight, BitVec.toInt_sshiftRight']
  have : ∀ k : Fin 24, ((Int32.ofNat k.1).toBitVec.smod 32).toNat = k.1 := by decide
  have e : ((Int32.ofNat k).toBitVec.smod 32).toNat = k := this ⟨k, hk⟩
  rw [e, Int.shiftRight_eq_div_pow]
  exact congrArg (fun x => K.toInt / x) (by exact_mod_cast rfl)
theorem pl_and1 {n : Nat} (h : n < 2147483648) : Int32.ofNat n &&& 1 = Int32.ofNat (n % 2) := by
  apply Int32.toBitVec_inj.mp
  apply BitVec.eq_of_toNat_eq
  show (BitVec.ofNat 32 n &&& 1#32).toNat = (BitVec.ofNat 32 (n % 2)).toNat
  rw [BitVec.toNat_and, BitVec.toNat_ofNat, BitVec.toNat_ofNat]
  have e : n % 2 ^ 32 = n := Nat.mod_eq_of_lt (by omega)
  rw [e]
  have : n &&& 1 = n % 2 := Nat.and_two_pow_sub_one_eq_mod n 1
  rw [BitVec.toNat_ofNat, show 1 % 2 ^ 32 = 1 from rfl, this]
  omega
/-- a bit of a set that is no negative number -/
theorem pl_bit {K : Int32} (h0 : 0 ≤ K.toInt) {k : Nat} (hk : k < 24) : (K >>> (Int32.ofNat k &&& 31)) &&& 1 = if (K.toInt / 2 ^ k) % 2 = 1 then 1 else 0 := by
  have e := pl_shr K hk
  have p : (0 : Int) < 2 ^ k := Int.pow_pos (by omega)
  have q0 : 0 ≤ K.toInt / 2 ^ k := Int.ediv_nonneg h0 (Int.le_of_lt p)
  have l := Int32.toInt_lt (K >>> (Int32.ofNat k &&& 31))
  obtain ⟨n, hn, en⟩ := pl_nat (x := K >>> (Int32.ofNat k &&& 31)) (m := 2147483647) (by rw [e]; exact q0) (by omega)
  rw [en, pl_ti (by omega)] at e
  rw [en, pl_and1 (by omega), ← e]
  by_cases c : n % 2 = 1
  · rw [c, if_pos (by omega)]; rfl
  · rw [show n % 2 = 0 by omega, if_neg (by omega)]; rfl
section PN0
variable {u u1 : CS} {t t1 : TS} {N F : Nat} {s : Nat → Int32} {b : Nat → Int64}
theorem m_planned (h : RR u t) (a1 : Int32) : Same 0 u (fX0_planned N u a1) (fX7_planned N t a1) := by
  obtain ⟨n, hn, e1, e2⟩ := fs_st h.f.n
  obtain ⟨k1, k2, k3⟩ := h.k
  unfold fX0_planned fX0_planned_43 fX0_planned_49 fX7_planned fX7_planned_39 fX7_planned_55
  simp (disch := omega) only [c_isStand hn e1, t_isStand hn e2, pl_bd, pl_bd2, pl_nm, pl_id, pl_ald, pl_ast, pl_aldL, pl_astL, pl_nc, pl_ncL, pl_add, pl_addL, pl_addR, pl_mul, pl_mulL, pl_mulR, pl_sub, pl_subL, pl_eq, pl_eqL, pl_eqR, pl_eqN, pl_le, pl_leL, pl_leR, pl_lt, pl_ltL, pl_ltR, pl_div, pl_divL, pl_01, pl_bl, pl_bl0, pl_bl1, ite_not, c_in, t_in, Int32.reduceToInt, Int64.reduceToInt, upd_eq, upd_ne, up2_eq, up2_nk, vq2_ne, up1_eq, vq1_ne, Nat.reduceAdd, Nat.reduceMul, if_true, if_false, rI_uI, rI_uL, rI_uA, rI_uB, rI_uP, rI_uQ, rI_aA, rI_aB, rI_aQ, rL_uI, rL_uL, rL_uA, rL_uB, rL_uP, rL_uQ, rL_aA, rL_aB, rL_aQ, rA_uI, rA_uL, rA_uA, rA_uB, rA_uP, rA_uQ, rA_aA, rA_aB, rA_aQ, rB_uI, rB_uL, rB_uA, rB_uB, rB_uP, rB_uQ, rB_aA, rB_aB, rB_aQ, rP_uI, rP_uL, rP_uA, rP_uB, rP_uP, rP_uQ, rP_aA, rP_aB, rP_aQ, rQ_uI, rQ_uL, rQ_uA, rQ_uB, rQ_uP, rQ_uQ, rQ_aA, rQ_aB, rQ_aQ, rT_uI, rT_uL, rT_uA, rT_uB, rT_uP, rT_uQ, rT_aA, rT_aB, rT_aQ, rz_uI, rz_uL, rz_uA, rz_uB, rz_uP, rz_uQ, rz_aA, rz_aB, rz_aQ, rtI_L, rtI_A, rtI_B, rtL_I, rtL_A, rtL_B, rtA_I, rtA_L, rtA_B, rtB_I, rtB_L, rtB_A, rtI_I, rtL_L, rtA_A, rtA_An, rtB_B, rtB_Bn, updL_eq, updL_ne]
  rcases k3 with ⟨z1, z2⟩ | ⟨d1, d2, d3, d4⟩
  · have z2 : t.2.2.1 1 8 = 0 := z2
    simp only [z1, z2, if_true]
    exact Same.refL h (by decide)
  · have d2 : t.2.2.1 1 8 = 1 := d2
    have d3 : t.2.2.1 1 9 = wc_I u 0 21 := d3
    simp only [if_neg d1, d2, if_neg (show ¬ ((1 : Int32) = 0) by decide), d3]
    by_cases c1 : inB a1 0 ((n : Int) - 1)
    · simp only [if_pos c1]
      obtain ⟨k, hk, rfl⟩ := inB_nat c1
      have hk8 : k < 24 := by omega
      simp only [pl_bit k1 hk8]
      by_cases c2 : (wc_I u 0 21).toInt / 2 ^ k % 2 = 1
      · simp only [if_pos c2, if_true, if_neg (show ¬ ((1 : Int32) = 0) by decide)]
        simp (disch := omega) only [pl_bd, pl_bd2, pl_nm, pl_id, pl_ald, pl_ast, pl_aldL, pl_astL, pl_nc, pl_ncL, pl_add, pl_addL, pl_addR, pl_mul, pl_mulL, pl_mulR, pl_sub, pl_subL, pl_eq, pl_eqL, pl_eqR, pl_eqN, pl_le, pl_leL, pl_leR, pl_lt, pl_ltL, pl_ltR, pl_div, pl_divL, pl_01, pl_bl, pl_bl0, pl_bl1, ite_not, c_in, t_in, Int32.reduceToInt, Int64.reduceToInt, upd_eq, upd_ne, up2_eq, up2_nk, vq2_ne, up1_eq, vq1_ne, Nat.reduceAdd, Nat.reduceMul, if_true, if_false, rI_uI, rI_uL, rI_uA, rI_uB, rI_uP, rI_uQ, rI_aA, rI_aB, rI_aQ, rL_uI, rL_uL, rL_uA, rL_uB, rL_uP, rL_uQ, rL_aA, rL_aB, rL_aQ, rA_uI, rA_uL, rA_uA, rA_uB, rA_uP, rA_uQ, rA_aA, rA_aB, rA_aQ, rB_uI, rB_uL, rB_uA, rB_uB, rB_uP, rB_uQ, rB_aA, rB_aB, rB_aQ, rP_uI, rP_uL, rP_uA, rP_uB, rP_uP, rP_uQ, rP_aA, rP_aB, rP_aQ, rQ_uI, rQ_uL, rQ_uA, rQ_uB, rQ_uP, rQ_uQ, rQ_aA, rQ_aB, rQ_aQ, rT_uI, rT_uL, rT_uA, rT_uB, rT_uP, rT_uQ, rT_aA, rT_aB, rT_aQ, rz_uI, rz_uL, rz_uA, rz_uB, rz_uP, rz_uQ, rz_aA, rz_aB, rz_aQ, rtI_L, rtI_A, rtI_B, rtL_I, rtL_A, rtL_B, rtA_I, rtA_L, rtA_B, rtB_I, rtB_L, rtB_A, rtI_I, rtL_L, rtA_A, rtA_An, rtB_B, rtB_Bn, updL_eq, updL_ne, t_stL]
        rw [(d4 k hk8 c2).1]
        exact Same.ans h
      · simp only [if_neg c2, if_true, if_neg (show ¬ ((0 : Int32) = 1) by decide)]
        exact Same.refL h (by decide)
    · simp only [if_neg c1]; exact Same.refL h (by decide)
end PN0
