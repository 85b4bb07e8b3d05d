/-! PLAIN LAW, METHODS 0: what is read of stands -/
abbrev nt (x : Int32) : Nat := x.toNatClampNeg
theorem nt_eq {x : Int32} {a : Nat} (h : x = Int32.ofNat a) (ha : a < 2147483648) : nt x = a := by rw [h]; exact pl_nc ha
theorem of_nt {x : Int32} (h : (0 : Int) ≤ x.toInt) : x = Int32.ofNat (nt x) := (Int32.ofNat_toNatClampNeg x (by rw [Int32.le_iff_toInt_le]; exact h)).symm
theorem nt_le {x : Int32} {m : Nat} (h : x.toInt ≤ m) : nt x ≤ m := by
  show x.toInt.toNat ≤ m
  omega
theorem nt_ti {x : Int32} (h : (0 : Int) ≤ x.toInt) : ((nt x : Nat) : Int) = x.toInt := by
  show ((x.toInt.toNat : Nat) : Int) = x.toInt
  omega
theorem inB_nat {a : Int32} {n : Nat} (h : inB a 0 ((n : Int) - 1)) : ∃ k, k < n ∧ a = Int32.ofNat k :=
  ⟨nt a, by show a.toInt.toNat < n; omega, of_nt h.1⟩
theorem inB_nat' {a : Int32} {m : Nat} (h : inB a 0 (m : Int)) : ∃ k, k ≤ m ∧ a = Int32.ofNat k :=
  ⟨nt a, by show a.toInt.toNat ≤ m; omega, of_nt h.1⟩
/-- a stand's wood, by its cells -/
def woodS (s : Nat → Int32) (k : Nat) : Nat := woodN (nt (s (16 + 14 * k + 4))) (nt (s (16 + 14 * k + 2))) (nt (s (16 + 14 * k + 1))) (nt (s (16 + 14 * k + 5))) (nt (s (16 + 14 * k + 6)))
section PM0
variable {F : Nat} {u : CS} {s : Nat → Int32} {t : TS} {N : Nat}
theorem wd_ac (h : FRt F u s) {k : Nat} (hk : k < 24) : nt (s (16 + 14 * k + 4)) ≤ 999 ∧ s (16 + 14 * k + 4) = Int32.ofNat (nt (s (16 + 14 * k + 4))) := ⟨nt_le (fr_ac h hk).2.2, of_nt (fr_ac h hk).2.1⟩
theorem wd_ki (h : FRt F u s) {k : Nat} (hk : k < 24) : nt (s (16 + 14 * k + 2)) ≤ 3 ∧ s (16 + 14 * k + 2) = Int32.ofNat (nt (s (16 + 14 * k + 2))) := ⟨nt_le (fr_ki h hk).2.2, of_nt (fr_ki h hk).2.1⟩
theorem wd_si (h : FRt F u s) {k : Nat} (hk : k < 24) : nt (s (16 + 14 * k + 1)) ≤ 4 ∧ s (16 + 14 * k + 1) = Int32.ofNat (nt (s (16 + 14 * k + 1))) := ⟨nt_le (fr_si h hk).2.2, of_nt (fr_si h hk).2.1⟩
theorem wd_ag (h : FRt F u s) {k : Nat} (hk : k < 24) : nt (s (16 + 14 * k + 5)) ≤ 400 ∧ s (16 + 14 * k + 5) = Int32.ofNat (nt (s (16 + 14 * k + 5))) := ⟨nt_le (fr_ag h hk).2.2, of_nt (fr_ag h hk).2.1⟩
theorem wd_fu (h : FRt F u s) {k : Nat} (hk : k < 24) : nt (s (16 + 14 * k + 6)) ≤ 100 ∧ s (16 + 14 * k + 6) = Int32.ofNat (nt (s (16 + 14 * k + 6))) := ⟨nt_le (fr_fu h hk).2.2, of_nt (fr_fu h hk).2.1⟩
theorem woodS_le (h : FRt F u s) {k : Nat} (hk : k < 24) : woodS s k ≤ 5394600 := woodN_le (wd_ac h hk).1 (wd_si h hk).1 (wd_fu h hk).1
theorem c_woodAt (h : FRt F u s) {k a f : Nat} (hk : k < 24) (ha : a ≤ 500) (hf : f ≤ 100) : fX1_woodAt N F u (Int32.ofNat k) (Int32.ofNat a) (Int32.ofNat f) = some (Int32.ofNat (woodN (nt (s (16 + 14 * k + 4))) (nt (s (16 + 14 * k + 2))) (nt (s (16 + 14 * k + 1))) a f), u) := by
  obtain ⟨x1, q1, e1⟩ := fr_ac_n h hk
  obtain ⟨x2, q2, e2⟩ := fr_ki_n h hk
  obtain ⟨x3, q3, e3⟩ := fr_si_n h hk
  have f1 := feetN_le (k := x2) (ag := a) q3
  have b1 : x1 * feetN x2 x3 a ≤ 999 * 5400 := Nat.mul_le_mul q1 f1
  have b2 : x1 * feetN x2 x3 a * f ≤ 999 * 5400 * 100 := Nat.mul_le_mul b1 hf
  unfold fX1_woodAt
  rw [e1, e2, e3]
  simp (disch := omega) only [pl_bd, pl_bd2, pl_nm, pl_id, pl_ald, pl_ast, pl_aldL, pl_astL, pl_nc, pl_ncL, pl_add, pl_addL, pl_addR, pl_mul, pl_mulL, pl_mulR, pl_sub, pl_subL, pl_eq, pl_eqL, pl_eqR, pl_eqN, pl_le, pl_leL, pl_leR, pl_lt, pl_ltL, pl_ltR, pl_div, pl_divL, pl_01, pl_bl, pl_bl0, pl_bl1, ite_not, c_in, t_in, Int32.reduceToInt, Int64.reduceToInt, upd_eq, upd_ne, up2_eq, up2_nk, vq2_ne, up1_eq, vq1_ne, Nat.reduceAdd, Nat.reduceMul, if_true, if_false, rI_uI, rI_uL, rI_uA, rI_uB, rI_uP, rI_uQ, rI_aA, rI_aB, rI_aQ, rL_uI, rL_uL, rL_uA, rL_uB, rL_uP, rL_uQ, rL_aA, rL_aB, rL_aQ, rA_uI, rA_uL, rA_uA, rA_uB, rA_uP, rA_uQ, rA_aA, rA_aB, rA_aQ, rB_uI, rB_uL, rB_uA, rB_uB, rB_uP, rB_uQ, rB_aA, rB_aB, rB_aQ, rP_uI, rP_uL, rP_uA, rP_uB, rP_uP, rP_uQ, rP_aA, rP_aB, rP_aQ, rQ_uI, rQ_uL, rQ_uA, rQ_uB, rQ_uP, rQ_uQ, rQ_aA, rQ_aB, rQ_aQ, rT_uI, rT_uL, rT_uA, rT_uB, rT_uP, rT_uQ, rT_aA, rT_aB, rT_aQ, rz_uI, rz_uL, rz_uA, rz_uB, rz_uP, rz_uQ, rz_aA, rz_aB, rz_aQ, rtI_L, rtI_A, rtI_B, rtL_I, rtL_A, rtL_B, rtA_I, rtA_L, rtA_B, rtB_I, rtB_L, rtB_A, rtI_I, rtL_L, rtA_A, rtA_An, rtB_B, rtB_Bn, updL_eq, updL_ne, (fr_ac h hk).1, (fr_ki h hk).1, (fr_si h hk).1, e1, e2, e3, c_feet]
  rfl
theorem t_st (N : Nat) (t : TS) {k w : Nat} (hk : k < 24) (hw : w < 14) : fX7_st N t (Int32.ofNat k) (Int32.ofNat w) = some (tS t (16 + 14 * k + w), t) := tX_st N t hk hw
theorem t_stL (N : Nat) (t : TS) {k w : Nat} (hk : k < 24) (hw : OfNat.ofNat w < 14) : fX7_st N t (Int32.ofNat k) (no_index (OfNat.ofNat w : Int32)) = some (tS t (16 + 14 * k + OfNat.ofNat w), t) := tX_st N t hk hw
theorem t_woodAt (h : FRt F u (tS t)) {k a f : Nat} (hk : k < 24) (ha : a ≤ 500) (hf : f ≤ 100) : fX7_woodWith N t (Int32.ofNat k) (Int32.ofNat a) (Int32.ofNat f) = some (Int32.ofNat (woodN (nt (tS t (16 + 14 * k + 4))) (nt (tS t (16 + 14 * k + 2))) (nt (tS t (16 + 14 * k + 1))) a f), t) := by
  obtain ⟨x1, q1, e1⟩ := fr_ac_n h hk
  obtain ⟨x2, q2, e2⟩ := fr_ki_n h hk
  obtain ⟨x3, q3, e3⟩ := fr_si_n h hk
  have f1 := feetN_le (k := x2) (ag := a) q3
  have b1 : x1 * feetN x2 x3 a ≤ 999 * 5400 := Nat.mul_le_mul q1 f1
  have b2 : x1 * feetN x2 x3 a * f ≤ 999 * 5400 * 100 := Nat.mul_le_mul b1 hf
  unfold fX7_woodWith
  rw [e1, e2, e3]
  simp (disch := omega) only [pl_bd, pl_bd2, pl_nm, pl_id, pl_ald, pl_ast, pl_aldL, pl_astL, pl_nc, pl_ncL, pl_add, pl_addL, pl_addR, pl_mul, pl_mulL, pl_mulR, pl_sub, pl_subL, pl_eq, pl_eqL, pl_eqR, pl_eqN, pl_le, pl_leL, pl_leR, pl_lt, pl_ltL, pl_ltR, pl_div, pl_divL, pl_01, pl_bl, pl_bl0, pl_bl1, ite_not, c_in, t_in, Int32.reduceToInt, Int64.reduceToInt, upd_eq, upd_ne, up2_eq, up2_nk, vq2_ne, up1_eq, vq1_ne, Nat.reduceAdd, Nat.reduceMul, if_true, if_false, rI_uI, rI_uL, rI_uA, rI_uB, rI_uP, rI_uQ, rI_aA, rI_aB, rI_aQ, rL_uI, rL_uL, rL_uA, rL_uB, rL_uP, rL_uQ, rL_aA, rL_aB, rL_aQ, rA_uI, rA_uL, rA_uA, rA_uB, rA_uP, rA_uQ, rA_aA, rA_aB, rA_aQ, rB_uI, rB_uL, rB_uA, rB_uB, rB_uP, rB_uQ, rB_aA, rB_aB, rB_aQ, rP_uI, rP_uL, rP_uA, rP_uB, rP_uP, rP_uQ, rP_aA, rP_aB, rP_aQ, rQ_uI, rQ_uL, rQ_uA, rQ_uB, rQ_uP, rQ_uQ, rQ_aA, rQ_aB, rQ_aQ, rT_uI, rT_uL, rT_uA, rT_uB, rT_uP, rT_uQ, rT_aA, rT_aB, rT_aQ, rz_uI, rz_uL, rz_uA, rz_uB, rz_uP, rz_uQ, rz_aA, rz_aB, rz_aQ, rtI_L, rtI_A, rtI_B, rtL_I, rtL_A, rtL_B, rtA_I, rtA_L, rtA_B, rtB_I, rtB_L, rtB_A, rtI_I, rtL_L, rtA_A, rtA_An, rtB_B, rtB_Bn, updL_eq, updL_ne, t_stL, e1, e2, e3, t_feet, pq_to, pq_mul, pq_divL, pq_of]
  rfl
theorem c_wood (h : FRt F u s) {k : Nat} (hk : k < 24) : fX1_wood N F u (Int32.ofNat k) = some (Int32.ofNat (woodS s k), u) := by
  obtain ⟨x1, q1, e1⟩ := fr_ag_n h hk
  obtain ⟨x2, q2, e2⟩ := fr_fu_n h hk
  unfold fX1_wood woodS
  rw [e1, e2]
  simp (disch := omega) only [pl_bd, pl_bd2, pl_nm, pl_id, pl_ald, pl_ast, pl_aldL, pl_astL, pl_nc, pl_ncL, pl_add, pl_addL, pl_addR, pl_mul, pl_mulL, pl_mulR, pl_sub, pl_subL, pl_eq, pl_eqL, pl_eqR, pl_eqN, pl_le, pl_leL, pl_leR, pl_lt, pl_ltL, pl_ltR, pl_div, pl_divL, pl_01, pl_bl, pl_bl0, pl_bl1, ite_not, c_in, t_in, Int32.reduceToInt, Int64.reduceToInt, upd_eq, upd_ne, up2_eq, up2_nk, vq2_ne, up1_eq, vq1_ne, Nat.reduceAdd, Nat.reduceMul, if_true, if_false, rI_uI, rI_uL, rI_uA, rI_uB, rI_uP, rI_uQ, rI_aA, rI_aB, rI_aQ, rL_uI, rL_uL, rL_uA, rL_uB, rL_uP, rL_uQ, rL_aA, rL_aB, rL_aQ, rA_uI, rA_uL, rA_uA, rA_uB, rA_uP, rA_uQ, rA_aA, rA_aB, rA_aQ, rB_uI, rB_uL, rB_uA, rB_uB, rB_uP, rB_uQ, rB_aA, rB_aB, rB_aQ, rP_uI, rP_uL, rP_uA, rP_uB, rP_uP, rP_uQ, rP_aA, rP_aB, rP_aQ, rQ_uI, rQ_uL, rQ_uA, rQ_uB, rQ_uP, rQ_uQ, rQ_aA, rQ_aB, rQ_aQ, rT_uI, rT_uL, rT_uA, rT_uB, rT_uP, rT_uQ, rT_aA, rT_aB, rT_aQ, rz_uI, rz_uL, rz_uA, rz_uB, rz_uP, rz_uQ, rz_aA, rz_aB, rz_aQ, rtI_L, rtI_A, rtI_B, rtL_I, rtL_A, rtL_B, rtA_I, rtA_L, rtA_B, rtB_I, rtB_L, rtB_A, rtI_I, rtL_L, rtA_A, rtA_An, rtB_B, rtB_Bn, updL_eq, updL_ne, (fr_ag h hk).1, (fr_fu h hk).1, e1, e2, c_woodAt h hk]
theorem t_wood (h : FRt F u (tS t)) {k : Nat} (hk : k < 24) : fX7_wood N t (Int32.ofNat k) = some (Int32.ofNat (woodS (tS t) k), t) := by
  obtain ⟨x1, q1, e1⟩ := fr_ag_n h hk
  obtain ⟨x2, q2, e2⟩ := fr_fu_n h hk
  unfold fX7_wood woodS
  rw [e1, e2]
  simp (disch := omega) only [pl_bd, pl_bd2, pl_nm, pl_id, pl_ald, pl_ast, pl_aldL, pl_astL, pl_nc, pl_ncL, pl_add, pl_addL, pl_addR, pl_mul, pl_mulL, pl_mulR, pl_sub, pl_subL, pl_eq, pl_eqL, pl_eqR, pl_eqN, pl_le, pl_leL, pl_leR, pl_lt, pl_ltL, pl_ltR, pl_div, pl_divL, pl_01, pl_bl, pl_bl0, pl_bl1, ite_not, c_in, t_in, Int32.reduceToInt, Int64.reduceToInt, upd_eq, upd_ne, up2_eq, up2_nk, vq2_ne, up1_eq, vq1_ne, Nat.reduceAdd, Nat.reduceMul, if_true, if_false, rI_uI, rI_uL, rI_uA, rI_uB, rI_uP, rI_uQ, rI_aA, rI_aB, rI_aQ, rL_uI, rL_uL, rL_uA, rL_uB, rL_uP, rL_uQ, rL_aA, rL_aB, rL_aQ, rA_uI, rA_uL, rA_uA, rA_uB, rA_uP, rA_uQ, rA_aA, rA_aB, rA_aQ, rB_uI, rB_uL, rB_uA, rB_uB, rB_uP, rB_uQ, rB_aA, rB_aB, rB_aQ, rP_uI, rP_uL, rP_uA, rP_uB, rP_uP, rP_uQ, rP_aA, rP_aB, rP_aQ, rQ_uI, rQ_uL, rQ_uA, rQ_uB, rQ_uP, rQ_uQ, rQ_aA, rQ_aB, rQ_aQ, rT_uI, rT_uL, rT_uA, rT_uB, rT_uP, rT_uQ, rT_aA, rT_aB, rT_aQ, rz_uI, rz_uL, rz_uA, rz_uB, rz_uP, rz_uQ, rz_aA, rz_aB, rz_aQ, rtI_L, rtI_A, rtI_B, rtL_I, rtL_A, rtL_B, rtA_I, rtA_L, rtA_B, rtB_I, rtB_L, rtB_A, rtI_I, rtL_L, rtA_A, rtA_An, rtB_B, rtB_Bn, updL_eq, updL_ne, t_stL, e1, e2, t_woodAt h hk]
theorem c_bare (h : FRt F u s) {k : Nat} (hk : k < 24) : fX1_isBare N F u (Int32.ofNat k) = some (if s (16 + 14 * k + 6) = 0 then 1 else 0, u) := by
  unfold fX1_isBare fX1_isBare_14
  simp (disch := omega) only [pl_bd, pl_bd2, pl_nm, pl_id, pl_ald, pl_ast, pl_aldL, pl_astL, pl_nc, pl_ncL, pl_add, pl_addL, pl_addR, pl_mul, pl_mulL, pl_mulR, pl_sub, pl_subL, pl_eq, pl_eqL, pl_eqR, pl_eqN, pl_le, pl_leL, pl_leR, pl_lt, pl_ltL, pl_ltR, pl_div, pl_divL, pl_01, pl_bl, pl_bl0, pl_bl1, ite_not, c_in, t_in, Int32.reduceToInt, Int64.reduceToInt, upd_eq, upd_ne, up2_eq, up2_nk, vq2_ne, up1_eq, vq1_ne, Nat.reduceAdd, Nat.reduceMul, if_true, if_false, rI_uI, rI_uL, rI_uA, rI_uB, rI_uP, rI_uQ, rI_aA, rI_aB, rI_aQ, rL_uI, rL_uL, rL_uA, rL_uB, rL_uP, rL_uQ, rL_aA, rL_aB, rL_aQ, rA_uI, rA_uL, rA_uA, rA_uB, rA_uP, rA_uQ, rA_aA, rA_aB, rA_aQ, rB_uI, rB_uL, rB_uA, rB_uB, rB_uP, rB_uQ, rB_aA, rB_aB, rB_aQ, rP_uI, rP_uL, rP_uA, rP_uB, rP_uP, rP_uQ, rP_aA, rP_aB, rP_aQ, rQ_uI, rQ_uL, rQ_uA, rQ_uB, rQ_uP, rQ_uQ, rQ_aA, rQ_aB, rQ_aQ, rT_uI, rT_uL, rT_uA, rT_uB, rT_uP, rT_uQ, rT_aA, rT_aB, rT_aQ, rz_uI, rz_uL, rz_uA, rz_uB, rz_uP, rz_uQ, rz_aA, rz_aB, rz_aQ, rtI_L, rtI_A, rtI_B, rtL_I, rtL_A, rtL_B, rtA_I, rtA_L, rtA_B, rtB_I, rtB_L, rtB_A, rtI_I, rtL_L, rtA_A, rtA_An, rtB_B, rtB_Bn, updL_eq, updL_ne, (fr_fu h hk).1]
  split <;> rfl
theorem t_bare {k : Nat} (hk : k < 24) : fX7_isBare N t (Int32.ofNat k) = some (if tS t (16 + 14 * k + 6) = 0 then 1 else 0, t) := by
  unfold fX7_isBare fX7_isBare_15
  simp (disch := omega) only [pl_bd, pl_bd2, pl_nm, pl_id, pl_ald, pl_ast, pl_aldL, pl_astL, pl_nc, pl_ncL, pl_add, pl_addL, pl_addR, pl_mul, pl_mulL, pl_mulR, pl_sub, pl_subL, pl_eq, pl_eqL, pl_eqR, pl_eqN, pl_le, pl_leL, pl_leR, pl_lt, pl_ltL, pl_ltR, pl_div, pl_divL, pl_01, pl_bl, pl_bl0, pl_bl1, ite_not, c_in, t_in, Int32.reduceToInt, Int64.reduceToInt, upd_eq, upd_ne, up2_eq, up2_nk, vq2_ne, up1_eq, vq1_ne, Nat.reduceAdd, Nat.reduceMul, if_true, if_false, rI_uI, rI_uL, rI_uA, rI_uB, rI_uP, rI_uQ, rI_aA, rI_aB, rI_aQ, rL_uI, rL_uL, rL_uA, rL_uB, rL_uP, rL_uQ, rL_aA, rL_aB, rL_aQ, rA_uI, rA_uL, rA_uA, rA_uB, rA_uP, rA_uQ, rA_aA, rA_aB, rA_aQ, rB_uI, rB_uL, rB_uA, rB_uB, rB_uP, rB_uQ, rB_aA, rB_aB, rB_aQ, rP_uI, rP_uL, rP_uA, rP_uB, rP_uP, rP_uQ, rP_aA, rP_aB, rP_aQ, rQ_uI, rQ_uL, rQ_uA, rQ_uB, rQ_uP, rQ_uQ, rQ_aA, rQ_aB, rQ_aQ, rT_uI, rT_uL, rT_uA, rT_uB, rT_uP, rT_uQ, rT_aA, rT_aB, rT_aQ, rz_uI, rz_uL, rz_uA, rz_uB, rz_uP, rz_uQ, rz_aA, rz_aB, rz_aQ, rtI_L, rtI_A, rtI_B, rtL_I, rtL_A, rtL_B, rtA_I, rtA_L, rtA_B, rtB_I, rtB_L, rtB_A, rtI_I, rtL_L, rtA_A, rtA_An, rtB_B, rtB_Bn, updL_eq, updL_ne, t_stL]
  split <;> rfl
theorem pl_m1 {n : Nat} (h : n < 2147483648) : (Int32.ofNat n - 1).toInt = (n : Int) - 1 := by
  rw [Int32.toInt_sub, pl_ti h]
  have : (1 : Int32).toInt = 1 := rfl
  rw [this]
  exact pl_bm (by omega) (by omega)
theorem pl_rng {a : Int32} {n : Nat} (hn : n < 2147483648) {α : Type} (A B : α) : (if a < 0 then A else if Int32.ofNat n ≤ a then A else B) = if inB a 0 ((n : Int) - 1) then B else A := by
  simp only [Int32.lt_iff_toInt_lt, Int32.le_iff_toInt_le, pl_ti hn]
  have e0 : (0 : Int32).toInt = 0 := rfl
  rw [e0]
  by_cases c : a.toInt < 0
  · rw [if_pos c, if_neg (fun h => by omega)]
  · rw [if_neg c]
    by_cases d : (n : Int) ≤ a.toInt
    · rw [if_pos d, if_neg (fun h => by omega)]
    · rw [if_neg d, if_pos ⟨by omega, by omega⟩]
theorem c_isStand {n : Nat} (hn : n ≤ 24) (e : wc_I u 3 1 = Int32.ofNat n) (a : Int32) : fX0_isStand N u a = some (if inB a 0 ((n : Int) - 1) then 1 else 0, u) := by
  unfold fX0_isStand fX0_isStand_19 fX0_isStand_20
  rw [e]
  simp only [pl_bl0, pl_bl1]
  rw [pl_rng (by omega)]
  split <;> rfl
theorem t_isStand {n : Nat} (hn : n ≤ 24) (e : tS t 1 = Int32.ofNat n) (a : Int32) : fX7_isStand N t a = some (if inB a 0 ((n : Int) - 1) then 1 else 0, t) := by
  unfold fX7_isStand
  simp (disch := omega) only [pl_aldL, pl_nm, e, t_in, pl_bd, pl_m1, pl_bl, Int32.reduceToInt]
theorem c_isVillage {n : Nat} (hn : n ≤ 8) (e : wc_I u 3 22 = Int32.ofNat n) (a : Int32) : fX0_isVillage N u a = some (if inB a 0 ((n : Int) - 1) then 1 else 0, u) := by
  unfold fX0_isVillage fX0_isVillage_19 fX0_isVillage_20
  rw [e]
  simp only [pl_bl0, pl_bl1]
  rw [pl_rng (by omega)]
  split <;> rfl
theorem t_isVillage {n : Nat} (hn : n ≤ 8) (e : tS t 3 = Int32.ofNat n) (a : Int32) : fX7_isVillage N t a = some (if inB a 0 ((n : Int) - 1) then 1 else 0, t) := by
  unfold fX7_isVillage
  simp (disch := omega) only [pl_aldL, pl_nm, e, t_in, pl_bd, pl_m1, pl_bl, Int32.reduceToInt]
end PM0
