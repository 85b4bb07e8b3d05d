/-! PLAIN LAW, METHODS 6: hauls measured, road -/
def HB (F : Nat) (u : CS) (s : Nat → Int32) (B : Nat) : Prop := ∀ b : Nat, b < 6 → (∃ d : Nat, d ≤ B ∧ wc_A u (F + 17) b = Int32.ofNat d ∧ s (4530 + b) = Int32.ofNat d) ∨ (wc_A u (F + 17) b = 100000000 ∧ s (4530 + b) = 999999)
def HX (F : Nat) (u u1 : CS) : Prop := NX F u u1 ∧ (∀ q, q ≠ F + 17 → wc_A u1 q = wc_A u q) ∧ wc_I u1 = wc_I u ∧ wc_B u1 = wc_B u
def TH (t t1 : TS) : Prop := TX t t1 ∧ (∀ i, i < 4530 → tS t1 i = tS t i) ∧ t1.1 = t.1 ∧ t1.2.1 = t.2.1 ∧ t1.2.2.2 = t.2.2.2 ∧ ∀ a, a ≠ 1 → t1.2.2.1 a = t.2.2.1 a
section PM6
variable {u u1 u2 : CS} {t t1 t2 : TS} {N F : Nat} {s : Nat → Int32} {b : Nat → Int64}
theorem HX.rfl' : HX F u u := ⟨NX.rfl', fun _ _ => rfl, rfl, rfl⟩
theorem HX.trans (h : HX F u u1) (h' : HX F u1 u2) : HX F u u2 := ⟨h.1.trans h'.1, fun q hq => (h'.2.1 q hq).trans (h.2.1 q hq), h'.2.2.1.trans h.2.2.1, h'.2.2.2.trans h.2.2.2⟩
theorem HX.uA {k : Nat} {v : Int32} (h : HX F u u1) : HX F u (wc_uA u1 (F + 17) k v) := h.trans ⟨NX.rfl'.uA (by unfold InF; omega), fun q hq => vq2_ne hq, rfl, rfl⟩
theorem TH.rfl' : TH t t := ⟨TX.rfl', fun _ _ => rfl, rfl, rfl, rfl, fun _ _ => rfl⟩
theorem TH.trans (h : TH t t1) (h' : TH t1 t2) : TH t t2 := ⟨h.1.trans h'.1, fun i hi => (h'.2.1 i hi).trans (h.2.1 i hi), h'.2.2.1.trans h.2.2.1, h'.2.2.2.1.trans h.2.2.2.1, h'.2.2.2.2.1.trans h.2.2.2.2.1, fun a ha => (h'.2.2.2.2.2 a ha).trans (h.2.2.2.2.2 a ha)⟩
theorem TH.uA {i : Nat} {v : Int32} (h : TH t t1) (hi : 4530 ≤ i) : TH t (mt_uA t1 1 i v) := h.trans ⟨TX.rfl'.uA (by omega) (by omega), fun j hj => by simp (disch := omega) only [tS, rtA_A, upd_ne], rfl, rfl, rfl, fun a ha => rtA_An ha⟩
theorem HB.mono {B B' : Nat} (h : HB F u s B) (hB : B ≤ B') : HB F u s B' := by
  intro b hb
  rcases h b hb with ⟨d, q⟩ | q
  · exact Or.inl ⟨d, by omega, q.2⟩
  · exact Or.inr q
/-- one road, on both sides -/
theorem relax {B a c d k : Nat} {ag : CS → Int32 → Option CS} {ag' : TS → Int32 → Option TS} {x1 : Int32} {f f' : Nat} (hB : B ≤ 200000) (h : HB F u (tS t) B) (ha : a < 6) (hc : c < 6) (hd : d ≤ 999) {r : Nat} (er : wc_I u F 17 = Int32.ofNat r) (er' : tS t 6 = Int32.ofNat r) (hk : k < r) (hr : r ≤ 12)
    (e1 : wc_A u (F + 14) k = Int32.ofNat a) (e2 : wc_A u (F + 15) k = Int32.ofNat c) (e3 : wc_A u (F + 16) k = Int32.ofNat d) (g1 : tS t (3410 + 3 * k) = Int32.ofNat a) (g2 : tS t (3410 + 3 * k + 1) = Int32.ofNat c) (g3 : tS t (3410 + 3 * k + 2) = Int32.ofNat d) :
    ∃ u1 t1, fX1_measure_40 N F ag (f + 1) u x1 (Int32.ofNat k) = fX1_measure_40 N F ag f u1 x1 (Int32.ofNat (k + 1)) ∧ fX7_measure_44 N ag' (f' + 1) t x1 (Int32.ofNat k) = fX7_measure_44 N ag' f' t1 x1 (Int32.ofNat (k + 1)) ∧ HX F u u1 ∧ TH t t1 ∧ HB F u1 (tS t1) (B + 1998) := by
  have g0 : t.2.2.1 1 6 = Int32.ofNat r := er'
  have g1 : t.2.2.1 1 (3410 + 3 * k) = Int32.ofNat a := g1
  have g2 : t.2.2.1 1 (3410 + 3 * k + 1) = Int32.ofNat c := g2
  have g3 : t.2.2.1 1 (3410 + 3 * k + 2) = Int32.ofNat d := g3
  have far1 : (100000000 : Int32) = Int32.ofNat 100000000 := rfl
  have far2 : (999999 : Int32) = Int32.ofNat 999999 := rfl
  obtain ⟨x, x', y, y', hx1, hx2, hy1, hy2, hx, hy, hxy⟩ : ∃ x x' y y' : Nat, wc_A u (F + 17) a = Int32.ofNat x ∧ t.2.2.1 1 (4530 + a) = Int32.ofNat x' ∧ wc_A u (F + 17) c = Int32.ofNat y ∧ t.2.2.1 1 (4530 + c) = Int32.ofNat y' ∧ (x ≤ B ∧ x' = x ∨ x = 100000000 ∧ x' = 999999) ∧ (y ≤ B ∧ y' = y ∨ y = 100000000 ∧ y' = 999999) ∧ (a = c → x = y ∧ x' = y') := by
    rcases h a ha with ⟨m, q1, q2, q3⟩ | ⟨q2, q3⟩
    · rcases h c hc with ⟨m', p1, p2, p3⟩ | ⟨p2, p3⟩
      · refine ⟨m, m, m', m', q2, q3, p2, p3, Or.inl ⟨q1, rfl⟩, Or.inl ⟨p1, rfl⟩, fun e => ?_⟩
        subst e
        rw [q2, pl_eq (by omega) (by omega)] at p2
        exact ⟨p2, p2⟩
      · refine ⟨m, m, 100000000, 999999, q2, q3, p2, p3, Or.inl ⟨q1, rfl⟩, Or.inr ⟨rfl, rfl⟩, fun e => ?_⟩
        subst e
        rw [q2, far1, pl_eq (by omega) (by omega)] at p2
        omega
    · rcases h c hc with ⟨m', p1, p2, p3⟩ | ⟨p2, p3⟩
      · refine ⟨100000000, 999999, m', m', q2, q3, p2, p3, Or.inr ⟨rfl, rfl⟩, Or.inl ⟨p1, rfl⟩, fun e => ?_⟩
        subst e
        rw [q2, far1, pl_eq (by omega) (by omega)] at p2
        omega
      · exact ⟨100000000, 999999, 100000000, 999999, q2, q3, p2, p3, Or.inr ⟨rfl, rfl⟩, Or.inr ⟨rfl, rfl⟩, fun _ => ⟨rfl, rfl⟩⟩
  have HBput : ∀ (u1 : CS) (t1 : TS) (xa xa' yc yc' : Nat), wc_A u1 (F + 17) = up2 (up2 (wc_A u) (F + 17) a (Int32.ofNat xa)) (F + 17) c (Int32.ofNat yc) (F + 17) → (∀ i, i < 6 → i ≠ a → i ≠ c → tS t1 (4530 + i) = tS t (4530 + i)) → tS t1 (4530 + a) = Int32.ofNat xa' → tS t1 (4530 + c) = Int32.ofNat yc' → (xa ≤ B + 1998 ∧ xa' = xa ∨ xa = 100000000 ∧ xa' = 999999) → (yc ≤ B + 1998 ∧ yc' = yc ∨ yc = 100000000 ∧ yc' = 999999) → HB F u1 (tS t1) (B + 1998) := by
    intro u1 t1 xa xa' yc yc' w1 w2 w3 w4 w5 w6 i hi
    by_cases c1 : i = c
    · subst c1
      rw [w1, up2_eq, w4]
      rcases w6 with ⟨p, rfl⟩ | ⟨rfl, rfl⟩
      · exact Or.inl ⟨yc', p, rfl, rfl⟩
      · exact Or.inr ⟨rfl, rfl⟩
    · by_cases c2 : i = a
      · subst c2
        rw [w1, up2_nk c1, up2_eq, w3]
        rcases w5 with ⟨p, rfl⟩ | ⟨rfl, rfl⟩
        · exact Or.inl ⟨xa', p, rfl, rfl⟩
        · exact Or.inr ⟨rfl, rfl⟩
      · rw [w1, up2_nk c1, up2_nk c2, w2 i hi c2 c1]
        exact h.mono (by omega) i hi
  have bx : x ≤ 100000000 ∧ x' ≤ 999999 := by omega
  have bY : y ≤ 100000000 ∧ y' ≤ 999999 := by omega
  have cu : ∃ X Y : Nat, fX1_measure_40 N F ag (f + 1) u x1 (Int32.ofNat k) = fX1_measure_40 N F ag f (wc_uA (wc_uA u (F + 17) a (Int32.ofNat X)) (F + 17) c (Int32.ofNat Y)) x1 (Int32.ofNat (k + 1)) ∧ X = (if y + d < x then y + d else x) ∧ Y = (if X + d < y then X + d else y) := by
    refine ⟨if y + d < x then y + d else x, _, ?_, rfl, rfl⟩
    show (if _ then _ else _) = _
    rw [er, if_neg (by rw [pl_le (by omega) (by omega)]; omega)]
    simp (disch := omega) only [pl_bd, pl_bd2, pl_nm, pl_id, pl_ald, pl_ast, pl_aldL, pl_astL, pl_nc, pl_ncL, pl_add, pl_addL, pl_addR, pl_mul, pl_mulL, pl_mulR, pl_sub, pl_subL, pl_eq, pl_eqL, pl_eqR, pl_eqN, pl_le, pl_leL, pl_leR, pl_lt, pl_ltL, pl_ltR, pl_div, pl_divL, pl_01, pl_bl, pl_bl0, pl_bl1, ite_not, c_in, t_in, Int32.reduceToInt, Int64.reduceToInt, upd_eq, upd_ne, up2_eq, up2_nk, vq2_ne, up1_eq, vq1_ne, Nat.reduceAdd, Nat.reduceMul, if_true, if_false, rI_uI, rI_uL, rI_uA, rI_uB, rI_uP, rI_uQ, rI_aA, rI_aB, rI_aQ, rL_uI, rL_uL, rL_uA, rL_uB, rL_uP, rL_uQ, rL_aA, rL_aB, rL_aQ, rA_uI, rA_uL, rA_uA, rA_uB, rA_uP, rA_uQ, rA_aA, rA_aB, rA_aQ, rB_uI, rB_uL, rB_uA, rB_uB, rB_uP, rB_uQ, rB_aA, rB_aB, rB_aQ, rP_uI, rP_uL, rP_uA, rP_uB, rP_uP, rP_uQ, rP_aA, rP_aB, rP_aQ, rQ_uI, rQ_uL, rQ_uA, rQ_uB, rQ_uP, rQ_uQ, rQ_aA, rQ_aB, rQ_aQ, rT_uI, rT_uL, rT_uA, rT_uB, rT_uP, rT_uQ, rT_aA, rT_aB, rT_aQ, rz_uI, rz_uL, rz_uA, rz_uB, rz_uP, rz_uQ, rz_aA, rz_aB, rz_aQ, rtI_L, rtI_A, rtI_B, rtL_I, rtL_A, rtL_B, rtA_I, rtA_L, rtA_B, rtB_I, rtB_L, rtB_A, rtI_I, rtL_L, rtA_A, rtA_An, rtB_B, rtB_Bn, updL_eq, updL_ne, e1, e2, e3, hx1, hy1]
    have i1 : (if y + d < x then Int32.ofNat (y + d) else Int32.ofNat x) = Int32.ofNat (if y + d < x then y + d else x) := by split <;> rfl
    rw [i1]
    by_cases c1 : a = c
    · subst c1
      obtain ⟨rfl, -⟩ := hxy rfl
      simp (disch := omega) only [pl_bd, pl_bd2, pl_nm, pl_id, pl_ald, pl_ast, pl_aldL, pl_astL, pl_nc, pl_ncL, pl_add, pl_addL, pl_addR, pl_mul, pl_mulL, pl_mulR, pl_sub, pl_subL, pl_eq, pl_eqL, pl_eqR, pl_eqN, pl_le, pl_leL, pl_leR, pl_lt, pl_ltL, pl_ltR, pl_div, pl_divL, pl_01, pl_bl, pl_bl0, pl_bl1, ite_not, c_in, t_in, Int32.reduceToInt, Int64.reduceToInt, upd_eq, upd_ne, up2_eq, up2_nk, vq2_ne, up1_eq, vq1_ne, Nat.reduceAdd, Nat.reduceMul, if_true, if_false, rI_uI, rI_uL, rI_uA, rI_uB, rI_uP, rI_uQ, rI_aA, rI_aB, rI_aQ, rL_uI, rL_uL, rL_uA, rL_uB, rL_uP, rL_uQ, rL_aA, rL_aB, rL_aQ, rA_uI, rA_uL, rA_uA, rA_uB, rA_uP, rA_uQ, rA_aA, rA_aB, rA_aQ, rB_uI, rB_uL, rB_uA, rB_uB, rB_uP, rB_uQ, rB_aA, rB_aB, rB_aQ, rP_uI, rP_uL, rP_uA, rP_uB, rP_uP, rP_uQ, rP_aA, rP_aB, rP_aQ, rQ_uI, rQ_uL, rQ_uA, rQ_uB, rQ_uP, rQ_uQ, rQ_aA, rQ_aB, rQ_aQ, rT_uI, rT_uL, rT_uA, rT_uB, rT_uP, rT_uQ, rT_aA, rT_aB, rT_aQ, rz_uI, rz_uL, rz_uA, rz_uB, rz_uP, rz_uQ, rz_aA, rz_aB, rz_aQ, rtI_L, rtI_A, rtI_B, rtL_I, rtL_A, rtL_B, rtA_I, rtA_L, rtA_B, rtB_I, rtB_L, rtB_A, rtI_I, rtL_L, rtA_A, rtA_An, rtB_B, rtB_Bn, updL_eq, updL_ne, if_neg (show ¬ (x + d < x) by omega)]
    · have hX : (if y + d < x then y + d else x) ≤ 100000999 := by split <;> omega
      generalize (if y + d < x then y + d else x) = X at *
      have i2 : (if X + d < y then Int32.ofNat (X + d) else Int32.ofNat y) = Int32.ofNat (if X + d < y then X + d else y) := by split <;> rfl
      simp (disch := omega) only [pl_bd, pl_bd2, pl_nm, pl_id, pl_ald, pl_ast, pl_aldL, pl_astL, pl_nc, pl_ncL, pl_add, pl_addL, pl_addR, pl_mul, pl_mulL, pl_mulR, pl_sub, pl_subL, pl_eq, pl_eqL, pl_eqR, pl_eqN, pl_le, pl_leL, pl_leR, pl_lt, pl_ltL, pl_ltR, pl_div, pl_divL, pl_01, pl_bl, pl_bl0, pl_bl1, ite_not, c_in, t_in, Int32.reduceToInt, Int64.reduceToInt, upd_eq, upd_ne, up2_eq, up2_nk, vq2_ne, up1_eq, vq1_ne, Nat.reduceAdd, Nat.reduceMul, if_true, if_false, rI_uI, rI_uL, rI_uA, rI_uB, rI_uP, rI_uQ, rI_aA, rI_aB, rI_aQ, rL_uI, rL_uL, rL_uA, rL_uB, rL_uP, rL_uQ, rL_aA, rL_aB, rL_aQ, rA_uI, rA_uL, rA_uA, rA_uB, rA_uP, rA_uQ, rA_aA, rA_aB, rA_aQ, rB_uI, rB_uL, rB_uA, rB_uB, rB_uP, rB_uQ, rB_aA, rB_aB, rB_aQ, rP_uI, rP_uL, rP_uA, rP_uB, rP_uP, rP_uQ, rP_aA, rP_aB, rP_aQ, rQ_uI, rQ_uL, rQ_uA, rQ_uB, rQ_uP, rQ_uQ, rQ_aA, rQ_aB, rQ_aQ, rT_uI, rT_uL, rT_uA, rT_uB, rT_uP, rT_uQ, rT_aA, rT_aB, rT_aQ, rz_uI, rz_uL, rz_uA, rz_uB, rz_uP, rz_uQ, rz_aA, rz_aB, rz_aQ, rtI_L, rtI_A, rtI_B, rtL_I, rtL_A, rtL_B, rtA_I, rtA_L, rtA_B, rtB_I, rtB_L, rtB_A, rtI_I, rtL_L, rtA_A, rtA_An, rtB_B, rtB_Bn, updL_eq, updL_ne, hy1]
      rw [i2]
  obtain ⟨X, Y, cu1, cu2, cu3⟩ := cu
  have fu1 : HX F u (wc_uA (wc_uA u (F + 17) a (Int32.ofNat X)) (F + 17) c (Int32.ofNat Y)) := HX.rfl'.uA.uA
  have w1 : wc_A (wc_uA (wc_uA u (F + 17) a (Int32.ofNat X)) (F + 17) c (Int32.ofNat Y)) (F + 17) = up2 (up2 (wc_A u) (F + 17) a (Int32.ofNat X)) (F + 17) c (Int32.ofNat Y) (F + 17) := rfl
  -- the twin
  have tw : ∃ t1, fX7_measure_44 N ag' (f' + 1) t x1 (Int32.ofNat k) = fX7_measure_44 N ag' f' t1 x1 (Int32.ofNat (k + 1)) ∧ TH t t1 ∧ (∀ i, i < 6 → i ≠ a → i ≠ c → tS t1 (4530 + i) = tS t (4530 + i)) ∧ ∃ X' Y' : Nat, tS t1 (4530 + a) = Int32.ofNat X' ∧ tS t1 (4530 + c) = Int32.ofNat Y' ∧ (X ≤ B + 1998 ∧ X' = X ∨ X = 100000000 ∧ X' = 999999) ∧ (Y ≤ B + 1998 ∧ Y' = Y ∨ Y = 100000000 ∧ Y' = 999999) := by
    show ∃ t1, (o_ald _ _ _ _) = _ ∧ _
    unfold fX7_measure_143 fX7_measure_178
    simp (disch := omega) only [pl_bd, pl_bd2, pl_nm, pl_id, pl_ald, pl_ast, pl_aldL, pl_astL, pl_nc, pl_ncL, pl_add, pl_addL, pl_addR, pl_mul, pl_mulL, pl_mulR, pl_sub, pl_subL, pl_eq, pl_eqL, pl_eqR, pl_eqN, pl_le, pl_leL, pl_leR, pl_lt, pl_ltL, pl_ltR, pl_div, pl_divL, pl_01, pl_bl, pl_bl0, pl_bl1, ite_not, c_in, t_in, Int32.reduceToInt, Int64.reduceToInt, upd_eq, upd_ne, up2_eq, up2_nk, vq2_ne, up1_eq, vq1_ne, Nat.reduceAdd, Nat.reduceMul, if_true, if_false, rI_uI, rI_uL, rI_uA, rI_uB, rI_uP, rI_uQ, rI_aA, rI_aB, rI_aQ, rL_uI, rL_uL, rL_uA, rL_uB, rL_uP, rL_uQ, rL_aA, rL_aB, rL_aQ, rA_uI, rA_uL, rA_uA, rA_uB, rA_uP, rA_uQ, rA_aA, rA_aB, rA_aQ, rB_uI, rB_uL, rB_uA, rB_uB, rB_uP, rB_uQ, rB_aA, rB_aB, rB_aQ, rP_uI, rP_uL, rP_uA, rP_uB, rP_uP, rP_uQ, rP_aA, rP_aB, rP_aQ, rQ_uI, rQ_uL, rQ_uA, rQ_uB, rQ_uP, rQ_uQ, rQ_aA, rQ_aB, rQ_aQ, rT_uI, rT_uL, rT_uA, rT_uB, rT_uP, rT_uQ, rT_aA, rT_aB, rT_aQ, rz_uI, rz_uL, rz_uA, rz_uB, rz_uP, rz_uQ, rz_aA, rz_aB, rz_aQ, rtI_L, rtI_A, rtI_B, rtL_I, rtL_A, rtL_B, rtA_I, rtA_L, rtA_B, rtB_I, rtB_L, rtB_A, rtI_I, rtL_L, rtA_A, rtA_An, rtB_B, rtB_Bn, updL_eq, updL_ne, g0, g1, g2, g3, hx2, hy2]
    rw [if_neg (by omega)]
    by_cases c0 : a = c
    · subst c0
      obtain ⟨rfl, rfl⟩ := hxy rfl
      rw [if_pos (by omega)]
      try simp (disch := omega) only [pl_bd, pl_bd2, pl_nm, pl_id, pl_ald, pl_ast, pl_aldL, pl_astL, pl_nc, pl_ncL, pl_add, pl_addL, pl_addR, pl_mul, pl_mulL, pl_mulR, pl_sub, pl_subL, pl_eq, pl_eqL, pl_eqR, pl_eqN, pl_le, pl_leL, pl_leR, pl_lt, pl_ltL, pl_ltR, pl_div, pl_divL, pl_01, pl_bl, pl_bl0, pl_bl1, ite_not, c_in, t_in, Int32.reduceToInt, Int64.reduceToInt, upd_eq, upd_ne, up2_eq, up2_nk, vq2_ne, up1_eq, vq1_ne, Nat.reduceAdd, Nat.reduceMul, if_true, if_false, rI_uI, rI_uL, rI_uA, rI_uB, rI_uP, rI_uQ, rI_aA, rI_aB, rI_aQ, rL_uI, rL_uL, rL_uA, rL_uB, rL_uP, rL_uQ, rL_aA, rL_aB, rL_aQ, rA_uI, rA_uL, rA_uA, rA_uB, rA_uP, rA_uQ, rA_aA, rA_aB, rA_aQ, rB_uI, rB_uL, rB_uA, rB_uB, rB_uP, rB_uQ, rB_aA, rB_aB, rB_aQ, rP_uI, rP_uL, rP_uA, rP_uB, rP_uP, rP_uQ, rP_aA, rP_aB, rP_aQ, rQ_uI, rQ_uL, rQ_uA, rQ_uB, rQ_uP, rQ_uQ, rQ_aA, rQ_aB, rQ_aQ, rT_uI, rT_uL, rT_uA, rT_uB, rT_uP, rT_uQ, rT_aA, rT_aB, rT_aQ, rz_uI, rz_uL, rz_uA, rz_uB, rz_uP, rz_uQ, rz_aA, rz_aB, rz_aQ, rtI_L, rtI_A, rtI_B, rtL_I, rtL_A, rtL_B, rtA_I, rtA_L, rtA_B, rtB_I, rtB_L, rtB_A, rtI_I, rtL_L, rtA_A, rtA_An, rtB_B, rtB_Bn, updL_eq, updL_ne, hx2]
      rw [if_pos (by omega)]
      have eX : X = x := by rw [cu2, if_neg (by omega)]
      have eY : Y = x := by rw [cu3, eX, if_neg (by omega)]
      exact ⟨t, rfl, TH.rfl', fun _ _ _ _ => rfl, x', x', hx2, hx2, by omega, by omega⟩
    · by_cases d1 : y' ≤ x' + d
      · rw [if_pos d1]
        try simp (disch := omega) only [pl_bd, pl_bd2, pl_nm, pl_id, pl_ald, pl_ast, pl_aldL, pl_astL, pl_nc, pl_ncL, pl_add, pl_addL, pl_addR, pl_mul, pl_mulL, pl_mulR, pl_sub, pl_subL, pl_eq, pl_eqL, pl_eqR, pl_eqN, pl_le, pl_leL, pl_leR, pl_lt, pl_ltL, pl_ltR, pl_div, pl_divL, pl_01, pl_bl, pl_bl0, pl_bl1, ite_not, c_in, t_in, Int32.reduceToInt, Int64.reduceToInt, upd_eq, upd_ne, up2_eq, up2_nk, vq2_ne, up1_eq, vq1_ne, Nat.reduceAdd, Nat.reduceMul, if_true, if_false, rI_uI, rI_uL, rI_uA, rI_uB, rI_uP, rI_uQ, rI_aA, rI_aB, rI_aQ, rL_uI, rL_uL, rL_uA, rL_uB, rL_uP, rL_uQ, rL_aA, rL_aB, rL_aQ, rA_uI, rA_uL, rA_uA, rA_uB, rA_uP, rA_uQ, rA_aA, rA_aB, rA_aQ, rB_uI, rB_uL, rB_uA, rB_uB, rB_uP, rB_uQ, rB_aA, rB_aB, rB_aQ, rP_uI, rP_uL, rP_uA, rP_uB, rP_uP, rP_uQ, rP_aA, rP_aB, rP_aQ, rQ_uI, rQ_uL, rQ_uA, rQ_uB, rQ_uP, rQ_uQ, rQ_aA, rQ_aB, rQ_aQ, rT_uI, rT_uL, rT_uA, rT_uB, rT_uP, rT_uQ, rT_aA, rT_aB, rT_aQ, rz_uI, rz_uL, rz_uA, rz_uB, rz_uP, rz_uQ, rz_aA, rz_aB, rz_aQ, rtI_L, rtI_A, rtI_B, rtL_I, rtL_A, rtL_B, rtA_I, rtA_L, rtA_B, rtB_I, rtB_L, rtB_A, rtI_I, rtL_L, rtA_A, rtA_An, rtB_B, rtB_Bn, updL_eq, updL_ne, hx2, hy2]
        by_cases d2 : x' ≤ y' + d
        · rw [if_pos d2]
          have eX : X = x := by rw [cu2, if_neg (by omega)]
          have eY : Y = y := by rw [cu3, eX, if_neg (by omega)]
          exact ⟨t, rfl, TH.rfl', fun _ _ _ _ => rfl, x', y', hx2, hy2, by omega, by omega⟩
        · rw [if_neg d2]
          have eX : X = y + d := by rw [cu2, if_pos (by omega)]
          have eY : Y = y := by rw [cu3, eX, if_neg (by omega)]
          refine ⟨_, rfl, TH.rfl'.uA (by omega), fun i _ hi _ => ?_, y' + d, y', ?_, ?_, by omega, by omega⟩
          · simp (disch := omega) only [tS, rtA_A, upd_ne]
          · simp (disch := omega) only [tS, rtA_A, upd_eq]
          · simp (disch := omega) only [tS, rtA_A, upd_ne]; exact hy2
      · rw [if_neg d1]
        try simp (disch := omega) only [pl_bd, pl_bd2, pl_nm, pl_id, pl_ald, pl_ast, pl_aldL, pl_astL, pl_nc, pl_ncL, pl_add, pl_addL, pl_addR, pl_mul, pl_mulL, pl_mulR, pl_sub, pl_subL, pl_eq, pl_eqL, pl_eqR, pl_eqN, pl_le, pl_leL, pl_leR, pl_lt, pl_ltL, pl_ltR, pl_div, pl_divL, pl_01, pl_bl, pl_bl0, pl_bl1, ite_not, c_in, t_in, Int32.reduceToInt, Int64.reduceToInt, upd_eq, upd_ne, up2_eq, up2_nk, vq2_ne, up1_eq, vq1_ne, Nat.reduceAdd, Nat.reduceMul, if_true, if_false, rI_uI, rI_uL, rI_uA, rI_uB, rI_uP, rI_uQ, rI_aA, rI_aB, rI_aQ, rL_uI, rL_uL, rL_uA, rL_uB, rL_uP, rL_uQ, rL_aA, rL_aB, rL_aQ, rA_uI, rA_uL, rA_uA, rA_uB, rA_uP, rA_uQ, rA_aA, rA_aB, rA_aQ, rB_uI, rB_uL, rB_uA, rB_uB, rB_uP, rB_uQ, rB_aA, rB_aB, rB_aQ, rP_uI, rP_uL, rP_uA, rP_uB, rP_uP, rP_uQ, rP_aA, rP_aB, rP_aQ, rQ_uI, rQ_uL, rQ_uA, rQ_uB, rQ_uP, rQ_uQ, rQ_aA, rQ_aB, rQ_aQ, rT_uI, rT_uL, rT_uA, rT_uB, rT_uP, rT_uQ, rT_aA, rT_aB, rT_aQ, rz_uI, rz_uL, rz_uA, rz_uB, rz_uP, rz_uQ, rz_aA, rz_aB, rz_aQ, rtI_L, rtI_A, rtI_B, rtL_I, rtL_A, rtL_B, rtA_I, rtA_L, rtA_B, rtB_I, rtB_L, rtB_A, rtI_I, rtL_L, rtA_A, rtA_An, rtB_B, rtB_Bn, updL_eq, updL_ne, hx2, hy2]
        rw [if_pos (by omega)]
        have eX : X = x := by rw [cu2, if_neg (by omega)]
        have eY : Y = x + d := by rw [cu3, eX, if_pos (by omega)]
        refine ⟨_, rfl, TH.rfl'.uA (by omega), fun i _ _ hi => ?_, x', x' + d, ?_, ?_, by omega, by omega⟩
        · simp (disch := omega) only [tS, rtA_A, upd_ne]
        · simp (disch := omega) only [tS, rtA_A, upd_ne]; exact hx2
        · simp (disch := omega) only [tS, rtA_A, upd_eq]
  obtain ⟨t1, q1, q2, q3, X', Y', q4, q5, q6, q7⟩ := tw
  exact ⟨_, t1, cu1, q1, fu1, q2, HBput _ t1 X X' Y Y' w1 q3 q4 q5 q6 q7⟩
/-- what the loops see of the forest -/
def HS (F : Nat) (u : CS) (s : Nat → Int32) : Prop := ∃ r : Nat, r ≤ 12 ∧ wc_I u F 17 = Int32.ofNat r ∧ s 6 = Int32.ofNat r ∧ ∀ k, k < r → ∃ a c d : Nat, a < 6 ∧ c < 6 ∧ d ≤ 999 ∧ wc_A u (F + 14) k = Int32.ofNat a ∧ wc_A u (F + 15) k = Int32.ofNat c ∧ wc_A u (F + 16) k = Int32.ofNat d ∧ s (3410 + 3 * k) = Int32.ofNat a ∧ s (3410 + 3 * k + 1) = Int32.ofNat c ∧ s (3410 + 3 * k + 2) = Int32.ofNat d
theorem HS.of (h : FRt F u s) (hn : FRs F u s) : HS F u s := by
  obtain ⟨r, h1, h2, h3⟩ := fs_ro hn
  refine ⟨r, h1, h2, h3, fun k hk => ?_⟩
  obtain ⟨a, a1, a2⟩ := fr_ra_n h (show k < 12 by omega)
  obtain ⟨c, c1, c2⟩ := fr_rb_n h (show k < 12 by omega)
  obtain ⟨d, d1, d2⟩ := fr_rl_n h (show k < 12 by omega)
  exact ⟨a, c, d, by omega, by omega, d1, (fr_ra h (by omega)).1.trans a2, (fr_rb h (by omega)).1.trans c2, (fr_rl h (by omega)).1.trans d2, a2, c2, d2⟩
theorem HS.keep (h : HS F u (tS t)) (h1 : HX F u u1) (h2 : TH t t1) : HS F u1 (tS t1) := by
  obtain ⟨r, q1, q2, q3, q4⟩ := h
  refine ⟨r, q1, by rw [h1.2.2.1]; exact q2, by rw [h2.2.1 6 (by omega)]; exact q3, fun k hk => ?_⟩
  obtain ⟨a, c, d, w1, w2, w3, w4, w5, w6, w7, w8, w9⟩ := q4 k hk
  exact ⟨a, c, d, w1, w2, w3, by rw [h1.2.1 _ (by omega)]; exact w4, by rw [h1.2.1 _ (by omega)]; exact w5, by rw [h1.2.1 _ (by omega)]; exact w6, by rw [h2.2.1 _ (by omega)]; exact w7, by rw [h2.2.1 _ (by omega)]; exact w8, by rw [h2.2.1 _ (by omega)]; exact w9⟩
theorem roads_loop {ag : CS → Int32 → Option CS} {ag' : TS → Int32 → Option TS} {x1 : Int32} (d : Nat) : ∀ (f f' : Nat) (u : CS) (t : TS) (k r B : Nat), d + k = r → d < f → d < f' → r ≤ 12 → wc_I u F 17 = Int32.ofNat r → HS F u (tS t) → HB F u (tS t) B → B + 1998 * d ≤ 200000 →
    ∃ u1 t1, fX1_measure_40 N F ag f u x1 (Int32.ofNat k) = ag u1 (x1 + 1) ∧ fX7_measure_44 N ag' f' t x1 (Int32.ofNat k) = ag' t1 (x1 + 1) ∧ HX F u u1 ∧ TH t t1 ∧ HB F u1 (tS t1) (B + 1998 * d) := by
  induction d with
  | zero =>
    intro f f' u t k r B hd hf hf' hr er hS hB _
    obtain ⟨f, rfl⟩ : ∃ g, f = g + 1 := ⟨f - 1, by omega⟩
    obtain ⟨f', rfl⟩ : ∃ g, f' = g + 1 := ⟨f' - 1, by omega⟩
    obtain ⟨r', q1, q2, q3, -⟩ := hS
    have err : r' = r := by rw [q2, pl_eq (by omega) (by omega)] at er; exact er
    subst err
    have q3 : t.2.2.1 1 6 = Int32.ofNat r' := q3
    refine ⟨u, t, ?_, ?_, HX.rfl', TH.rfl', by simpa using hB⟩
    · show (if _ then _ else _) = _
      rw [q2, if_pos (by rw [pl_le (by omega) (by omega)]; omega)]
      rfl
    · show (o_ald _ _ _ _) = _
      simp (disch := omega) only [pl_bd, pl_bd2, pl_nm, pl_id, pl_ald, pl_ast, pl_aldL, pl_astL, pl_nc, pl_ncL, pl_add, pl_addL, pl_addR, pl_mul, pl_mulL, pl_mulR, pl_sub, pl_subL, pl_eq, pl_eqL, pl_eqR, pl_eqN, pl_le, pl_leL, pl_leR, pl_lt, pl_ltL, pl_ltR, pl_div, pl_divL, pl_01, pl_bl, pl_bl0, pl_bl1, ite_not, c_in, t_in, Int32.reduceToInt, Int64.reduceToInt, upd_eq, upd_ne, up2_eq, up2_nk, vq2_ne, up1_eq, vq1_ne, Nat.reduceAdd, Nat.reduceMul, if_true, if_false, rI_uI, rI_uL, rI_uA, rI_uB, rI_uP, rI_uQ, rI_aA, rI_aB, rI_aQ, rL_uI, rL_uL, rL_uA, rL_uB, rL_uP, rL_uQ, rL_aA, rL_aB, rL_aQ, rA_uI, rA_uL, rA_uA, rA_uB, rA_uP, rA_uQ, rA_aA, rA_aB, rA_aQ, rB_uI, rB_uL, rB_uA, rB_uB, rB_uP, rB_uQ, rB_aA, rB_aB, rB_aQ, rP_uI, rP_uL, rP_uA, rP_uB, rP_uP, rP_uQ, rP_aA, rP_aB, rP_aQ, rQ_uI, rQ_uL, rQ_uA, rQ_uB, rQ_uP, rQ_uQ, rQ_aA, rQ_aB, rQ_aQ, rT_uI, rT_uL, rT_uA, rT_uB, rT_uP, rT_uQ, rT_aA, rT_aB, rT_aQ, rz_uI, rz_uL, rz_uA, rz_uB, rz_uP, rz_uQ, rz_aA, rz_aB, rz_aQ, rtI_L, rtI_A, rtI_B, rtL_I, rtL_A, rtL_B, rtA_I, rtA_L, rtA_B, rtB_I, rtB_L, rtB_A, rtI_I, rtL_L, rtA_A, rtA_An, rtB_B, rtB_Bn, updL_eq, updL_ne, q3]
      rw [if_pos (by omega)]
  | succ d ih =>
    intro f f' u t k r B hd hf hf' hr er hS hB hBd
    obtain ⟨f, rfl⟩ : ∃ g, f = g + 1 := ⟨f - 1, by omega⟩
    obtain ⟨f', rfl⟩ : ∃ g, f' = g + 1 := ⟨f' - 1, by omega⟩
    obtain ⟨r', q1, q2, q3, q4⟩ := id hS
    have err : r' = r := by rw [q2, pl_eq (by omega) (by omega)] at er; exact er
    subst err
    obtain ⟨a, c, e, w1, w2, w3, w4, w5, w6, w7, w8, w9⟩ := q4 k (by omega)
    obtain ⟨u1, t1, x1, x2, x3, x4, x5⟩ := relax (N := N) (ag := ag) (ag' := ag') (x1 := x1) (f := f) (f' := f') (by omega) hB w1 w2 w3 q2 q3 (show k < r' by omega) hr w4 w5 w6 w7 w8 w9
    obtain ⟨u2, t2, y1, y2, y3, y4, y5⟩ := ih f f' u1 t1 (k + 1) r' (B + 1998) (by omega) (by omega) (by omega) hr (by rw [x3.2.2.1]; exact q2) (hS.keep x3 x4) x5 (by omega)
    exact ⟨u2, t2, x1.trans y1, x2.trans y2, x3.trans y3, x4.trans y4, y5.mono (by omega)⟩
theorem rounds_loop (hN : 100000 ≤ N) (d : Nat) : ∀ (f f' : Nat) (u : CS) (t : TS) (k B : Nat), d + k = 6 → d < f → d < f' → HS F u (tS t) → HB F u (tS t) B → B + 23976 * d ≤ 200000 →
    ∃ u1 t1, fX1_measure_32 N F f u (Int32.ofNat k) = some u1 ∧ fX7_measure_36 N f' t (Int32.ofNat k) = some t1 ∧ HX F u u1 ∧ TH t t1 ∧ HB F u1 (tS t1) (B + 23976 * d) := by
  induction d with
  | zero =>
    intro f f' u t k B hd hf hf' hS hB _
    obtain ⟨f, rfl⟩ : ∃ g, f = g + 1 := ⟨f - 1, by omega⟩
    obtain ⟨f', rfl⟩ : ∃ g, f' = g + 1 := ⟨f' - 1, by omega⟩
    refine ⟨u, t, ?_, ?_, HX.rfl', TH.rfl', by simpa using hB⟩
    · show (if _ then _ else _) = _
      rw [if_pos (by rw [pl_leR (by omega) (by omega)]; omega)]
    · show (if _ then _ else _) = _
      rw [if_pos (by rw [pl_leR (by omega) (by omega)]; omega)]
  | succ d ih =>
    intro f f' u t k B hd hf hf' hS hB hBd
    obtain ⟨f, rfl⟩ : ∃ g, f = g + 1 := ⟨f - 1, by omega⟩
    obtain ⟨f', rfl⟩ : ∃ g, f' = g + 1 := ⟨f' - 1, by omega⟩
    obtain ⟨r, q1, q2, q3, q4⟩ := id hS
    obtain ⟨u1, t1, x1, x2, x3, x4, x5⟩ := roads_loop (N := N) (F := F) (ag := fX1_measure_32 N F f) (ag' := fX7_measure_36 N f') (x1 := Int32.ofNat k) r N N u t 0 r B (by omega) (by omega) (by omega) q1 q2 hS hB (by omega)
    obtain ⟨u2, t2, y1, y2, y3, y4, y5⟩ := ih f f' u1 t1 (k + 1) (B + 23976) (by omega) (by omega) (by omega) (hS.keep x3 x4) (x5.mono (by omega)) (by omega)
    refine ⟨u2, t2, ?_, ?_, x3.trans y3, x4.trans y4, y5.mono (by omega)⟩
    · show (if _ then _ else _) = _
      rw [if_neg (by rw [pl_leR (by omega) (by omega)]; omega)]
      refine x1.trans ?_
      rw [pl_addL]
      exact y1
    · show (if _ then _ else _) = _
      rw [if_neg (by rw [pl_leR (by omega) (by omega)]; omega)]
      refine x2.trans ?_
      rw [pl_addL]
      exact y2
theorem init_loop (hN : 100000 ≤ N) (d : Nat) : ∀ (f f' : Nat) (u : CS) (t : TS) (k : Nat), d + k = 6 → d < f → d < f' → HS F u (tS t) → (∀ b, b < k → wc_A u (F + 17) b = (if b = 0 then 0 else 100000000) ∧ tS t (4530 + b) = (if b = 0 then 0 else 999999)) →
    ∃ u1 t1, fX1_measure_2 N F f u (Int32.ofNat k) = some u1 ∧ fX7_measure_2 N f' t (Int32.ofNat k) = some t1 ∧ HX F u u1 ∧ TH t t1 ∧ HB F u1 (tS t1) 200000 := by
  induction d with
  | zero =>
    intro f f' u t k hd hf hf' hS hI
    obtain ⟨f, rfl⟩ : ∃ g, f = g + 1 := ⟨f - 1, by omega⟩
    obtain ⟨f', rfl⟩ : ∃ g, f' = g + 1 := ⟨f' - 1, by omega⟩
    have hB : HB F u (tS t) 0 := by
      intro b hb
      obtain ⟨i1, i2⟩ := hI b (by omega)
      by_cases c : b = 0
      · rw [if_pos c] at i1 i2
        exact Or.inl ⟨0, by omega, i1, i2⟩
      · rw [if_neg c] at i1 i2
        exact Or.inr ⟨i1, i2⟩
    obtain ⟨u1, t1, x1, x2, x3, x4, x5⟩ := rounds_loop (F := F) hN 6 N N u t 0 0 (by omega) (by omega) (by omega) hS hB (by omega)
    refine ⟨u1, t1, ?_, ?_, x3, x4, x5.mono (by omega)⟩
    · show (if _ then _ else _) = _
      rw [if_pos (by rw [pl_leR (by omega) (by omega)]; omega)]
      exact x1
    · show (if _ then _ else _) = _
      rw [if_pos (by rw [pl_leR (by omega) (by omega)]; omega)]
      exact x2
  | succ d ih =>
    intro f f' u t k hd hf hf' hS hI
    obtain ⟨f, rfl⟩ : ∃ g, f = g + 1 := ⟨f - 1, by omega⟩
    obtain ⟨f', rfl⟩ : ∃ g, f' = g + 1 := ⟨f' - 1, by omega⟩
    have h1 : HX F u (wc_uA u (F + 17) k (if k = 0 then 0 else 100000000)) := HX.rfl'.uA
    have h2 : TH t (mt_uA t 1 (4530 + k) (if k = 0 then 0 else 999999)) := TH.rfl'.uA (by omega)
    obtain ⟨u1, t1, x1, x2, x3, x4, x5⟩ := ih f f' _ _ (k + 1) (by omega) (by omega) (by omega) (hS.keep h1 h2) (fun b hb => by
      by_cases c : b = k
      · subst c
        simp only [rA_uA, up2_eq, tS, rtA_A, upd_eq]
        exact ⟨trivial, trivial⟩
      · simp (disch := omega) only [rA_uA, up2_nk, tS, rtA_A, upd_ne]
        exact hI b (by omega))
    refine ⟨u1, t1, ?_, ?_, h1.trans x3, h2.trans x4, x5⟩
    · show (if _ then _ else _) = _
      rw [if_neg (by rw [pl_leR (by omega) (by omega)]; omega)]
      unfold fX1_measure_23
      simp (disch := omega) only [pl_bd, pl_bd2, pl_nm, pl_id, pl_ald, pl_ast, pl_aldL, pl_astL, pl_nc, pl_ncL, pl_add, pl_addL, pl_addR, pl_mul, pl_mulL, pl_mulR, pl_sub, pl_subL, pl_eq, pl_eqL, pl_eqR, pl_eqN, pl_le, pl_leL, pl_leR, pl_lt, pl_ltL, pl_ltR, pl_div, pl_divL, pl_01, pl_bl, pl_bl0, pl_bl1, ite_not, c_in, t_in, Int32.reduceToInt, Int64.reduceToInt, upd_eq, upd_ne, up2_eq, up2_nk, vq2_ne, up1_eq, vq1_ne, Nat.reduceAdd, Nat.reduceMul, if_true, if_false, rI_uI, rI_uL, rI_uA, rI_uB, rI_uP, rI_uQ, rI_aA, rI_aB, rI_aQ, rL_uI, rL_uL, rL_uA, rL_uB, rL_uP, rL_uQ, rL_aA, rL_aB, rL_aQ, rA_uI, rA_uL, rA_uA, rA_uB, rA_uP, rA_uQ, rA_aA, rA_aB, rA_aQ, rB_uI, rB_uL, rB_uA, rB_uB, rB_uP, rB_uQ, rB_aA, rB_aB, rB_aQ, rP_uI, rP_uL, rP_uA, rP_uB, rP_uP, rP_uQ, rP_aA, rP_aB, rP_aQ, rQ_uI, rQ_uL, rQ_uA, rQ_uB, rQ_uP, rQ_uQ, rQ_aA, rQ_aB, rQ_aQ, rT_uI, rT_uL, rT_uA, rT_uB, rT_uP, rT_uQ, rT_aA, rT_aB, rT_aQ, rz_uI, rz_uL, rz_uA, rz_uB, rz_uP, rz_uQ, rz_aA, rz_aB, rz_aQ, rtI_L, rtI_A, rtI_B, rtL_I, rtL_A, rtL_B, rtA_I, rtA_L, rtA_B, rtB_I, rtB_L, rtB_A, rtI_I, rtL_L, rtA_A, rtA_An, rtB_B, rtB_Bn, updL_eq, updL_ne]
      by_cases c : k = 0
      · simp only [if_pos c] at x1 ⊢; exact x1
      · simp only [if_neg c] at x1 ⊢; exact x1
    · show (if _ then _ else _) = _
      rw [if_neg (by rw [pl_leR (by omega) (by omega)]; omega)]
      unfold fX7_measure_27
      simp (disch := omega) only [pl_bd, pl_bd2, pl_nm, pl_id, pl_ald, pl_ast, pl_aldL, pl_astL, pl_nc, pl_ncL, pl_add, pl_addL, pl_addR, pl_mul, pl_mulL, pl_mulR, pl_sub, pl_subL, pl_eq, pl_eqL, pl_eqR, pl_eqN, pl_le, pl_leL, pl_leR, pl_lt, pl_ltL, pl_ltR, pl_div, pl_divL, pl_01, pl_bl, pl_bl0, pl_bl1, ite_not, c_in, t_in, Int32.reduceToInt, Int64.reduceToInt, upd_eq, upd_ne, up2_eq, up2_nk, vq2_ne, up1_eq, vq1_ne, Nat.reduceAdd, Nat.reduceMul, if_true, if_false, rI_uI, rI_uL, rI_uA, rI_uB, rI_uP, rI_uQ, rI_aA, rI_aB, rI_aQ, rL_uI, rL_uL, rL_uA, rL_uB, rL_uP, rL_uQ, rL_aA, rL_aB, rL_aQ, rA_uI, rA_uL, rA_uA, rA_uB, rA_uP, rA_uQ, rA_aA, rA_aB, rA_aQ, rB_uI, rB_uL, rB_uA, rB_uB, rB_uP, rB_uQ, rB_aA, rB_aB, rB_aQ, rP_uI, rP_uL, rP_uA, rP_uB, rP_uP, rP_uQ, rP_aA, rP_aB, rP_aQ, rQ_uI, rQ_uL, rQ_uA, rQ_uB, rQ_uP, rQ_uQ, rQ_aA, rQ_aB, rQ_aQ, rT_uI, rT_uL, rT_uA, rT_uB, rT_uP, rT_uQ, rT_aA, rT_aB, rT_aQ, rz_uI, rz_uL, rz_uA, rz_uB, rz_uP, rz_uQ, rz_aA, rz_aB, rz_aQ, rtI_L, rtI_A, rtI_B, rtL_I, rtL_A, rtL_B, rtA_I, rtA_L, rtA_B, rtB_I, rtB_L, rtB_A, rtI_I, rtL_L, rtA_A, rtA_An, rtB_B, rtB_Bn, updL_eq, updL_ne]
      by_cases c : k = 0
      · simp only [if_pos c] at x2 ⊢; exact x2
      · simp only [if_neg c] at x2 ⊢; exact x2
theorem measure_ok (hN : 100000 ≤ N) (h : FRt F u (tS t)) (hn : FRs F u (tS t)) : ∃ u1 t1, fX1_measure N F u = some u1 ∧ fX7_measure N t = some t1 ∧ HX F u u1 ∧ TH t t1 ∧ HB F u1 (tS t1) 200000 := by
  unfold fX1_measure fX7_measure
  exact init_loop hN 6 N N u t 0 (by omega) (by omega) (by omega) (HS.of h hn) (fun b hb => by omega)
theorem FR0.meas (hF : F ≤ 199) (h : FR0 F u (tS t) b) (h1 : HX F u u1) (h2 : TH t t1) (h3 : HB F u1 (tS t1) 200000) : FR0 F u1 (tS t1) b := by
  have hs : ∀ i, fr_cls i ≤ 4 → tS t1 i = tS t i := fun i hi => h2.2.1 i (cls_lt hi)
  have hA : ∀ p, p ≠ 17 → wc_A u1 (F + p) = wc_A u (F + p) := fun p hp => h1.2.1 _ (by omega)
  refine ⟨h.t.cg (fun i hi => hs i (by omega)) (fun x hx => hA _ (fr_plc x hx).2.2.2.2.1), h.n.cg (fun i hi => hs i (by omega)) (fun x hx => by rw [h1.2.2.1]), h.m.cg (hs 1 (by decide)) (hs 2 (by decide)) (fun i hi => hs i (by omega)) (hA 12 (by omega)) (hA 13 (by omega)), h3,
    h.p.cg (fun i hi => hs i (by omega)) (Nat.le_of_eq h1.1.1.symm) (fun p hp => ⟨by rw [h1.1.2.2.1], by rw [h1.1.2.2.2.2.1]⟩) (by rw [h1.1.2.2.2.1]) (fun q hq _ _ => ⟨by rw [h1.2.2.1], by rw [h1.1.2.2.2.2.1]⟩),
    h.l.cg (hs 4 (by decide)) (fun i hi => hs i (by omega)) (Nat.le_of_eq h1.1.1.symm) (by rw [h1.1.2.2.2.1]) (fun q hq _ _ => h1.1.2.1 q (by unfold InF; omega)), fun k hk => by rw [h1.2.2.2]; exact h.bk k hk⟩
theorem m_road (hN : 100000 ≤ N) (h : RR u t) (a1 a2 a3 : Int32) : Same 0 u (fX0_road N u a1 a2 a3) (fX7_road N t a1 a2 a3) := by
  unfold fX0_road fX0_road_38 fX0_road_14 fX7_road fX7_road_37 fX7_road_14 fX0_isBlock fX7_isBlock
  simp only [pl_bd, pl_bd2, pl_nm, pl_id, pl_ald, pl_ast, pl_aldL, pl_astL, pl_nc, pl_ncL, pl_add, pl_addL, pl_addR, pl_mul, pl_mulL, pl_mulR, pl_sub, pl_subL, pl_eq, pl_eqL, pl_eqR, pl_eqN, pl_le, pl_leL, pl_leR, pl_lt, pl_ltL, pl_ltR, pl_div, pl_divL, pl_01, pl_bl, pl_bl0, pl_bl1, ite_not, c_in, t_in, Int32.reduceToInt, Int64.reduceToInt, upd_eq, upd_ne, up2_eq, up2_nk, vq2_ne, up1_eq, vq1_ne, Nat.reduceAdd, Nat.reduceMul, if_true, if_false, rI_uI, rI_uL, rI_uA, rI_uB, rI_uP, rI_uQ, rI_aA, rI_aB, rI_aQ, rL_uI, rL_uL, rL_uA, rL_uB, rL_uP, rL_uQ, rL_aA, rL_aB, rL_aQ, rA_uI, rA_uL, rA_uA, rA_uB, rA_uP, rA_uQ, rA_aA, rA_aB, rA_aQ, rB_uI, rB_uL, rB_uA, rB_uB, rB_uP, rB_uQ, rB_aA, rB_aB, rB_aQ, rP_uI, rP_uL, rP_uA, rP_uB, rP_uP, rP_uQ, rP_aA, rP_aB, rP_aQ, rQ_uI, rQ_uL, rQ_uA, rQ_uB, rQ_uP, rQ_uQ, rQ_aA, rQ_aB, rQ_aQ, rT_uI, rT_uL, rT_uA, rT_uB, rT_uP, rT_uQ, rT_aA, rT_aB, rT_aQ, rz_uI, rz_uL, rz_uA, rz_uB, rz_uP, rz_uQ, rz_aA, rz_aB, rz_aQ, rtI_L, rtI_A, rtI_B, rtL_I, rtL_A, rtL_B, rtA_I, rtA_L, rtA_B, rtB_I, rtB_L, rtB_A, rtI_I, rtL_L, rtA_A, rtA_An, rtB_B, rtB_Bn, updL_eq, updL_ne]
  by_cases c1 : inB a1 0 5
  · simp only [if_pos c1]
    by_cases c2 : inB a2 0 5
    · simp only [if_pos c2]
      by_cases c3 : a1 = a2
      · simp only [if_pos c3]; exact Same.refL h (by decide)
      · simp only [if_neg c3]
        by_cases c4 : inB a3 1 999
        · simp only [if_pos c4]
          obtain ⟨n, hn, e1, e2⟩ := fs_ro h.f.n
          have e2 : t.2.2.1 1 6 = Int32.ofNat n := e2
          simp (disch := omega) only [e1, e2, pl_bd, pl_bd2, pl_nm, pl_id, pl_ald, pl_ast, pl_aldL, pl_astL, pl_nc, pl_ncL, pl_add, pl_addL, pl_addR, pl_mul, pl_mulL, pl_mulR, pl_sub, pl_subL, pl_eq, pl_eqL, pl_eqR, pl_eqN, pl_le, pl_leL, pl_leR, pl_lt, pl_ltL, pl_ltR, pl_div, pl_divL, pl_01, pl_bl, pl_bl0, pl_bl1, ite_not, c_in, t_in, Int32.reduceToInt, Int64.reduceToInt, upd_eq, upd_ne, up2_eq, up2_nk, vq2_ne, up1_eq, vq1_ne, Nat.reduceAdd, Nat.reduceMul, if_true, if_false, rI_uI, rI_uL, rI_uA, rI_uB, rI_uP, rI_uQ, rI_aA, rI_aB, rI_aQ, rL_uI, rL_uL, rL_uA, rL_uB, rL_uP, rL_uQ, rL_aA, rL_aB, rL_aQ, rA_uI, rA_uL, rA_uA, rA_uB, rA_uP, rA_uQ, rA_aA, rA_aB, rA_aQ, rB_uI, rB_uL, rB_uA, rB_uB, rB_uP, rB_uQ, rB_aA, rB_aB, rB_aQ, rP_uI, rP_uL, rP_uA, rP_uB, rP_uP, rP_uQ, rP_aA, rP_aB, rP_aQ, rQ_uI, rQ_uL, rQ_uA, rQ_uB, rQ_uP, rQ_uQ, rQ_aA, rQ_aB, rQ_aQ, rT_uI, rT_uL, rT_uA, rT_uB, rT_uP, rT_uQ, rT_aA, rT_aB, rT_aQ, rz_uI, rz_uL, rz_uA, rz_uB, rz_uP, rz_uQ, rz_aA, rz_aB, rz_aQ, rtI_L, rtI_A, rtI_B, rtL_I, rtL_A, rtL_B, rtA_I, rtA_L, rtA_B, rtB_I, rtB_L, rtB_A, rtI_I, rtL_L, rtA_A, rtA_An, rtB_B, rtB_Bn, updL_eq, updL_ne]
          by_cases c5 : n = 12
          · simp only [if_pos c5]; exact Same.refL h (by decide)
          · simp only [if_neg c5]
            have f1 := gq_ra (k := n) (v := a1) (by omega) h.f.o (by omega) c1.1 c1.2
            have f2 := gq_rb (k := n) (v := a2) (by omega) f1 (by omega) c2.1 c2.2
            have f3 := gq_rl (k := n) (v := a3) (by omega) f2 (by omega) (by have := c4.1; omega) c4.2
            have f4 := f3.putN (f := 17) (i := 6) (lo := 0) (hi := 12) (v := Int32.ofNat (n + 1)) (by omega) (by decide) (by rw [pl_ti (by omega)]; omega) (by rw [pl_ti (by omega)]; omega) (by omega)
            have nx := (((NX.rfl' (F := 3) (u := u)).uA (p := 17) (k := n) (v := a1) (by unfold InF; omega)).uA (p := 18) (k := n) (v := a2) (by unfold InF; omega)).uA (p := 19) (k := n) (v := a3) (by unfold InF; omega) |>.uI (k := 17) (v := Int32.ofNat (n + 1)) (by omega)
            have tx := (((TX.rfl' (t := t)).uA (i := 3410 + 3 * n) (v := a1) (by omega) (by omega)).uA (i := 3410 + 3 * n + 1) (v := a2) (by omega) (by omega)).uA (i := 3410 + 3 * n + 2) (v := a3) (by omega) (by omega) |>.uA (i := 6) (v := Int32.ofNat (n + 1)) (by omega) (by omega)
            obtain ⟨u1, t1, m1, m2, m3, m4, m5⟩ := measure_ok (F := 3) (t := mt_uA (mt_uA (mt_uA (mt_uA t 1 (3410 + 3 * n) a1) 1 (3410 + 3 * n + 1) a2) 1 (3410 + 3 * n + 2) a3) 1 6 (Int32.ofNat (n + 1))) hN f4.t f4.n
            have m1 : fX1_measure N 3 (wc_uI (wc_uA (wc_uA (wc_uA u 17 n a1) 18 n a2) 19 n a3) 3 17 (Int32.ofNat (n + 1))) = some u1 := m1
            simp only [m1, m2, pl_bd]
            have r1 : wc_I u1 3 17 = Int32.ofNat (n + 1) := by rw [m3.2.2.1, rI_uI]; exact up2_eq
            have r2 : t1.2.2.1 1 6 = Int32.ofNat (n + 1) := m4.2.1 6 (by omega)
            simp (disch := omega) only [pl_bd, pl_bd2, pl_nm, pl_id, pl_ald, pl_ast, pl_aldL, pl_astL, pl_nc, pl_ncL, pl_add, pl_addL, pl_addR, pl_mul, pl_mulL, pl_mulR, pl_sub, pl_subL, pl_eq, pl_eqL, pl_eqR, pl_eqN, pl_le, pl_leL, pl_leR, pl_lt, pl_ltL, pl_ltR, pl_div, pl_divL, pl_01, pl_bl, pl_bl0, pl_bl1, ite_not, c_in, t_in, Int32.reduceToInt, Int64.reduceToInt, upd_eq, upd_ne, up2_eq, up2_nk, vq2_ne, up1_eq, vq1_ne, Nat.reduceAdd, Nat.reduceMul, if_true, if_false, rI_uI, rI_uL, rI_uA, rI_uB, rI_uP, rI_uQ, rI_aA, rI_aB, rI_aQ, rL_uI, rL_uL, rL_uA, rL_uB, rL_uP, rL_uQ, rL_aA, rL_aB, rL_aQ, rA_uI, rA_uL, rA_uA, rA_uB, rA_uP, rA_uQ, rA_aA, rA_aB, rA_aQ, rB_uI, rB_uL, rB_uA, rB_uB, rB_uP, rB_uQ, rB_aA, rB_aB, rB_aQ, rP_uI, rP_uL, rP_uA, rP_uB, rP_uP, rP_uQ, rP_aA, rP_aB, rP_aQ, rQ_uI, rQ_uL, rQ_uA, rQ_uB, rQ_uP, rQ_uQ, rQ_aA, rQ_aB, rQ_aQ, rT_uI, rT_uL, rT_uA, rT_uB, rT_uP, rT_uQ, rT_aA, rT_aB, rT_aQ, rz_uI, rz_uL, rz_uA, rz_uB, rz_uP, rz_uQ, rz_aA, rz_aB, rz_aQ, rtI_L, rtI_A, rtI_B, rtL_I, rtL_A, rtL_B, rtA_I, rtA_L, rtA_B, rtB_I, rtB_L, rtB_A, rtI_I, rtL_L, rtA_A, rtA_An, rtB_B, rtB_Bn, updL_eq, updL_ne, r1, r2]
            have f5 := f4.meas (t := mt_uA (mt_uA (mt_uA (mt_uA t 1 (3410 + 3 * n) a1) 1 (3410 + 3 * n + 1) a2) 1 (3410 + 3 * n + 2) a3) 1 6 (Int32.ofNat (n + 1))) (by omega) m3 m4 m5
            have bb : tB t1 = tB t := by show t1.2.2.2 2 = _; rw [m4.2.2.2.2.1]; rfl
            have X := (((h.f.x.far (i := 3410 + 3 * n) (v := a1) (by omega) (by omega) (by omega) (by omega)).far (i := 3410 + 3 * n + 1) (v := a2) (by omega) (by omega) (by omega) (by omega)).far (i := 3410 + 3 * n + 2) (v := a3) (by omega) (by omega) (by omega) (by omega)).sn (i := 6) (v := Int32.ofNat (n + 1)) (by omega)
            refine ⟨_, _, _, rfl, rfl, h.nx (nx.trans m3.1) (tx.trans m4.1) ?_, Nat.le_of_eq m3.1.1.symm, Nat.le_of_eq m3.1.1⟩
            rw [bb]
            exact f5.mk (X.cg (fun i hi => m4.2.1 i (cls_lt (by omega))))
        · simp only [if_neg c4]; exact Same.refL h (by decide)
    · simp only [if_neg c2]; exact Same.refL h (by decide)
  · simp only [if_neg c1]; exact Same.refL h (by decide)
end PM6
