/-! PLAIN LAW, METHODS 3: feed, cancel -/
theorem pl_byte (y : Int32) : ∃ x : Nat, x < 256 ∧ y &&& 255 = Int32.ofNat x ∧ Int8.toInt32 (Int32.toInt8 y) = byt x := by
  have e : (y &&& 255).toBitVec.toNat = y.toBitVec.toNat % 256 := by
    show (y.toBitVec &&& 255#32).toNat = _
    rw [BitVec.toNat_and]
    exact Nat.and_two_pow_sub_one_eq_mod _ 8
  refine ⟨y.toBitVec.toNat % 256, Nat.mod_lt _ (by omega), ?_, ?_⟩
  · apply Int32.toBitVec_inj.mp
    apply BitVec.eq_of_toNat_eq
    rw [e]
    show _ = (BitVec.ofNat 32 (y.toBitVec.toNat % 256)).toNat
    rw [BitVec.toNat_ofNat]
    omega
  · apply Int32.toInt_inj.mp
    unfold byt
    have h1 : y.toInt = if 2 * y.toBitVec.toNat < 2 ^ 32 then (y.toBitVec.toNat : Int) else (y.toBitVec.toNat : Int) - (2 ^ 32 : Nat) := BitVec.toInt_eq_toNat_cond y.toBitVec
    have h2 : y.toBitVec.toNat < 2 ^ 32 := BitVec.isLt _
    have h3 : y.toInt.bmod (2 ^ 8) = if y.toBitVec.toNat % 256 < 128 then ((y.toBitVec.toNat % 256 : Nat) : Int) else ((y.toBitVec.toNat % 256 : Nat) : Int) - 256 := by
      unfold Int.bmod
      generalize y.toBitVec.toNat = n at *
      by_cases c : 2 * n < 2 ^ 32
      · rw [if_pos c] at h1
        rw [h1]
        by_cases d : n % 256 < 128
        · rw [if_pos d, if_pos (by omega)]; omega
        · rw [if_neg d, if_neg (by omega)]; omega
      · rw [if_neg c] at h1
        rw [h1]
        by_cases d : n % 256 < 128
        · rw [if_pos d, if_pos (by omega)]; omega
        · rw [if_neg d, if_neg (by omega)]; omega
    rw [Int8.toInt_toInt32, Int32.toInt_toInt8, h3, Int32.toInt_ofInt_of_le]
    · split <;> omega
    · split <;> omega
section PM3
variable {u u1 : CS} {t t1 : TS} {N F : Nat} {s : Nat → Int32}
theorem Same.from {α : Type} {k : Nat} {x : Option (α × CS)} {y : Option (α × TS)} (h : Same k u1 x y) (hz : wc_z u1 = wc_z u) : Same k u x y := by
  obtain ⟨r, u2, t2, a, b, c, d, e⟩ := h
  exact ⟨r, u2, t2, a, b, c, by omega, by omega⟩
theorem RR.tape (h : RR u t) {m x : Nat} (hm : m < 120) (e1 : wc_I u 297 1 = Int32.ofNat m) (e2 : t.1 5 = Int32.ofNat m) (hx : x < 256) : RR (wc_uI (wc_uA u 298 m (byt x)) 297 1 (Int32.ofNat (m + 1))) (mt_uI (mt_uA t 4 m (Int32.ofNat x)) 5 (Int32.ofNat (m + 1))) := by
  obtain ⟨⟨m', m1, m2, m3, m4⟩, w⟩ := h.tp
  have em : m' = m := by
    have q := m2.symm.trans e1
    rw [pl_eq (by omega) (by omega)] at q
    exact q
  subst em
  refine h.side (Nat.le_refl _) (fun q a b => (Sm.uA (by omega)).trans (Sm.uI (by omega))) (fun q c a _ _ => (Sm.uA (by omega)).trans (Sm.uI (by omega))) (fun k a b => by simp (disch := omega) only [rI_uI, rI_uA, vq2_ne]) (by simp (disch := omega) only [rI_uI, rI_uA, vq2_ne]) (by simp (disch := omega) only [rI_uI, rI_uA, vq2_ne]) (by simp (disch := omega) only [rI_uI, rI_uA, vq2_ne]) (by simp (disch := omega) only [rA_uI, rA_uA, vq2_ne]) (by simp (disch := omega) only [rA_uI, rA_uA, vq2_ne]) rfl rfl rfl rfl rfl rfl rfl ?_ ?_
  · refine ⟨⟨m' + 1, by omega, by simp only [rI_uI, up2_eq], by simp only [rtI_I, upd_eq], fun i hi => ?_⟩, fun w' l hl j y hy => ?_⟩
    · simp only [rA_uI, rA_uA, rtA_I, rtA_A]
      by_cases c : i = m'
      · subst c
        exact ⟨x, hx, upd_eq, up2_eq⟩
      · rw [upd_ne c, up2_nk c]
        exact m4 i (by omega)
    · simp (disch := omega) only [rA_uI, rA_uA, vq2_ne]
      exact w w' l hl j y hy
  · refine ⟨?_, h.ro.2⟩
    rcases h.ro.1 with e | ⟨q, m, e1, e2, e3, e4, e5, e6⟩
    · exact Or.inl e
    · refine Or.inr ⟨q, m, e1, e2, e3, e4, e5, fun i hi => ?_⟩
      obtain ⟨r1, r2, -⟩ := h.ro.2 m q e3 e5
      simp (disch := omega) only [rA_uI, rA_uA, vq2_ne]
      exact e6 i hi
theorem feed_loop (a : Int32) : ∀ (j n : Nat) (u : CS) (t : TS) (m : Nat), j < n → RR u t → wc_I u 297 1 = Int32.ofNat m → t.1 5 = Int32.ofNat m → m + j ≤ 120 → Same 0 u (fX0_feed_48 N n u a (Int32.ofNat j - 1)) (fX7_feed_45 N n t a (Int32.ofNat j - 1))
  | 0, n + 1, u, t, m, _, h, e1, e2, hm => by
    unfold fX0_feed_48 fX7_feed_45
    rw [if_pos (by decide), if_pos (by decide), e1, e2]
    exact Same.ans h
  | j + 1, n + 1, u, t, m, hn, h, e1, e2, hm => by
    unfold fX0_feed_48 fX7_feed_45
    rw [pl_subL (by omega), Nat.add_sub_cancel]
    have hj : j < 2147483648 := by omega
    simp (disch := omega) only [pl_bd, pl_bd2, pl_nm, pl_id, pl_ald, pl_ast, pl_aldL, pl_astL, pl_nc, pl_ncL, pl_add, pl_addL, pl_addR, pl_mul, pl_mulL, pl_mulR, pl_sub, pl_subL, pl_eq, pl_eqL, pl_eqR, pl_eqN, pl_le, pl_leL, pl_leR, pl_lt, pl_ltL, pl_ltR, pl_div, pl_divL, pl_01, pl_bl, pl_bl0, pl_bl1, ite_not, c_in, t_in, Int32.reduceToInt, Int64.reduceToInt, upd_eq, upd_ne, up2_eq, up2_nk, vq2_ne, up1_eq, vq1_ne, Nat.reduceAdd, Nat.reduceMul, if_true, if_false, rI_uI, rI_uL, rI_uA, rI_uB, rI_uP, rI_uQ, rI_aA, rI_aB, rI_aQ, rL_uI, rL_uL, rL_uA, rL_uB, rL_uP, rL_uQ, rL_aA, rL_aB, rL_aQ, rA_uI, rA_uL, rA_uA, rA_uB, rA_uP, rA_uQ, rA_aA, rA_aB, rA_aQ, rB_uI, rB_uL, rB_uA, rB_uB, rB_uP, rB_uQ, rB_aA, rB_aB, rB_aQ, rP_uI, rP_uL, rP_uA, rP_uB, rP_uP, rP_uQ, rP_aA, rP_aB, rP_aQ, rQ_uI, rQ_uL, rQ_uA, rQ_uB, rQ_uP, rQ_uQ, rQ_aA, rQ_aB, rQ_aQ, rT_uI, rT_uL, rT_uA, rT_uB, rT_uP, rT_uQ, rT_aA, rT_aB, rT_aQ, rz_uI, rz_uL, rz_uA, rz_uB, rz_uP, rz_uQ, rz_aA, rz_aB, rz_aQ, rtI_L, rtI_A, rtI_B, rtL_I, rtL_A, rtL_B, rtA_I, rtA_L, rtA_B, rtB_I, rtB_L, rtB_A, rtI_I, rtL_L, rtA_A, rtA_An, rtB_B, rtB_Bn, updL_eq, updL_ne, e1, e2, Nat.not_lt_zero, if_false]
    obtain ⟨x, hx, x1, x2⟩ := pl_byte (a >>> (Int32.ofNat (8 * j) &&& 31))
    rw [x1, x2, ← Int32.sub_eq_add_neg]
    have h' := h.tape (m := m) (x := x) (by omega) e1 e2 hx
    exact (feed_loop a j n _ _ (m + 1) (by omega) h' (by simp only [rI_uI, up2_eq]) (by simp only [rtI_I, upd_eq]) (by omega)).from rfl
theorem m_feed (hN : 100000 ≤ N) (h : RR u t) (a1 a2 : Int32) : Same 0 u (fX0_feed N u a1 a2) (fX7_feed N t a1 a2) := by
  unfold fX0_feed fX7_feed
  simp only [pl_id, pl_nm]
  by_cases c1 : 0 ≤ a2
  · simp only [if_pos c1]
    by_cases c2 : a2 ≤ 4
    · simp only [if_pos c2]
      rw [Int32.le_iff_toInt_le] at c1 c2
      obtain ⟨j, hj, rfl⟩ := pl_nat (m := 4) c1 c2
      obtain ⟨⟨m, m1, m2, m3, m4⟩, w⟩ := h.tp
      simp (disch := omega) only [m2, m3, pl_add, pl_leL]
      by_cases c3 : m + j ≤ 120
      · simp only [if_pos c3]
        exact feed_loop a1 j N u t m (by omega) h m2 m3 c3
      · simp only [if_neg c3]; exact Same.refL h (by decide)
    · simp only [if_neg c2]; exact Same.refL h (by decide)
  · simp only [if_neg c1]; exact Same.refL h (by decide)
theorem FRx.ord {s' : Nat → Int32} (h : FRx s) (hs : ∀ i, i < 3320 ∨ 3410 ≤ i → s' i = s i) (h4 : ∀ i : Nat, i < 30 → (i : Int) < (s 5).toInt → s' (3320 + 3 * i + 1) = 2 → (s' (3320 + 3 * i + 2)).toInt ≤ 3) (h5 : ∀ i : Nat, i < 30 → (i : Int) < (s 5).toInt → (s' (3320 + 3 * i + 0)).toInt < (s 1).toInt) : FRx s' := by
  unfold FRx
  rw [hs 0 (by omega), hs 1 (by omega), hs 3 (by omega), hs 5 (by omega)]
  refine ⟨fun k hk q => ?_, fun k hk => ?_, fun k w hk q hw => ?_, h4, h5, fun w hw => ?_, fun w hw q => ?_⟩
  · rw [hs _ (by omega)]; exact h.1 k hk q
  · rw [hs _ (by omega), hs _ (by omega)]; exact h.2.1 k hk
  · rw [hs _ (by omega)]; exact h.2.2.1 k w hk q hw
  · rw [hs _ (by omega)]; exact h.2.2.2.2.2.1 w hw
  · rw [hs _ (by omega)]; exact h.2.2.2.2.2.2 w hw q
theorem t_cstep {n i f : Nat} (hn : n < 30) (e : tS t 5 = Int32.ofNat n) (hi : i < 3320 + 3 * n) : fX7_cancel_41 N (f + 1) t (Int32.ofNat i) = fX7_cancel_41 N f (mt_uA t 1 i (tS t (i + 3))) (Int32.ofNat (i + 1)) := by
  have e : t.2.2.1 1 5 = Int32.ofNat n := e
  show (o_ald _ _ _ _) = _
  simp (disch := omega) only [pl_bd, pl_bd2, pl_nm, pl_id, pl_ald, pl_ast, pl_aldL, pl_astL, pl_nc, pl_ncL, pl_add, pl_addL, pl_addR, pl_mul, pl_mulL, pl_mulR, pl_sub, pl_subL, pl_eq, pl_eqL, pl_eqR, pl_eqN, pl_le, pl_leL, pl_leR, pl_lt, pl_ltL, pl_ltR, pl_div, pl_divL, pl_01, pl_bl, pl_bl0, pl_bl1, ite_not, c_in, t_in, Int32.reduceToInt, Int64.reduceToInt, upd_eq, upd_ne, up2_eq, up2_nk, vq2_ne, up1_eq, vq1_ne, Nat.reduceAdd, Nat.reduceMul, if_true, if_false, rI_uI, rI_uL, rI_uA, rI_uB, rI_uP, rI_uQ, rI_aA, rI_aB, rI_aQ, rL_uI, rL_uL, rL_uA, rL_uB, rL_uP, rL_uQ, rL_aA, rL_aB, rL_aQ, rA_uI, rA_uL, rA_uA, rA_uB, rA_uP, rA_uQ, rA_aA, rA_aB, rA_aQ, rB_uI, rB_uL, rB_uA, rB_uB, rB_uP, rB_uQ, rB_aA, rB_aB, rB_aQ, rP_uI, rP_uL, rP_uA, rP_uB, rP_uP, rP_uQ, rP_aA, rP_aB, rP_aQ, rQ_uI, rQ_uL, rQ_uA, rQ_uB, rQ_uP, rQ_uQ, rQ_aA, rQ_aB, rQ_aQ, rT_uI, rT_uL, rT_uA, rT_uB, rT_uP, rT_uQ, rT_aA, rT_aB, rT_aQ, rz_uI, rz_uL, rz_uA, rz_uB, rz_uP, rz_uQ, rz_aA, rz_aB, rz_aQ, rtI_L, rtI_A, rtI_B, rtL_I, rtL_A, rtL_B, rtA_I, rtA_L, rtA_B, rtB_I, rtB_L, rtB_A, rtI_I, rtL_L, rtA_A, rtA_An, rtB_B, rtB_Bn, updL_eq, updL_ne, e]
  rw [if_neg (by omega)]
/-- the orders from a place on move up by one -/
theorem cancel_loop {n : Nat} (d : Nat) : ∀ (f f' : Nat) (u : CS) (t : TS) (k : Nat), d + k = n → d < f → 3 * d < f' → n < 30 → FR 3 u (tS t) (tB t) → tS t 5 = Int32.ofNat n → (∀ i, i ≤ n → (tS t (3320 + 3 * i + 1) = 2 → (tS t (3320 + 3 * i + 2)).toInt ≤ 3) ∧ (tS t (3320 + 3 * i + 0)).toInt < (tS t 1).toInt) →
    ∃ u1 t1, fX0_cancel_30 N f u (Int32.ofNat k) = some (Int32.ofNat n, u1) ∧ fX7_cancel_41 N f' t (Int32.ofNat (3320 + 3 * k)) = some (Int32.ofNat n, t1) ∧ NX 3 u u1 ∧ TX t t1 ∧ FR 3 u1 (tS t1) (tB t1) := by
  induction d with
  | zero =>
    intro f f' u t k hd hf hf' hn h e _
    obtain ⟨f, rfl⟩ : ∃ g, f = g + 1 := ⟨f - 1, by omega⟩
    obtain ⟨f', rfl⟩ : ∃ g, f' = g + 1 := ⟨f' - 1, by omega⟩
    have e' : wc_I u 3 33 = Int32.ofNat n := (h.n (33, 5, 0, 30) (by decide)).1.trans e
    have e : t.2.2.1 1 5 = Int32.ofNat n := e
    unfold fX0_cancel_30 fX7_cancel_41
    simp (disch := omega) only [pl_bd, pl_bd2, pl_nm, pl_id, pl_ald, pl_ast, pl_aldL, pl_astL, pl_nc, pl_ncL, pl_add, pl_addL, pl_addR, pl_mul, pl_mulL, pl_mulR, pl_sub, pl_subL, pl_eq, pl_eqL, pl_eqR, pl_eqN, pl_le, pl_leL, pl_leR, pl_lt, pl_ltL, pl_ltR, pl_div, pl_divL, pl_01, pl_bl, pl_bl0, pl_bl1, ite_not, c_in, t_in, Int32.reduceToInt, Int64.reduceToInt, upd_eq, upd_ne, up2_eq, up2_nk, vq2_ne, up1_eq, vq1_ne, Nat.reduceAdd, Nat.reduceMul, if_true, if_false, rI_uI, rI_uL, rI_uA, rI_uB, rI_uP, rI_uQ, rI_aA, rI_aB, rI_aQ, rL_uI, rL_uL, rL_uA, rL_uB, rL_uP, rL_uQ, rL_aA, rL_aB, rL_aQ, rA_uI, rA_uL, rA_uA, rA_uB, rA_uP, rA_uQ, rA_aA, rA_aB, rA_aQ, rB_uI, rB_uL, rB_uA, rB_uB, rB_uP, rB_uQ, rB_aA, rB_aB, rB_aQ, rP_uI, rP_uL, rP_uA, rP_uB, rP_uP, rP_uQ, rP_aA, rP_aB, rP_aQ, rQ_uI, rQ_uL, rQ_uA, rQ_uB, rQ_uP, rQ_uQ, rQ_aA, rQ_aB, rQ_aQ, rT_uI, rT_uL, rT_uA, rT_uB, rT_uP, rT_uQ, rT_aA, rT_aB, rT_aQ, rz_uI, rz_uL, rz_uA, rz_uB, rz_uP, rz_uQ, rz_aA, rz_aB, rz_aQ, rtI_L, rtI_A, rtI_B, rtL_I, rtL_A, rtL_B, rtA_I, rtA_L, rtA_B, rtB_I, rtB_L, rtB_A, rtI_I, rtL_L, rtA_A, rtA_An, rtB_B, rtB_Bn, updL_eq, updL_ne, e, e']
    rw [if_pos (by omega), if_pos (by omega)]
    exact ⟨u, t, rfl, rfl, NX.rfl', TX.rfl', h⟩
  | succ d ih =>
    intro f f' u t k hd hf hf' hn h e H
    obtain ⟨f, rfl⟩ : ∃ g, f = g + 1 := ⟨f - 1, by omega⟩
    obtain ⟨f', rfl⟩ : ∃ g, f' = g + 1 + 1 + 1 := ⟨f' - 3, by omega⟩
    have e' : wc_I u 3 33 = Int32.ofNat n := (h.n (33, 5, 0, 30) (by decide)).1.trans e
    have e : t.2.2.1 1 5 = Int32.ofNat n := e
    have hk : k + 1 < 30 := by omega
    obtain ⟨b1, b2, b3⟩ := fr_os h.t hk
    obtain ⟨c1, c2, c3⟩ := fr_oo h.t hk
    obtain ⟨d1, d2, d3⟩ := fr_ot h.t hk
    rw [show 3320 + 3 * (k + 1) + 0 = 3320 + 3 * k + 3 by omega] at b1 b2 b3
    have b1 : wc_A u 30 (k + 1) = t.2.2.1 1 (3320 + 3 * k + 3) := b1
    have c1 : wc_A u 31 (k + 1) = t.2.2.1 1 (3320 + 3 * k + 1 + 3) := by rw [show 3320 + 3 * k + 1 + 3 = 3320 + 3 * (k + 1) + 1 by omega]; exact c1
    have d1 : wc_A u 32 (k + 1) = t.2.2.1 1 (3320 + 3 * k + 1 + 1 + 3) := by rw [show 3320 + 3 * k + 1 + 1 + 3 = 3320 + 3 * (k + 1) + 2 by omega]; exact d1
    have g1 := gq_os (k := k) (v := t.2.2.1 1 (3320 + 3 * k + 3)) (by omega) h.o (by omega) b2 b3
    rw [Nat.add_zero] at g1
    have g2 := gq_oo (k := k) (v := t.2.2.1 1 (3320 + 3 * k + 1 + 3)) (by omega) g1 (by omega) (by rw [show 3320 + 3 * k + 1 + 3 = 3320 + 3 * (k + 1) + 1 by omega]; exact c2) (by rw [show 3320 + 3 * k + 1 + 3 = 3320 + 3 * (k + 1) + 1 by omega]; exact c3)
    have g3 := gq_ot (k := k) (v := t.2.2.1 1 (3320 + 3 * k + 1 + 1 + 3)) (by omega) g2 (by omega) (by rw [show 3320 + 3 * k + 1 + 1 + 3 = 3320 + 3 * (k + 1) + 2 by omega]; exact d2) (by rw [show 3320 + 3 * k + 1 + 1 + 3 = 3320 + 3 * (k + 1) + 2 by omega]; exact d3)
    have e1 : ∀ i, tS (mt_uA (mt_uA (mt_uA t 1 (3320 + 3 * k) (t.2.2.1 1 (3320 + 3 * k + 3))) 1 (3320 + 3 * k + 1) (t.2.2.1 1 (3320 + 3 * k + 1 + 3))) 1 (3320 + 3 * k + 1 + 1) (t.2.2.1 1 (3320 + 3 * k + 1 + 1 + 3))) i = if i = 3320 + 3 * k + 1 + 1 then t.2.2.1 1 (3320 + 3 * k + 1 + 1 + 3) else if i = 3320 + 3 * k + 1 then t.2.2.1 1 (3320 + 3 * k + 1 + 3) else if i = 3320 + 3 * k then t.2.2.1 1 (3320 + 3 * k + 3) else t.2.2.1 1 i := fun i => rfl
    have H' : ∀ i, i ≤ n → (tS (mt_uA (mt_uA (mt_uA t 1 (3320 + 3 * k) (t.2.2.1 1 (3320 + 3 * k + 3))) 1 (3320 + 3 * k + 1) (t.2.2.1 1 (3320 + 3 * k + 1 + 3))) 1 (3320 + 3 * k + 1 + 1) (t.2.2.1 1 (3320 + 3 * k + 1 + 1 + 3))) (3320 + 3 * i + 1) = 2 → (tS (mt_uA (mt_uA (mt_uA t 1 (3320 + 3 * k) (t.2.2.1 1 (3320 + 3 * k + 3))) 1 (3320 + 3 * k + 1) (t.2.2.1 1 (3320 + 3 * k + 1 + 3))) 1 (3320 + 3 * k + 1 + 1) (t.2.2.1 1 (3320 + 3 * k + 1 + 1 + 3))) (3320 + 3 * i + 2)).toInt ≤ 3) ∧ (tS (mt_uA (mt_uA (mt_uA t 1 (3320 + 3 * k) (t.2.2.1 1 (3320 + 3 * k + 3))) 1 (3320 + 3 * k + 1) (t.2.2.1 1 (3320 + 3 * k + 1 + 3))) 1 (3320 + 3 * k + 1 + 1) (t.2.2.1 1 (3320 + 3 * k + 1 + 1 + 3))) (3320 + 3 * i + 0)).toInt < (tS t 1).toInt := by
      intro i hi
      rw [e1, e1, e1]
      by_cases c : i = k
      · subst c
        have q := H (i + 1) (by omega)
        rw [show 3320 + 3 * (i + 1) + 1 = 3320 + 3 * i + 1 + 3 by omega, show 3320 + 3 * (i + 1) + 2 = 3320 + 3 * i + 1 + 1 + 3 by omega, show 3320 + 3 * (i + 1) + 0 = 3320 + 3 * i + 3 by omega] at q
        rw [if_neg (by omega), if_pos (by omega), if_pos (by omega), if_neg (by omega), if_neg (by omega), if_pos (by omega)]
        exact q
      · rw [if_neg (by omega), if_neg (by omega), if_neg (by omega), if_neg (by omega), if_neg (by omega), if_neg (by omega), if_neg (by omega), if_neg (by omega), if_neg (by omega)]
        exact H i hi
    rw [show 3320 + 3 * k + 2 = 3320 + 3 * k + 1 + 1 by omega] at g3
    have gx : FR 3 _ _ _ := g3.mk (h.x.ord (s' := tS (mt_uA (mt_uA (mt_uA t 1 (3320 + 3 * k) (t.2.2.1 1 (3320 + 3 * k + 3))) 1 (3320 + 3 * k + 1) (t.2.2.1 1 (3320 + 3 * k + 1 + 3))) 1 (3320 + 3 * k + 1 + 1) (t.2.2.1 1 (3320 + 3 * k + 1 + 1 + 3)))) (fun i hi => by rw [e1, if_neg (by omega), if_neg (by omega), if_neg (by omega)]) (fun i _ hi => (H' i (by rw [show tS t 5 = _ from e, pl_ti (by omega)] at hi; omega)).1) (fun i _ hi => (H' i (by rw [show tS t 5 = _ from e, pl_ti (by omega)] at hi; omega)).2))
    obtain ⟨u1, t1, r1, r2, r3, r4, r5⟩ := ih f f' _ (mt_uA (mt_uA (mt_uA t 1 (3320 + 3 * k) (t.2.2.1 1 (3320 + 3 * k + 3))) 1 (3320 + 3 * k + 1) (t.2.2.1 1 (3320 + 3 * k + 1 + 3))) 1 (3320 + 3 * k + 1 + 1) (t.2.2.1 1 (3320 + 3 * k + 1 + 1 + 3))) (k + 1) (by omega) (by omega) (by omega) hn gx (by rw [e1, if_neg (by omega), if_neg (by omega), if_neg (by omega)]; exact e) (fun i hi => by rw [e1 1, if_neg (by omega), if_neg (by omega), if_neg (by omega)]; exact H' i hi)
    refine ⟨u1, t1, ?_, ?_, (((NX.rfl'.uA (by unfold InF; omega)).uA (by unfold InF; omega)).uA (by unfold InF; omega)).trans r3, (((TX.rfl'.uA (by omega) (by omega)).uA (by omega) (by omega)).uA (by omega) (by omega)).trans r4, r5⟩
    · unfold fX0_cancel_30
      simp (disch := omega) only [pl_bd, pl_bd2, pl_nm, pl_id, pl_ald, pl_ast, pl_aldL, pl_astL, pl_nc, pl_ncL, pl_add, pl_addL, pl_addR, pl_mul, pl_mulL, pl_mulR, pl_sub, pl_subL, pl_eq, pl_eqL, pl_eqR, pl_eqN, pl_le, pl_leL, pl_leR, pl_lt, pl_ltL, pl_ltR, pl_div, pl_divL, pl_01, pl_bl, pl_bl0, pl_bl1, ite_not, c_in, t_in, Int32.reduceToInt, Int64.reduceToInt, upd_eq, upd_ne, up2_eq, up2_nk, vq2_ne, up1_eq, vq1_ne, Nat.reduceAdd, Nat.reduceMul, if_true, if_false, rI_uI, rI_uL, rI_uA, rI_uB, rI_uP, rI_uQ, rI_aA, rI_aB, rI_aQ, rL_uI, rL_uL, rL_uA, rL_uB, rL_uP, rL_uQ, rL_aA, rL_aB, rL_aQ, rA_uI, rA_uL, rA_uA, rA_uB, rA_uP, rA_uQ, rA_aA, rA_aB, rA_aQ, rB_uI, rB_uL, rB_uA, rB_uB, rB_uP, rB_uQ, rB_aA, rB_aB, rB_aQ, rP_uI, rP_uL, rP_uA, rP_uB, rP_uP, rP_uQ, rP_aA, rP_aB, rP_aQ, rQ_uI, rQ_uL, rQ_uA, rQ_uB, rQ_uP, rQ_uQ, rQ_aA, rQ_aB, rQ_aQ, rT_uI, rT_uL, rT_uA, rT_uB, rT_uP, rT_uQ, rT_aA, rT_aB, rT_aQ, rz_uI, rz_uL, rz_uA, rz_uB, rz_uP, rz_uQ, rz_aA, rz_aB, rz_aQ, rtI_L, rtI_A, rtI_B, rtL_I, rtL_A, rtL_B, rtA_I, rtA_L, rtA_B, rtB_I, rtB_L, rtB_A, rtI_I, rtL_L, rtA_A, rtA_An, rtB_B, rtB_Bn, updL_eq, updL_ne, e', b1, c1, d1]
      rw [if_neg (by omega)]
      exact r1
    · rw [t_cstep (n := n) hn e (by omega), t_cstep (n := n) hn (by simp (disch := omega) only [tS, rtA_A, upd_ne]; exact e) (by omega), t_cstep (n := n) hn (by simp (disch := omega) only [tS, rtA_A, upd_ne]; exact e) (by omega)]
      simp (disch := omega) only [tS, rtA_A, upd_ne]
      rw [show 3320 + 3 * (k + 1) = 3320 + 3 * k + 1 + 1 + 1 by omega] at r2
      exact r2
theorem m_cancel (hN : 100000 ≤ N) (h : RR u t) (a1 : Int32) : Same 0 u (fX0_cancel N u a1) (fX7_cancel N t a1) := by
  obtain ⟨n, hn, e1, e2⟩ := fs_or h.f.n
  unfold fX0_cancel fX7_cancel
  simp (disch := omega) only [c_isOrder hn e1, e2, pl_bd, pl_bd2, pl_nm, pl_id, pl_ald, pl_ast, pl_aldL, pl_astL, pl_nc, pl_ncL, pl_add, pl_addL, pl_addR, pl_mul, pl_mulL, pl_mulR, pl_sub, pl_subL, pl_eq, pl_eqL, pl_eqR, pl_eqN, pl_le, pl_leL, pl_leR, pl_lt, pl_ltL, pl_ltR, pl_div, pl_divL, pl_01, pl_bl, pl_bl0, pl_bl1, ite_not, c_in, t_in, Int32.reduceToInt, Int64.reduceToInt, upd_eq, upd_ne, up2_eq, up2_nk, vq2_ne, up1_eq, vq1_ne, Nat.reduceAdd, Nat.reduceMul, if_true, if_false, rI_uI, rI_uL, rI_uA, rI_uB, rI_uP, rI_uQ, rI_aA, rI_aB, rI_aQ, rL_uI, rL_uL, rL_uA, rL_uB, rL_uP, rL_uQ, rL_aA, rL_aB, rL_aQ, rA_uI, rA_uL, rA_uA, rA_uB, rA_uP, rA_uQ, rA_aA, rA_aB, rA_aQ, rB_uI, rB_uL, rB_uA, rB_uB, rB_uP, rB_uQ, rB_aA, rB_aB, rB_aQ, rP_uI, rP_uL, rP_uA, rP_uB, rP_uP, rP_uQ, rP_aA, rP_aB, rP_aQ, rQ_uI, rQ_uL, rQ_uA, rQ_uB, rQ_uP, rQ_uQ, rQ_aA, rQ_aB, rQ_aQ, rT_uI, rT_uL, rT_uA, rT_uB, rT_uP, rT_uQ, rT_aA, rT_aB, rT_aQ, rz_uI, rz_uL, rz_uA, rz_uB, rz_uP, rz_uQ, rz_aA, rz_aB, rz_aQ, rtI_L, rtI_A, rtI_B, rtL_I, rtL_A, rtL_B, rtA_I, rtA_L, rtA_B, rtB_I, rtB_L, rtB_A, rtI_I, rtL_L, rtA_A, rtA_An, rtB_B, rtB_Bn, updL_eq, updL_ne, pl_m1]
  by_cases c1 : inB a1 0 ((n : Int) - 1)
  · simp only [if_pos c1]
    obtain ⟨k, hk, rfl⟩ := inB_nat c1
    obtain ⟨m, rfl⟩ : ∃ m, n = m + 1 := ⟨n - 1, by omega⟩
    simp (disch := omega) only [pl_bd, pl_bd2, pl_nm, pl_id, pl_ald, pl_ast, pl_aldL, pl_astL, pl_nc, pl_ncL, pl_add, pl_addL, pl_addR, pl_mul, pl_mulL, pl_mulR, pl_sub, pl_subL, pl_eq, pl_eqL, pl_eqR, pl_eqN, pl_le, pl_leL, pl_leR, pl_lt, pl_ltL, pl_ltR, pl_div, pl_divL, pl_01, pl_bl, pl_bl0, pl_bl1, ite_not, c_in, t_in, Int32.reduceToInt, Int64.reduceToInt, upd_eq, upd_ne, up2_eq, up2_nk, vq2_ne, up1_eq, vq1_ne, Nat.reduceAdd, Nat.reduceMul, if_true, if_false, rI_uI, rI_uL, rI_uA, rI_uB, rI_uP, rI_uQ, rI_aA, rI_aB, rI_aQ, rL_uI, rL_uL, rL_uA, rL_uB, rL_uP, rL_uQ, rL_aA, rL_aB, rL_aQ, rA_uI, rA_uL, rA_uA, rA_uB, rA_uP, rA_uQ, rA_aA, rA_aB, rA_aQ, rB_uI, rB_uL, rB_uA, rB_uB, rB_uP, rB_uQ, rB_aA, rB_aB, rB_aQ, rP_uI, rP_uL, rP_uA, rP_uB, rP_uP, rP_uQ, rP_aA, rP_aB, rP_aQ, rQ_uI, rQ_uL, rQ_uA, rQ_uB, rQ_uP, rQ_uQ, rQ_aA, rQ_aB, rQ_aQ, rT_uI, rT_uL, rT_uA, rT_uB, rT_uP, rT_uQ, rT_aA, rT_aB, rT_aQ, rz_uI, rz_uL, rz_uA, rz_uB, rz_uP, rz_uQ, rz_aA, rz_aB, rz_aQ, rtI_L, rtI_A, rtI_B, rtL_I, rtL_A, rtL_B, rtA_I, rtA_L, rtA_B, rtB_I, rtB_L, rtB_A, rtI_I, rtL_L, rtA_A, rtA_An, rtB_B, rtB_Bn, updL_eq, updL_ne, e1, Nat.add_sub_cancel]
    have g := h.f.putN (f := 33) (i := 5) (lo := 0) (hi := 30) (v := Int32.ofNat m) (by omega) (by decide) (by rw [pl_ti (by omega)]; omega) (by rw [pl_ti (by omega)]; omega) (by omega) (h.f.x.s5 (by rw [show tS t 5 = _ from e2, pl_ti (by omega), pl_ti (by omega)]; omega))
    obtain ⟨u1, t1, r1, r2, r3, r4, r5⟩ := cancel_loop (N := N) (n := m) (m - k) N N (wc_uI u 3 33 (Int32.ofNat m)) (mt_uA t 1 5 (Int32.ofNat m)) k (by omega) (by omega) (by omega) (by omega) g (by simp only [tS, rtA_A, upd_eq]) (fun i hi => by
      simp (disch := omega) only [tS, rtA_A, upd_ne]
      have q : (i : Int) < (tS t 5).toInt := by rw [show tS t 5 = _ from e2, pl_ti (by omega)]; omega
      exact ⟨h.f.x.2.2.2.1 i (by omega) q, h.f.x.2.2.2.2.1 i (by omega) q⟩)
    rw [r1, r2]
    exact ⟨_, _, _, rfl, rfl, h.nx ((NX.rfl'.uI (by omega)).trans r3) ((TX.rfl'.uA (by omega) (by omega)).trans r4) r5, Nat.le_of_eq r3.1.symm, Nat.le_of_eq r3.1⟩
  · simp only [if_neg c1]; exact Same.refL h (by decide)
end PM3
