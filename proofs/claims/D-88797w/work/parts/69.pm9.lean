/-! PLAIN LAW, METHODS 9: loss, sell -/
section PM9
variable {u u1 : CS} {t t1 : TS} {N F : Nat} {s : Nat → Int32} {b : Nat → Int64}
theorem pl_ze {β : Type} {a : Nat} (K : Option β) : o_ze a a K = K := by unfold o_ze; rw [if_pos rfl]
theorem pl_zeq {β : Type} {a c : Nat} (h : c = a) (K : Option β) : o_ze a c K = K := by unfold o_ze; rw [if_pos h]
theorem Same.ze {α : Type} {x : Option (α × CS)} {y : Option (α × TS)} (h : Same 0 u x y) : Same 0 u (o_bd2 x (fun r u1 => o_ze (wc_z u) (wc_z u1) (some (r, u1)))) y := by
  obtain ⟨r, u1, t1, rfl, rfl, a, b, c⟩ := h
  exact ⟨r, u1, t1, pl_zeq (show wc_z u1 = wc_z u by omega) _, rfl, a, b, c⟩
/-- a new object of a kind, and a parcel of it: what the component does from the making on -/
theorem newput (hN : 100000 ≤ N) (hF : F = 3 ∨ F = 101 ∨ F = 199) (h : FR F u (tS t) b) (w : RW u) {n c : Nat} {fe st ki vi : Int32} (hn : n < 60) (f2 : fX7_free N t = some (Int32.ofNat n, t)) (hc : (c = 8 ∧ ki = 0) ∨ (c = 9 ∧ ki = 2)) (hv : vi = -1) (hst : 0 ≤ st.toInt ∧ st.toInt ≤ 23) :
    ∃ u1 t1, fX1_put N F (wc_new u (.inl c)) (wc_z u) st fe = some (Int32.ofNat n, u1) ∧ fX7_makes N t ki fe st vi = some (Int32.ofNat n, t1) ∧ FR F u1 (tS t1) b ∧ wc_z u1 = wc_z u + 1 ∧ NZ F u u1 ∧ TX t t1 ∧ t1.2.2.2 = t.2.2.2 ∧ t1.1 = t.1 ∧ (∀ a, a ≠ 1 → t1.2.2.1 a = t.2.2.1 a) ∧ ∀ i, i < 960 ∨ 1320 ≤ i → tS t1 i = tS t i := by
  have hz := w.2.2.2
  have hTz : wc_T (wc_new u (.inl c)) (wc_z u) = some (.inl c) := by
    show (if wc_z u = wc_z u then _ else _) = _
    rw [if_pos rfl]
  have h' := FR.new (c := c) (by omega) hz h
  have w' : RW (wc_new u (.inl c)) := w.same (Nat.le_succ _) (fun a ha => (Sm.new (by unfold IsSlot at ha; omega)).2.2.2.2.1) (fun F' hF' => (Sm.new (by omega)).2.2.2.2.2.1) (fun q _ hq => (Sm.new hq).2.2.2.2.2.2)
  have fr : ∀ a, IsSlot a → wc_P (wc_new u (.inl c)) a 0 ≠ some (wc_z u) := by
    intro a ha e
    rw [(Sm.new (u := u) (sh := .inl c) (q := a) (by unfold IsSlot at ha; omega)).2.2.2.2.1] at e
    have := (w.1 a _ ha e).2.1
    omega
  obtain ⟨n', m1, m2, m3, m4⟩ := free_ok hN h'.p
  have en : n' = n := by
    rw [f2] at m4
    have q := congrArg (fun x => x.1) (Option.some.inj m4)
    have q : Int32.ofNat n = Int32.ofNat n' := q
    rw [pl_eq (by omega) (by omega)] at q
    exact q.symm
  subst en
  rw [if_neg (by omega)] at m3
  obtain ⟨u1, t1, r1, r2, r3, r4, r5, r6, r7, r8, r9, r10, r11, r12⟩ := makes_ok (fe := fe) (st := st) (ki := ki) (vi := vi) hN hF h' w' hn m3 f2 (q := wc_z u) ⟨hz, Nat.lt_succ_self _⟩ (by
    rcases hc with ⟨rfl, k⟩ | ⟨rfl, k⟩
    · exact Or.inl ⟨hTz, k, hv⟩
    · exact Or.inr (Or.inr ⟨hTz, k, hv⟩)) fr hst
  refine ⟨u1, t1, r1, r2, r3, r4, ⟨by rw [r4]; exact Nat.le_succ _, fun q hq hnF => (Sm.new hq).trans (r5 q (by omega) hnF), ?_, fun _ => r7⟩, r8, r9, r10, r11, r12⟩
  rw [r6]
  exact congrFun (Sm.new (u := u) (sh := .inl c) (q := F) (by omega)).1 43
theorem m_loss (hN : 100000 ≤ N) (h : RR u t) (a1 : Int32) : Same 1 u (fX0_loss N u a1) (fX7_loss N t a1) := by
  obtain ⟨n, hn, e1, e2⟩ := fs_st h.f.n
  have rf : ∀ m, OfNat.ofNat m < 9 → Same 1 u (o_bd2 (fX0_refuse N u (-(OfNat.ofNat m : Int32))) (fun r u1 => o_ze (wc_z u) (wc_z u1) (some (r, u1)))) (fX7_refuse N t (-(OfNat.ofNat m : Int32))) := fun m hm => (Same.refL h hm).ze.mono (by omega)
  unfold fX0_loss fX0_loss_91 fX7_loss fX7_loss_76
  simp only [c_isStand hn e1, t_isStand hn e2, pl_bd, pl_bd2, pl_nm, pl_id, pl_ald, pl_ast, pl_aldL, pl_astL, pl_nc, pl_ncL, pl_add, pl_addL, pl_addR, pl_mul, pl_mulL, pl_mulR, pl_sub, pl_subL, pl_eq, pl_eqL, pl_eqR, pl_eqN, pl_le, pl_leL, pl_leR, pl_lt, pl_ltL, pl_ltR, pl_div, pl_divL, pl_01, pl_bl, pl_bl0, pl_bl1, ite_not, c_in, t_in, Int32.reduceToInt, Int64.reduceToInt, upd_eq, upd_ne, up2_eq, up2_nk, vq2_ne, up1_eq, vq1_ne, Nat.reduceAdd, Nat.reduceMul, if_true, if_false, rI_uI, rI_uL, rI_uA, rI_uB, rI_uP, rI_uQ, rI_aA, rI_aB, rI_aQ, rL_uI, rL_uL, rL_uA, rL_uB, rL_uP, rL_uQ, rL_aA, rL_aB, rL_aQ, rA_uI, rA_uL, rA_uA, rA_uB, rA_uP, rA_uQ, rA_aA, rA_aB, rA_aQ, rB_uI, rB_uL, rB_uA, rB_uB, rB_uP, rB_uQ, rB_aA, rB_aB, rB_aQ, rP_uI, rP_uL, rP_uA, rP_uB, rP_uP, rP_uQ, rP_aA, rP_aB, rP_aQ, rQ_uI, rQ_uL, rQ_uA, rQ_uB, rQ_uP, rQ_uQ, rQ_aA, rQ_aB, rQ_aQ, rT_uI, rT_uL, rT_uA, rT_uB, rT_uP, rT_uQ, rT_aA, rT_aB, rT_aQ, rz_uI, rz_uL, rz_uA, rz_uB, rz_uP, rz_uQ, rz_aA, rz_aB, rz_aQ, rtI_L, rtI_A, rtI_B, rtL_I, rtL_A, rtL_B, rtA_I, rtA_L, rtA_B, rtB_I, rtB_L, rtB_A, rtI_I, rtL_L, rtA_A, rtA_An, rtB_B, rtB_Bn, updL_eq, updL_ne, pl_ze]
  by_cases c1 : inB a1 0 ((n : Int) - 1)
  · simp only [if_pos c1]
    obtain ⟨k, hk, rfl⟩ := inB_nat c1
    have hk8 : k < 24 := by omega
    obtain ⟨m, hm, e3⟩ := fr_cm_n h.f.t hk8
    simp (disch := omega) only [pl_bd, pl_bd2, pl_nm, pl_id, pl_ald, pl_ast, pl_aldL, pl_astL, pl_nc, pl_ncL, pl_add, pl_addL, pl_addR, pl_mul, pl_mulL, pl_mulR, pl_sub, pl_subL, pl_eq, pl_eqL, pl_eqR, pl_eqN, pl_le, pl_leL, pl_leR, pl_lt, pl_ltL, pl_ltR, pl_div, pl_divL, pl_01, pl_bl, pl_bl0, pl_bl1, ite_not, c_in, t_in, Int32.reduceToInt, Int64.reduceToInt, upd_eq, upd_ne, up2_eq, up2_nk, vq2_ne, up1_eq, vq1_ne, Nat.reduceAdd, Nat.reduceMul, if_true, if_false, rI_uI, rI_uL, rI_uA, rI_uB, rI_uP, rI_uQ, rI_aA, rI_aB, rI_aQ, rL_uI, rL_uL, rL_uA, rL_uB, rL_uP, rL_uQ, rL_aA, rL_aB, rL_aQ, rA_uI, rA_uL, rA_uA, rA_uB, rA_uP, rA_uQ, rA_aA, rA_aB, rA_aQ, rB_uI, rB_uL, rB_uA, rB_uB, rB_uP, rB_uQ, rB_aA, rB_aB, rB_aQ, rP_uI, rP_uL, rP_uA, rP_uB, rP_uP, rP_uQ, rP_aA, rP_aB, rP_aQ, rQ_uI, rQ_uL, rQ_uA, rQ_uB, rQ_uP, rQ_uQ, rQ_aA, rQ_aB, rQ_aQ, rT_uI, rT_uL, rT_uA, rT_uB, rT_uP, rT_uQ, rT_aA, rT_aB, rT_aQ, rz_uI, rz_uL, rz_uA, rz_uB, rz_uP, rz_uQ, rz_aA, rz_aB, rz_aQ, rtI_L, rtI_A, rtI_B, rtL_I, rtL_A, rtL_B, rtA_I, rtA_L, rtA_B, rtB_I, rtB_L, rtB_A, rtI_I, rtL_L, rtA_A, rtA_An, rtB_B, rtB_Bn, updL_eq, updL_ne, t_stL, show wc_A u 37 k = _ from (fr_cm h.f.t hk8).1, e3]
    by_cases c2 : 2 ≤ m
    · simp only [if_pos c2, c_lack h.f.t hk8 e3 c2 hm, t_lack h.f.t hk8 e3 c2 hm, pl_bd2, pl_ze]
      by_cases c3 : lackV (tS t) k = 0
      · simp only [if_pos c3]; exact rf 7 (by decide)
      · simp only [if_neg c3]
        obtain ⟨p, p1, p2, p3, p4⟩ := free_ok hN h.f.p
        simp only [p3, p4, pl_bd2, pl_ze]
        by_cases c4 : p = 60
        · subst c4
          simp only [if_true]
          exact rf 8 (by decide)
        · obtain ⟨u1, t1, r1, r2, r3, r4, r5, r6, r7, r8, r9, r10⟩ := newput (c := 9) (fe := lackV (tS t) k) (st := Int32.ofNat k) (ki := 2) (vi := -1) hN (Or.inl rfl) h.f h.w (show p < 60 by omega) p4 (Or.inr ⟨rfl, rfl⟩) rfl ⟨by rw [pl_ti (by omega)]; omega, by rw [pl_ti (by omega)]; omega⟩
          have q1 : ¬ (Int32.ofNat p = -1) := by rw [pl_eqN (by omega) (by decide) (by decide)]; exact fun x => x
          have q2 : ¬ (Int32.ofNat p = 60) := by rw [pl_eqL (by omega) (by decide)]; exact c4
          simp only [if_neg c4, if_neg q1, if_neg q2, fX9_init, fX8_init, pl_bd, r1, r2, pl_bd2, pl_ze]
          rw [pl_zeq (by rw [r4]; rfl)]
          unfold o_zc
          simp only []
          rw [if_pos (by show wc_z u + 1 ≤ wc_z u1; omega)]
          exact ⟨_, _, _, rfl, rfl, h.nz r5 r6 (by rw [show tB t1 = tB t from congrFun r7 2]; exact r3), by omega, by omega⟩
    · simp only [if_neg c2]; exact rf 2 (by decide)
  · simp only [if_neg c1]; exact rf 3 (by decide)
theorem wc_S.rfs (h : wc_S u) {k : Nat} (h1 : 1 ≤ k) (h2 : k < 9) : wc_T u (334 + k) = some (.inl 6) ∧ wc_Q u 1 k = some (334 + k) := by
  refine ⟨h.1 _ _ ?_, h.2.2.1 _ _ _ ?_⟩
  · rcases (by omega : k = 1 ∨ k = 2 ∨ k = 3 ∨ k = 4 ∨ k = 5 ∨ k = 6 ∨ k = 7 ∨ k = 8) with rfl | rfl | rfl | rfl | rfl | rfl | rfl | rfl <;> rfl
  · unfold wc_sq
    rw [if_pos rfl, if_neg (by omega)]
theorem c_need1 (c : Int32) : fX0_need N u 1 c = some (.inl (), u) := rfl
theorem c_need0 (h : wc_S u) {k : Nat} (h1 : 1 ≤ k) (h2 : k < 9) : fX0_need N u 0 (-(Int32.ofNat k)) = some (.inr (334 + k), u) := by
  unfold fX0_need
  rw [if_pos rfl, Int32.neg_neg]
  simp (disch := omega) only [pl_bd, pl_bd2, pl_nm, pl_id, pl_ald, pl_ast, pl_aldL, pl_astL, pl_nc, pl_ncL, pl_add, pl_addL, pl_addR, pl_mul, pl_mulL, pl_mulR, pl_sub, pl_subL, pl_eq, pl_eqL, pl_eqR, pl_eqN, pl_le, pl_leL, pl_leR, pl_lt, pl_ltL, pl_ltR, pl_div, pl_divL, pl_01, pl_bl, pl_bl0, pl_bl1, ite_not, c_in, t_in, Int32.reduceToInt, Int64.reduceToInt, upd_eq, upd_ne, up2_eq, up2_nk, vq2_ne, up1_eq, vq1_ne, Nat.reduceAdd, Nat.reduceMul, if_true, if_false, rI_uI, rI_uL, rI_uA, rI_uB, rI_uP, rI_uQ, rI_aA, rI_aB, rI_aQ, rL_uI, rL_uL, rL_uA, rL_uB, rL_uP, rL_uQ, rL_aA, rL_aB, rL_aQ, rA_uI, rA_uL, rA_uA, rA_uB, rA_uP, rA_uQ, rA_aA, rA_aB, rA_aQ, rB_uI, rB_uL, rB_uA, rB_uB, rB_uP, rB_uQ, rB_aA, rB_aB, rB_aQ, rP_uI, rP_uL, rP_uA, rP_uB, rP_uP, rP_uQ, rP_aA, rP_aB, rP_aQ, rQ_uI, rQ_uL, rQ_uA, rQ_uB, rQ_uP, rQ_uQ, rQ_aA, rQ_aB, rQ_aQ, rT_uI, rT_uL, rT_uA, rT_uB, rT_uP, rT_uQ, rT_aA, rT_aB, rT_aQ, rz_uI, rz_uL, rz_uA, rz_uB, rz_uP, rz_uQ, rz_aA, rz_aB, rz_aQ, rtI_L, rtI_A, rtI_B, rtL_I, rtL_A, rtL_B, rtA_I, rtA_L, rtA_B, rtB_I, rtB_L, rtB_A, rtI_I, rtL_L, rtA_A, rtA_An, rtB_B, rtB_Bn, updL_eq, updL_ne, (h.rfs h1 h2).2, pl_nn]
theorem c_need0L (h : wc_S u) {m : Nat} (h1 : 1 ≤ (OfNat.ofNat m : Nat)) (h2 : OfNat.ofNat m < 9) : fX0_need N u 0 (-(no_index (OfNat.ofNat m : Int32))) = some (.inr (334 + OfNat.ofNat m), u) := c_need0 h h1 h2
theorem pl_bx {α β : Type} (a : α) (K : α → CS → Option ((β ⊕ Nat) × CS)) : o_bx (some (.inl a, u)) K = K a u := rfl
theorem pl_bxr {α β : Type} (n : Nat) (K : α → CS → Option ((β ⊕ Nat) × CS)) : o_bx (some (.inr n, u)) K = some (.inr n, u) := rfl
theorem pl_by {α β : Type} (a : α) (K : α → CS → Option β) (Kh : Nat → CS → Option β) : o_by (some (.inl a, u)) K Kh = K a u := rfl
theorem pl_byr {α β : Type} (n : Nat) (K : α → CS → Option β) (Kh : Nat → CS → Option β) : o_by (some (.inr n, u)) K Kh = Kh n u := rfl
/-- what the handler does with a refusal -/
theorem Same.hdl (hS : wc_S u) (h : RR u t) {k : Nat} (h1 : 1 ≤ k) (h2 : k < 9) : Same 0 u (if wc_T u (334 + k) = some (.inl 6) then o_sh u (334 + k) (.inl 6) (fX0_refuse N u (wc_I u (334 + k) 6)) else none) (fX7_refuse N t (-(Int32.ofNat k))) := by
  rw [if_pos (hS.rfs h1 h2).1, pl_sh (hS.rfs h1 h2).1, h.rf.2 k h1 h2]
  exact Same.ref h h2
/-- a parcel ends: its feet into its book, its place is free -/
theorem c_end0 (h : FRp 3 u s) {p q : Nat} (hp : p < 60) (h1 : wc_P u (41 + p) 0 = some q) (h5 : LotR u q s p) (hk : s (960 + 6 * p + 1) = 0) : fX0_end N u (Int32.ofNat p) = some (wc_I u q 0, wc_uP (wc_uB u 26 1 (wc_B u 26 1 + Int32.toInt64 (wc_I u q 0))) (41 + p) 0 none) := by
  obtain ⟨⟨g1, g2⟩, -⟩ := h p hp
  have g1 : wc_Q u 25 p = some (41 + p) := g1
  have g2 : wc_T u (41 + p) = some (.inl 2) := g2
  have ea : fX1_at N 3 u (Int32.ofNat p) = some (some q, u) := by
    unfold fX1_at
    simp (disch := omega) only [pl_bd, pl_bd2, pl_nm, pl_id, pl_ald, pl_ast, pl_aldL, pl_astL, pl_nc, pl_ncL, pl_add, pl_addL, pl_addR, pl_mul, pl_mulL, pl_mulR, pl_sub, pl_subL, pl_eq, pl_eqL, pl_eqR, pl_eqN, pl_le, pl_leL, pl_leR, pl_lt, pl_ltL, pl_ltR, pl_div, pl_divL, pl_01, pl_bl, pl_bl0, pl_bl1, ite_not, c_in, t_in, Int32.reduceToInt, Int64.reduceToInt, upd_eq, upd_ne, up2_eq, up2_nk, vq2_ne, up1_eq, vq1_ne, Nat.reduceAdd, Nat.reduceMul, if_true, if_false, rI_uI, rI_uL, rI_uA, rI_uB, rI_uP, rI_uQ, rI_aA, rI_aB, rI_aQ, rL_uI, rL_uL, rL_uA, rL_uB, rL_uP, rL_uQ, rL_aA, rL_aB, rL_aQ, rA_uI, rA_uL, rA_uA, rA_uB, rA_uP, rA_uQ, rA_aA, rA_aB, rA_aQ, rB_uI, rB_uL, rB_uA, rB_uB, rB_uP, rB_uQ, rB_aA, rB_aB, rB_aQ, rP_uI, rP_uL, rP_uA, rP_uB, rP_uP, rP_uQ, rP_aA, rP_aB, rP_aQ, rQ_uI, rQ_uL, rQ_uA, rQ_uB, rQ_uP, rQ_uQ, rQ_aA, rQ_aB, rQ_aQ, rT_uI, rT_uL, rT_uA, rT_uB, rT_uP, rT_uQ, rT_aA, rT_aB, rT_aQ, rz_uI, rz_uL, rz_uA, rz_uB, rz_uP, rz_uQ, rz_aA, rz_aB, rz_aQ, rtI_L, rtI_A, rtI_B, rtL_I, rtL_A, rtL_B, rtA_I, rtA_L, rtA_B, rtB_I, rtB_L, rtB_A, rtI_I, rtL_L, rtA_A, rtA_An, rtB_B, rtB_Bn, updL_eq, updL_ne, g1, pl_nn, pl_sh g2, h1]
    show o_lt u q _ = _
    rw [pl_lt' h5]
  unfold fX0_end fX0_end_37
  simp only [ea, pl_bd2, pl_nn, lot_ends h5, hk, if_true]
  rw [if_neg (by decide)]
  simp (disch := omega) only [pl_bd, pl_bd2, pl_nm, pl_id, pl_ald, pl_ast, pl_aldL, pl_astL, pl_nc, pl_ncL, pl_add, pl_addL, pl_addR, pl_mul, pl_mulL, pl_mulR, pl_sub, pl_subL, pl_eq, pl_eqL, pl_eqR, pl_eqN, pl_le, pl_leL, pl_leR, pl_lt, pl_ltL, pl_ltR, pl_div, pl_divL, pl_01, pl_bl, pl_bl0, pl_bl1, ite_not, c_in, t_in, Int32.reduceToInt, Int64.reduceToInt, upd_eq, upd_ne, up2_eq, up2_nk, vq2_ne, up1_eq, vq1_ne, Nat.reduceAdd, Nat.reduceMul, if_true, if_false, rI_uI, rI_uL, rI_uA, rI_uB, rI_uP, rI_uQ, rI_aA, rI_aB, rI_aQ, rL_uI, rL_uL, rL_uA, rL_uB, rL_uP, rL_uQ, rL_aA, rL_aB, rL_aQ, rA_uI, rA_uL, rA_uA, rA_uB, rA_uP, rA_uQ, rA_aA, rA_aB, rA_aQ, rB_uI, rB_uL, rB_uA, rB_uB, rB_uP, rB_uQ, rB_aA, rB_aB, rB_aQ, rP_uI, rP_uL, rP_uA, rP_uB, rP_uP, rP_uQ, rP_aA, rP_aB, rP_aQ, rQ_uI, rQ_uL, rQ_uA, rQ_uB, rQ_uP, rQ_uQ, rQ_aA, rQ_aB, rQ_aQ, rT_uI, rT_uL, rT_uA, rT_uB, rT_uP, rT_uQ, rT_aA, rT_aB, rT_aQ, rz_uI, rz_uL, rz_uA, rz_uB, rz_uP, rz_uQ, rz_aA, rz_aB, rz_aQ, rtI_L, rtI_A, rtI_B, rtL_I, rtL_A, rtL_B, rtA_I, rtA_L, rtA_B, rtB_I, rtB_L, rtB_A, rtI_I, rtL_L, rtA_A, rtA_An, rtB_B, rtB_Bn, updL_eq, updL_ne, pl_lt' h5, g1, pl_nn]
  rw [pl_sh (u := wc_uB u 26 1 (wc_B u 26 1 + Int32.toInt64 (wc_I u q 0))) g2]
  rw [pl_lt3 (u := wc_uP (wc_uB u 26 1 (wc_B u 26 1 + Int32.toInt64 (wc_I u q 0))) (41 + p) 0 none) h5.sh]
theorem c_end1 (h : FRp 3 u s) {p q : Nat} (hp : p < 60) (h1 : wc_P u (41 + p) 0 = some q) (h5 : LotR u q s p) (hk : s (960 + 6 * p + 1) = 1) : fX0_end N u (Int32.ofNat p) = some (wc_I u q 0, wc_uP (wc_uB u 26 2 (wc_B u 26 2 + Int32.toInt64 (wc_I u q 0))) (41 + p) 0 none) := by
  obtain ⟨⟨g1, g2⟩, -⟩ := h p hp
  have g1 : wc_Q u 25 p = some (41 + p) := g1
  have g2 : wc_T u (41 + p) = some (.inl 2) := g2
  have ea : fX1_at N 3 u (Int32.ofNat p) = some (some q, u) := by
    unfold fX1_at
    simp (disch := omega) only [pl_bd, pl_bd2, pl_nm, pl_id, pl_ald, pl_ast, pl_aldL, pl_astL, pl_nc, pl_ncL, pl_add, pl_addL, pl_addR, pl_mul, pl_mulL, pl_mulR, pl_sub, pl_subL, pl_eq, pl_eqL, pl_eqR, pl_eqN, pl_le, pl_leL, pl_leR, pl_lt, pl_ltL, pl_ltR, pl_div, pl_divL, pl_01, pl_bl, pl_bl0, pl_bl1, ite_not, c_in, t_in, Int32.reduceToInt, Int64.reduceToInt, upd_eq, upd_ne, up2_eq, up2_nk, vq2_ne, up1_eq, vq1_ne, Nat.reduceAdd, Nat.reduceMul, if_true, if_false, rI_uI, rI_uL, rI_uA, rI_uB, rI_uP, rI_uQ, rI_aA, rI_aB, rI_aQ, rL_uI, rL_uL, rL_uA, rL_uB, rL_uP, rL_uQ, rL_aA, rL_aB, rL_aQ, rA_uI, rA_uL, rA_uA, rA_uB, rA_uP, rA_uQ, rA_aA, rA_aB, rA_aQ, rB_uI, rB_uL, rB_uA, rB_uB, rB_uP, rB_uQ, rB_aA, rB_aB, rB_aQ, rP_uI, rP_uL, rP_uA, rP_uB, rP_uP, rP_uQ, rP_aA, rP_aB, rP_aQ, rQ_uI, rQ_uL, rQ_uA, rQ_uB, rQ_uP, rQ_uQ, rQ_aA, rQ_aB, rQ_aQ, rT_uI, rT_uL, rT_uA, rT_uB, rT_uP, rT_uQ, rT_aA, rT_aB, rT_aQ, rz_uI, rz_uL, rz_uA, rz_uB, rz_uP, rz_uQ, rz_aA, rz_aB, rz_aQ, rtI_L, rtI_A, rtI_B, rtL_I, rtL_A, rtL_B, rtA_I, rtA_L, rtA_B, rtB_I, rtB_L, rtB_A, rtI_I, rtL_L, rtA_A, rtA_An, rtB_B, rtB_Bn, updL_eq, updL_ne, g1, pl_nn, pl_sh g2, h1]
    show o_lt u q _ = _
    rw [pl_lt' h5]
  unfold fX0_end fX0_end_37
  simp only [ea, pl_bd2, pl_nn, lot_ends h5, hk, if_true, if_neg (show ¬ ((1 : Int32) = 0) by decide)]
  rw [if_neg (by decide)]
  simp (disch := omega) only [pl_bd, pl_bd2, pl_nm, pl_id, pl_ald, pl_ast, pl_aldL, pl_astL, pl_nc, pl_ncL, pl_add, pl_addL, pl_addR, pl_mul, pl_mulL, pl_mulR, pl_sub, pl_subL, pl_eq, pl_eqL, pl_eqR, pl_eqN, pl_le, pl_leL, pl_leR, pl_lt, pl_ltL, pl_ltR, pl_div, pl_divL, pl_01, pl_bl, pl_bl0, pl_bl1, ite_not, c_in, t_in, Int32.reduceToInt, Int64.reduceToInt, upd_eq, upd_ne, up2_eq, up2_nk, vq2_ne, up1_eq, vq1_ne, Nat.reduceAdd, Nat.reduceMul, if_true, if_false, rI_uI, rI_uL, rI_uA, rI_uB, rI_uP, rI_uQ, rI_aA, rI_aB, rI_aQ, rL_uI, rL_uL, rL_uA, rL_uB, rL_uP, rL_uQ, rL_aA, rL_aB, rL_aQ, rA_uI, rA_uL, rA_uA, rA_uB, rA_uP, rA_uQ, rA_aA, rA_aB, rA_aQ, rB_uI, rB_uL, rB_uA, rB_uB, rB_uP, rB_uQ, rB_aA, rB_aB, rB_aQ, rP_uI, rP_uL, rP_uA, rP_uB, rP_uP, rP_uQ, rP_aA, rP_aB, rP_aQ, rQ_uI, rQ_uL, rQ_uA, rQ_uB, rQ_uP, rQ_uQ, rQ_aA, rQ_aB, rQ_aQ, rT_uI, rT_uL, rT_uA, rT_uB, rT_uP, rT_uQ, rT_aA, rT_aB, rT_aQ, rz_uI, rz_uL, rz_uA, rz_uB, rz_uP, rz_uQ, rz_aA, rz_aB, rz_aQ, rtI_L, rtI_A, rtI_B, rtL_I, rtL_A, rtL_B, rtA_I, rtA_L, rtA_B, rtB_I, rtB_L, rtB_A, rtI_I, rtL_L, rtA_A, rtA_An, rtB_B, rtB_Bn, updL_eq, updL_ne, pl_lt' h5, g1, pl_nn]
  rw [pl_sh (u := wc_uB u 26 2 (wc_B u 26 2 + Int32.toInt64 (wc_I u q 0))) g2]
  rw [pl_lt3 (u := wc_uP (wc_uB u 26 2 (wc_B u 26 2 + Int32.toInt64 (wc_I u q 0))) (41 + p) 0 none) h5.sh]
theorem c_end2 (h : FRp 3 u s) {p q : Nat} (hp : p < 60) (h1 : wc_P u (41 + p) 0 = some q) (h5 : LotR u q s p) (hk : s (960 + 6 * p + 1) = 2) : fX0_end N u (Int32.ofNat p) = some (wc_I u q 0, wc_uP u (41 + p) 0 none) := by
  obtain ⟨⟨g1, g2⟩, -⟩ := h p hp
  have g1 : wc_Q u 25 p = some (41 + p) := g1
  have g2 : wc_T u (41 + p) = some (.inl 2) := g2
  have ea : fX1_at N 3 u (Int32.ofNat p) = some (some q, u) := by
    unfold fX1_at
    simp (disch := omega) only [pl_bd, pl_bd2, pl_nm, pl_id, pl_ald, pl_ast, pl_aldL, pl_astL, pl_nc, pl_ncL, pl_add, pl_addL, pl_addR, pl_mul, pl_mulL, pl_mulR, pl_sub, pl_subL, pl_eq, pl_eqL, pl_eqR, pl_eqN, pl_le, pl_leL, pl_leR, pl_lt, pl_ltL, pl_ltR, pl_div, pl_divL, pl_01, pl_bl, pl_bl0, pl_bl1, ite_not, c_in, t_in, Int32.reduceToInt, Int64.reduceToInt, upd_eq, upd_ne, up2_eq, up2_nk, vq2_ne, up1_eq, vq1_ne, Nat.reduceAdd, Nat.reduceMul, if_true, if_false, rI_uI, rI_uL, rI_uA, rI_uB, rI_uP, rI_uQ, rI_aA, rI_aB, rI_aQ, rL_uI, rL_uL, rL_uA, rL_uB, rL_uP, rL_uQ, rL_aA, rL_aB, rL_aQ, rA_uI, rA_uL, rA_uA, rA_uB, rA_uP, rA_uQ, rA_aA, rA_aB, rA_aQ, rB_uI, rB_uL, rB_uA, rB_uB, rB_uP, rB_uQ, rB_aA, rB_aB, rB_aQ, rP_uI, rP_uL, rP_uA, rP_uB, rP_uP, rP_uQ, rP_aA, rP_aB, rP_aQ, rQ_uI, rQ_uL, rQ_uA, rQ_uB, rQ_uP, rQ_uQ, rQ_aA, rQ_aB, rQ_aQ, rT_uI, rT_uL, rT_uA, rT_uB, rT_uP, rT_uQ, rT_aA, rT_aB, rT_aQ, rz_uI, rz_uL, rz_uA, rz_uB, rz_uP, rz_uQ, rz_aA, rz_aB, rz_aQ, rtI_L, rtI_A, rtI_B, rtL_I, rtL_A, rtL_B, rtA_I, rtA_L, rtA_B, rtB_I, rtB_L, rtB_A, rtI_I, rtL_L, rtA_A, rtA_An, rtB_B, rtB_Bn, updL_eq, updL_ne, g1, pl_nn, pl_sh g2, h1]
    show o_lt u q _ = _
    rw [pl_lt' h5]
  unfold fX0_end fX0_end_37
  simp only [ea, pl_bd2, pl_nn, lot_ends h5, hk, if_neg (show ¬ ((2 : Int32) = 0) by decide), if_neg (show ¬ ((2 : Int32) = 1) by decide), if_true]
  simp (disch := omega) only [pl_bd, pl_bd2, pl_nm, pl_id, pl_ald, pl_ast, pl_aldL, pl_astL, pl_nc, pl_ncL, pl_add, pl_addL, pl_addR, pl_mul, pl_mulL, pl_mulR, pl_sub, pl_subL, pl_eq, pl_eqL, pl_eqR, pl_eqN, pl_le, pl_leL, pl_leR, pl_lt, pl_ltL, pl_ltR, pl_div, pl_divL, pl_01, pl_bl, pl_bl0, pl_bl1, ite_not, c_in, t_in, Int32.reduceToInt, Int64.reduceToInt, upd_eq, upd_ne, up2_eq, up2_nk, vq2_ne, up1_eq, vq1_ne, Nat.reduceAdd, Nat.reduceMul, if_true, if_false, rI_uI, rI_uL, rI_uA, rI_uB, rI_uP, rI_uQ, rI_aA, rI_aB, rI_aQ, rL_uI, rL_uL, rL_uA, rL_uB, rL_uP, rL_uQ, rL_aA, rL_aB, rL_aQ, rA_uI, rA_uL, rA_uA, rA_uB, rA_uP, rA_uQ, rA_aA, rA_aB, rA_aQ, rB_uI, rB_uL, rB_uA, rB_uB, rB_uP, rB_uQ, rB_aA, rB_aB, rB_aQ, rP_uI, rP_uL, rP_uA, rP_uB, rP_uP, rP_uQ, rP_aA, rP_aB, rP_aQ, rQ_uI, rQ_uL, rQ_uA, rQ_uB, rQ_uP, rQ_uQ, rQ_aA, rQ_aB, rQ_aQ, rT_uI, rT_uL, rT_uA, rT_uB, rT_uP, rT_uQ, rT_aA, rT_aB, rT_aQ, rz_uI, rz_uL, rz_uA, rz_uB, rz_uP, rz_uQ, rz_aA, rz_aB, rz_aQ, rtI_L, rtI_A, rtI_B, rtL_I, rtL_A, rtL_B, rtA_I, rtA_L, rtA_B, rtB_I, rtB_L, rtB_A, rtI_I, rtL_L, rtA_A, rtA_An, rtB_B, rtB_Bn, updL_eq, updL_ne, pl_lt' h5, g1, pl_nn, pl_sh g2]
  rw [pl_lt3 (u := wc_uP u (41 + p) 0 none) h5.sh]
theorem m_sell (hS : wc_S u) (h : RR u t) (a1 a2 : Int32) : Same 0 u (fX0_sell N u a1 a2) (fX7_sell N t a1 a2) := by
  unfold fX0_sell fX0_sold fX7_sell fX7_sell_69
  rcases isParcel_ok (N := N) h.f.p a1 with ⟨e1, e2⟩ | ⟨p, q, hp, rfl, h1, h3, h4, h5, e1, e2, e3⟩
  · simp (disch := decide) only [e1, e2, pl_bd, pl_bd2, pl_nm, pl_id, pl_ald, pl_ast, pl_aldL, pl_astL, pl_nc, pl_ncL, pl_add, pl_addL, pl_addR, pl_mul, pl_mulL, pl_mulR, pl_sub, pl_subL, pl_eq, pl_eqL, pl_eqR, pl_eqN, pl_le, pl_leL, pl_leR, pl_lt, pl_ltL, pl_ltR, pl_div, pl_divL, pl_01, pl_bl, pl_bl0, pl_bl1, ite_not, c_in, t_in, Int32.reduceToInt, Int64.reduceToInt, upd_eq, upd_ne, up2_eq, up2_nk, vq2_ne, up1_eq, vq1_ne, Nat.reduceAdd, Nat.reduceMul, if_true, if_false, rI_uI, rI_uL, rI_uA, rI_uB, rI_uP, rI_uQ, rI_aA, rI_aB, rI_aQ, rL_uI, rL_uL, rL_uA, rL_uB, rL_uP, rL_uQ, rL_aA, rL_aB, rL_aQ, rA_uI, rA_uL, rA_uA, rA_uB, rA_uP, rA_uQ, rA_aA, rA_aB, rA_aQ, rB_uI, rB_uL, rB_uA, rB_uB, rB_uP, rB_uQ, rB_aA, rB_aB, rB_aQ, rP_uI, rP_uL, rP_uA, rP_uB, rP_uP, rP_uQ, rP_aA, rP_aB, rP_aQ, rQ_uI, rQ_uL, rQ_uA, rQ_uB, rQ_uP, rQ_uQ, rQ_aA, rQ_aB, rQ_aQ, rT_uI, rT_uL, rT_uA, rT_uB, rT_uP, rT_uQ, rT_aA, rT_aB, rT_aQ, rz_uI, rz_uL, rz_uA, rz_uB, rz_uP, rz_uQ, rz_aA, rz_aB, rz_aQ, rtI_L, rtI_A, rtI_B, rtL_I, rtL_A, rtL_B, rtA_I, rtA_L, rtA_B, rtB_I, rtB_L, rtB_A, rtI_I, rtL_L, rtA_A, rtA_An, rtB_B, rtB_Bn, updL_eq, updL_ne, c_need0L hS, pl_bxr, pl_byr]
    exact Same.hdl hS h (k := 3) (by omega) (by omega)
  · simp only [e1, e2, e3, pl_bd, pl_bd2, pl_nm, pl_id, pl_ald, pl_ast, pl_aldL, pl_astL, pl_nc, pl_ncL, pl_add, pl_addL, pl_addR, pl_mul, pl_mulL, pl_mulR, pl_sub, pl_subL, pl_eq, pl_eqL, pl_eqR, pl_eqN, pl_le, pl_leL, pl_leR, pl_lt, pl_ltL, pl_ltR, pl_div, pl_divL, pl_01, pl_bl, pl_bl0, pl_bl1, ite_not, c_in, t_in, Int32.reduceToInt, Int64.reduceToInt, upd_eq, upd_ne, up2_eq, up2_nk, vq2_ne, up1_eq, vq1_ne, Nat.reduceAdd, Nat.reduceMul, if_true, if_false, rI_uI, rI_uL, rI_uA, rI_uB, rI_uP, rI_uQ, rI_aA, rI_aB, rI_aQ, rL_uI, rL_uL, rL_uA, rL_uB, rL_uP, rL_uQ, rL_aA, rL_aB, rL_aQ, rA_uI, rA_uL, rA_uA, rA_uB, rA_uP, rA_uQ, rA_aA, rA_aB, rA_aQ, rB_uI, rB_uL, rB_uA, rB_uB, rB_uP, rB_uQ, rB_aA, rB_aB, rB_aQ, rP_uI, rP_uL, rP_uA, rP_uB, rP_uP, rP_uQ, rP_aA, rP_aB, rP_aQ, rQ_uI, rQ_uL, rQ_uA, rQ_uB, rQ_uP, rQ_uQ, rQ_aA, rQ_aB, rQ_aQ, rT_uI, rT_uL, rT_uA, rT_uB, rT_uP, rT_uQ, rT_aA, rT_aB, rT_aQ, rz_uI, rz_uL, rz_uA, rz_uB, rz_uP, rz_uQ, rz_aA, rz_aB, rz_aQ, rtI_L, rtI_A, rtI_B, rtL_I, rtL_A, rtL_B, rtA_I, rtA_L, rtA_B, rtB_I, rtB_L, rtB_A, rtI_I, rtL_L, rtA_A, rtA_An, rtB_B, rtB_Bn, updL_eq, updL_ne, c_need1, pl_bx, pl_nn, lot_kind h5, if_neg (show ¬ ((1 : Int32) = 0) by decide)]
    simp (disch := omega) only [t_pcL, pl_bd2]
    by_cases c1 : tS t (960 + 6 * p + 1) = 0
    · simp only [if_pos c1]
      obtain ⟨y, hy, ey⟩ := pl_nat (m := 23) h5.2.2.2.2.1 h5.2.2.2.2.2
      have hy24 : y < 24 := by omega
      obtain ⟨z, hz, ez⟩ := fr_bl_n h.f.t hy24
      have iq : wc_I u q 1 = Int32.ofNat y := h5.2.2.1.trans ey
      have ib : wc_A u 4 y = Int32.ofNat z := (fr_bl h.f.t hy24).1.trans ez
      unfold fX0_sold_33 fX0_sold_84 fX0_sold_85
      simp (disch := omega) only [ey, pl_bd, pl_bd2, pl_nm, pl_id, pl_ald, pl_ast, pl_aldL, pl_astL, pl_nc, pl_ncL, pl_add, pl_addL, pl_addR, pl_mul, pl_mulL, pl_mulR, pl_sub, pl_subL, pl_eq, pl_eqL, pl_eqR, pl_eqN, pl_le, pl_leL, pl_leR, pl_lt, pl_ltL, pl_ltR, pl_div, pl_divL, pl_01, pl_bl, pl_bl0, pl_bl1, ite_not, c_in, t_in, Int32.reduceToInt, Int64.reduceToInt, upd_eq, upd_ne, up2_eq, up2_nk, vq2_ne, up1_eq, vq1_ne, Nat.reduceAdd, Nat.reduceMul, if_true, if_false, rI_uI, rI_uL, rI_uA, rI_uB, rI_uP, rI_uQ, rI_aA, rI_aB, rI_aQ, rL_uI, rL_uL, rL_uA, rL_uB, rL_uP, rL_uQ, rL_aA, rL_aB, rL_aQ, rA_uI, rA_uL, rA_uA, rA_uB, rA_uP, rA_uQ, rA_aA, rA_aB, rA_aQ, rB_uI, rB_uL, rB_uA, rB_uB, rB_uP, rB_uQ, rB_aA, rB_aB, rB_aQ, rP_uI, rP_uL, rP_uA, rP_uB, rP_uP, rP_uQ, rP_aA, rP_aB, rP_aQ, rQ_uI, rQ_uL, rQ_uA, rQ_uB, rQ_uP, rQ_uQ, rQ_aA, rQ_aB, rQ_aQ, rT_uI, rT_uL, rT_uA, rT_uB, rT_uP, rT_uQ, rT_aA, rT_aB, rT_aQ, rz_uI, rz_uL, rz_uA, rz_uB, rz_uP, rz_uQ, rz_aA, rz_aB, rz_aQ, rtI_L, rtI_A, rtI_B, rtL_I, rtL_A, rtL_B, rtA_I, rtA_L, rtA_B, rtB_I, rtB_L, rtB_A, rtI_I, rtL_L, rtA_A, rtA_An, rtB_B, rtB_Bn, updL_eq, updL_ne, c_need1, pl_bx, pl_lt' h5, iq, ib, t_stL, ez]
      have rf7 : Same 0 u (if wc_T u (334 + 7) = some (.inl 6) then o_sh u (334 + 7) (.inl 6) (fX0_refuse N u (wc_I u (334 + 7) 6)) else none) (fX7_refuse N t (-7)) := Same.hdl (N := N) hS h (k := 7) (by omega) (by omega)
      by_cases c2 : inB a2 0 9999
      · simp only [if_pos c2]
        rcases h.f.h z (by omega) with ⟨d, hd, w1, w2⟩ | ⟨w1, w2⟩
        · have w1 : wc_A u 20 z = Int32.ofNat d := w1
          have w2 : t.2.2.1 1 (4530 + z) = Int32.ofNat d := w2
          simp (disch := omega) only [w1, w2, pl_bd, pl_bd2, pl_nm, pl_id, pl_ald, pl_ast, pl_aldL, pl_astL, pl_nc, pl_ncL, pl_add, pl_addL, pl_addR, pl_mul, pl_mulL, pl_mulR, pl_sub, pl_subL, pl_eq, pl_eqL, pl_eqR, pl_eqN, pl_le, pl_leL, pl_leR, pl_lt, pl_ltL, pl_ltR, pl_div, pl_divL, pl_01, pl_bl, pl_bl0, pl_bl1, ite_not, c_in, t_in, Int32.reduceToInt, Int64.reduceToInt, upd_eq, upd_ne, up2_eq, up2_nk, vq2_ne, up1_eq, vq1_ne, Nat.reduceAdd, Nat.reduceMul, if_true, if_false, rI_uI, rI_uL, rI_uA, rI_uB, rI_uP, rI_uQ, rI_aA, rI_aB, rI_aQ, rL_uI, rL_uL, rL_uA, rL_uB, rL_uP, rL_uQ, rL_aA, rL_aB, rL_aQ, rA_uI, rA_uL, rA_uA, rA_uB, rA_uP, rA_uQ, rA_aA, rA_aB, rA_aQ, rB_uI, rB_uL, rB_uA, rB_uB, rB_uP, rB_uQ, rB_aA, rB_aB, rB_aQ, rP_uI, rP_uL, rP_uA, rP_uB, rP_uP, rP_uQ, rP_aA, rP_aB, rP_aQ, rQ_uI, rQ_uL, rQ_uA, rQ_uB, rQ_uP, rQ_uQ, rQ_aA, rQ_aB, rQ_aQ, rT_uI, rT_uL, rT_uA, rT_uB, rT_uP, rT_uQ, rT_aA, rT_aB, rT_aQ, rz_uI, rz_uL, rz_uA, rz_uB, rz_uP, rz_uQ, rz_aA, rz_aB, rz_aQ, rtI_L, rtI_A, rtI_B, rtL_I, rtL_A, rtL_B, rtA_I, rtA_L, rtA_B, rtB_I, rtB_L, rtB_A, rtI_I, rtL_L, rtA_A, rtA_An, rtB_B, rtB_Bn, updL_eq, updL_ne]
          rw [if_neg (by omega), if_pos (by omega)]
          have g1 := h.f.putB (k := 7) (v := wc_B u 26 7 + Int32.toInt64 (wc_I u q 0) * Int32.toInt64 (a2 - Int32.ofNat (d / 10)) / 100) (by omega)
          have h5' : LotR (wc_uB u 26 7 (wc_B u 26 7 + Int32.toInt64 (wc_I u q 0) * Int32.toInt64 (a2 - Int32.ofNat (d / 10)) / 100)) q (tS t) p := h5
          have en := c_end0 (N := N) g1.p hp (show wc_P (wc_uB u 26 7 (wc_B u 26 7 + Int32.toInt64 (wc_I u q 0) * Int32.toInt64 (a2 - Int32.ofNat (d / 10)) / 100)) (41 + p) 0 = some q from h1) h5' c1
          have b7 : wc_B u 26 7 = t.2.2.2 2 7 := h.f.bk 7 (by omega)
          have b1 : wc_B u 26 1 = t.2.2.2 2 1 := h.f.bk 1 (by omega)
          have i0 : wc_I u q 0 = t.2.2.1 1 (960 + 6 * p + 2) := h5.2.1
          rw [en]
          have g2 := g1.putB (k := 1) (v := wc_B u 26 1 + Int32.toInt64 (wc_I u q 0)) (by omega)
          have g3 := g2.drop (by omega) hp
          simp (disch := omega) only [pl_bd, pl_bd2, pl_nm, pl_id, pl_ald, pl_ast, pl_aldL, pl_astL, pl_nc, pl_ncL, pl_add, pl_addL, pl_addR, pl_mul, pl_mulL, pl_mulR, pl_sub, pl_subL, pl_eq, pl_eqL, pl_eqR, pl_eqN, pl_le, pl_leL, pl_leR, pl_lt, pl_ltL, pl_ltR, pl_div, pl_divL, pl_01, pl_bl, pl_bl0, pl_bl1, ite_not, c_in, t_in, Int32.reduceToInt, Int64.reduceToInt, upd_eq, upd_ne, up2_eq, up2_nk, vq2_ne, up1_eq, vq1_ne, Nat.reduceAdd, Nat.reduceMul, if_true, if_false, rI_uI, rI_uL, rI_uA, rI_uB, rI_uP, rI_uQ, rI_aA, rI_aB, rI_aQ, rL_uI, rL_uL, rL_uA, rL_uB, rL_uP, rL_uQ, rL_aA, rL_aB, rL_aQ, rA_uI, rA_uL, rA_uA, rA_uB, rA_uP, rA_uQ, rA_aA, rA_aB, rA_aQ, rB_uI, rB_uL, rB_uA, rB_uB, rB_uP, rB_uQ, rB_aA, rB_aB, rB_aQ, rP_uI, rP_uL, rP_uA, rP_uB, rP_uP, rP_uQ, rP_aA, rP_aB, rP_aQ, rQ_uI, rQ_uL, rQ_uA, rQ_uB, rQ_uP, rQ_uQ, rQ_aA, rQ_aB, rQ_aQ, rT_uI, rT_uL, rT_uA, rT_uB, rT_uP, rT_uQ, rT_aA, rT_aB, rT_aQ, rz_uI, rz_uL, rz_uA, rz_uB, rz_uP, rz_uQ, rz_aA, rz_aB, rz_aQ, rtI_L, rtI_A, rtI_B, rtL_I, rtL_A, rtL_B, rtA_I, rtA_L, rtA_B, rtB_I, rtB_L, rtB_A, rtI_I, rtL_L, rtA_A, rtA_An, rtB_B, rtB_Bn, updL_eq, updL_ne, pl_by]
          rw [i0, b7, b1] at *
          have nz := ((NX.rfl' (F := 3) (u := u)).uB (p := 26) (k := 7) (v := t.2.2.2 2 7 + Int32.toInt64 (t.2.2.1 1 (960 + 6 * p + 2)) * Int32.toInt64 (a2 - Int32.ofNat (d / 10)) / 100) (by unfold InF; omega)).uB (p := 26) (k := 1) (v := t.2.2.2 2 1 + Int32.toInt64 (t.2.2.1 1 (960 + 6 * p + 2))) (by unfold InF; omega)
          refine ⟨_, _, _, rfl, rfl, h.nz (nz.nz.trans (NZ.drop (Or.inl rfl) hp)) ((TX.rfl'.uB.uB).uA (by omega) (by omega)) ?_, Nat.le_refl _, Nat.le_refl _⟩
          simp (disch := omega) only [tS, tB, rtA_A, rtA_B, rtB_A, rtB_B] at g3 ⊢
          exact g3
        · have w1 : wc_A u 20 z = 100000000 := w1
          have w2 : t.2.2.1 1 (4530 + z) = 999999 := w2
          simp (disch := omega) only [w1, w2]
          rw [if_pos (by decide), if_neg (by decide)]
          simp (disch := decide) only [c_need0L hS, pl_bxr, pl_byr, pl_id]
          exact rf7
      · simp (disch := decide) only [if_neg c2, c_need0L hS, pl_bxr, pl_byr, pl_id]
        exact rf7
    · simp only [if_neg c1]
      unfold fX0_sold_33
      simp (disch := decide) only [c_need0L hS, pl_bxr, pl_byr]
      exact Same.hdl hS h (k := 5) (by omega) (by omega)
end PM9
