/-! PLAIN LAW 8: reads over writes; single numbers by name (printed by plset.py) -/
theorem rI_uI {u : CS} {n k : Nat} {x : Int32} : wc_I (wc_uI u n k x) = up2 (wc_I u) n k x := rfl
theorem rI_uL {u : CS} {n k : Nat} {x : Int64} : wc_I (wc_uL u n k x) = wc_I u := rfl
theorem rI_uA {u : CS} {n k : Nat} {x : Int32} : wc_I (wc_uA u n k x) = wc_I u := rfl
theorem rI_uB {u : CS} {n k : Nat} {x : Int64} : wc_I (wc_uB u n k x) = wc_I u := rfl
theorem rI_uP {u : CS} {n k : Nat} {x : Option Nat} : wc_I (wc_uP u n k x) = wc_I u := rfl
theorem rI_uQ {u : CS} {n k : Nat} {x : Option Nat} : wc_I (wc_uQ u n k x) = wc_I u := rfl
theorem rI_aA {u : CS} {n : Nat} {g : Nat → Int32} : wc_I (wc_aA u n g) = wc_I u := rfl
theorem rI_aB {u : CS} {n : Nat} {g : Nat → Int64} : wc_I (wc_aB u n g) = wc_I u := rfl
theorem rI_aQ {u : CS} {n : Nat} {g : Nat → Option Nat} : wc_I (wc_aQ u n g) = wc_I u := rfl
theorem rL_uI {u : CS} {n k : Nat} {x : Int32} : wc_L (wc_uI u n k x) = wc_L u := rfl
theorem rL_uL {u : CS} {n k : Nat} {x : Int64} : wc_L (wc_uL u n k x) = up2 (wc_L u) n k x := rfl
theorem rL_uA {u : CS} {n k : Nat} {x : Int32} : wc_L (wc_uA u n k x) = wc_L u := rfl
theorem rL_uB {u : CS} {n k : Nat} {x : Int64} : wc_L (wc_uB u n k x) = wc_L u := rfl
theorem rL_uP {u : CS} {n k : Nat} {x : Option Nat} : wc_L (wc_uP u n k x) = wc_L u := rfl
theorem rL_uQ {u : CS} {n k : Nat} {x : Option Nat} : wc_L (wc_uQ u n k x) = wc_L u := rfl
theorem rL_aA {u : CS} {n : Nat} {g : Nat → Int32} : wc_L (wc_aA u n g) = wc_L u := rfl
theorem rL_aB {u : CS} {n : Nat} {g : Nat → Int64} : wc_L (wc_aB u n g) = wc_L u := rfl
theorem rL_aQ {u : CS} {n : Nat} {g : Nat → Option Nat} : wc_L (wc_aQ u n g) = wc_L u := rfl
theorem rA_uI {u : CS} {n k : Nat} {x : Int32} : wc_A (wc_uI u n k x) = wc_A u := rfl
theorem rA_uL {u : CS} {n k : Nat} {x : Int64} : wc_A (wc_uL u n k x) = wc_A u := rfl
theorem rA_uA {u : CS} {n k : Nat} {x : Int32} : wc_A (wc_uA u n k x) = up2 (wc_A u) n k x := rfl
theorem rA_uB {u : CS} {n k : Nat} {x : Int64} : wc_A (wc_uB u n k x) = wc_A u := rfl
theorem rA_uP {u : CS} {n k : Nat} {x : Option Nat} : wc_A (wc_uP u n k x) = wc_A u := rfl
theorem rA_uQ {u : CS} {n k : Nat} {x : Option Nat} : wc_A (wc_uQ u n k x) = wc_A u := rfl
theorem rA_aA {u : CS} {n : Nat} {g : Nat → Int32} : wc_A (wc_aA u n g) = up1 (wc_A u) n g := rfl
theorem rA_aB {u : CS} {n : Nat} {g : Nat → Int64} : wc_A (wc_aB u n g) = wc_A u := rfl
theorem rA_aQ {u : CS} {n : Nat} {g : Nat → Option Nat} : wc_A (wc_aQ u n g) = wc_A u := rfl
theorem rB_uI {u : CS} {n k : Nat} {x : Int32} : wc_B (wc_uI u n k x) = wc_B u := rfl
theorem rB_uL {u : CS} {n k : Nat} {x : Int64} : wc_B (wc_uL u n k x) = wc_B u := rfl
theorem rB_uA {u : CS} {n k : Nat} {x : Int32} : wc_B (wc_uA u n k x) = wc_B u := rfl
theorem rB_uB {u : CS} {n k : Nat} {x : Int64} : wc_B (wc_uB u n k x) = up2 (wc_B u) n k x := rfl
theorem rB_uP {u : CS} {n k : Nat} {x : Option Nat} : wc_B (wc_uP u n k x) = wc_B u := rfl
theorem rB_uQ {u : CS} {n k : Nat} {x : Option Nat} : wc_B (wc_uQ u n k x) = wc_B u := rfl
theorem rB_aA {u : CS} {n : Nat} {g : Nat → Int32} : wc_B (wc_aA u n g) = wc_B u := rfl
theorem rB_aB {u : CS} {n : Nat} {g : Nat → Int64} : wc_B (wc_aB u n g) = up1 (wc_B u) n g := rfl
theorem rB_aQ {u : CS} {n : Nat} {g : Nat → Option Nat} : wc_B (wc_aQ u n g) = wc_B u := rfl
theorem rP_uI {u : CS} {n k : Nat} {x : Int32} : wc_P (wc_uI u n k x) = wc_P u := rfl
theorem rP_uL {u : CS} {n k : Nat} {x : Int64} : wc_P (wc_uL u n k x) = wc_P u := rfl
theorem rP_uA {u : CS} {n k : Nat} {x : Int32} : wc_P (wc_uA u n k x) = wc_P u := rfl
theorem rP_uB {u : CS} {n k : Nat} {x : Int64} : wc_P (wc_uB u n k x) = wc_P u := rfl
theorem rP_uP {u : CS} {n k : Nat} {x : Option Nat} : wc_P (wc_uP u n k x) = up2 (wc_P u) n k x := rfl
theorem rP_uQ {u : CS} {n k : Nat} {x : Option Nat} : wc_P (wc_uQ u n k x) = wc_P u := rfl
theorem rP_aA {u : CS} {n : Nat} {g : Nat → Int32} : wc_P (wc_aA u n g) = wc_P u := rfl
theorem rP_aB {u : CS} {n : Nat} {g : Nat → Int64} : wc_P (wc_aB u n g) = wc_P u := rfl
theorem rP_aQ {u : CS} {n : Nat} {g : Nat → Option Nat} : wc_P (wc_aQ u n g) = wc_P u := rfl
theorem rQ_uI {u : CS} {n k : Nat} {x : Int32} : wc_Q (wc_uI u n k x) = wc_Q u := rfl
theorem rQ_uL {u : CS} {n k : Nat} {x : Int64} : wc_Q (wc_uL u n k x) = wc_Q u := rfl
theorem rQ_uA {u : CS} {n k : Nat} {x : Int32} : wc_Q (wc_uA u n k x) = wc_Q u := rfl
theorem rQ_uB {u : CS} {n k : Nat} {x : Int64} : wc_Q (wc_uB u n k x) = wc_Q u := rfl
theorem rQ_uP {u : CS} {n k : Nat} {x : Option Nat} : wc_Q (wc_uP u n k x) = wc_Q u := rfl
theorem rQ_uQ {u : CS} {n k : Nat} {x : Option Nat} : wc_Q (wc_uQ u n k x) = up2 (wc_Q u) n k x := rfl
theorem rQ_aA {u : CS} {n : Nat} {g : Nat → Int32} : wc_Q (wc_aA u n g) = wc_Q u := rfl
theorem rQ_aB {u : CS} {n : Nat} {g : Nat → Int64} : wc_Q (wc_aB u n g) = wc_Q u := rfl
theorem rQ_aQ {u : CS} {n : Nat} {g : Nat → Option Nat} : wc_Q (wc_aQ u n g) = up1 (wc_Q u) n g := rfl
theorem rT_uI {u : CS} {n k : Nat} {x : Int32} : wc_T (wc_uI u n k x) = wc_T u := rfl
theorem rT_uL {u : CS} {n k : Nat} {x : Int64} : wc_T (wc_uL u n k x) = wc_T u := rfl
theorem rT_uA {u : CS} {n k : Nat} {x : Int32} : wc_T (wc_uA u n k x) = wc_T u := rfl
theorem rT_uB {u : CS} {n k : Nat} {x : Int64} : wc_T (wc_uB u n k x) = wc_T u := rfl
theorem rT_uP {u : CS} {n k : Nat} {x : Option Nat} : wc_T (wc_uP u n k x) = wc_T u := rfl
theorem rT_uQ {u : CS} {n k : Nat} {x : Option Nat} : wc_T (wc_uQ u n k x) = wc_T u := rfl
theorem rT_aA {u : CS} {n : Nat} {g : Nat → Int32} : wc_T (wc_aA u n g) = wc_T u := rfl
theorem rT_aB {u : CS} {n : Nat} {g : Nat → Int64} : wc_T (wc_aB u n g) = wc_T u := rfl
theorem rT_aQ {u : CS} {n : Nat} {g : Nat → Option Nat} : wc_T (wc_aQ u n g) = wc_T u := rfl
theorem rz_uI {u : CS} {n k : Nat} {x : Int32} : wc_z (wc_uI u n k x) = wc_z u := rfl
theorem rz_uL {u : CS} {n k : Nat} {x : Int64} : wc_z (wc_uL u n k x) = wc_z u := rfl
theorem rz_uA {u : CS} {n k : Nat} {x : Int32} : wc_z (wc_uA u n k x) = wc_z u := rfl
theorem rz_uB {u : CS} {n k : Nat} {x : Int64} : wc_z (wc_uB u n k x) = wc_z u := rfl
theorem rz_uP {u : CS} {n k : Nat} {x : Option Nat} : wc_z (wc_uP u n k x) = wc_z u := rfl
theorem rz_uQ {u : CS} {n k : Nat} {x : Option Nat} : wc_z (wc_uQ u n k x) = wc_z u := rfl
theorem rz_aA {u : CS} {n : Nat} {g : Nat → Int32} : wc_z (wc_aA u n g) = wc_z u := rfl
theorem rz_aB {u : CS} {n : Nat} {g : Nat → Int64} : wc_z (wc_aB u n g) = wc_z u := rfl
theorem rz_aQ {u : CS} {n : Nat} {g : Nat → Option Nat} : wc_z (wc_aQ u n g) = wc_z u := rfl
theorem rtI_L {t : TS} {k : Nat} {x : Int64} : (mt_uL t k x).1 = t.1 := rfl
theorem rtI_A {t : TS} {k i : Nat} {x : Int32} : (mt_uA t k i x).1 = t.1 := rfl
theorem rtI_B {t : TS} {k i : Nat} {x : Int64} : (mt_uB t k i x).1 = t.1 := rfl
theorem rtL_I {t : TS} {k : Nat} {x : Int32} : (mt_uI t k x).2.1 = t.2.1 := rfl
theorem rtL_A {t : TS} {k i : Nat} {x : Int32} : (mt_uA t k i x).2.1 = t.2.1 := rfl
theorem rtL_B {t : TS} {k i : Nat} {x : Int64} : (mt_uB t k i x).2.1 = t.2.1 := rfl
theorem rtA_I {t : TS} {k : Nat} {x : Int32} : (mt_uI t k x).2.2.1 = t.2.2.1 := rfl
theorem rtA_L {t : TS} {k : Nat} {x : Int64} : (mt_uL t k x).2.2.1 = t.2.2.1 := rfl
theorem rtA_B {t : TS} {k i : Nat} {x : Int64} : (mt_uB t k i x).2.2.1 = t.2.2.1 := rfl
theorem rtB_I {t : TS} {k : Nat} {x : Int32} : (mt_uI t k x).2.2.2 = t.2.2.2 := rfl
theorem rtB_L {t : TS} {k : Nat} {x : Int64} : (mt_uL t k x).2.2.2 = t.2.2.2 := rfl
theorem rtB_A {t : TS} {k i : Nat} {x : Int32} : (mt_uA t k i x).2.2.2 = t.2.2.2 := rfl
theorem rtI_I {t : TS} {k : Nat} {x : Int32} : (mt_uI t k x).1 = upd t.1 k x := rfl
theorem rtL_L {t : TS} {k : Nat} {x : Int64} : (mt_uL t k x).2.1 = vp_updL t.2.1 k x := rfl
theorem rtA_A {t : TS} {k i : Nat} {x : Int32} : (mt_uA t k i x).2.2.1 k = upd (t.2.2.1 k) i x := if_pos rfl
theorem rtA_An {t : TS} {k i j : Nat} {x : Int32} (h : j ≠ k) : (mt_uA t k i x).2.2.1 j = t.2.2.1 j := if_neg h
theorem rtB_B {t : TS} {k i : Nat} {x : Int64} : (mt_uB t k i x).2.2.2 k = vp_updL (t.2.2.2 k) i x := if_pos rfl
theorem rtB_Bn {t : TS} {k i j : Nat} {x : Int64} (h : j ≠ k) : (mt_uB t k i x).2.2.2 j = t.2.2.2 j := if_neg h
theorem updL_eq {f : Nat → Int64} {i : Nat} {v : Int64} : vp_updL f i v i = v := if_pos rfl
theorem updL_ne {f : Nat → Int64} {i j : Nat} {v : Int64} (h : j ≠ i) : vp_updL f i v j = f j := if_neg h
theorem fs_ye {F : Nat} {u : CS} {s : Nat → Int32} (h : FRs F u s) : ∃ n : Nat, n ≤ 400 ∧ wc_I u F 0 = Int32.ofNat n ∧ s 0 = Int32.ofNat n := by
  obtain ⟨q1, q2, q3⟩ := h (0, 0, 0, 400) (by decide)
  obtain ⟨n, hn, e⟩ := pl_nat (m := 400) q2 q3
  exact ⟨n, hn, q1.trans e, e⟩
theorem fs_st {F : Nat} {u : CS} {s : Nat → Int32} (h : FRs F u s) : ∃ n : Nat, n ≤ 24 ∧ wc_I u F 1 = Int32.ofNat n ∧ s 1 = Int32.ofNat n := by
  obtain ⟨q1, q2, q3⟩ := h (1, 1, 0, 24) (by decide)
  obtain ⟨n, hn, e⟩ := pl_nat (m := 24) q2 q3
  exact ⟨n, hn, q1.trans e, e⟩
theorem fs_pa {F : Nat} {u : CS} {s : Nat → Int32} (h : FRs F u s) : ∃ n : Nat, n ≤ 60 ∧ wc_I u F 13 = Int32.ofNat n ∧ s 2 = Int32.ofNat n := by
  obtain ⟨q1, q2, q3⟩ := h (13, 2, 0, 60) (by decide)
  obtain ⟨n, hn, e⟩ := pl_nat (m := 60) q2 q3
  exact ⟨n, hn, q1.trans e, e⟩
theorem fs_vi {F : Nat} {u : CS} {s : Nat → Int32} (h : FRs F u s) : ∃ n : Nat, n ≤ 8 ∧ wc_I u F 22 = Int32.ofNat n ∧ s 3 = Int32.ofNat n := by
  obtain ⟨q1, q2, q3⟩ := h (22, 3, 0, 8) (by decide)
  obtain ⟨n, hn, e⟩ := pl_nat (m := 8) q2 q3
  exact ⟨n, hn, q1.trans e, e⟩
theorem fs_li {F : Nat} {u : CS} {s : Nat → Int32} (h : FRs F u s) : ∃ n : Nat, n ≤ 16 ∧ wc_I u F 29 = Int32.ofNat n ∧ s 4 = Int32.ofNat n := by
  obtain ⟨q1, q2, q3⟩ := h (29, 4, 0, 16) (by decide)
  obtain ⟨n, hn, e⟩ := pl_nat (m := 16) q2 q3
  exact ⟨n, hn, q1.trans e, e⟩
theorem fs_or {F : Nat} {u : CS} {s : Nat → Int32} (h : FRs F u s) : ∃ n : Nat, n ≤ 30 ∧ wc_I u F 33 = Int32.ofNat n ∧ s 5 = Int32.ofNat n := by
  obtain ⟨q1, q2, q3⟩ := h (33, 5, 0, 30) (by decide)
  obtain ⟨n, hn, e⟩ := pl_nat (m := 30) q2 q3
  exact ⟨n, hn, q1.trans e, e⟩
theorem fs_ro {F : Nat} {u : CS} {s : Nat → Int32} (h : FRs F u s) : ∃ n : Nat, n ≤ 12 ∧ wc_I u F 17 = Int32.ofNat n ∧ s 6 = Int32.ofNat n := by
  obtain ⟨q1, q2, q3⟩ := h (17, 6, 0, 12) (by decide)
  obtain ⟨n, hn, e⟩ := pl_nat (m := 12) q2 q3
  exact ⟨n, hn, q1.trans e, e⟩
theorem fs_se {F : Nat} {u : CS} {s : Nat → Int32} (h : FRs F u s) : wc_I u F 16 = s 7 := (h (16, 7, -2147483648, 2147483647) (by decide)).1
theorem fq_bl {F : Nat} {u : CS} {s : Nat → Int32} {b : Nat → Int64} (hF : F ≤ 199) (h : FR F u s b) {k : Nat} (hk : k < 24) {v : Int32} (h1 : (0 : Int) ≤ v.toInt) (h2 : v.toInt ≤ 5) (hX : FRx (upd s (16 + 14 * k + 0) v)) : FR F (wc_uA u (F + 1) k v) (upd s (16 + 14 * k + 0) v) b := by
  rw [show 16 + 14 * k + 0 = _ from (by omega : 16 + 14 * k + 0 = 16 + 14 * k)] at hX ⊢
  have q := h.putT (k := 0) (j := k) (v := v) hF rfl hk h1 h2 hX
  simp only [fe_p, fe_n, fe_c, fe_d, fe_b, fe_e, fe_lo, fe_hi, Nat.zero_add, Nat.one_mul] at q
  exact q
theorem fq_si {F : Nat} {u : CS} {s : Nat → Int32} {b : Nat → Int64} (hF : F ≤ 199) (h : FR F u s b) {k : Nat} (hk : k < 24) {v : Int32} (h1 : (0 : Int) ≤ v.toInt) (h2 : v.toInt ≤ 4) (hX : FRx (upd s (16 + 14 * k + 1) v)) : FR F (wc_uA u (F + 2) k v) (upd s (16 + 14 * k + 1) v) b := by
  rw [show 16 + 14 * k + 1 = _ from (by omega : 16 + 14 * k + 1 = 17 + 14 * k)] at hX ⊢
  have q := h.putT (k := 1) (j := k) (v := v) hF rfl hk h1 h2 hX
  simp only [fe_p, fe_n, fe_c, fe_d, fe_b, fe_e, fe_lo, fe_hi, Nat.zero_add, Nat.one_mul] at q
  exact q
theorem fq_ki {F : Nat} {u : CS} {s : Nat → Int32} {b : Nat → Int64} (hF : F ≤ 199) (h : FR F u s b) {k : Nat} (hk : k < 24) {v : Int32} (h1 : (0 : Int) ≤ v.toInt) (h2 : v.toInt ≤ 3) (hX : FRx (upd s (16 + 14 * k + 2) v)) : FR F (wc_uA u (F + 3) k v) (upd s (16 + 14 * k + 2) v) b := by
  rw [show 16 + 14 * k + 2 = _ from (by omega : 16 + 14 * k + 2 = 18 + 14 * k)] at hX ⊢
  have q := h.putT (k := 2) (j := k) (v := v) hF rfl hk h1 h2 hX
  simp only [fe_p, fe_n, fe_c, fe_d, fe_b, fe_e, fe_lo, fe_hi, Nat.zero_add, Nat.one_mul] at q
  exact q
theorem fq_sp {F : Nat} {u : CS} {s : Nat → Int32} {b : Nat → Int64} (hF : F ≤ 199) (h : FR F u s b) {k : Nat} (hk : k < 24) {v : Int32} (h1 : (0 : Int) ≤ v.toInt) (h2 : v.toInt ≤ 1) (hX : FRx (upd s (16 + 14 * k + 3) v)) : FR F (wc_uA u (F + 4) k v) (upd s (16 + 14 * k + 3) v) b := by
  rw [show 16 + 14 * k + 3 = _ from (by omega : 16 + 14 * k + 3 = 19 + 14 * k)] at hX ⊢
  have q := h.putT (k := 3) (j := k) (v := v) hF rfl hk h1 h2 hX
  simp only [fe_p, fe_n, fe_c, fe_d, fe_b, fe_e, fe_lo, fe_hi, Nat.zero_add, Nat.one_mul] at q
  exact q
theorem fq_ac {F : Nat} {u : CS} {s : Nat → Int32} {b : Nat → Int64} (hF : F ≤ 199) (h : FR F u s b) {k : Nat} (hk : k < 24) {v : Int32} (h1 : (0 : Int) ≤ v.toInt) (h2 : v.toInt ≤ 999) (hX : FRx (upd s (16 + 14 * k + 4) v)) : FR F (wc_uA u (F + 5) k v) (upd s (16 + 14 * k + 4) v) b := by
  rw [show 16 + 14 * k + 4 = _ from (by omega : 16 + 14 * k + 4 = 20 + 14 * k)] at hX ⊢
  have q := h.putT (k := 4) (j := k) (v := v) hF rfl hk h1 h2 hX
  simp only [fe_p, fe_n, fe_c, fe_d, fe_b, fe_e, fe_lo, fe_hi, Nat.zero_add, Nat.one_mul] at q
  exact q
theorem fq_ag {F : Nat} {u : CS} {s : Nat → Int32} {b : Nat → Int64} (hF : F ≤ 199) (h : FR F u s b) {k : Nat} (hk : k < 24) {v : Int32} (h1 : (0 : Int) ≤ v.toInt) (h2 : v.toInt ≤ 400) (hX : FRx (upd s (16 + 14 * k + 5) v)) : FR F (wc_uA u (F + 6) k v) (upd s (16 + 14 * k + 5) v) b := by
  rw [show 16 + 14 * k + 5 = _ from (by omega : 16 + 14 * k + 5 = 21 + 14 * k)] at hX ⊢
  have q := h.putT (k := 5) (j := k) (v := v) hF rfl hk h1 h2 hX
  simp only [fe_p, fe_n, fe_c, fe_d, fe_b, fe_e, fe_lo, fe_hi, Nat.zero_add, Nat.one_mul] at q
  exact q
theorem fq_fu {F : Nat} {u : CS} {s : Nat → Int32} {b : Nat → Int64} (hF : F ≤ 199) (h : FR F u s b) {k : Nat} (hk : k < 24) {v : Int32} (h1 : (0 : Int) ≤ v.toInt) (h2 : v.toInt ≤ 100) (hX : FRx (upd s (16 + 14 * k + 6) v)) : FR F (wc_uA u (F + 7) k v) (upd s (16 + 14 * k + 6) v) b := by
  rw [show 16 + 14 * k + 6 = _ from (by omega : 16 + 14 * k + 6 = 22 + 14 * k)] at hX ⊢
  have q := h.putT (k := 6) (j := k) (v := v) hF rfl hk h1 h2 hX
  simp only [fe_p, fe_n, fe_c, fe_d, fe_b, fe_e, fe_lo, fe_hi, Nat.zero_add, Nat.one_mul] at q
  exact q
theorem fq_ly {F : Nat} {u : CS} {s : Nat → Int32} {b : Nat → Int64} (hF : F ≤ 199) (h : FR F u s b) {k : Nat} (hk : k < 24) {v : Int32} (h1 : (0 : Int) ≤ v.toInt) (h2 : v.toInt ≤ 10789200) (hX : FRx (upd s (16 + 14 * k + 7) v)) : FR F (wc_uA u (F + 8) k v) (upd s (16 + 14 * k + 7) v) b := by
  rw [show 16 + 14 * k + 7 = _ from (by omega : 16 + 14 * k + 7 = 23 + 14 * k)] at hX ⊢
  have q := h.putT (k := 7) (j := k) (v := v) hF rfl hk h1 h2 hX
  simp only [fe_p, fe_n, fe_c, fe_d, fe_b, fe_e, fe_lo, fe_hi, Nat.zero_add, Nat.one_mul] at q
  exact q
theorem fq_bu {F : Nat} {u : CS} {s : Nat → Int32} {b : Nat → Int64} (hF : F ≤ 199) (h : FR F u s b) {k : Nat} (hk : k < 24) {v : Int32} (h1 : (0 : Int) ≤ v.toInt) (h2 : v.toInt ≤ 1000) (hX : FRx (upd s (16 + 14 * k + 8) v)) : FR F (wc_uA u (F + 9) k v) (upd s (16 + 14 * k + 8) v) b := by
  rw [show 16 + 14 * k + 8 = _ from (by omega : 16 + 14 * k + 8 = 24 + 14 * k)] at hX ⊢
  have q := h.putT (k := 8) (j := k) (v := v) hF rfl hk h1 h2 hX
  simp only [fe_p, fe_n, fe_c, fe_d, fe_b, fe_e, fe_lo, fe_hi, Nat.zero_add, Nat.one_mul] at q
  exact q
theorem fq_cu {F : Nat} {u : CS} {s : Nat → Int32} {b : Nat → Int64} (hF : F ≤ 199) (h : FR F u s b) {k : Nat} (hk : k < 24) {v : Int32} (h1 : (-1 : Int) ≤ v.toInt) (h2 : v.toInt ≤ 400) (hX : FRx (upd s (16 + 14 * k + 9) v)) : FR F (wc_uA u (F + 10) k v) (upd s (16 + 14 * k + 9) v) b := by
  rw [show 16 + 14 * k + 9 = _ from (by omega : 16 + 14 * k + 9 = 25 + 14 * k)] at hX ⊢
  have q := h.putT (k := 9) (j := k) (v := v) hF rfl hk h1 h2 hX
  simp only [fe_p, fe_n, fe_c, fe_d, fe_b, fe_e, fe_lo, fe_hi, Nat.zero_add, Nat.one_mul] at q
  exact q
theorem fq_pl {F : Nat} {u : CS} {s : Nat → Int32} {b : Nat → Int64} (hF : F ≤ 199) (h : FR F u s b) {k : Nat} (hk : k < 24) {v : Int32} (h1 : (-1 : Int) ≤ v.toInt) (h2 : v.toInt ≤ 400) (hX : FRx (upd s (16 + 14 * k + 10) v)) : FR F (wc_uA u (F + 11) k v) (upd s (16 + 14 * k + 10) v) b := by
  rw [show 16 + 14 * k + 10 = _ from (by omega : 16 + 14 * k + 10 = 26 + 14 * k)] at hX ⊢
  have q := h.putT (k := 10) (j := k) (v := v) hF rfl hk h1 h2 hX
  simp only [fe_p, fe_n, fe_c, fe_d, fe_b, fe_e, fe_lo, fe_hi, Nat.zero_add, Nat.one_mul] at q
  exact q
theorem fq_cm {F : Nat} {u : CS} {s : Nat → Int32} {b : Nat → Int64} (hF : F ≤ 199) (h : FR F u s b) {k : Nat} (hk : k < 24) {v : Int32} (h1 : (0 : Int) ≤ v.toInt) (h2 : v.toInt ≤ 8) (hX : FRx (upd s (16 + 14 * k + 11) v)) : FR F (wc_uA u (F + 34) k v) (upd s (16 + 14 * k + 11) v) b := by
  rw [show 16 + 14 * k + 11 = _ from (by omega : 16 + 14 * k + 11 = 27 + 14 * k)] at hX ⊢
  have q := h.putT (k := 11) (j := k) (v := v) hF rfl hk h1 h2 hX
  simp only [fe_p, fe_n, fe_c, fe_d, fe_b, fe_e, fe_lo, fe_hi, Nat.zero_add, Nat.one_mul] at q
  exact q
theorem fq_ra {F : Nat} {u : CS} {s : Nat → Int32} {b : Nat → Int64} (hF : F ≤ 199) (h : FR F u s b) {k : Nat} (hk : k < 12) {v : Int32} (h1 : (0 : Int) ≤ v.toInt) (h2 : v.toInt ≤ 5) (hX : FRx (upd s (3410 + 3 * k) v)) : FR F (wc_uA u (F + 14) k v) (upd s (3410 + 3 * k) v) b := by
  rw [show 3410 + 3 * k = _ from (by omega : 3410 + 3 * k = 3410 + 3 * k)] at hX ⊢
  have q := h.putT (k := 12) (j := k) (v := v) hF rfl hk h1 h2 hX
  simp only [fe_p, fe_n, fe_c, fe_d, fe_b, fe_e, fe_lo, fe_hi, Nat.zero_add, Nat.one_mul] at q
  exact q
theorem fq_rb {F : Nat} {u : CS} {s : Nat → Int32} {b : Nat → Int64} (hF : F ≤ 199) (h : FR F u s b) {k : Nat} (hk : k < 12) {v : Int32} (h1 : (0 : Int) ≤ v.toInt) (h2 : v.toInt ≤ 5) (hX : FRx (upd s (3410 + 3 * k + 1) v)) : FR F (wc_uA u (F + 15) k v) (upd s (3410 + 3 * k + 1) v) b := by
  rw [show 3410 + 3 * k + 1 = _ from (by omega : 3410 + 3 * k + 1 = 3411 + 3 * k)] at hX ⊢
  have q := h.putT (k := 13) (j := k) (v := v) hF rfl hk h1 h2 hX
  simp only [fe_p, fe_n, fe_c, fe_d, fe_b, fe_e, fe_lo, fe_hi, Nat.zero_add, Nat.one_mul] at q
  exact q
theorem fq_rl {F : Nat} {u : CS} {s : Nat → Int32} {b : Nat → Int64} (hF : F ≤ 199) (h : FR F u s b) {k : Nat} (hk : k < 12) {v : Int32} (h1 : (0 : Int) ≤ v.toInt) (h2 : v.toInt ≤ 999) (hX : FRx (upd s (3410 + 3 * k + 2) v)) : FR F (wc_uA u (F + 16) k v) (upd s (3410 + 3 * k + 2) v) b := by
  rw [show 3410 + 3 * k + 2 = _ from (by omega : 3410 + 3 * k + 2 = 3412 + 3 * k)] at hX ⊢
  have q := h.putT (k := 14) (j := k) (v := v) hF rfl hk h1 h2 hX
  simp only [fe_p, fe_n, fe_c, fe_d, fe_b, fe_e, fe_lo, fe_hi, Nat.zero_add, Nat.one_mul] at q
  exact q
theorem fq_ho {F : Nat} {u : CS} {s : Nat → Int32} {b : Nat → Int64} (hF : F ≤ 199) (h : FR F u s b) {k : Nat} (hk : k < 8) {v : Int32} (h1 : (0 : Int) ≤ v.toInt) (h2 : v.toInt ≤ 5) (hX : FRx (upd s (928 + 4 * k) v)) : FR F (wc_uA u (F + 18) k v) (upd s (928 + 4 * k) v) b := by
  rw [show 928 + 4 * k = _ from (by omega : 928 + 4 * k = 928 + 4 * k)] at hX ⊢
  have q := h.putT (k := 15) (j := k) (v := v) hF rfl hk h1 h2 hX
  simp only [fe_p, fe_n, fe_c, fe_d, fe_b, fe_e, fe_lo, fe_hi, Nat.zero_add, Nat.one_mul] at q
  exact q
theorem fq_he {F : Nat} {u : CS} {s : Nat → Int32} {b : Nat → Int64} (hF : F ≤ 199) (h : FR F u s b) {k : Nat} (hk : k < 8) {v : Int32} (h1 : (0 : Int) ≤ v.toInt) (h2 : v.toInt ≤ 999) (hX : FRx (upd s (928 + 4 * k + 1) v)) : FR F (wc_uA u (F + 19) k v) (upd s (928 + 4 * k + 1) v) b := by
  rw [show 928 + 4 * k + 1 = _ from (by omega : 928 + 4 * k + 1 = 929 + 4 * k)] at hX ⊢
  have q := h.putT (k := 16) (j := k) (v := v) hF rfl hk h1 h2 hX
  simp only [fe_p, fe_n, fe_c, fe_d, fe_b, fe_e, fe_lo, fe_hi, Nat.zero_add, Nat.one_mul] at q
  exact q
theorem fq_hd {F : Nat} {u : CS} {s : Nat → Int32} {b : Nat → Int64} (hF : F ≤ 199) (h : FR F u s b) {k : Nat} (hk : k < 8) {v : Int32} (h1 : (0 : Int) ≤ v.toInt) (h2 : v.toInt ≤ 999) (hX : FRx (upd s (928 + 4 * k + 2) v)) : FR F (wc_uA u (F + 20) k v) (upd s (928 + 4 * k + 2) v) b := by
  rw [show 928 + 4 * k + 2 = _ from (by omega : 928 + 4 * k + 2 = 930 + 4 * k)] at hX ⊢
  have q := h.putT (k := 17) (j := k) (v := v) hF rfl hk h1 h2 hX
  simp only [fe_p, fe_n, fe_c, fe_d, fe_b, fe_e, fe_lo, fe_hi, Nat.zero_add, Nat.one_mul] at q
  exact q
theorem fq_ow {F : Nat} {u : CS} {s : Nat → Int32} {b : Nat → Int64} (hF : F ≤ 199) (h : FR F u s b) {k : Nat} (hk : k < 8) {v : Int32} (h1 : (0 : Int) ≤ v.toInt) (h2 : v.toInt ≤ 2147483647) (hX : FRx (upd s (928 + 4 * k + 3) v)) : FR F (wc_uA u (F + 21) k v) (upd s (928 + 4 * k + 3) v) b := by
  rw [show 928 + 4 * k + 3 = _ from (by omega : 928 + 4 * k + 3 = 931 + 4 * k)] at hX ⊢
  have q := h.putT (k := 18) (j := k) (v := v) hF rfl hk h1 h2 hX
  simp only [fe_p, fe_n, fe_c, fe_d, fe_b, fe_e, fe_lo, fe_hi, Nat.zero_add, Nat.one_mul] at q
  exact q
theorem fq_ca {F : Nat} {u : CS} {s : Nat → Int32} {b : Nat → Int64} (hF : F ≤ 199) (h : FR F u s b) {k : Nat} (hk : k < 16) {v : Int32} (h1 : (0 : Int) ≤ v.toInt) (h2 : v.toInt ≤ 400) (hX : FRx (upd s (1320 + 125 * k + 1) v)) : FR F (wc_uA u (F + 25) k v) (upd s (1320 + 125 * k + 1) v) b := by
  rw [show 1320 + 125 * k + 1 = _ from (by omega : 1320 + 125 * k + 1 = 1321 + 125 * k)] at hX ⊢
  have q := h.putT (k := 19) (j := k) (v := v) hF rfl hk h1 h2 hX
  simp only [fe_p, fe_n, fe_c, fe_d, fe_b, fe_e, fe_lo, fe_hi, Nat.zero_add, Nat.one_mul] at q
  exact q
theorem fq_sk {F : Nat} {u : CS} {s : Nat → Int32} {b : Nat → Int64} (hF : F ≤ 199) (h : FR F u s b) {k : Nat} (hk : k < 16) {v : Int32} (h1 : (-1 : Int) ≤ v.toInt) (h2 : v.toInt ≤ 400) (hX : FRx (upd s (1320 + 125 * k + 2) v)) : FR F (wc_uA u (F + 26) k v) (upd s (1320 + 125 * k + 2) v) b := by
  rw [show 1320 + 125 * k + 2 = _ from (by omega : 1320 + 125 * k + 2 = 1322 + 125 * k)] at hX ⊢
  have q := h.putT (k := 20) (j := k) (v := v) hF rfl hk h1 h2 hX
  simp only [fe_p, fe_n, fe_c, fe_d, fe_b, fe_e, fe_lo, fe_hi, Nat.zero_add, Nat.one_mul] at q
  exact q
theorem fq_os {F : Nat} {u : CS} {s : Nat → Int32} {b : Nat → Int64} (hF : F ≤ 199) (h : FR F u s b) {k : Nat} (hk : k < 30) {v : Int32} (h1 : (0 : Int) ≤ v.toInt) (h2 : v.toInt ≤ 23) (hX : FRx (upd s (3320 + 3 * k + 0) v)) : FR F (wc_uA u (F + 27) k v) (upd s (3320 + 3 * k + 0) v) b := by
  rw [show 3320 + 3 * k + 0 = _ from (by omega : 3320 + 3 * k + 0 = 3320 + 3 * k)] at hX ⊢
  have q := h.putT (k := 21) (j := k) (v := v) hF rfl hk h1 h2 hX
  simp only [fe_p, fe_n, fe_c, fe_d, fe_b, fe_e, fe_lo, fe_hi, Nat.zero_add, Nat.one_mul] at q
  exact q
theorem fq_oo {F : Nat} {u : CS} {s : Nat → Int32} {b : Nat → Int64} (hF : F ≤ 199) (h : FR F u s b) {k : Nat} (hk : k < 30) {v : Int32} (h1 : (0 : Int) ≤ v.toInt) (h2 : v.toInt ≤ 2) (hX : FRx (upd s (3320 + 3 * k + 1) v)) : FR F (wc_uA u (F + 28) k v) (upd s (3320 + 3 * k + 1) v) b := by
  rw [show 3320 + 3 * k + 1 = _ from (by omega : 3320 + 3 * k + 1 = 3321 + 3 * k)] at hX ⊢
  have q := h.putT (k := 22) (j := k) (v := v) hF rfl hk h1 h2 hX
  simp only [fe_p, fe_n, fe_c, fe_d, fe_b, fe_e, fe_lo, fe_hi, Nat.zero_add, Nat.one_mul] at q
  exact q
theorem fq_ot {F : Nat} {u : CS} {s : Nat → Int32} {b : Nat → Int64} (hF : F ≤ 199) (h : FR F u s b) {k : Nat} (hk : k < 30) {v : Int32} (h1 : (0 : Int) ≤ v.toInt) (h2 : v.toInt ≤ 100) (hX : FRx (upd s (3320 + 3 * k + 2) v)) : FR F (wc_uA u (F + 29) k v) (upd s (3320 + 3 * k + 2) v) b := by
  rw [show 3320 + 3 * k + 2 = _ from (by omega : 3320 + 3 * k + 2 = 3322 + 3 * k)] at hX ⊢
  have q := h.putT (k := 23) (j := k) (v := v) hF rfl hk h1 h2 hX
  simp only [fe_p, fe_n, fe_c, fe_d, fe_b, fe_e, fe_lo, fe_hi, Nat.zero_add, Nat.one_mul] at q
  exact q
theorem fq_so {F : Nat} {u : CS} {s : Nat → Int32} {b : Nat → Int64} (hF : F ≤ 199) (h : FR F u s b) {k : Nat} (hk : k < 12) {v : Int32} (h1 : (-2147483648 : Int) ≤ v.toInt) (h2 : v.toInt ≤ 2147483647) (hX : FRx (upd s (3446 + k) v)) : FR F (wc_uA u (F + 30) k v) (upd s (3446 + k) v) b := by
  rw [show 3446 + k = _ from (by omega : 3446 + k = 3446 + 1 * k)] at hX ⊢
  have q := h.putT (k := 24) (j := k) (v := v) hF rfl hk h1 h2 hX
  simp only [fe_p, fe_n, fe_c, fe_d, fe_b, fe_e, fe_lo, fe_hi, Nat.zero_add, Nat.one_mul] at q
  rw [Nat.one_mul]; exact q
theorem fq_wi {F : Nat} {u : CS} {s : Nat → Int32} {b : Nat → Int64} (hF : F ≤ 199) (h : FR F u s b) {k : Nat} (hk : k < 100) {v : Int32} (h1 : (-1 : Int) ≤ v.toInt) (h2 : v.toInt ≤ 99) (hX : FRx (upd s (3458 + k) v)) : FR F (wc_uA u (F + 31) k v) (upd s (3458 + k) v) b := by
  rw [show 3458 + k = _ from (by omega : 3458 + k = 3458 + 1 * k)] at hX ⊢
  have q := h.putT (k := 25) (j := k) (v := v) hF rfl hk h1 h2 hX
  simp only [fe_p, fe_n, fe_c, fe_d, fe_b, fe_e, fe_lo, fe_hi, Nat.zero_add, Nat.one_mul] at q
  rw [Nat.one_mul]; exact q
theorem fq_th {F : Nat} {u : CS} {s : Nat → Int32} {b : Nat → Int64} (hF : F ≤ 199) (h : FR F u s b) {k : Nat} (hk : k < 6) {v : Int32} (h1 : (0 : Int) ≤ v.toInt) (h2 : v.toInt ≤ 999) (hX : FRx (upd s (3558 + 2 * k) v)) : FR F (wc_uA u (F + 32) k v) (upd s (3558 + 2 * k) v) b := by
  rw [show 3558 + 2 * k = _ from (by omega : 3558 + 2 * k = 3558 + 2 * k)] at hX ⊢
  have q := h.putT (k := 26) (j := k) (v := v) hF rfl hk h1 h2 hX
  simp only [fe_p, fe_n, fe_c, fe_d, fe_b, fe_e, fe_lo, fe_hi, Nat.zero_add, Nat.one_mul] at q
  exact q
theorem fq_gu {F : Nat} {u : CS} {s : Nat → Int32} {b : Nat → Int64} (hF : F ≤ 199) (h : FR F u s b) {k : Nat} (hk : k < 6) {v : Int32} (h1 : (0 : Int) ≤ v.toInt) (h2 : v.toInt ≤ 99) (hX : FRx (upd s (3558 + 2 * k + 1) v)) : FR F (wc_uA u (F + 33) k v) (upd s (3558 + 2 * k + 1) v) b := by
  rw [show 3558 + 2 * k + 1 = _ from (by omega : 3558 + 2 * k + 1 = 3559 + 2 * k)] at hX ⊢
  have q := h.putT (k := 27) (j := k) (v := v) hF rfl hk h1 h2 hX
  simp only [fe_p, fe_n, fe_c, fe_d, fe_b, fe_e, fe_lo, fe_hi, Nat.zero_add, Nat.one_mul] at q
  exact q
theorem gq_bl {F : Nat} {u : CS} {s : Nat → Int32} {b : Nat → Int64} (hF : F ≤ 199) (h : FR0 F u s b) {k : Nat} (hk : k < 24) {v : Int32} (h1 : (0 : Int) ≤ v.toInt) (h2 : v.toInt ≤ 5) : FR0 F (wc_uA u (F + 1) k v) (upd s (16 + 14 * k + 0) v) b := by
  rw [show 16 + 14 * k + 0 = _ from (by omega : 16 + 14 * k + 0 = 16 + 14 * k)]
  have q := h.putT (k := 0) (j := k) (v := v) hF rfl hk h1 h2
  simp only [fe_p, fe_n, fe_c, fe_d, fe_b, fe_e, fe_lo, fe_hi, Nat.zero_add, Nat.one_mul] at q
  exact q
theorem gq_si {F : Nat} {u : CS} {s : Nat → Int32} {b : Nat → Int64} (hF : F ≤ 199) (h : FR0 F u s b) {k : Nat} (hk : k < 24) {v : Int32} (h1 : (0 : Int) ≤ v.toInt) (h2 : v.toInt ≤ 4) : FR0 F (wc_uA u (F + 2) k v) (upd s (16 + 14 * k + 1) v) b := by
  rw [show 16 + 14 * k + 1 = _ from (by omega : 16 + 14 * k + 1 = 17 + 14 * k)]
  have q := h.putT (k := 1) (j := k) (v := v) hF rfl hk h1 h2
  simp only [fe_p, fe_n, fe_c, fe_d, fe_b, fe_e, fe_lo, fe_hi, Nat.zero_add, Nat.one_mul] at q
  exact q
theorem gq_ki {F : Nat} {u : CS} {s : Nat → Int32} {b : Nat → Int64} (hF : F ≤ 199) (h : FR0 F u s b) {k : Nat} (hk : k < 24) {v : Int32} (h1 : (0 : Int) ≤ v.toInt) (h2 : v.toInt ≤ 3) : FR0 F (wc_uA u (F + 3) k v) (upd s (16 + 14 * k + 2) v) b := by
  rw [show 16 + 14 * k + 2 = _ from (by omega : 16 + 14 * k + 2 = 18 + 14 * k)]
  have q := h.putT (k := 2) (j := k) (v := v) hF rfl hk h1 h2
  simp only [fe_p, fe_n, fe_c, fe_d, fe_b, fe_e, fe_lo, fe_hi, Nat.zero_add, Nat.one_mul] at q
  exact q
theorem gq_sp {F : Nat} {u : CS} {s : Nat → Int32} {b : Nat → Int64} (hF : F ≤ 199) (h : FR0 F u s b) {k : Nat} (hk : k < 24) {v : Int32} (h1 : (0 : Int) ≤ v.toInt) (h2 : v.toInt ≤ 1) : FR0 F (wc_uA u (F + 4) k v) (upd s (16 + 14 * k + 3) v) b := by
  rw [show 16 + 14 * k + 3 = _ from (by omega : 16 + 14 * k + 3 = 19 + 14 * k)]
  have q := h.putT (k := 3) (j := k) (v := v) hF rfl hk h1 h2
  simp only [fe_p, fe_n, fe_c, fe_d, fe_b, fe_e, fe_lo, fe_hi, Nat.zero_add, Nat.one_mul] at q
  exact q
theorem gq_ac {F : Nat} {u : CS} {s : Nat → Int32} {b : Nat → Int64} (hF : F ≤ 199) (h : FR0 F u s b) {k : Nat} (hk : k < 24) {v : Int32} (h1 : (0 : Int) ≤ v.toInt) (h2 : v.toInt ≤ 999) : FR0 F (wc_uA u (F + 5) k v) (upd s (16 + 14 * k + 4) v) b := by
  rw [show 16 + 14 * k + 4 = _ from (by omega : 16 + 14 * k + 4 = 20 + 14 * k)]
  have q := h.putT (k := 4) (j := k) (v := v) hF rfl hk h1 h2
  simp only [fe_p, fe_n, fe_c, fe_d, fe_b, fe_e, fe_lo, fe_hi, Nat.zero_add, Nat.one_mul] at q
  exact q
theorem gq_ag {F : Nat} {u : CS} {s : Nat → Int32} {b : Nat → Int64} (hF : F ≤ 199) (h : FR0 F u s b) {k : Nat} (hk : k < 24) {v : Int32} (h1 : (0 : Int) ≤ v.toInt) (h2 : v.toInt ≤ 400) : FR0 F (wc_uA u (F + 6) k v) (upd s (16 + 14 * k + 5) v) b := by
  rw [show 16 + 14 * k + 5 = _ from (by omega : 16 + 14 * k + 5 = 21 + 14 * k)]
  have q := h.putT (k := 5) (j := k) (v := v) hF rfl hk h1 h2
  simp only [fe_p, fe_n, fe_c, fe_d, fe_b, fe_e, fe_lo, fe_hi, Nat.zero_add, Nat.one_mul] at q
  exact q
theorem gq_fu {F : Nat} {u : CS} {s : Nat → Int32} {b : Nat → Int64} (hF : F ≤ 199) (h : FR0 F u s b) {k : Nat} (hk : k < 24) {v : Int32} (h1 : (0 : Int) ≤ v.toInt) (h2 : v.toInt ≤ 100) : FR0 F (wc_uA u (F + 7) k v) (upd s (16 + 14 * k + 6) v) b := by
  rw [show 16 + 14 * k + 6 = _ from (by omega : 16 + 14 * k + 6 = 22 + 14 * k)]
  have q := h.putT (k := 6) (j := k) (v := v) hF rfl hk h1 h2
  simp only [fe_p, fe_n, fe_c, fe_d, fe_b, fe_e, fe_lo, fe_hi, Nat.zero_add, Nat.one_mul] at q
  exact q
theorem gq_ly {F : Nat} {u : CS} {s : Nat → Int32} {b : Nat → Int64} (hF : F ≤ 199) (h : FR0 F u s b) {k : Nat} (hk : k < 24) {v : Int32} (h1 : (0 : Int) ≤ v.toInt) (h2 : v.toInt ≤ 10789200) : FR0 F (wc_uA u (F + 8) k v) (upd s (16 + 14 * k + 7) v) b := by
  rw [show 16 + 14 * k + 7 = _ from (by omega : 16 + 14 * k + 7 = 23 + 14 * k)]
  have q := h.putT (k := 7) (j := k) (v := v) hF rfl hk h1 h2
  simp only [fe_p, fe_n, fe_c, fe_d, fe_b, fe_e, fe_lo, fe_hi, Nat.zero_add, Nat.one_mul] at q
  exact q
theorem gq_bu {F : Nat} {u : CS} {s : Nat → Int32} {b : Nat → Int64} (hF : F ≤ 199) (h : FR0 F u s b) {k : Nat} (hk : k < 24) {v : Int32} (h1 : (0 : Int) ≤ v.toInt) (h2 : v.toInt ≤ 1000) : FR0 F (wc_uA u (F + 9) k v) (upd s (16 + 14 * k + 8) v) b := by
  rw [show 16 + 14 * k + 8 = _ from (by omega : 16 + 14 * k + 8 = 24 + 14 * k)]
  have q := h.putT (k := 8) (j := k) (v := v) hF rfl hk h1 h2
  simp only [fe_p, fe_n, fe_c, fe_d, fe_b, fe_e, fe_lo, fe_hi, Nat.zero_add, Nat.one_mul] at q
  exact q
theorem gq_cu {F : Nat} {u : CS} {s : Nat → Int32} {b : Nat → Int64} (hF : F ≤ 199) (h : FR0 F u s b) {k : Nat} (hk : k < 24) {v : Int32} (h1 : (-1 : Int) ≤ v.toInt) (h2 : v.toInt ≤ 400) : FR0 F (wc_uA u (F + 10) k v) (upd s (16 + 14 * k + 9) v) b := by
  rw [show 16 + 14 * k + 9 = _ from (by omega : 16 + 14 * k + 9 = 25 + 14 * k)]
  have q := h.putT (k := 9) (j := k) (v := v) hF rfl hk h1 h2
  simp only [fe_p, fe_n, fe_c, fe_d, fe_b, fe_e, fe_lo, fe_hi, Nat.zero_add, Nat.one_mul] at q
  exact q
theorem gq_pl {F : Nat} {u : CS} {s : Nat → Int32} {b : Nat → Int64} (hF : F ≤ 199) (h : FR0 F u s b) {k : Nat} (hk : k < 24) {v : Int32} (h1 : (-1 : Int) ≤ v.toInt) (h2 : v.toInt ≤ 400) : FR0 F (wc_uA u (F + 11) k v) (upd s (16 + 14 * k + 10) v) b := by
  rw [show 16 + 14 * k + 10 = _ from (by omega : 16 + 14 * k + 10 = 26 + 14 * k)]
  have q := h.putT (k := 10) (j := k) (v := v) hF rfl hk h1 h2
  simp only [fe_p, fe_n, fe_c, fe_d, fe_b, fe_e, fe_lo, fe_hi, Nat.zero_add, Nat.one_mul] at q
  exact q
theorem gq_cm {F : Nat} {u : CS} {s : Nat → Int32} {b : Nat → Int64} (hF : F ≤ 199) (h : FR0 F u s b) {k : Nat} (hk : k < 24) {v : Int32} (h1 : (0 : Int) ≤ v.toInt) (h2 : v.toInt ≤ 8) : FR0 F (wc_uA u (F + 34) k v) (upd s (16 + 14 * k + 11) v) b := by
  rw [show 16 + 14 * k + 11 = _ from (by omega : 16 + 14 * k + 11 = 27 + 14 * k)]
  have q := h.putT (k := 11) (j := k) (v := v) hF rfl hk h1 h2
  simp only [fe_p, fe_n, fe_c, fe_d, fe_b, fe_e, fe_lo, fe_hi, Nat.zero_add, Nat.one_mul] at q
  exact q
theorem gq_ra {F : Nat} {u : CS} {s : Nat → Int32} {b : Nat → Int64} (hF : F ≤ 199) (h : FR0 F u s b) {k : Nat} (hk : k < 12) {v : Int32} (h1 : (0 : Int) ≤ v.toInt) (h2 : v.toInt ≤ 5) : FR0 F (wc_uA u (F + 14) k v) (upd s (3410 + 3 * k) v) b := by
  rw [show 3410 + 3 * k = _ from (by omega : 3410 + 3 * k = 3410 + 3 * k)]
  have q := h.putT (k := 12) (j := k) (v := v) hF rfl hk h1 h2
  simp only [fe_p, fe_n, fe_c, fe_d, fe_b, fe_e, fe_lo, fe_hi, Nat.zero_add, Nat.one_mul] at q
  exact q
theorem gq_rb {F : Nat} {u : CS} {s : Nat → Int32} {b : Nat → Int64} (hF : F ≤ 199) (h : FR0 F u s b) {k : Nat} (hk : k < 12) {v : Int32} (h1 : (0 : Int) ≤ v.toInt) (h2 : v.toInt ≤ 5) : FR0 F (wc_uA u (F + 15) k v) (upd s (3410 + 3 * k + 1) v) b := by
  rw [show 3410 + 3 * k + 1 = _ from (by omega : 3410 + 3 * k + 1 = 3411 + 3 * k)]
  have q := h.putT (k := 13) (j := k) (v := v) hF rfl hk h1 h2
  simp only [fe_p, fe_n, fe_c, fe_d, fe_b, fe_e, fe_lo, fe_hi, Nat.zero_add, Nat.one_mul] at q
  exact q
theorem gq_rl {F : Nat} {u : CS} {s : Nat → Int32} {b : Nat → Int64} (hF : F ≤ 199) (h : FR0 F u s b) {k : Nat} (hk : k < 12) {v : Int32} (h1 : (0 : Int) ≤ v.toInt) (h2 : v.toInt ≤ 999) : FR0 F (wc_uA u (F + 16) k v) (upd s (3410 + 3 * k + 2) v) b := by
  rw [show 3410 + 3 * k + 2 = _ from (by omega : 3410 + 3 * k + 2 = 3412 + 3 * k)]
  have q := h.putT (k := 14) (j := k) (v := v) hF rfl hk h1 h2
  simp only [fe_p, fe_n, fe_c, fe_d, fe_b, fe_e, fe_lo, fe_hi, Nat.zero_add, Nat.one_mul] at q
  exact q
theorem gq_ho {F : Nat} {u : CS} {s : Nat → Int32} {b : Nat → Int64} (hF : F ≤ 199) (h : FR0 F u s b) {k : Nat} (hk : k < 8) {v : Int32} (h1 : (0 : Int) ≤ v.toInt) (h2 : v.toInt ≤ 5) : FR0 F (wc_uA u (F + 18) k v) (upd s (928 + 4 * k) v) b := by
  rw [show 928 + 4 * k = _ from (by omega : 928 + 4 * k = 928 + 4 * k)]
  have q := h.putT (k := 15) (j := k) (v := v) hF rfl hk h1 h2
  simp only [fe_p, fe_n, fe_c, fe_d, fe_b, fe_e, fe_lo, fe_hi, Nat.zero_add, Nat.one_mul] at q
  exact q
theorem gq_he {F : Nat} {u : CS} {s : Nat → Int32} {b : Nat → Int64} (hF : F ≤ 199) (h : FR0 F u s b) {k : Nat} (hk : k < 8) {v : Int32} (h1 : (0 : Int) ≤ v.toInt) (h2 : v.toInt ≤ 999) : FR0 F (wc_uA u (F + 19) k v) (upd s (928 + 4 * k + 1) v) b := by
  rw [show 928 + 4 * k + 1 = _ from (by omega : 928 + 4 * k + 1 = 929 + 4 * k)]
  have q := h.putT (k := 16) (j := k) (v := v) hF rfl hk h1 h2
  simp only [fe_p, fe_n, fe_c, fe_d, fe_b, fe_e, fe_lo, fe_hi, Nat.zero_add, Nat.one_mul] at q
  exact q
theorem gq_hd {F : Nat} {u : CS} {s : Nat → Int32} {b : Nat → Int64} (hF : F ≤ 199) (h : FR0 F u s b) {k : Nat} (hk : k < 8) {v : Int32} (h1 : (0 : Int) ≤ v.toInt) (h2 : v.toInt ≤ 999) : FR0 F (wc_uA u (F + 20) k v) (upd s (928 + 4 * k + 2) v) b := by
  rw [show 928 + 4 * k + 2 = _ from (by omega : 928 + 4 * k + 2 = 930 + 4 * k)]
  have q := h.putT (k := 17) (j := k) (v := v) hF rfl hk h1 h2
  simp only [fe_p, fe_n, fe_c, fe_d, fe_b, fe_e, fe_lo, fe_hi, Nat.zero_add, Nat.one_mul] at q
  exact q
theorem gq_ow {F : Nat} {u : CS} {s : Nat → Int32} {b : Nat → Int64} (hF : F ≤ 199) (h : FR0 F u s b) {k : Nat} (hk : k < 8) {v : Int32} (h1 : (0 : Int) ≤ v.toInt) (h2 : v.toInt ≤ 2147483647) : FR0 F (wc_uA u (F + 21) k v) (upd s (928 + 4 * k + 3) v) b := by
  rw [show 928 + 4 * k + 3 = _ from (by omega : 928 + 4 * k + 3 = 931 + 4 * k)]
  have q := h.putT (k := 18) (j := k) (v := v) hF rfl hk h1 h2
  simp only [fe_p, fe_n, fe_c, fe_d, fe_b, fe_e, fe_lo, fe_hi, Nat.zero_add, Nat.one_mul] at q
  exact q
theorem gq_ca {F : Nat} {u : CS} {s : Nat → Int32} {b : Nat → Int64} (hF : F ≤ 199) (h : FR0 F u s b) {k : Nat} (hk : k < 16) {v : Int32} (h1 : (0 : Int) ≤ v.toInt) (h2 : v.toInt ≤ 400) : FR0 F (wc_uA u (F + 25) k v) (upd s (1320 + 125 * k + 1) v) b := by
  rw [show 1320 + 125 * k + 1 = _ from (by omega : 1320 + 125 * k + 1 = 1321 + 125 * k)]
  have q := h.putT (k := 19) (j := k) (v := v) hF rfl hk h1 h2
  simp only [fe_p, fe_n, fe_c, fe_d, fe_b, fe_e, fe_lo, fe_hi, Nat.zero_add, Nat.one_mul] at q
  exact q
theorem gq_sk {F : Nat} {u : CS} {s : Nat → Int32} {b : Nat → Int64} (hF : F ≤ 199) (h : FR0 F u s b) {k : Nat} (hk : k < 16) {v : Int32} (h1 : (-1 : Int) ≤ v.toInt) (h2 : v.toInt ≤ 400) : FR0 F (wc_uA u (F + 26) k v) (upd s (1320 + 125 * k + 2) v) b := by
  rw [show 1320 + 125 * k + 2 = _ from (by omega : 1320 + 125 * k + 2 = 1322 + 125 * k)]
  have q := h.putT (k := 20) (j := k) (v := v) hF rfl hk h1 h2
  simp only [fe_p, fe_n, fe_c, fe_d, fe_b, fe_e, fe_lo, fe_hi, Nat.zero_add, Nat.one_mul] at q
  exact q
theorem gq_os {F : Nat} {u : CS} {s : Nat → Int32} {b : Nat → Int64} (hF : F ≤ 199) (h : FR0 F u s b) {k : Nat} (hk : k < 30) {v : Int32} (h1 : (0 : Int) ≤ v.toInt) (h2 : v.toInt ≤ 23) : FR0 F (wc_uA u (F + 27) k v) (upd s (3320 + 3 * k + 0) v) b := by
  rw [show 3320 + 3 * k + 0 = _ from (by omega : 3320 + 3 * k + 0 = 3320 + 3 * k)]
  have q := h.putT (k := 21) (j := k) (v := v) hF rfl hk h1 h2
  simp only [fe_p, fe_n, fe_c, fe_d, fe_b, fe_e, fe_lo, fe_hi, Nat.zero_add, Nat.one_mul] at q
  exact q
theorem gq_oo {F : Nat} {u : CS} {s : Nat → Int32} {b : Nat → Int64} (hF : F ≤ 199) (h : FR0 F u s b) {k : Nat} (hk : k < 30) {v : Int32} (h1 : (0 : Int) ≤ v.toInt) (h2 : v.toInt ≤ 2) : FR0 F (wc_uA u (F + 28) k v) (upd s (3320 + 3 * k + 1) v) b := by
  rw [show 3320 + 3 * k + 1 = _ from (by omega : 3320 + 3 * k + 1 = 3321 + 3 * k)]
  have q := h.putT (k := 22) (j := k) (v := v) hF rfl hk h1 h2
  simp only [fe_p, fe_n, fe_c, fe_d, fe_b, fe_e, fe_lo, fe_hi, Nat.zero_add, Nat.one_mul] at q
  exact q
theorem gq_ot {F : Nat} {u : CS} {s : Nat → Int32} {b : Nat → Int64} (hF : F ≤ 199) (h : FR0 F u s b) {k : Nat} (hk : k < 30) {v : Int32} (h1 : (0 : Int) ≤ v.toInt) (h2 : v.toInt ≤ 100) : FR0 F (wc_uA u (F + 29) k v) (upd s (3320 + 3 * k + 2) v) b := by
  rw [show 3320 + 3 * k + 2 = _ from (by omega : 3320 + 3 * k + 2 = 3322 + 3 * k)]
  have q := h.putT (k := 23) (j := k) (v := v) hF rfl hk h1 h2
  simp only [fe_p, fe_n, fe_c, fe_d, fe_b, fe_e, fe_lo, fe_hi, Nat.zero_add, Nat.one_mul] at q
  exact q
theorem gq_so {F : Nat} {u : CS} {s : Nat → Int32} {b : Nat → Int64} (hF : F ≤ 199) (h : FR0 F u s b) {k : Nat} (hk : k < 12) {v : Int32} (h1 : (-2147483648 : Int) ≤ v.toInt) (h2 : v.toInt ≤ 2147483647) : FR0 F (wc_uA u (F + 30) k v) (upd s (3446 + k) v) b := by
  rw [show 3446 + k = _ from (by omega : 3446 + k = 3446 + 1 * k)]
  have q := h.putT (k := 24) (j := k) (v := v) hF rfl hk h1 h2
  simp only [fe_p, fe_n, fe_c, fe_d, fe_b, fe_e, fe_lo, fe_hi, Nat.zero_add, Nat.one_mul] at q
  rw [Nat.one_mul]; exact q
theorem gq_wi {F : Nat} {u : CS} {s : Nat → Int32} {b : Nat → Int64} (hF : F ≤ 199) (h : FR0 F u s b) {k : Nat} (hk : k < 100) {v : Int32} (h1 : (-1 : Int) ≤ v.toInt) (h2 : v.toInt ≤ 99) : FR0 F (wc_uA u (F + 31) k v) (upd s (3458 + k) v) b := by
  rw [show 3458 + k = _ from (by omega : 3458 + k = 3458 + 1 * k)]
  have q := h.putT (k := 25) (j := k) (v := v) hF rfl hk h1 h2
  simp only [fe_p, fe_n, fe_c, fe_d, fe_b, fe_e, fe_lo, fe_hi, Nat.zero_add, Nat.one_mul] at q
  rw [Nat.one_mul]; exact q
theorem gq_th {F : Nat} {u : CS} {s : Nat → Int32} {b : Nat → Int64} (hF : F ≤ 199) (h : FR0 F u s b) {k : Nat} (hk : k < 6) {v : Int32} (h1 : (0 : Int) ≤ v.toInt) (h2 : v.toInt ≤ 999) : FR0 F (wc_uA u (F + 32) k v) (upd s (3558 + 2 * k) v) b := by
  rw [show 3558 + 2 * k = _ from (by omega : 3558 + 2 * k = 3558 + 2 * k)]
  have q := h.putT (k := 26) (j := k) (v := v) hF rfl hk h1 h2
  simp only [fe_p, fe_n, fe_c, fe_d, fe_b, fe_e, fe_lo, fe_hi, Nat.zero_add, Nat.one_mul] at q
  exact q
theorem gq_gu {F : Nat} {u : CS} {s : Nat → Int32} {b : Nat → Int64} (hF : F ≤ 199) (h : FR0 F u s b) {k : Nat} (hk : k < 6) {v : Int32} (h1 : (0 : Int) ≤ v.toInt) (h2 : v.toInt ≤ 99) : FR0 F (wc_uA u (F + 33) k v) (upd s (3558 + 2 * k + 1) v) b := by
  rw [show 3558 + 2 * k + 1 = _ from (by omega : 3558 + 2 * k + 1 = 3559 + 2 * k)]
  have q := h.putT (k := 27) (j := k) (v := v) hF rfl hk h1 h2
  simp only [fe_p, fe_n, fe_c, fe_d, fe_b, fe_e, fe_lo, fe_hi, Nat.zero_add, Nat.one_mul] at q
  exact q
