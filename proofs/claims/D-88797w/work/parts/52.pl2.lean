/-! PLAIN LAW 2: the columns by name (printed by plgen.py) -/
theorem pl_nat {x : Int32} {m : Nat} (h1 : (0 : Int) ≤ x.toInt) (h2 : x.toInt ≤ m) : ∃ a : Nat, a ≤ m ∧ x = Int32.ofNat a := by
  refine ⟨x.toNatClampNeg, ?_, ?_⟩
  · show x.toInt.toNat ≤ m
    omega
  · exact (Int32.ofNat_toNatClampNeg x (by rw [Int32.le_iff_toInt_le]; exact h1)).symm
theorem fr_bl {F : Nat} {u : CS} {s : Nat → Int32} (h : FRt F u s) {k : Nat} (hk : k < 24) : wc_A u (F + 1) k = s (16 + 14 * k + 0) ∧ (0 : Int) ≤ (s (16 + 14 * k + 0)).toInt ∧ (s (16 + 14 * k + 0)).toInt ≤ 5 := by
  have q := h 0 k _ rfl hk
  simp only [fe_p, fe_n, fe_c, fe_d, fe_b, fe_e, fe_lo, fe_hi, Nat.zero_add, Nat.one_mul] at q
  rw [show 16 + 14 * k + 0 = _ from (by omega : 16 + 14 * k + 0 = 16 + 14 * k)]
  exact q
theorem fr_bl_n {F : Nat} {u : CS} {s : Nat → Int32} (h : FRt F u s) {k : Nat} (hk : k < 24) : ∃ a : Nat, a ≤ 5 ∧ s (16 + 14 * k + 0) = Int32.ofNat a := pl_nat (fr_bl h hk).2.1 (fr_bl h hk).2.2
theorem fp_bl {F : Nat} {u : CS} {s : Nat → Int32} (h : FRt F u s) {k : Nat} (hk : k < 24) {v : Int32} (h1 : (0 : Int) ≤ v.toInt) (h2 : v.toInt ≤ 5) : FRt F (wc_uA u (F + 1) k v) (upd s (16 + 14 * k + 0) v) := by
  have q := h.put (k := 0) (j := k) (v := v) rfl hk h1 h2
  simp only [fe_p, fe_n, fe_c, fe_d, fe_b, fe_e, fe_lo, fe_hi, Nat.zero_add, Nat.one_mul] at q
  rw [show 16 + 14 * k + 0 = _ from (by omega : 16 + 14 * k + 0 = 16 + 14 * k)]
  exact q
theorem fr_si {F : Nat} {u : CS} {s : Nat → Int32} (h : FRt F u s) {k : Nat} (hk : k < 24) : wc_A u (F + 2) k = s (16 + 14 * k + 1) ∧ (0 : Int) ≤ (s (16 + 14 * k + 1)).toInt ∧ (s (16 + 14 * k + 1)).toInt ≤ 4 := by
  have q := h 1 k _ rfl hk
  simp only [fe_p, fe_n, fe_c, fe_d, fe_b, fe_e, fe_lo, fe_hi, Nat.zero_add, Nat.one_mul] at q
  rw [show 16 + 14 * k + 1 = _ from (by omega : 16 + 14 * k + 1 = 17 + 14 * k)]
  exact q
theorem fr_si_n {F : Nat} {u : CS} {s : Nat → Int32} (h : FRt F u s) {k : Nat} (hk : k < 24) : ∃ a : Nat, a ≤ 4 ∧ s (16 + 14 * k + 1) = Int32.ofNat a := pl_nat (fr_si h hk).2.1 (fr_si h hk).2.2
theorem fp_si {F : Nat} {u : CS} {s : Nat → Int32} (h : FRt F u s) {k : Nat} (hk : k < 24) {v : Int32} (h1 : (0 : Int) ≤ v.toInt) (h2 : v.toInt ≤ 4) : FRt F (wc_uA u (F + 2) k v) (upd s (16 + 14 * k + 1) v) := by
  have q := h.put (k := 1) (j := k) (v := v) rfl hk h1 h2
  simp only [fe_p, fe_n, fe_c, fe_d, fe_b, fe_e, fe_lo, fe_hi, Nat.zero_add, Nat.one_mul] at q
  rw [show 16 + 14 * k + 1 = _ from (by omega : 16 + 14 * k + 1 = 17 + 14 * k)]
  exact q
theorem fr_ki {F : Nat} {u : CS} {s : Nat → Int32} (h : FRt F u s) {k : Nat} (hk : k < 24) : wc_A u (F + 3) k = s (16 + 14 * k + 2) ∧ (0 : Int) ≤ (s (16 + 14 * k + 2)).toInt ∧ (s (16 + 14 * k + 2)).toInt ≤ 3 := by
  have q := h 2 k _ rfl hk
  simp only [fe_p, fe_n, fe_c, fe_d, fe_b, fe_e, fe_lo, fe_hi, Nat.zero_add, Nat.one_mul] at q
  rw [show 16 + 14 * k + 2 = _ from (by omega : 16 + 14 * k + 2 = 18 + 14 * k)]
  exact q
theorem fr_ki_n {F : Nat} {u : CS} {s : Nat → Int32} (h : FRt F u s) {k : Nat} (hk : k < 24) : ∃ a : Nat, a ≤ 3 ∧ s (16 + 14 * k + 2) = Int32.ofNat a := pl_nat (fr_ki h hk).2.1 (fr_ki h hk).2.2
theorem fp_ki {F : Nat} {u : CS} {s : Nat → Int32} (h : FRt F u s) {k : Nat} (hk : k < 24) {v : Int32} (h1 : (0 : Int) ≤ v.toInt) (h2 : v.toInt ≤ 3) : FRt F (wc_uA u (F + 3) k v) (upd s (16 + 14 * k + 2) v) := by
  have q := h.put (k := 2) (j := k) (v := v) rfl hk h1 h2
  simp only [fe_p, fe_n, fe_c, fe_d, fe_b, fe_e, fe_lo, fe_hi, Nat.zero_add, Nat.one_mul] at q
  rw [show 16 + 14 * k + 2 = _ from (by omega : 16 + 14 * k + 2 = 18 + 14 * k)]
  exact q
theorem fr_sp {F : Nat} {u : CS} {s : Nat → Int32} (h : FRt F u s) {k : Nat} (hk : k < 24) : wc_A u (F + 4) k = s (16 + 14 * k + 3) ∧ (0 : Int) ≤ (s (16 + 14 * k + 3)).toInt ∧ (s (16 + 14 * k + 3)).toInt ≤ 1 := by
  have q := h 3 k _ rfl hk
  simp only [fe_p, fe_n, fe_c, fe_d, fe_b, fe_e, fe_lo, fe_hi, Nat.zero_add, Nat.one_mul] at q
  rw [show 16 + 14 * k + 3 = _ from (by omega : 16 + 14 * k + 3 = 19 + 14 * k)]
  exact q
theorem fr_sp_n {F : Nat} {u : CS} {s : Nat → Int32} (h : FRt F u s) {k : Nat} (hk : k < 24) : ∃ a : Nat, a ≤ 1 ∧ s (16 + 14 * k + 3) = Int32.ofNat a := pl_nat (fr_sp h hk).2.1 (fr_sp h hk).2.2
theorem fp_sp {F : Nat} {u : CS} {s : Nat → Int32} (h : FRt F u s) {k : Nat} (hk : k < 24) {v : Int32} (h1 : (0 : Int) ≤ v.toInt) (h2 : v.toInt ≤ 1) : FRt F (wc_uA u (F + 4) k v) (upd s (16 + 14 * k + 3) v) := by
  have q := h.put (k := 3) (j := k) (v := v) rfl hk h1 h2
  simp only [fe_p, fe_n, fe_c, fe_d, fe_b, fe_e, fe_lo, fe_hi, Nat.zero_add, Nat.one_mul] at q
  rw [show 16 + 14 * k + 3 = _ from (by omega : 16 + 14 * k + 3 = 19 + 14 * k)]
  exact q
theorem fr_ac {F : Nat} {u : CS} {s : Nat → Int32} (h : FRt F u s) {k : Nat} (hk : k < 24) : wc_A u (F + 5) k = s (16 + 14 * k + 4) ∧ (0 : Int) ≤ (s (16 + 14 * k + 4)).toInt ∧ (s (16 + 14 * k + 4)).toInt ≤ 999 := by
  have q := h 4 k _ rfl hk
  simp only [fe_p, fe_n, fe_c, fe_d, fe_b, fe_e, fe_lo, fe_hi, Nat.zero_add, Nat.one_mul] at q
  rw [show 16 + 14 * k + 4 = _ from (by omega : 16 + 14 * k + 4 = 20 + 14 * k)]
  exact q
theorem fr_ac_n {F : Nat} {u : CS} {s : Nat → Int32} (h : FRt F u s) {k : Nat} (hk : k < 24) : ∃ a : Nat, a ≤ 999 ∧ s (16 + 14 * k + 4) = Int32.ofNat a := pl_nat (fr_ac h hk).2.1 (fr_ac h hk).2.2
theorem fp_ac {F : Nat} {u : CS} {s : Nat → Int32} (h : FRt F u s) {k : Nat} (hk : k < 24) {v : Int32} (h1 : (0 : Int) ≤ v.toInt) (h2 : v.toInt ≤ 999) : FRt F (wc_uA u (F + 5) k v) (upd s (16 + 14 * k + 4) v) := by
  have q := h.put (k := 4) (j := k) (v := v) rfl hk h1 h2
  simp only [fe_p, fe_n, fe_c, fe_d, fe_b, fe_e, fe_lo, fe_hi, Nat.zero_add, Nat.one_mul] at q
  rw [show 16 + 14 * k + 4 = _ from (by omega : 16 + 14 * k + 4 = 20 + 14 * k)]
  exact q
theorem fr_ag {F : Nat} {u : CS} {s : Nat → Int32} (h : FRt F u s) {k : Nat} (hk : k < 24) : wc_A u (F + 6) k = s (16 + 14 * k + 5) ∧ (0 : Int) ≤ (s (16 + 14 * k + 5)).toInt ∧ (s (16 + 14 * k + 5)).toInt ≤ 400 := by
  have q := h 5 k _ rfl hk
  simp only [fe_p, fe_n, fe_c, fe_d, fe_b, fe_e, fe_lo, fe_hi, Nat.zero_add, Nat.one_mul] at q
  rw [show 16 + 14 * k + 5 = _ from (by omega : 16 + 14 * k + 5 = 21 + 14 * k)]
  exact q
theorem fr_ag_n {F : Nat} {u : CS} {s : Nat → Int32} (h : FRt F u s) {k : Nat} (hk : k < 24) : ∃ a : Nat, a ≤ 400 ∧ s (16 + 14 * k + 5) = Int32.ofNat a := pl_nat (fr_ag h hk).2.1 (fr_ag h hk).2.2
theorem fp_ag {F : Nat} {u : CS} {s : Nat → Int32} (h : FRt F u s) {k : Nat} (hk : k < 24) {v : Int32} (h1 : (0 : Int) ≤ v.toInt) (h2 : v.toInt ≤ 400) : FRt F (wc_uA u (F + 6) k v) (upd s (16 + 14 * k + 5) v) := by
  have q := h.put (k := 5) (j := k) (v := v) rfl hk h1 h2
  simp only [fe_p, fe_n, fe_c, fe_d, fe_b, fe_e, fe_lo, fe_hi, Nat.zero_add, Nat.one_mul] at q
  rw [show 16 + 14 * k + 5 = _ from (by omega : 16 + 14 * k + 5 = 21 + 14 * k)]
  exact q
theorem fr_fu {F : Nat} {u : CS} {s : Nat → Int32} (h : FRt F u s) {k : Nat} (hk : k < 24) : wc_A u (F + 7) k = s (16 + 14 * k + 6) ∧ (0 : Int) ≤ (s (16 + 14 * k + 6)).toInt ∧ (s (16 + 14 * k + 6)).toInt ≤ 100 := by
  have q := h 6 k _ rfl hk
  simp only [fe_p, fe_n, fe_c, fe_d, fe_b, fe_e, fe_lo, fe_hi, Nat.zero_add, Nat.one_mul] at q
  rw [show 16 + 14 * k + 6 = _ from (by omega : 16 + 14 * k + 6 = 22 + 14 * k)]
  exact q
theorem fr_fu_n {F : Nat} {u : CS} {s : Nat → Int32} (h : FRt F u s) {k : Nat} (hk : k < 24) : ∃ a : Nat, a ≤ 100 ∧ s (16 + 14 * k + 6) = Int32.ofNat a := pl_nat (fr_fu h hk).2.1 (fr_fu h hk).2.2
theorem fp_fu {F : Nat} {u : CS} {s : Nat → Int32} (h : FRt F u s) {k : Nat} (hk : k < 24) {v : Int32} (h1 : (0 : Int) ≤ v.toInt) (h2 : v.toInt ≤ 100) : FRt F (wc_uA u (F + 7) k v) (upd s (16 + 14 * k + 6) v) := by
  have q := h.put (k := 6) (j := k) (v := v) rfl hk h1 h2
  simp only [fe_p, fe_n, fe_c, fe_d, fe_b, fe_e, fe_lo, fe_hi, Nat.zero_add, Nat.one_mul] at q
  rw [show 16 + 14 * k + 6 = _ from (by omega : 16 + 14 * k + 6 = 22 + 14 * k)]
  exact q
theorem fr_ly {F : Nat} {u : CS} {s : Nat → Int32} (h : FRt F u s) {k : Nat} (hk : k < 24) : wc_A u (F + 8) k = s (16 + 14 * k + 7) ∧ (0 : Int) ≤ (s (16 + 14 * k + 7)).toInt ∧ (s (16 + 14 * k + 7)).toInt ≤ 10789200 := by
  have q := h 7 k _ rfl hk
  simp only [fe_p, fe_n, fe_c, fe_d, fe_b, fe_e, fe_lo, fe_hi, Nat.zero_add, Nat.one_mul] at q
  rw [show 16 + 14 * k + 7 = _ from (by omega : 16 + 14 * k + 7 = 23 + 14 * k)]
  exact q
theorem fr_ly_n {F : Nat} {u : CS} {s : Nat → Int32} (h : FRt F u s) {k : Nat} (hk : k < 24) : ∃ a : Nat, a ≤ 10789200 ∧ s (16 + 14 * k + 7) = Int32.ofNat a := pl_nat (fr_ly h hk).2.1 (fr_ly h hk).2.2
theorem fp_ly {F : Nat} {u : CS} {s : Nat → Int32} (h : FRt F u s) {k : Nat} (hk : k < 24) {v : Int32} (h1 : (0 : Int) ≤ v.toInt) (h2 : v.toInt ≤ 10789200) : FRt F (wc_uA u (F + 8) k v) (upd s (16 + 14 * k + 7) v) := by
  have q := h.put (k := 7) (j := k) (v := v) rfl hk h1 h2
  simp only [fe_p, fe_n, fe_c, fe_d, fe_b, fe_e, fe_lo, fe_hi, Nat.zero_add, Nat.one_mul] at q
  rw [show 16 + 14 * k + 7 = _ from (by omega : 16 + 14 * k + 7 = 23 + 14 * k)]
  exact q
theorem fr_bu {F : Nat} {u : CS} {s : Nat → Int32} (h : FRt F u s) {k : Nat} (hk : k < 24) : wc_A u (F + 9) k = s (16 + 14 * k + 8) ∧ (0 : Int) ≤ (s (16 + 14 * k + 8)).toInt ∧ (s (16 + 14 * k + 8)).toInt ≤ 1000 := by
  have q := h 8 k _ rfl hk
  simp only [fe_p, fe_n, fe_c, fe_d, fe_b, fe_e, fe_lo, fe_hi, Nat.zero_add, Nat.one_mul] at q
  rw [show 16 + 14 * k + 8 = _ from (by omega : 16 + 14 * k + 8 = 24 + 14 * k)]
  exact q
theorem fr_bu_n {F : Nat} {u : CS} {s : Nat → Int32} (h : FRt F u s) {k : Nat} (hk : k < 24) : ∃ a : Nat, a ≤ 1000 ∧ s (16 + 14 * k + 8) = Int32.ofNat a := pl_nat (fr_bu h hk).2.1 (fr_bu h hk).2.2
theorem fp_bu {F : Nat} {u : CS} {s : Nat → Int32} (h : FRt F u s) {k : Nat} (hk : k < 24) {v : Int32} (h1 : (0 : Int) ≤ v.toInt) (h2 : v.toInt ≤ 1000) : FRt F (wc_uA u (F + 9) k v) (upd s (16 + 14 * k + 8) v) := by
  have q := h.put (k := 8) (j := k) (v := v) rfl hk h1 h2
  simp only [fe_p, fe_n, fe_c, fe_d, fe_b, fe_e, fe_lo, fe_hi, Nat.zero_add, Nat.one_mul] at q
  rw [show 16 + 14 * k + 8 = _ from (by omega : 16 + 14 * k + 8 = 24 + 14 * k)]
  exact q
theorem fr_cu {F : Nat} {u : CS} {s : Nat → Int32} (h : FRt F u s) {k : Nat} (hk : k < 24) : wc_A u (F + 10) k = s (16 + 14 * k + 9) ∧ (-1 : Int) ≤ (s (16 + 14 * k + 9)).toInt ∧ (s (16 + 14 * k + 9)).toInt ≤ 400 := by
  have q := h 9 k _ rfl hk
  simp only [fe_p, fe_n, fe_c, fe_d, fe_b, fe_e, fe_lo, fe_hi, Nat.zero_add, Nat.one_mul] at q
  rw [show 16 + 14 * k + 9 = _ from (by omega : 16 + 14 * k + 9 = 25 + 14 * k)]
  exact q
theorem fp_cu {F : Nat} {u : CS} {s : Nat → Int32} (h : FRt F u s) {k : Nat} (hk : k < 24) {v : Int32} (h1 : (-1 : Int) ≤ v.toInt) (h2 : v.toInt ≤ 400) : FRt F (wc_uA u (F + 10) k v) (upd s (16 + 14 * k + 9) v) := by
  have q := h.put (k := 9) (j := k) (v := v) rfl hk h1 h2
  simp only [fe_p, fe_n, fe_c, fe_d, fe_b, fe_e, fe_lo, fe_hi, Nat.zero_add, Nat.one_mul] at q
  rw [show 16 + 14 * k + 9 = _ from (by omega : 16 + 14 * k + 9 = 25 + 14 * k)]
  exact q
theorem fr_pl {F : Nat} {u : CS} {s : Nat → Int32} (h : FRt F u s) {k : Nat} (hk : k < 24) : wc_A u (F + 11) k = s (16 + 14 * k + 10) ∧ (-1 : Int) ≤ (s (16 + 14 * k + 10)).toInt ∧ (s (16 + 14 * k + 10)).toInt ≤ 400 := by
  have q := h 10 k _ rfl hk
  simp only [fe_p, fe_n, fe_c, fe_d, fe_b, fe_e, fe_lo, fe_hi, Nat.zero_add, Nat.one_mul] at q
  rw [show 16 + 14 * k + 10 = _ from (by omega : 16 + 14 * k + 10 = 26 + 14 * k)]
  exact q
theorem fp_pl {F : Nat} {u : CS} {s : Nat → Int32} (h : FRt F u s) {k : Nat} (hk : k < 24) {v : Int32} (h1 : (-1 : Int) ≤ v.toInt) (h2 : v.toInt ≤ 400) : FRt F (wc_uA u (F + 11) k v) (upd s (16 + 14 * k + 10) v) := by
  have q := h.put (k := 10) (j := k) (v := v) rfl hk h1 h2
  simp only [fe_p, fe_n, fe_c, fe_d, fe_b, fe_e, fe_lo, fe_hi, Nat.zero_add, Nat.one_mul] at q
  rw [show 16 + 14 * k + 10 = _ from (by omega : 16 + 14 * k + 10 = 26 + 14 * k)]
  exact q
theorem fr_cm {F : Nat} {u : CS} {s : Nat → Int32} (h : FRt F u s) {k : Nat} (hk : k < 24) : wc_A u (F + 34) k = s (16 + 14 * k + 11) ∧ (0 : Int) ≤ (s (16 + 14 * k + 11)).toInt ∧ (s (16 + 14 * k + 11)).toInt ≤ 8 := by
  have q := h 11 k _ rfl hk
  simp only [fe_p, fe_n, fe_c, fe_d, fe_b, fe_e, fe_lo, fe_hi, Nat.zero_add, Nat.one_mul] at q
  rw [show 16 + 14 * k + 11 = _ from (by omega : 16 + 14 * k + 11 = 27 + 14 * k)]
  exact q
theorem fr_cm_n {F : Nat} {u : CS} {s : Nat → Int32} (h : FRt F u s) {k : Nat} (hk : k < 24) : ∃ a : Nat, a ≤ 8 ∧ s (16 + 14 * k + 11) = Int32.ofNat a := pl_nat (fr_cm h hk).2.1 (fr_cm h hk).2.2
theorem fp_cm {F : Nat} {u : CS} {s : Nat → Int32} (h : FRt F u s) {k : Nat} (hk : k < 24) {v : Int32} (h1 : (0 : Int) ≤ v.toInt) (h2 : v.toInt ≤ 8) : FRt F (wc_uA u (F + 34) k v) (upd s (16 + 14 * k + 11) v) := by
  have q := h.put (k := 11) (j := k) (v := v) rfl hk h1 h2
  simp only [fe_p, fe_n, fe_c, fe_d, fe_b, fe_e, fe_lo, fe_hi, Nat.zero_add, Nat.one_mul] at q
  rw [show 16 + 14 * k + 11 = _ from (by omega : 16 + 14 * k + 11 = 27 + 14 * k)]
  exact q
theorem fr_ra {F : Nat} {u : CS} {s : Nat → Int32} (h : FRt F u s) {k : Nat} (hk : k < 12) : wc_A u (F + 14) k = s (3410 + 3 * k) ∧ (0 : Int) ≤ (s (3410 + 3 * k)).toInt ∧ (s (3410 + 3 * k)).toInt ≤ 5 := by
  have q := h 12 k _ rfl hk
  simp only [fe_p, fe_n, fe_c, fe_d, fe_b, fe_e, fe_lo, fe_hi, Nat.zero_add, Nat.one_mul] at q
  rw [show 3410 + 3 * k = _ from (by omega : 3410 + 3 * k = 3410 + 3 * k)]
  exact q
theorem fr_ra_n {F : Nat} {u : CS} {s : Nat → Int32} (h : FRt F u s) {k : Nat} (hk : k < 12) : ∃ a : Nat, a ≤ 5 ∧ s (3410 + 3 * k) = Int32.ofNat a := pl_nat (fr_ra h hk).2.1 (fr_ra h hk).2.2
theorem fp_ra {F : Nat} {u : CS} {s : Nat → Int32} (h : FRt F u s) {k : Nat} (hk : k < 12) {v : Int32} (h1 : (0 : Int) ≤ v.toInt) (h2 : v.toInt ≤ 5) : FRt F (wc_uA u (F + 14) k v) (upd s (3410 + 3 * k) v) := by
  have q := h.put (k := 12) (j := k) (v := v) rfl hk h1 h2
  simp only [fe_p, fe_n, fe_c, fe_d, fe_b, fe_e, fe_lo, fe_hi, Nat.zero_add, Nat.one_mul] at q
  rw [show 3410 + 3 * k = _ from (by omega : 3410 + 3 * k = 3410 + 3 * k)]
  exact q
theorem fr_rb {F : Nat} {u : CS} {s : Nat → Int32} (h : FRt F u s) {k : Nat} (hk : k < 12) : wc_A u (F + 15) k = s (3410 + 3 * k + 1) ∧ (0 : Int) ≤ (s (3410 + 3 * k + 1)).toInt ∧ (s (3410 + 3 * k + 1)).toInt ≤ 5 := by
  have q := h 13 k _ rfl hk
  simp only [fe_p, fe_n, fe_c, fe_d, fe_b, fe_e, fe_lo, fe_hi, Nat.zero_add, Nat.one_mul] at q
  rw [show 3410 + 3 * k + 1 = _ from (by omega : 3410 + 3 * k + 1 = 3411 + 3 * k)]
  exact q
theorem fr_rb_n {F : Nat} {u : CS} {s : Nat → Int32} (h : FRt F u s) {k : Nat} (hk : k < 12) : ∃ a : Nat, a ≤ 5 ∧ s (3410 + 3 * k + 1) = Int32.ofNat a := pl_nat (fr_rb h hk).2.1 (fr_rb h hk).2.2
theorem fp_rb {F : Nat} {u : CS} {s : Nat → Int32} (h : FRt F u s) {k : Nat} (hk : k < 12) {v : Int32} (h1 : (0 : Int) ≤ v.toInt) (h2 : v.toInt ≤ 5) : FRt F (wc_uA u (F + 15) k v) (upd s (3410 + 3 * k + 1) v) := by
  have q := h.put (k := 13) (j := k) (v := v) rfl hk h1 h2
  simp only [fe_p, fe_n, fe_c, fe_d, fe_b, fe_e, fe_lo, fe_hi, Nat.zero_add, Nat.one_mul] at q
  rw [show 3410 + 3 * k + 1 = _ from (by omega : 3410 + 3 * k + 1 = 3411 + 3 * k)]
  exact q
theorem fr_rl {F : Nat} {u : CS} {s : Nat → Int32} (h : FRt F u s) {k : Nat} (hk : k < 12) : wc_A u (F + 16) k = s (3410 + 3 * k + 2) ∧ (0 : Int) ≤ (s (3410 + 3 * k + 2)).toInt ∧ (s (3410 + 3 * k + 2)).toInt ≤ 999 := by
  have q := h 14 k _ rfl hk
  simp only [fe_p, fe_n, fe_c, fe_d, fe_b, fe_e, fe_lo, fe_hi, Nat.zero_add, Nat.one_mul] at q
  rw [show 3410 + 3 * k + 2 = _ from (by omega : 3410 + 3 * k + 2 = 3412 + 3 * k)]
  exact q
theorem fr_rl_n {F : Nat} {u : CS} {s : Nat → Int32} (h : FRt F u s) {k : Nat} (hk : k < 12) : ∃ a : Nat, a ≤ 999 ∧ s (3410 + 3 * k + 2) = Int32.ofNat a := pl_nat (fr_rl h hk).2.1 (fr_rl h hk).2.2
theorem fp_rl {F : Nat} {u : CS} {s : Nat → Int32} (h : FRt F u s) {k : Nat} (hk : k < 12) {v : Int32} (h1 : (0 : Int) ≤ v.toInt) (h2 : v.toInt ≤ 999) : FRt F (wc_uA u (F + 16) k v) (upd s (3410 + 3 * k + 2) v) := by
  have q := h.put (k := 14) (j := k) (v := v) rfl hk h1 h2
  simp only [fe_p, fe_n, fe_c, fe_d, fe_b, fe_e, fe_lo, fe_hi, Nat.zero_add, Nat.one_mul] at q
  rw [show 3410 + 3 * k + 2 = _ from (by omega : 3410 + 3 * k + 2 = 3412 + 3 * k)]
  exact q
theorem fr_ho {F : Nat} {u : CS} {s : Nat → Int32} (h : FRt F u s) {k : Nat} (hk : k < 8) : wc_A u (F + 18) k = s (928 + 4 * k) ∧ (0 : Int) ≤ (s (928 + 4 * k)).toInt ∧ (s (928 + 4 * k)).toInt ≤ 5 := by
  have q := h 15 k _ rfl hk
  simp only [fe_p, fe_n, fe_c, fe_d, fe_b, fe_e, fe_lo, fe_hi, Nat.zero_add, Nat.one_mul] at q
  rw [show 928 + 4 * k = _ from (by omega : 928 + 4 * k = 928 + 4 * k)]
  exact q
theorem fr_ho_n {F : Nat} {u : CS} {s : Nat → Int32} (h : FRt F u s) {k : Nat} (hk : k < 8) : ∃ a : Nat, a ≤ 5 ∧ s (928 + 4 * k) = Int32.ofNat a := pl_nat (fr_ho h hk).2.1 (fr_ho h hk).2.2
theorem fp_ho {F : Nat} {u : CS} {s : Nat → Int32} (h : FRt F u s) {k : Nat} (hk : k < 8) {v : Int32} (h1 : (0 : Int) ≤ v.toInt) (h2 : v.toInt ≤ 5) : FRt F (wc_uA u (F + 18) k v) (upd s (928 + 4 * k) v) := by
  have q := h.put (k := 15) (j := k) (v := v) rfl hk h1 h2
  simp only [fe_p, fe_n, fe_c, fe_d, fe_b, fe_e, fe_lo, fe_hi, Nat.zero_add, Nat.one_mul] at q
  rw [show 928 + 4 * k = _ from (by omega : 928 + 4 * k = 928 + 4 * k)]
  exact q
theorem fr_he {F : Nat} {u : CS} {s : Nat → Int32} (h : FRt F u s) {k : Nat} (hk : k < 8) : wc_A u (F + 19) k = s (928 + 4 * k + 1) ∧ (0 : Int) ≤ (s (928 + 4 * k + 1)).toInt ∧ (s (928 + 4 * k + 1)).toInt ≤ 999 := by
  have q := h 16 k _ rfl hk
  simp only [fe_p, fe_n, fe_c, fe_d, fe_b, fe_e, fe_lo, fe_hi, Nat.zero_add, Nat.one_mul] at q
  rw [show 928 + 4 * k + 1 = _ from (by omega : 928 + 4 * k + 1 = 929 + 4 * k)]
  exact q
theorem fr_he_n {F : Nat} {u : CS} {s : Nat → Int32} (h : FRt F u s) {k : Nat} (hk : k < 8) : ∃ a : Nat, a ≤ 999 ∧ s (928 + 4 * k + 1) = Int32.ofNat a := pl_nat (fr_he h hk).2.1 (fr_he h hk).2.2
theorem fp_he {F : Nat} {u : CS} {s : Nat → Int32} (h : FRt F u s) {k : Nat} (hk : k < 8) {v : Int32} (h1 : (0 : Int) ≤ v.toInt) (h2 : v.toInt ≤ 999) : FRt F (wc_uA u (F + 19) k v) (upd s (928 + 4 * k + 1) v) := by
  have q := h.put (k := 16) (j := k) (v := v) rfl hk h1 h2
  simp only [fe_p, fe_n, fe_c, fe_d, fe_b, fe_e, fe_lo, fe_hi, Nat.zero_add, Nat.one_mul] at q
  rw [show 928 + 4 * k + 1 = _ from (by omega : 928 + 4 * k + 1 = 929 + 4 * k)]
  exact q
theorem fr_hd {F : Nat} {u : CS} {s : Nat → Int32} (h : FRt F u s) {k : Nat} (hk : k < 8) : wc_A u (F + 20) k = s (928 + 4 * k + 2) ∧ (0 : Int) ≤ (s (928 + 4 * k + 2)).toInt ∧ (s (928 + 4 * k + 2)).toInt ≤ 999 := by
  have q := h 17 k _ rfl hk
  simp only [fe_p, fe_n, fe_c, fe_d, fe_b, fe_e, fe_lo, fe_hi, Nat.zero_add, Nat.one_mul] at q
  rw [show 928 + 4 * k + 2 = _ from (by omega : 928 + 4 * k + 2 = 930 + 4 * k)]
  exact q
theorem fr_hd_n {F : Nat} {u : CS} {s : Nat → Int32} (h : FRt F u s) {k : Nat} (hk : k < 8) : ∃ a : Nat, a ≤ 999 ∧ s (928 + 4 * k + 2) = Int32.ofNat a := pl_nat (fr_hd h hk).2.1 (fr_hd h hk).2.2
theorem fp_hd {F : Nat} {u : CS} {s : Nat → Int32} (h : FRt F u s) {k : Nat} (hk : k < 8) {v : Int32} (h1 : (0 : Int) ≤ v.toInt) (h2 : v.toInt ≤ 999) : FRt F (wc_uA u (F + 20) k v) (upd s (928 + 4 * k + 2) v) := by
  have q := h.put (k := 17) (j := k) (v := v) rfl hk h1 h2
  simp only [fe_p, fe_n, fe_c, fe_d, fe_b, fe_e, fe_lo, fe_hi, Nat.zero_add, Nat.one_mul] at q
  rw [show 928 + 4 * k + 2 = _ from (by omega : 928 + 4 * k + 2 = 930 + 4 * k)]
  exact q
theorem fr_ow {F : Nat} {u : CS} {s : Nat → Int32} (h : FRt F u s) {k : Nat} (hk : k < 8) : wc_A u (F + 21) k = s (928 + 4 * k + 3) ∧ (0 : Int) ≤ (s (928 + 4 * k + 3)).toInt ∧ (s (928 + 4 * k + 3)).toInt ≤ 2147483647 := by
  have q := h 18 k _ rfl hk
  simp only [fe_p, fe_n, fe_c, fe_d, fe_b, fe_e, fe_lo, fe_hi, Nat.zero_add, Nat.one_mul] at q
  rw [show 928 + 4 * k + 3 = _ from (by omega : 928 + 4 * k + 3 = 931 + 4 * k)]
  exact q
theorem fr_ow_n {F : Nat} {u : CS} {s : Nat → Int32} (h : FRt F u s) {k : Nat} (hk : k < 8) : ∃ a : Nat, a ≤ 2147483647 ∧ s (928 + 4 * k + 3) = Int32.ofNat a := pl_nat (fr_ow h hk).2.1 (fr_ow h hk).2.2
theorem fp_ow {F : Nat} {u : CS} {s : Nat → Int32} (h : FRt F u s) {k : Nat} (hk : k < 8) {v : Int32} (h1 : (0 : Int) ≤ v.toInt) (h2 : v.toInt ≤ 2147483647) : FRt F (wc_uA u (F + 21) k v) (upd s (928 + 4 * k + 3) v) := by
  have q := h.put (k := 18) (j := k) (v := v) rfl hk h1 h2
  simp only [fe_p, fe_n, fe_c, fe_d, fe_b, fe_e, fe_lo, fe_hi, Nat.zero_add, Nat.one_mul] at q
  rw [show 928 + 4 * k + 3 = _ from (by omega : 928 + 4 * k + 3 = 931 + 4 * k)]
  exact q
theorem fr_ca {F : Nat} {u : CS} {s : Nat → Int32} (h : FRt F u s) {k : Nat} (hk : k < 16) : wc_A u (F + 25) k = s (1320 + 125 * k + 1) ∧ (0 : Int) ≤ (s (1320 + 125 * k + 1)).toInt ∧ (s (1320 + 125 * k + 1)).toInt ≤ 400 := by
  have q := h 19 k _ rfl hk
  simp only [fe_p, fe_n, fe_c, fe_d, fe_b, fe_e, fe_lo, fe_hi, Nat.zero_add, Nat.one_mul] at q
  rw [show 1320 + 125 * k + 1 = _ from (by omega : 1320 + 125 * k + 1 = 1321 + 125 * k)]
  exact q
theorem fr_ca_n {F : Nat} {u : CS} {s : Nat → Int32} (h : FRt F u s) {k : Nat} (hk : k < 16) : ∃ a : Nat, a ≤ 400 ∧ s (1320 + 125 * k + 1) = Int32.ofNat a := pl_nat (fr_ca h hk).2.1 (fr_ca h hk).2.2
theorem fp_ca {F : Nat} {u : CS} {s : Nat → Int32} (h : FRt F u s) {k : Nat} (hk : k < 16) {v : Int32} (h1 : (0 : Int) ≤ v.toInt) (h2 : v.toInt ≤ 400) : FRt F (wc_uA u (F + 25) k v) (upd s (1320 + 125 * k + 1) v) := by
  have q := h.put (k := 19) (j := k) (v := v) rfl hk h1 h2
  simp only [fe_p, fe_n, fe_c, fe_d, fe_b, fe_e, fe_lo, fe_hi, Nat.zero_add, Nat.one_mul] at q
  rw [show 1320 + 125 * k + 1 = _ from (by omega : 1320 + 125 * k + 1 = 1321 + 125 * k)]
  exact q
theorem fr_sk {F : Nat} {u : CS} {s : Nat → Int32} (h : FRt F u s) {k : Nat} (hk : k < 16) : wc_A u (F + 26) k = s (1320 + 125 * k + 2) ∧ (-1 : Int) ≤ (s (1320 + 125 * k + 2)).toInt ∧ (s (1320 + 125 * k + 2)).toInt ≤ 400 := by
  have q := h 20 k _ rfl hk
  simp only [fe_p, fe_n, fe_c, fe_d, fe_b, fe_e, fe_lo, fe_hi, Nat.zero_add, Nat.one_mul] at q
  rw [show 1320 + 125 * k + 2 = _ from (by omega : 1320 + 125 * k + 2 = 1322 + 125 * k)]
  exact q
theorem fp_sk {F : Nat} {u : CS} {s : Nat → Int32} (h : FRt F u s) {k : Nat} (hk : k < 16) {v : Int32} (h1 : (-1 : Int) ≤ v.toInt) (h2 : v.toInt ≤ 400) : FRt F (wc_uA u (F + 26) k v) (upd s (1320 + 125 * k + 2) v) := by
  have q := h.put (k := 20) (j := k) (v := v) rfl hk h1 h2
  simp only [fe_p, fe_n, fe_c, fe_d, fe_b, fe_e, fe_lo, fe_hi, Nat.zero_add, Nat.one_mul] at q
  rw [show 1320 + 125 * k + 2 = _ from (by omega : 1320 + 125 * k + 2 = 1322 + 125 * k)]
  exact q
theorem fr_os {F : Nat} {u : CS} {s : Nat → Int32} (h : FRt F u s) {k : Nat} (hk : k < 30) : wc_A u (F + 27) k = s (3320 + 3 * k + 0) ∧ (0 : Int) ≤ (s (3320 + 3 * k + 0)).toInt ∧ (s (3320 + 3 * k + 0)).toInt ≤ 23 := by
  have q := h 21 k _ rfl hk
  simp only [fe_p, fe_n, fe_c, fe_d, fe_b, fe_e, fe_lo, fe_hi, Nat.zero_add, Nat.one_mul] at q
  rw [show 3320 + 3 * k + 0 = _ from (by omega : 3320 + 3 * k + 0 = 3320 + 3 * k)]
  exact q
theorem fr_os_n {F : Nat} {u : CS} {s : Nat → Int32} (h : FRt F u s) {k : Nat} (hk : k < 30) : ∃ a : Nat, a ≤ 23 ∧ s (3320 + 3 * k + 0) = Int32.ofNat a := pl_nat (fr_os h hk).2.1 (fr_os h hk).2.2
theorem fp_os {F : Nat} {u : CS} {s : Nat → Int32} (h : FRt F u s) {k : Nat} (hk : k < 30) {v : Int32} (h1 : (0 : Int) ≤ v.toInt) (h2 : v.toInt ≤ 23) : FRt F (wc_uA u (F + 27) k v) (upd s (3320 + 3 * k + 0) v) := by
  have q := h.put (k := 21) (j := k) (v := v) rfl hk h1 h2
  simp only [fe_p, fe_n, fe_c, fe_d, fe_b, fe_e, fe_lo, fe_hi, Nat.zero_add, Nat.one_mul] at q
  rw [show 3320 + 3 * k + 0 = _ from (by omega : 3320 + 3 * k + 0 = 3320 + 3 * k)]
  exact q
theorem fr_oo {F : Nat} {u : CS} {s : Nat → Int32} (h : FRt F u s) {k : Nat} (hk : k < 30) : wc_A u (F + 28) k = s (3320 + 3 * k + 1) ∧ (0 : Int) ≤ (s (3320 + 3 * k + 1)).toInt ∧ (s (3320 + 3 * k + 1)).toInt ≤ 2 := by
  have q := h 22 k _ rfl hk
  simp only [fe_p, fe_n, fe_c, fe_d, fe_b, fe_e, fe_lo, fe_hi, Nat.zero_add, Nat.one_mul] at q
  rw [show 3320 + 3 * k + 1 = _ from (by omega : 3320 + 3 * k + 1 = 3321 + 3 * k)]
  exact q
theorem fr_oo_n {F : Nat} {u : CS} {s : Nat → Int32} (h : FRt F u s) {k : Nat} (hk : k < 30) : ∃ a : Nat, a ≤ 2 ∧ s (3320 + 3 * k + 1) = Int32.ofNat a := pl_nat (fr_oo h hk).2.1 (fr_oo h hk).2.2
theorem fp_oo {F : Nat} {u : CS} {s : Nat → Int32} (h : FRt F u s) {k : Nat} (hk : k < 30) {v : Int32} (h1 : (0 : Int) ≤ v.toInt) (h2 : v.toInt ≤ 2) : FRt F (wc_uA u (F + 28) k v) (upd s (3320 + 3 * k + 1) v) := by
  have q := h.put (k := 22) (j := k) (v := v) rfl hk h1 h2
  simp only [fe_p, fe_n, fe_c, fe_d, fe_b, fe_e, fe_lo, fe_hi, Nat.zero_add, Nat.one_mul] at q
  rw [show 3320 + 3 * k + 1 = _ from (by omega : 3320 + 3 * k + 1 = 3321 + 3 * k)]
  exact q
theorem fr_ot {F : Nat} {u : CS} {s : Nat → Int32} (h : FRt F u s) {k : Nat} (hk : k < 30) : wc_A u (F + 29) k = s (3320 + 3 * k + 2) ∧ (0 : Int) ≤ (s (3320 + 3 * k + 2)).toInt ∧ (s (3320 + 3 * k + 2)).toInt ≤ 100 := by
  have q := h 23 k _ rfl hk
  simp only [fe_p, fe_n, fe_c, fe_d, fe_b, fe_e, fe_lo, fe_hi, Nat.zero_add, Nat.one_mul] at q
  rw [show 3320 + 3 * k + 2 = _ from (by omega : 3320 + 3 * k + 2 = 3322 + 3 * k)]
  exact q
theorem fr_ot_n {F : Nat} {u : CS} {s : Nat → Int32} (h : FRt F u s) {k : Nat} (hk : k < 30) : ∃ a : Nat, a ≤ 100 ∧ s (3320 + 3 * k + 2) = Int32.ofNat a := pl_nat (fr_ot h hk).2.1 (fr_ot h hk).2.2
theorem fp_ot {F : Nat} {u : CS} {s : Nat → Int32} (h : FRt F u s) {k : Nat} (hk : k < 30) {v : Int32} (h1 : (0 : Int) ≤ v.toInt) (h2 : v.toInt ≤ 100) : FRt F (wc_uA u (F + 29) k v) (upd s (3320 + 3 * k + 2) v) := by
  have q := h.put (k := 23) (j := k) (v := v) rfl hk h1 h2
  simp only [fe_p, fe_n, fe_c, fe_d, fe_b, fe_e, fe_lo, fe_hi, Nat.zero_add, Nat.one_mul] at q
  rw [show 3320 + 3 * k + 2 = _ from (by omega : 3320 + 3 * k + 2 = 3322 + 3 * k)]
  exact q
theorem fr_so {F : Nat} {u : CS} {s : Nat → Int32} (h : FRt F u s) {k : Nat} (hk : k < 12) : wc_A u (F + 30) k = s (3446 + k) ∧ (-2147483648 : Int) ≤ (s (3446 + k)).toInt ∧ (s (3446 + k)).toInt ≤ 2147483647 := by
  have q := h 24 k _ rfl hk
  simp only [fe_p, fe_n, fe_c, fe_d, fe_b, fe_e, fe_lo, fe_hi, Nat.zero_add, Nat.one_mul] at q
  rw [show 3446 + k = _ from (by omega : 3446 + k = 3446 + 1 * k)]
  rw [Nat.one_mul]; exact q
theorem fp_so {F : Nat} {u : CS} {s : Nat → Int32} (h : FRt F u s) {k : Nat} (hk : k < 12) {v : Int32} (h1 : (-2147483648 : Int) ≤ v.toInt) (h2 : v.toInt ≤ 2147483647) : FRt F (wc_uA u (F + 30) k v) (upd s (3446 + k) v) := by
  have q := h.put (k := 24) (j := k) (v := v) rfl hk h1 h2
  simp only [fe_p, fe_n, fe_c, fe_d, fe_b, fe_e, fe_lo, fe_hi, Nat.zero_add, Nat.one_mul] at q
  rw [show 3446 + k = _ from (by omega : 3446 + k = 3446 + 1 * k)]
  rw [Nat.one_mul]; exact q
theorem fr_wi {F : Nat} {u : CS} {s : Nat → Int32} (h : FRt F u s) {k : Nat} (hk : k < 100) : wc_A u (F + 31) k = s (3458 + k) ∧ (-1 : Int) ≤ (s (3458 + k)).toInt ∧ (s (3458 + k)).toInt ≤ 99 := by
  have q := h 25 k _ rfl hk
  simp only [fe_p, fe_n, fe_c, fe_d, fe_b, fe_e, fe_lo, fe_hi, Nat.zero_add, Nat.one_mul] at q
  rw [show 3458 + k = _ from (by omega : 3458 + k = 3458 + 1 * k)]
  rw [Nat.one_mul]; exact q
theorem fp_wi {F : Nat} {u : CS} {s : Nat → Int32} (h : FRt F u s) {k : Nat} (hk : k < 100) {v : Int32} (h1 : (-1 : Int) ≤ v.toInt) (h2 : v.toInt ≤ 99) : FRt F (wc_uA u (F + 31) k v) (upd s (3458 + k) v) := by
  have q := h.put (k := 25) (j := k) (v := v) rfl hk h1 h2
  simp only [fe_p, fe_n, fe_c, fe_d, fe_b, fe_e, fe_lo, fe_hi, Nat.zero_add, Nat.one_mul] at q
  rw [show 3458 + k = _ from (by omega : 3458 + k = 3458 + 1 * k)]
  rw [Nat.one_mul]; exact q
theorem fr_th {F : Nat} {u : CS} {s : Nat → Int32} (h : FRt F u s) {k : Nat} (hk : k < 6) : wc_A u (F + 32) k = s (3558 + 2 * k) ∧ (0 : Int) ≤ (s (3558 + 2 * k)).toInt ∧ (s (3558 + 2 * k)).toInt ≤ 999 := by
  have q := h 26 k _ rfl hk
  simp only [fe_p, fe_n, fe_c, fe_d, fe_b, fe_e, fe_lo, fe_hi, Nat.zero_add, Nat.one_mul] at q
  rw [show 3558 + 2 * k = _ from (by omega : 3558 + 2 * k = 3558 + 2 * k)]
  exact q
theorem fr_th_n {F : Nat} {u : CS} {s : Nat → Int32} (h : FRt F u s) {k : Nat} (hk : k < 6) : ∃ a : Nat, a ≤ 999 ∧ s (3558 + 2 * k) = Int32.ofNat a := pl_nat (fr_th h hk).2.1 (fr_th h hk).2.2
theorem fp_th {F : Nat} {u : CS} {s : Nat → Int32} (h : FRt F u s) {k : Nat} (hk : k < 6) {v : Int32} (h1 : (0 : Int) ≤ v.toInt) (h2 : v.toInt ≤ 999) : FRt F (wc_uA u (F + 32) k v) (upd s (3558 + 2 * k) v) := by
  have q := h.put (k := 26) (j := k) (v := v) rfl hk h1 h2
  simp only [fe_p, fe_n, fe_c, fe_d, fe_b, fe_e, fe_lo, fe_hi, Nat.zero_add, Nat.one_mul] at q
  rw [show 3558 + 2 * k = _ from (by omega : 3558 + 2 * k = 3558 + 2 * k)]
  exact q
theorem fr_gu {F : Nat} {u : CS} {s : Nat → Int32} (h : FRt F u s) {k : Nat} (hk : k < 6) : wc_A u (F + 33) k = s (3558 + 2 * k + 1) ∧ (0 : Int) ≤ (s (3558 + 2 * k + 1)).toInt ∧ (s (3558 + 2 * k + 1)).toInt ≤ 99 := by
  have q := h 27 k _ rfl hk
  simp only [fe_p, fe_n, fe_c, fe_d, fe_b, fe_e, fe_lo, fe_hi, Nat.zero_add, Nat.one_mul] at q
  rw [show 3558 + 2 * k + 1 = _ from (by omega : 3558 + 2 * k + 1 = 3559 + 2 * k)]
  exact q
theorem fr_gu_n {F : Nat} {u : CS} {s : Nat → Int32} (h : FRt F u s) {k : Nat} (hk : k < 6) : ∃ a : Nat, a ≤ 99 ∧ s (3558 + 2 * k + 1) = Int32.ofNat a := pl_nat (fr_gu h hk).2.1 (fr_gu h hk).2.2
theorem fp_gu {F : Nat} {u : CS} {s : Nat → Int32} (h : FRt F u s) {k : Nat} (hk : k < 6) {v : Int32} (h1 : (0 : Int) ≤ v.toInt) (h2 : v.toInt ≤ 99) : FRt F (wc_uA u (F + 33) k v) (upd s (3558 + 2 * k + 1) v) := by
  have q := h.put (k := 27) (j := k) (v := v) rfl hk h1 h2
  simp only [fe_p, fe_n, fe_c, fe_d, fe_b, fe_e, fe_lo, fe_hi, Nat.zero_add, Nat.one_mul] at q
  rw [show 3558 + 2 * k + 1 = _ from (by omega : 3558 + 2 * k + 1 = 3559 + 2 * k)]
  exact q
