/-! PLAIN LAW, LINES 3: the twin's reader: names, one more held open, a reader that has failed goes on so -/
theorem wcl0 : Int64.ofNat (wcodes.getD 0 0) = (923 : Int64) := by decide +kernel
theorem wcl1 : Int64.ofNat (wcodes.getD 1 0) = (32941 : Int64) := by decide +kernel
theorem wcl2 : Int64.ofNat (wcodes.getD 2 0) = (279252 : Int64) := by decide +kernel
theorem wcl3 : Int64.ofNat (wcodes.getD 3 0) = (220309 : Int64) := by decide +kernel
theorem wcl4 : Int64.ofNat (wcodes.getD 4 0) = (464053 : Int64) := by decide +kernel
theorem wcl5 : Int64.ofNat (wcodes.getD 5 0) = (321697 : Int64) := by decide +kernel
theorem wcl6 : Int64.ofNat (wcodes.getD 6 0) = (125042 : Int64) := by decide +kernel
theorem wcl7 : Int64.ofNat (wcodes.getD 7 0) = (8740379 : Int64) := by decide +kernel
theorem wcl8 : Int64.ofNat (wcodes.getD 8 0) = (223456 : Int64) := by decide +kernel
theorem wcl9 : Int64.ofNat (wcodes.getD 9 0) = (381083 : Int64) := by decide +kernel
theorem wcl10 : Int64.ofNat (wcodes.getD 10 0) = (10494835 : Int64) := by decide +kernel
theorem wcl11 : Int64.ofNat (wcodes.getD 11 0) = (11263 : Int64) := by decide +kernel
theorem wcl12 : Int64.ofNat (wcodes.getD 12 0) = (133743 : Int64) := by decide +kernel
theorem wcl13 : Int64.ofNat (wcodes.getD 13 0) = (603766 : Int64) := by decide +kernel
theorem wcl14 : Int64.ofNat (wcodes.getD 14 0) = (1310105 : Int64) := by decide +kernel
theorem wcl15 : Int64.ofNat (wcodes.getD 15 0) = (495765 : Int64) := by decide +kernel
theorem wcl16 : Int64.ofNat (wcodes.getD 16 0) = (3172008997 : Int64) := by decide +kernel
theorem wcl17 : Int64.ofNat (wcodes.getD 17 0) = (4350799 : Int64) := by decide +kernel
theorem wcl18 : Int64.ofNat (wcodes.getD 18 0) = (249 : Int64) := by decide +kernel
theorem wcl19 : Int64.ofNat (wcodes.getD 19 0) = (423 : Int64) := by decide +kernel
theorem wcl20 : Int64.ofNat (wcodes.getD 20 0) = (1111 : Int64) := by decide +kernel
theorem wcl21 : Int64.ofNat (wcodes.getD 21 0) = (10631 : Int64) := by decide +kernel
theorem wcl22 : Int64.ofNat (wcodes.getD 22 0) = (283619210 : Int64) := by decide +kernel
section PO3
variable {t t1 t2 : TS} {N m : Nat} {b : Nat → Nat} {p : PS} {n : Nat}
theorem t_opens (hN : 100000 ≤ N) (h : TR b m t p) : (ps_op p = 6 → ∃ t1, fX7_opens N t = some (0, t1) ∧ TG t t1 ∧ Dm b m t1 (ps_bg p)) ∧ (ps_op p ≠ 6 → ∃ t1, fX7_opens N t = some (1, t1) ∧ TG t t1 ∧ (∀ p1, ap_nx b m (ps_hr p) (ps_op p + 1) = .ok p1 → TR b m t1 p1 ∧ ps_hr p ≤ ps_hr p1 ∧ ps_op p1 = ps_op p + 1 ∧ (p1.1.1 ≠ 0 → ps_hr p < ps_hr p1)) ∧ ∀ n, ap_nx b m (ps_hr p) (ps_op p + 1) = .error n → Dm b m t1 n) := by
  have ho := h.2.2.2.2.2.2.2.1
  unfold fX7_opens
  rw [h.2.2.2.2.2.2.1]
  constructor
  · intro c
    obtain ⟨t1, r1, r2, r3, -⟩ := r_fail (N := N) h
    rw [c, if_pos (by decide), r1]
    exact ⟨t1, rfl, r3, r2⟩
  · intro c
    rw [if_neg (by rw [pl_eqL (by omega) (by omega)]; exact c)]
    simp only [pl_nm, pl_addL]
    have tg : TG t (mt_uI t 12 (Int32.ofNat (ps_op p + 1))) := TG.rfl'.uI (by omega)
    obtain ⟨t1, r1, r2, r3, r4⟩ := r_next (N := N) (op := ps_op p + 1) hN (h.1.tg tg) (by rw [rtI_I, upd_ne (by omega)]; exact h.2.1) (hr := ps_hr p) (by rw [rtI_I, upd_ne (by omega)]; exact h.2.2.1) h.2.2.2.1 (by rw [rtI_I, upd_eq]) (by omega)
    rw [r1]
    exact ⟨t1, rfl, tg.trans r2, r3, r4⟩
/-- a name, on a reader that is fine -/
theorem t_name {k : Nat} (h : TR b m t p) (hk : WhoN k) (h15 : t.1 15 = Int32.ofNat k) {w : Nat} (hp : p.1 = (1, w)) (hw : w < 23) :
    (8 ≤ w ∧ w < 18 → fX7_name N t = some (tellV (tS t) (t.1 17) k (t.1 16) (w - 8), t)) ∧ (¬ (8 ≤ w ∧ w < 18) → ∃ t1, fX7_name N t = some (0, t1) ∧ TG t t1 ∧ Dm b m t1 (ps_bg p) ∧ t1.1 13 = 1) := by
  have e : ∀ v, v < 23 → fX7_isWord N t (Int64.ofNat (wcodes.getD v 0)) = some (if w = v then 1 else 0, t) := by
    intro v hv
    rw [t_word h hv, hp]
    by_cases c : w = v
    · rw [if_pos c, if_pos (by rw [c])]
    · rw [if_neg c, if_neg (fun q => c (Prod.mk.inj q).2)]
  have e15 : fX7_isWord N t 495765 = some (if w = 15 then 1 else 0, t) := by rw [← wcl15]; exact e 15 (by omega)
  have e14 : fX7_isWord N t 1310105 = some (if w = 14 then 1 else 0, t) := by rw [← wcl14]; exact e 14 (by omega)
  have e16 : fX7_isWord N t 3172008997 = some (if w = 16 then 1 else 0, t) := by rw [← wcl16]; exact e 16 (by omega)
  have e17 : fX7_isWord N t 4350799 = some (if w = 17 then 1 else 0, t) := by rw [← wcl17]; exact e 17 (by omega)
  have e8 : fX7_isWord N t 223456 = some (if w = 8 then 1 else 0, t) := by rw [← wcl8]; exact e 8 (by omega)
  have e9 : fX7_isWord N t 381083 = some (if w = 9 then 1 else 0, t) := by rw [← wcl9]; exact e 9 (by omega)
  have e10 : fX7_isWord N t 10494835 = some (if w = 10 then 1 else 0, t) := by rw [← wcl10]; exact e 10 (by omega)
  have e11 : fX7_isWord N t 11263 = some (if w = 11 then 1 else 0, t) := by rw [← wcl11]; exact e 11 (by omega)
  have e12 : fX7_isWord N t 133743 = some (if w = 12 then 1 else 0, t) := by rw [← wcl12]; exact e 12 (by omega)
  have e13 : fX7_isWord N t 603766 = some (if w = 13 then 1 else 0, t) := by rw [← wcl13]; exact e 13 (by omega)
  have hk1 : k < 2147483648 := by unfold WhoN at hk; omega
  unfold fX7_name
  rw [h15]
  simp (disch := omega) only [pl_ltL]
  have red : ∀ y0 : Int32, (y0 = if k < 100 then 0 else 1) → (if k < 100 then fX7_name_14 N t 0 else fX7_name_14 N t 1) = fX7_name_14 N t y0 := by
    intro y0 hy
    rw [hy]
    by_cases c : k < 100
    · rw [if_pos c, if_pos c]
    · rw [if_neg c, if_neg c]
  have z : (if k < 100 then fX7_name_14 N t 0 else fX7_name_14 N t 1) = fX7_name_14 N t (if k < 100 then 0 else 1) := red _ rfl
  rw [z]
  unfold fX7_name_14
  simp only [pl_nm, e15, e14, e16, e17, e8, e9, e10, e11, e12, e13, pl_bd2, pl_01, ite_not]
  obtain ⟨t1, f1, f2, f3, f4⟩ := r_fail (N := N) h
  constructor
  · intro hw2
    by_cases c : k < 100
    · have k24 : k < 24 := by unfold WhoN at hk; omega
      have n100 : ¬ 100 ≤ k := by omega
      have s0 : fX7_st N t (Int32.ofNat k) 0 = some (tS t (16 + 14 * k + 0), t) := tX_st N t k24 (w := 0) (by omega)
      have s1 : fX7_st N t (Int32.ofNat k) 1 = some (tS t (16 + 14 * k + 1), t) := tX_st N t k24 (w := 1) (by omega)
      have s2 : fX7_st N t (Int32.ofNat k) 2 = some (tS t (16 + 14 * k + 2), t) := tX_st N t k24 (w := 2) (by omega)
      have s3 : fX7_st N t (Int32.ofNat k) 3 = some (tS t (16 + 14 * k + 3), t) := tX_st N t k24 (w := 3) (by omega)
      have s4 : fX7_st N t (Int32.ofNat k) 4 = some (tS t (16 + 14 * k + 4), t) := tX_st N t k24 (w := 4) (by omega)
      have s5 : fX7_st N t (Int32.ofNat k) 5 = some (tS t (16 + 14 * k + 5), t) := tX_st N t k24 (w := 5) (by omega)
      have s6 : fX7_st N t (Int32.ofNat k) 6 = some (tS t (16 + 14 * k + 6), t) := tX_st N t k24 (w := 6) (by omega)
      simp only [if_pos c]
      unfold tellV
      rcases (by omega : w = 8 ∨ w = 9 ∨ w = 10 ∨ w = 11 ∨ w = 12 ∨ w = 13 ∨ w = 14 ∨ w = 15 ∨ w = 16 ∨ w = 17) with rfl | rfl | rfl | rfl | rfl | rfl | rfl | rfl | rfl | rfl
      · simp [h15, n100, s2, pl_bd2, fX7_name_217, fX7_name_257, fX7_name_266]
      · simp [h15, n100, s1, pl_bd2, fX7_name_217, fX7_name_257, fX7_name_266]
      · simp [h15, n100, s3, pl_bd2, fX7_name_217, fX7_name_257, fX7_name_266]
      · simp [h15, n100, s5, pl_bd2, fX7_name_217, fX7_name_257, fX7_name_266]
        split <;> rfl
      · simp [h15, n100, s6, pl_bd2, fX7_name_217, fX7_name_257, fX7_name_266]
      · simp [h15, n100, s4, pl_bd2, fX7_name_217, fX7_name_257, fX7_name_266]
      · simp [h15, n100, s0, pl_bd2, fX7_name_76]
      · simp [h15, n100]
      · simp [h15, n100, fX7_name_103]
      · simp [h15, n100, fX7_name_130]
    · have k8 : 100 ≤ k ∧ k < 108 := by unfold WhoN at hk; omega
      have sub : Int32.ofNat k - 100 = Int32.ofNat (k - 100) := pl_subL k8.1
      simp only [if_neg c, h15, sub, pl_mulR, pl_addR, pl_addL]
      unfold tellV
      have a0 : ∀ K : Int32 → Option (Int32 × TS), o_ald (t.2.2.1 1) 4536 (Int32.ofNat (928 + 4 * (k - 100))) K = K (tS t (928 + 4 * (k - 100))) := fun K => pl_ald _ K ⟨by omega, by omega⟩
      have a1 : ∀ K : Int32 → Option (Int32 × TS), o_ald (t.2.2.1 1) 4536 (Int32.ofNat (928 + 4 * (k - 100) + 1)) K = K (tS t (928 + 4 * (k - 100) + 1)) := fun K => pl_ald _ K ⟨by omega, by omega⟩
      have a2 : ∀ K : Int32 → Option (Int32 × TS), o_ald (t.2.2.1 1) 4536 (Int32.ofNat (928 + 4 * (k - 100) + 2)) K = K (tS t (928 + 4 * (k - 100) + 2)) := fun K => pl_ald _ K ⟨by omega, by omega⟩
      rcases (by omega : w = 8 ∨ w = 9 ∨ w = 10 ∨ w = 11 ∨ w = 12 ∨ w = 13 ∨ w = 14 ∨ w = 15 ∨ w = 16 ∨ w = 17) with rfl | rfl | rfl | rfl | rfl | rfl | rfl | rfl | rfl | rfl
      · simp [k8.1, fX7_name_217, fX7_name_266]
      · simp [k8.1, fX7_name_217, fX7_name_266]
      · simp [k8.1, fX7_name_217, fX7_name_266]
      · simp [k8.1, fX7_name_217, fX7_name_266]
      · simp [k8.1, fX7_name_217, fX7_name_266]
      · simp [k8.1, fX7_name_217, fX7_name_266]
      · simp +decide only [reduceIte, a0, fX7_name_76, if_pos k8.1, pl_nm]
      · simp [k8.1]
      · simp +decide only [reduceIte, a1, fX7_name_103, if_pos k8.1, pl_nm]
      · simp +decide only [reduceIte, a2, fX7_name_130, if_pos k8.1, pl_nm]
  · intro hw2
    have n15 : ¬ w = 15 := by omega
    have n14 : ¬ w = 14 := by omega
    have n16 : ¬ w = 16 := by omega
    have n17 : ¬ w = 17 := by omega
    have n8 : ¬ w = 8 := by omega
    have n9 : ¬ w = 9 := by omega
    have n10 : ¬ w = 10 := by omega
    have n11 : ¬ w = 11 := by omega
    have n12 : ¬ w = 12 := by omega
    have n13 : ¬ w = 13 := by omega
    simp only [if_neg n15, if_neg n14, if_neg n16, if_neg n17, if_neg n8, if_neg n9, if_neg n10, if_neg n11, if_neg n12, if_neg n13]
    unfold fX7_name_217
    rw [if_pos rfl, f1]
    exact ⟨t1, rfl, f3, f2, f4⟩
/-- a name, on a reader that has failed -/
theorem d_name (h : Dm b m t n) : ∃ t1, fX7_name N t = some (0, t1) ∧ TG t t1 ∧ Dm b m t1 n ∧ t1.1 13 = 1 := by
  have e15 : fX7_isWord N t 495765 = some (0, t) := by rw [← wcl15]; exact d_word h (w := 15) (by omega)
  have e14 : fX7_isWord N t 1310105 = some (0, t) := by rw [← wcl14]; exact d_word h (w := 14) (by omega)
  have e16 : fX7_isWord N t 3172008997 = some (0, t) := by rw [← wcl16]; exact d_word h (w := 16) (by omega)
  have e17 : fX7_isWord N t 4350799 = some (0, t) := by rw [← wcl17]; exact d_word h (w := 17) (by omega)
  have e8 : fX7_isWord N t 223456 = some (0, t) := by rw [← wcl8]; exact d_word h (w := 8) (by omega)
  have e9 : fX7_isWord N t 381083 = some (0, t) := by rw [← wcl9]; exact d_word h (w := 9) (by omega)
  have e10 : fX7_isWord N t 10494835 = some (0, t) := by rw [← wcl10]; exact d_word h (w := 10) (by omega)
  have e11 : fX7_isWord N t 11263 = some (0, t) := by rw [← wcl11]; exact d_word h (w := 11) (by omega)
  have e12 : fX7_isWord N t 133743 = some (0, t) := by rw [← wcl12]; exact d_word h (w := 12) (by omega)
  have e13 : fX7_isWord N t 603766 = some (0, t) := by rw [← wcl13]; exact d_word h (w := 13) (by omega)
  obtain ⟨t1, f1, f2, f3, f4, f5⟩ := d_fail (N := N) h
  have key : ∀ y0, fX7_name_14 N t y0 = some (0, t1) := by
    intro y0
    unfold fX7_name_14
    rw [pl_nm, e15, pl_bd2, if_pos rfl, e14, pl_bd2, if_pos rfl, e16, pl_bd2, if_pos rfl, e17, pl_bd2, if_pos rfl, e8, pl_bd2, if_pos rfl, e9, pl_bd2, if_pos rfl, e10, pl_bd2, if_pos rfl, e11, pl_bd2, if_pos rfl, e12, pl_bd2, if_pos rfl, e13, pl_bd2, if_pos rfl]
    unfold fX7_name_217
    rw [if_pos rfl, f1]
    rfl
  refine ⟨t1, ?_, f3, f2, f4⟩
  unfold fX7_name
  rw [key 0, key 1]
  split <;> rfl
/-- one, on a reader that has failed -/
theorem d_one (g : Nat → TS → Option (Int32 × TS)) (h : Dm b m t n) : ∃ v t1, fX7_one N g t = some (v, t1) ∧ TG t t1 ∧ Dm b m t1 n := by
  obtain ⟨t1, f1, f2, f3, f4, f5⟩ := d_fail (N := N) h
  have e157 : ∀ x, fX7_one_157 N g t x = some (x, t1) := by
    intro x
    unfold fX7_one_157 fX7_one_161
    rw [f1]; rfl
  have e123 : ∃ v t2, fX7_one_123 N g t 0 = some (v, t2) ∧ TG t t2 ∧ Dm b m t2 n := by
    unfold fX7_one_123
    by_cases c : t.1 13 = 0
    · rw [if_pos c]
      by_cases c2 : t.1 8 = 1
      · rw [if_pos c2]
        obtain ⟨t2, n1, n2, n3, n4⟩ := d_name (N := N) h
        rw [n1]
        simp only [pl_bd2]
        rw [if_neg (by rw [n4]; decide)]
        exact ⟨0, t2, rfl, n2, n3⟩
      · rw [if_neg c2, e157]
        exact ⟨0, t1, rfl, f3, f2⟩
    · rw [if_neg c, e157]
      exact ⟨0, t1, rfl, f3, f2⟩
  obtain ⟨v, t2, a1, a2, a3⟩ := e123
  unfold fX7_one
  rw [d_sign h]
  simp only [pl_bd2, if_true]
  rw [d_sign h]
  simp only [pl_bd2, if_true]
  refine ⟨v, t2, ?_, a2, a3⟩
  by_cases c : t.1 13 = 0
  · rw [if_pos c]
    have c2 : ¬ t.1 8 = 2 := by
      rcases h.2.2 with ⟨e, -⟩ | ⟨-, -, e | ⟨e, -⟩⟩
      · rw [e] at c; exact absurd c (by decide)
      · rw [e]; decide
      · rw [e]; decide
    rw [if_neg c2]; exact a1
  · rw [if_neg c]; exact a1
theorem d_word' (h : Dm b m t n) : fX7_isWord N t 1111 = some (0, t) ∧ fX7_isWord N t 423 = some (0, t) ∧ fX7_isWord N t 10631 = some (0, t) ∧ fX7_isWord N t 249 = some (0, t) :=
  ⟨by rw [← wcl20]; exact d_word h (by omega), by rw [← wcl19]; exact d_word h (by omega), by rw [← wcl21]; exact d_word h (by omega), by rw [← wcl18]; exact d_word h (by omega)⟩
theorem d_loops (h : Dm b m t n) {f : Nat} {g : Nat → TS → Option (Int32 × TS)} {x : Int32} : fX7_term_5 N g (f + 1) t x = some (x, t) ∧ fX7_added_5 N g (f + 1) t x = some (x, t) ∧ fX7_both_5 N g (f + 1) t x = some (x, t) ∧ fX7_either_5 N g (f + 1) t x = some (x, t) := by
  obtain ⟨w1, w2, w3, w4⟩ := d_word' (N := N) h
  refine ⟨?_, ?_, ?_, ?_⟩
  · show (o_bd2 _ _) = _
    rw [d_sign h]; simp only [pl_bd2, if_true]
    rw [d_sign h]; simp only [pl_bd2, if_true]
    rw [d_sign h]; simp only [pl_bd2, if_true]
  · show (o_bd2 _ _) = _
    rw [d_sign h]; simp only [pl_bd2, if_true]
    rw [d_sign h]; simp only [pl_bd2, if_true]
  · show (o_bd2 _ _) = _
    rw [w1]; simp only [pl_bd2, if_true]
  · show (o_bd2 _ _) = _
    rw [w2]; simp only [pl_bd2, if_true]
/-- a reader that has failed stays so -/
theorem d_pg (hN : 100000 ≤ N) (D : Nat) : ∀ (w : Nat) (t : TS), w ≤ 5 → w < D → Dm b m t n → ∃ v t1, pgX7 N D w t = some (v, t1) ∧ TG t t1 ∧ Dm b m t1 n := by
  obtain ⟨M, rfl⟩ : ∃ M, N = M + 1 := ⟨N - 1, by omega⟩
  induction D with
  | zero => intro w t _ h; omega
  | succ D ih =>
    intro w t hw hD h
    rcases (by omega : w = 0 ∨ w = 1 ∨ w = 2 ∨ w = 3 ∨ w = 4 ∨ w = 5) with rfl | rfl | rfl | rfl | rfl | rfl
    · exact d_one (N := M + 1) (pgX7 (M + 1) D) h
    · obtain ⟨v, t1, a1, a2, a3⟩ := ih 0 t (by omega) (by omega) h
      refine ⟨v, t1, ?_, a2, a3⟩
      show fX7_term (M + 1) (pgX7 (M + 1) D) t = _
      unfold fX7_term
      rw [a1]
      exact (d_loops a3).1
    · obtain ⟨v, t1, a1, a2, a3⟩ := ih 1 t (by omega) (by omega) h
      refine ⟨v, t1, ?_, a2, a3⟩
      show fX7_added (M + 1) (pgX7 (M + 1) D) t = _
      unfold fX7_added
      rw [a1]
      exact (d_loops a3).2.1
    · obtain ⟨v, t1, a1, a2, a3⟩ := ih 2 t (by omega) (by omega) h
      refine ⟨v, t1, ?_, a2, a3⟩
      show fX7_not (M + 1) (pgX7 (M + 1) D) t = _
      unfold fX7_not
      rw [(d_word' h).2.2.1]
      simp only [pl_bd2, if_true]
      rw [a1]
      simp only [pl_bd2]
      rw [d_sign a3]; simp only [pl_bd2, if_true]
      rw [d_sign a3]; simp only [pl_bd2, if_true]
      rw [d_sign a3]; simp only [pl_bd2, if_true]
    · obtain ⟨v, t1, a1, a2, a3⟩ := ih 3 t (by omega) (by omega) h
      refine ⟨v, t1, ?_, a2, a3⟩
      show fX7_both (M + 1) (pgX7 (M + 1) D) t = _
      unfold fX7_both
      rw [a1]
      exact (d_loops a3).2.2.1
    · obtain ⟨v, t1, a1, a2, a3⟩ := ih 4 t (by omega) (by omega) h
      refine ⟨v, t1, ?_, a2, a3⟩
      show fX7_either (M + 1) (pgX7 (M + 1) D) t = _
      unfold fX7_either
      rw [a1]
      exact (d_loops a3).2.2.2
end PO3
