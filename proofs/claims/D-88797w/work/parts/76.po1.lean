/-! PLAIN LAW, LINES 1: the twin's tokens -/
/-- the text that the twin reads -/
def PT (t : TS) (b : Nat → Nat) (m : Nat) : Prop := m ≤ 120 ∧ t.1 7 = Int32.ofNat m ∧ ∀ i, i < m → b i < 256 ∧ t.2.2.1 6 i = Int32.ofNat (b i)
/-- only what tells of the token has changed -/
def TF (t t1 : TS) : Prop := (∀ k, k ≠ 8 → k ≠ 9 → k ≠ 11 → t1.1 k = t.1 k) ∧ (∀ k, k ≠ 10 → t1.2.1 k = t.2.1 k) ∧ t1.2.2 = t.2.2
/-- the token, as the twin has it -/
def TokR (tk : Tk) (k : Int32) (w : Int64) : Prop := (tk = (0, 0) ∧ k = 0) ∨ (tk.1 = 1 ∧ tk.2 < 23 ∧ k = 1 ∧ w = Int64.ofNat (wcodes.getD tk.2 0)) ∨ (tk.1 = 2 ∧ tk.2 < 1000000 ∧ k = 2 ∧ w = Int64.ofNat tk.2) ∨ (tk.1 = 3 ∧ lx_sgn tk.2 = true ∧ k = 3 ∧ w = Int64.ofNat tk.2) ∨ (tk.1 = 4 ∧ (k = 4 ∨ (k = 1 ∧ ∀ x ∈ wcodes, w ≠ Int64.ofNat x)))
section PO1
variable {t t1 t2 : TS} {N m : Nat} {b : Nat → Nat}
theorem TF.rfl' : TF t t := ⟨fun _ _ _ _ => rfl, fun _ _ => rfl, rfl⟩
theorem TF.trans (h : TF t t1) (h' : TF t1 t2) : TF t t2 := ⟨fun k a b c => (h'.1 k a b c).trans (h.1 k a b c), fun k a => (h'.2.1 k a).trans (h.2.1 k a), h'.2.2.trans h.2.2⟩
theorem TF.uI {k : Nat} {v : Int32} (h : TF t t1) (hk : k = 8 ∨ k = 9 ∨ k = 11) : TF t (mt_uI t1 k v) := h.trans ⟨fun j a b c => upd_ne (by omega), fun _ _ => rfl, rfl⟩
theorem TF.uL {v : Int64} (h : TF t t1) : TF t (mt_uL t1 10 v) := h.trans ⟨fun _ _ _ _ => rfl, fun k hk => updL_ne hk, rfl⟩
theorem PT.tf (h : PT t b m) (h' : TF t t1) : PT t1 b m := ⟨h.1, (h'.1 7 (by omega) (by omega) (by omega)).trans h.2.1, fun i hi => by rw [h'.2.2]; exact h.2.2 i hi⟩
theorem t_byte (h : PT t b m) {i : Nat} (hi : i ≤ 200) : fX7_byteAt N t (Int32.ofNat i) = some (if i < m then Int32.ofNat (b i) else -1, t) := by
  have hm := h.1
  unfold fX7_byteAt fX7_byteAt_18
  rw [h.2.1]
  by_cases c : i < m
  · rw [if_neg (by rw [pl_le (by omega) (by omega)]; omega), if_pos c]
    simp (disch := omega) only [pl_bd, pl_bd2, pl_nm, pl_id, pl_ald, pl_ast, pl_aldL, pl_astL, pl_nc, pl_ncL, pl_add, pl_addL, pl_addR, pl_mul, pl_mulL, pl_mulR, pl_sub, pl_subL, pl_eq, pl_eqL, pl_eqR, pl_eqN, pl_le, pl_leL, pl_leR, pl_lt, pl_ltL, pl_ltR, pl_div, pl_divL, pl_01, pl_bl, pl_bl0, pl_bl1, ite_not, c_in, t_in, Int32.reduceToInt, Int64.reduceToInt, upd_eq, upd_ne, up2_eq, up2_nk, vq2_ne, up1_eq, vq1_ne, Nat.reduceAdd, Nat.reduceMul, if_true, if_false, rI_uI, rI_uL, rI_uA, rI_uB, rI_uP, rI_uQ, rI_aA, rI_aB, rI_aQ, rL_uI, rL_uL, rL_uA, rL_uB, rL_uP, rL_uQ, rL_aA, rL_aB, rL_aQ, rA_uI, rA_uL, rA_uA, rA_uB, rA_uP, rA_uQ, rA_aA, rA_aB, rA_aQ, rB_uI, rB_uL, rB_uA, rB_uB, rB_uP, rB_uQ, rB_aA, rB_aB, rB_aQ, rP_uI, rP_uL, rP_uA, rP_uB, rP_uP, rP_uQ, rP_aA, rP_aB, rP_aQ, rQ_uI, rQ_uL, rQ_uA, rQ_uB, rQ_uP, rQ_uQ, rQ_aA, rQ_aB, rQ_aQ, rT_uI, rT_uL, rT_uA, rT_uB, rT_uP, rT_uQ, rT_aA, rT_aB, rT_aQ, rz_uI, rz_uL, rz_uA, rz_uB, rz_uP, rz_uQ, rz_aA, rz_aB, rz_aQ, rtI_L, rtI_A, rtI_B, rtL_I, rtL_A, rtL_B, rtA_I, rtA_L, rtA_B, rtB_I, rtB_L, rtB_A, rtI_I, rtL_L, rtA_A, rtA_An, rtB_B, rtB_Bn, updL_eq, updL_ne]
    rw [(h.2.2 i c).2]
  · rw [if_pos (by rw [pl_le (by omega) (by omega)]; omega), if_neg c]
theorem byte_in {i lo hi : Nat} (hb : b i < 256) (h1 : lo < 256) (h2 : hi < 256) : fX7_in (Int32.ofNat (b i)) (Int32.ofNat lo) (Int32.ofNat hi) = some (if lo ≤ b i ∧ b i ≤ hi then 1 else 0) := by
  rw [t_in]
  unfold inB
  rw [pl_ti (by omega), pl_ti (by omega), pl_ti (by omega)]
  by_cases c : lo ≤ b i ∧ b i ≤ hi
  · rw [if_pos c, if_pos (by omega)]
  · rw [if_neg c, if_neg (by omega)]
/-- letters -/
theorem t_letters (L : Nat) : ∀ (f n i j : Nat) (t : TS), PT t b m → t.1 11 = Int32.ofNat i → j ≤ i → i ≤ m → (∀ k, j ≤ k → k < i → 97 ≤ b k ∧ b k ≤ 122) → m ≤ n + i → L = i - j → n < f → t.2.1 10 = (if L ≤ 7 then Int64.ofNat (wcN (fun k => b (j + k)) L) else -1) →
    ∃ t1, fX7_next_91 N f t (Int32.ofNat L) = some t1 ∧ TF t t1 ∧ t1.1 8 = t.1 8 ∧ t1.1 9 = t.1 9 ∧ t1.1 11 = Int32.ofNat (lx_run lx_let b m n i) ∧ t1.2.1 10 = (if lx_run lx_let b m n i - j ≤ 7 then Int64.ofNat (wcN (fun k => b (j + k)) (lx_run lx_let b m n i - j)) else -1) := by
  intro f n
  induction n generalizing L f with
  | zero =>
    intro i j t h hi hj him hl hn hL hf hw
    obtain ⟨f, rfl⟩ : ∃ g, f = g + 1 := ⟨f - 1, by omega⟩
    have hm := h.1
    refine ⟨t, ?_, TF.rfl', rfl, rfl, hi, ?_⟩
    · unfold fX7_next_91 fX7_next_361
      rw [hi, t_byte h (by omega), if_neg (by omega)]
      rfl
    · show _ = if i - j ≤ 7 then Int64.ofNat (wcN _ (i - j)) else -1
      rw [← hL]; exact hw
  | succ n ih =>
    intro i j t h hi hj him hl hn hL hf hw
    obtain ⟨f, rfl⟩ : ∃ g, f = g + 1 := ⟨f - 1, by omega⟩
    have hm := h.1
    show ∃ t1, fX7_next_91 N (f + 1) t (Int32.ofNat L) = some t1 ∧ TF t t1 ∧ t1.1 8 = t.1 8 ∧ t1.1 9 = t.1 9 ∧ t1.1 11 = Int32.ofNat (if i < m ∧ lx_let (b i) = true then lx_run lx_let b m n (i + 1) else i) ∧ t1.2.1 10 = (if (if i < m ∧ lx_let (b i) = true then lx_run lx_let b m n (i + 1) else i) - j ≤ 7 then Int64.ofNat (wcN (fun k => b (j + k)) ((if i < m ∧ lx_let (b i) = true then lx_run lx_let b m n (i + 1) else i) - j)) else -1)
    by_cases c : i < m ∧ lx_let (b i) = true
    · simp only [if_pos c]
      have hc : 97 ≤ b i ∧ b i ≤ 122 := by have := c.2; unfold lx_let at this; exact of_decide_eq_true this
      obtain ⟨v, hv, hv2⟩ : ∃ v : Int64, v = (if L + 1 ≤ 7 then Int64.ofNat (wcN (fun k => b (j + k)) (L + 1)) else -1) ∧ fX7_next_91 N (f + 1) t (Int32.ofNat L) = fX7_next_91 N f (mt_uI (mt_uL t 10 v) 11 (Int32.ofNat (i + 1))) (Int32.ofNat (L + 1)) := by
        by_cases d : 7 ≤ L
        · refine ⟨-1, by rw [if_neg (by omega)], ?_⟩
          show (o_bd2 _ _) = _
          unfold fX7_next_144
          simp only [hi, t_byte h (show i ≤ 200 by omega), if_pos c.1, pl_bd2, show (97 : Int32) = Int32.ofNat 97 from rfl, show (122 : Int32) = Int32.ofNat 122 from rfl, byte_in (h.2.2 i c.1).1 (show 97 < 256 by omega) (show 122 < 256 by omega), if_pos hc, pl_bd, if_neg (show ¬ ((1 : Int32) = 0) by decide), pl_nm]
          rw [if_pos (by rw [pl_leR (by omega) (by omega)]; exact d)]
          simp (disch := omega) only [rtI_L, hi, pl_addL]
        · refine ⟨_, rfl, ?_⟩
          show (o_bd2 _ _) = _
          unfold fX7_next_144
          simp only [hi, t_byte h (show i ≤ 200 by omega), if_pos c.1, pl_bd2, show (97 : Int32) = Int32.ofNat 97 from rfl, show (122 : Int32) = Int32.ofNat 122 from rfl, byte_in (h.2.2 i c.1).1 (show 97 < 256 by omega) (show 122 < 256 by omega), if_pos hc, pl_bd, if_neg (show ¬ ((1 : Int32) = 0) by decide), pl_nm]
          rw [if_neg (by rw [pl_leR (by omega) (by omega)]; exact d), if_pos (by omega)]
          have hw' : t.2.1 10 = Int64.ofNat (wcN (fun k => b (j + k)) L) := by rw [hw, if_pos (by omega)]
          have lt : wcN (fun k => b (j + k)) L < 27 ^ 7 := Nat.lt_of_lt_of_le (wcN_lt (fun k hk => hl (j + k) (by omega) (by omega))) (Nat.pow_le_pow_right (by omega) (by omega))
          have e : (27 : Int64) * t.2.1 10 + Int32.toInt64 (Int32.ofNat (b i)) - 96 = Int64.ofNat (wcN (fun k => b (j + k)) (L + 1)) := by
            have q := (h.2.2 i c.1).1
            rw [hw', pq_to (by omega), pq_mulR, pq_add]
            show _ = Int64.ofNat (27 * wcN (fun k => b (j + k)) L + (b (j + L) - 96))
            rw [show j + L = i by omega]
            apply Int64.toInt_inj.mp
            rw [Int64.toInt_sub, pq_ti (by omega), pq_ti (by omega), show (96 : Int64).toInt = 96 from rfl, pl_bm64 (by omega) (by omega)]
            omega
          rw [e]
          simp (disch := omega) only [rtI_L, hi, pl_addL]
      have tf : TF t (mt_uI (mt_uL t 10 v) 11 (Int32.ofNat (i + 1))) := (TF.rfl'.uL).uI (by omega)
      obtain ⟨t1, r1, r2, r3, r4, r5, r6⟩ := ih (L + 1) f (i + 1) j (mt_uI (mt_uL t 10 v) 11 (Int32.ofNat (i + 1))) (h.tf tf) (by simp only [rtI_I, upd_eq]) (by omega) (by omega) (fun k h1 h2 => by
        by_cases ck : k = i
        · subst ck; exact hc
        · exact hl k h1 (by omega)) (by omega) (by omega) (by omega) (by rw [← hv]; simp only [rtL_I, rtL_L, updL_eq])
      exact ⟨t1, hv2.trans r1, tf.trans r2, r3, r4, r5, r6⟩
    · simp only [if_neg c]
      refine ⟨t, ?_, TF.rfl', rfl, rfl, hi, by rw [← hL]; exact hw⟩
      unfold fX7_next_91 fX7_next_361
      rw [hi, t_byte h (by omega)]
      by_cases d : i < m
      · have hc : ¬ (97 ≤ b i ∧ b i ≤ 122) := fun q => c ⟨d, by unfold lx_let; exact decide_eq_true q⟩
        simp only [if_pos d, pl_bd2, show (97 : Int32) = Int32.ofNat 97 from rfl, show (122 : Int32) = Int32.ofNat 122 from rfl, byte_in (h.2.2 i d).1 (show 97 < 256 by omega) (show 122 < 256 by omega), if_neg hc, pl_bd, if_true]
      · rw [if_neg d]; rfl
/-- digits -/
theorem lx_val_lt {j : Nat} : ∀ {n : Nat}, (∀ k, k < n → b (j + k) ≤ 57) → lx_val b j n < 10 ^ n
  | 0, _ => by show 0 < 1; omega
  | n + 1, h => by
    have q := h n (by omega)
    have r := lx_val_lt (j := j) (n := n) (fun k hk => h k (by omega))
    show 10 * lx_val b j n + (b (j + n) - 48) < 10 ^ (n + 1)
    rw [Nat.pow_succ]
    omega
theorem t_digits (L : Nat) : ∀ (f n i j : Nat) (t : TS), PT t b m → t.1 11 = Int32.ofNat i → j ≤ i → i ≤ m → (∀ k, j ≤ k → k < i → 48 ≤ b k ∧ b k ≤ 57) → m ≤ n + i → L = i - j → n < f → (t.2.1 10 = Int64.ofNat (lx_val b j (min L 6))) →
    ∃ t1, fX7_next_189 N f t (Int32.ofNat L) = some t1 ∧ TF t t1 ∧ t1.1 8 = (if lx_run lx_dig b m n i - j ≤ 6 then 2 else 4) ∧ t1.1 9 = t.1 9 ∧ t1.1 11 = Int32.ofNat (lx_run lx_dig b m n i) ∧ t1.2.1 10 = Int64.ofNat (lx_val b j (min (lx_run lx_dig b m n i - j) 6)) := by
  intro f n
  induction n generalizing L f with
  | zero =>
    intro i j t h hi hj him hl hn hL hf hw
    obtain ⟨f, rfl⟩ : ∃ g, f = g + 1 := ⟨f - 1, by omega⟩
    have hm := h.1
    refine ⟨mt_uI t 8 (if i - j ≤ 6 then 2 else 4), ?_, TF.rfl'.uI (by omega), by simp only [rtI_I, upd_eq]; rfl, by simp (disch := omega) only [rtI_I, upd_ne], by simp (disch := omega) only [rtI_I, upd_ne]; exact hi, ?_⟩
    · show (o_bd2 _ _) = _
      unfold fX7_next_274 fX7_next_361
      rw [hi, t_byte h (by omega), if_neg (by omega)]
      simp only [pl_bd2, show fX7_in (-1) 48 57 = some 0 from rfl, pl_bd, pl_nm, if_true]
      simp (disch := omega) only [pl_leL]
      rw [hL]
      by_cases c : i - j ≤ 6
      · rw [if_pos c, if_pos c]
      · rw [if_neg c, if_neg c]
    · show _ = Int64.ofNat (lx_val b j (min (i - j) 6))
      rw [← hL]; exact hw
  | succ n ih =>
    intro i j t h hi hj him hl hn hL hf hw
    obtain ⟨f, rfl⟩ : ∃ g, f = g + 1 := ⟨f - 1, by omega⟩
    have hm := h.1
    show ∃ t1, fX7_next_189 N (f + 1) t (Int32.ofNat L) = some t1 ∧ TF t t1 ∧ t1.1 8 = (if (if i < m ∧ lx_dig (b i) = true then lx_run lx_dig b m n (i + 1) else i) - j ≤ 6 then 2 else 4) ∧ t1.1 9 = t.1 9 ∧ t1.1 11 = Int32.ofNat (if i < m ∧ lx_dig (b i) = true then lx_run lx_dig b m n (i + 1) else i) ∧ t1.2.1 10 = Int64.ofNat (lx_val b j (min ((if i < m ∧ lx_dig (b i) = true then lx_run lx_dig b m n (i + 1) else i) - j) 6))
    by_cases c : i < m ∧ lx_dig (b i) = true
    · simp only [if_pos c]
      have hc : 48 ≤ b i ∧ b i ≤ 57 := by have := c.2; unfold lx_dig at this; exact of_decide_eq_true this
      obtain ⟨v, hv, hv2⟩ : ∃ v : Int64, v = Int64.ofNat (lx_val b j (min (L + 1) 6)) ∧ fX7_next_189 N (f + 1) t (Int32.ofNat L) = fX7_next_189 N f (mt_uI (mt_uL t 10 v) 11 (Int32.ofNat (i + 1))) (Int32.ofNat (L + 1)) := by
        by_cases d : 6 ≤ L
        · refine ⟨t.2.1 10, by rw [hw, show min L 6 = min (L + 1) 6 by omega], ?_⟩
          show (o_bd2 _ _) = _
          unfold fX7_next_243
          simp only [hi, t_byte h (show i ≤ 200 by omega), if_pos c.1, pl_bd2, show (48 : Int32) = Int32.ofNat 48 from rfl, show (57 : Int32) = Int32.ofNat 57 from rfl, byte_in (h.2.2 i c.1).1 (show 48 < 256 by omega) (show 57 < 256 by omega), if_pos hc, pl_bd, if_neg (show ¬ ((1 : Int32) = 0) by decide), pl_nm]
          rw [if_pos (by rw [pl_leR (by omega) (by omega)]; exact d)]
          simp (disch := omega) only [rtI_L, hi, pl_addL]
        · refine ⟨_, rfl, ?_⟩
          show (o_bd2 _ _) = _
          unfold fX7_next_243
          simp only [hi, t_byte h (show i ≤ 200 by omega), if_pos c.1, pl_bd2, show (48 : Int32) = Int32.ofNat 48 from rfl, show (57 : Int32) = Int32.ofNat 57 from rfl, byte_in (h.2.2 i c.1).1 (show 48 < 256 by omega) (show 57 < 256 by omega), if_pos hc, pl_bd, if_neg (show ¬ ((1 : Int32) = 0) by decide), pl_nm]
          rw [if_neg (by rw [pl_leR (by omega) (by omega)]; exact d)]
          have hw' : t.2.1 10 = Int64.ofNat (lx_val b j L) := by rw [hw, show min L 6 = L by omega]
          have lt : lx_val b j L < 10 ^ 6 := Nat.lt_of_lt_of_le (lx_val_lt (fun k hk => (hl (j + k) (by omega) (by omega)).2)) (Nat.pow_le_pow_right (by omega) (by omega))
          have e : (10 : Int64) * t.2.1 10 + Int32.toInt64 (Int32.ofNat (b i)) - Int32.toInt64 (Int32.ofNat 48) = Int64.ofNat (lx_val b j (min (L + 1) 6)) := by
            have q := (h.2.2 i c.1).1
            rw [hw', pq_to (by omega), pq_mulR, pq_add, show min (L + 1) 6 = L + 1 by omega]
            show _ = Int64.ofNat (10 * lx_val b j L + (b (j + L) - 48))
            rw [show j + L = i by omega]
            apply Int64.toInt_inj.mp
            rw [Int64.toInt_sub, pq_ti (by omega), pq_ti (by omega), show (Int32.toInt64 (Int32.ofNat 48)).toInt = 48 from rfl, pl_bm64 (by omega) (by omega)]
            omega
          have e2 : (10 : Int64) * t.2.1 10 + Int32.toInt64 (Int32.ofNat (b i)) - 48 = Int64.ofNat (lx_val b j (min (L + 1) 6)) := e
          rw [e2]
          simp (disch := omega) only [rtI_L, hi, pl_addL]
      have tf : TF t (mt_uI (mt_uL t 10 v) 11 (Int32.ofNat (i + 1))) := (TF.rfl'.uL).uI (by omega)
      obtain ⟨t1, r1, r2, r3, r4, r5, r6⟩ := ih (L + 1) f (i + 1) j (mt_uI (mt_uL t 10 v) 11 (Int32.ofNat (i + 1))) (h.tf tf) (by simp only [rtI_I, upd_eq]) (by omega) (by omega) (fun k h1 h2 => by
        by_cases ck : k = i
        · subst ck; exact hc
        · exact hl k h1 (by omega)) (by omega) (by omega) (by omega) (by rw [← hv]; simp only [rtL_I, rtL_L, updL_eq])
      exact ⟨t1, hv2.trans r1, tf.trans r2, r3, r4, r5, r6⟩
    · simp only [if_neg c]
      refine ⟨mt_uI t 8 (if i - j ≤ 6 then 2 else 4), ?_, TF.rfl'.uI (by omega), by simp only [rtI_I, upd_eq], by simp (disch := omega) only [rtI_I, upd_ne], by simp (disch := omega) only [rtI_I, upd_ne]; exact hi, by rw [← hL]; exact hw⟩
      show (o_bd2 _ _) = _
      unfold fX7_next_274 fX7_next_361
      rw [hi, t_byte h (by omega)]
      have e0 : ∀ x : Int32, x = (if i < m then Int32.ofNat (b i) else -1) → fX7_in x 48 57 = some 0 := by
        intro x hx
        rw [hx]
        by_cases d : i < m
        · have hc : ¬ (48 ≤ b i ∧ b i ≤ 57) := fun q => c ⟨d, by unfold lx_dig; exact decide_eq_true q⟩
          rw [if_pos d, show (48 : Int32) = Int32.ofNat 48 from rfl, show (57 : Int32) = Int32.ofNat 57 from rfl, byte_in (h.2.2 i d).1 (by omega) (by omega), if_neg hc]
        · rw [if_neg d]; rfl
      simp only [pl_bd2, e0 _ rfl, pl_bd, pl_nm, if_true]
      simp (disch := omega) only [pl_leL]
      rw [hL]
      by_cases c : i - j ≤ 6
      · rw [if_pos c, if_pos c]
      · rw [if_neg c, if_neg c]
/-- spaces -/
theorem t_spaces : ∀ (n f i : Nat) (t : TS), PT t b m → t.1 11 = Int32.ofNat i → i ≤ m → m ≤ n + i → n < f → ∃ t1, fX7_next_0 N f t = fX7_next_0 N 1 t1 ∧ TF t t1 ∧ t1.1 11 = Int32.ofNat (lx_run (fun x => x == 32) b m n i) := by
  intro n
  have stop : ∀ (f i : Nat) (t : TS), PT t b m → t.1 11 = Int32.ofNat i → i ≤ m → ¬ (i < m ∧ b i = 32) → fX7_next_0 N (f + 1) t = fX7_next_0 N 1 t := by
    intro f i t h hi him c
    have hm := h.1
    show (o_bd2 _ _) = (o_bd2 _ _)
    rw [hi, t_byte h (by omega)]
    have e : ¬ ((if i < m then Int32.ofNat (b i) else -1) = 32) := by
      by_cases d : i < m
      · rw [if_pos d]
        have q := (h.2.2 i d).1
        rw [pl_eqL (by omega) (by omega)]
        exact fun e => c ⟨d, e⟩
      · rw [if_neg d]; decide
    simp only [pl_bd2, if_neg e]
  induction n with
  | zero =>
    intro f i t h hi him hn hf
    obtain ⟨f, rfl⟩ : ∃ g, f = g + 1 := ⟨f - 1, by omega⟩
    exact ⟨t, stop f i t h hi him (by omega), TF.rfl', hi⟩
  | succ n ih =>
    intro f i t h hi him hn hf
    obtain ⟨f, rfl⟩ : ∃ g, f = g + 1 := ⟨f - 1, by omega⟩
    have hm := h.1
    show ∃ t1, fX7_next_0 N (f + 1) t = fX7_next_0 N 1 t1 ∧ TF t t1 ∧ t1.1 11 = Int32.ofNat (if i < m ∧ (b i == 32) = true then lx_run (fun x => x == 32) b m n (i + 1) else i)
    by_cases c : i < m ∧ b i = 32
    · rw [if_pos ⟨c.1, by rw [c.2]; rfl⟩]
      have tf : TF t (mt_uI t 11 (Int32.ofNat (i + 1))) := TF.rfl'.uI (by omega)
      obtain ⟨t1, r1, r2, r3⟩ := ih f (i + 1) _ (h.tf tf) (by simp only [rtI_I, upd_eq]) (by omega) (by omega) (by omega)
      refine ⟨t1, ?_, tf.trans r2, r3⟩
      rw [← r1]
      show (o_bd2 _ _) = _
      rw [hi, t_byte h (by omega), if_pos c.1, c.2]
      simp only [pl_bd2, show (Int32.ofNat 32 = 32) = True from by simp, if_true, pl_nm, hi, pl_addL]
    · rw [if_neg (fun q => c ⟨q.1, by simpa using q.2⟩)]
      exact ⟨t, stop f i t h hi him c, TF.rfl', hi⟩
theorem sgn_iff {x : Nat} (hx : x < 256) : lx_sgn x = true ↔ (x = 40 ∨ x = 41 ∨ x = 43 ∨ x = 45 ∨ x = 42 ∨ x = 47 ∨ x = 37 ∨ x = 61 ∨ x = 60 ∨ x = 62) := by
  unfold lx_sgn
  simp
theorem t_next (hN : 100000 ≤ N) (h : PT t b m) {i : Nat} (hi : t.1 11 = Int32.ofNat i) (him : i ≤ m) :
    ∃ t1, fX7_next N t = some t1 ∧ TF t t1 ∧ t1.1 9 = Int32.ofNat (lx_at b m i).2.1 ∧ t1.1 11 = Int32.ofNat (lx_at b m i).2.2 ∧ (lx_at b m i).2.2 ≤ m ∧ i ≤ (lx_at b m i).2.1 ∧ (lx_at b m i).2.1 ≤ m ∧ ((lx_at b m i).1.1 ≠ 0 → (lx_at b m i).1.1 ≠ 4 → i < (lx_at b m i).2.2) ∧ TokR (lx_at b m i).1 (t1.1 8) (t1.2.1 10) := by
  have hm := h.1
  obtain ⟨t0, r1, r2, r3⟩ := t_spaces (N := N) m N i t h hi him (by omega) (by omega)
  have le0 := lx_run_le (t := fun x => x == 32) (b := b) (m := m) m i
  have st0 := lx_run_stop (t := fun x => x == 32) (b := b) (m := m) m i (by omega)
  unfold fX7_next
  rw [r1]
  unfold lx_at
  simp only []
  generalize hj : lx_run (fun x => x == 32) b m m i = j at *
  have hjm : j ≤ m := le0.2 him
  have h0 := h.tf r2
  have u1 : TF t0 (mt_uI (mt_uI t0 9 (Int32.ofNat j)) 8 4) := (TF.rfl'.uI (by omega)).uI (by omega)
  have f1 : ∀ {x : Int32}, t0.1 11 = x → (mt_uI (mt_uI t0 9 x) 8 4).1 11 = x := fun e => by simp (disch := omega) only [rtI_I, upd_ne]; exact e
  have body : fX7_next_0 N 1 t0 = (if m ≤ j then some (mt_uI (mt_uI (mt_uI (mt_uI t0 9 (Int32.ofNat j)) 8 4) 8 0) 9 (Int32.ofNat m)) else if lx_let (b j) = true then fX7_next_91 N N (mt_uL (mt_uI (mt_uI (mt_uI t0 9 (Int32.ofNat j)) 8 4) 8 1) 10 0) 0 else if lx_dig (b j) = true then fX7_next_189 N N (mt_uL (mt_uI (mt_uI (mt_uI t0 9 (Int32.ofNat j)) 8 4) 8 2) 10 0) 0 else if lx_sgn (b j) = true then some (mt_uI (mt_uL (mt_uI (mt_uI (mt_uI t0 9 (Int32.ofNat j)) 8 4) 8 3) 10 (Int64.ofNat (b j))) 11 (Int32.ofNat (j + 1))) else some (mt_uI (mt_uI t0 9 (Int32.ofNat j)) 8 4)) := by
    show (o_bd2 _ _) = _
    rw [r3, t_byte h0 (by omega)]
    have h9 : PT (mt_uI t0 9 (Int32.ofNat j)) b m := h0.tf (TF.rfl'.uI (by omega))
    have b9 := t_byte (N := N) h9 (show j ≤ 200 by omega)
    have e9 : (mt_uI t0 9 (Int32.ofNat j)).1 11 = Int32.ofNat j := by simp (disch := omega) only [rtI_I, upd_ne]; exact r3
    by_cases c : j < m
    · have ns : ¬ (b j = 32) := fun e => st0 ⟨c, by simp [e]⟩
      have q := (h0.2.2 j c).1
      rw [if_pos c] at b9 ⊢
      simp only [pl_bd2]
      rw [if_neg (by rw [pl_eqL (by omega) (by omega)]; exact ns)]
      simp only [pl_nm, r3, e9, b9, pl_bd2]
      rw [if_pos (by rw [show (0 : Int32) = Int32.ofNat 0 from rfl, pl_le (by omega) (by omega)]; omega), if_neg (show ¬ m ≤ j by omega)]
      simp only [show (97 : Int32) = Int32.ofNat 97 from rfl, show (122 : Int32) = Int32.ofNat 122 from rfl, show (48 : Int32) = Int32.ofNat 48 from rfl, show (57 : Int32) = Int32.ofNat 57 from rfl, byte_in q (show 97 < 256 by omega) (show 122 < 256 by omega), byte_in q (show 48 < 256 by omega) (show 57 < 256 by omega), pl_bd]
      by_cases c1 : 97 ≤ b j ∧ b j ≤ 122
      · have l1 : lx_let (b j) = true := by unfold lx_let; exact decide_eq_true c1
        rw [if_pos c1, if_neg (by decide), if_pos l1]
      · have l1 : ¬ (lx_let (b j) = true) := fun e => c1 (by unfold lx_let at e; exact of_decide_eq_true e)
        rw [if_neg c1, if_pos rfl, if_neg l1]
        by_cases c2 : 48 ≤ b j ∧ b j ≤ 57
        · have l2 : lx_dig (b j) = true := by unfold lx_dig; exact decide_eq_true c2
          rw [if_pos c2, if_neg (by decide), if_pos l2]
        · have l2 : ¬ (lx_dig (b j) = true) := fun e => c2 (by unfold lx_dig at e; exact of_decide_eq_true e)
          rw [if_neg c2, if_pos rfl, if_neg l2]
          have e340 : fX7_next_340 N (mt_uI (mt_uI t0 9 (Int32.ofNat j)) 8 4) (Int32.ofNat (b j)) = some (mt_uI (mt_uL (mt_uI (mt_uI (mt_uI t0 9 (Int32.ofNat j)) 8 4) 8 3) 10 (Int64.ofNat (b j))) 11 (Int32.ofNat (j + 1))) := by
            unfold fX7_next_340 fX7_next_361
            simp only [pl_nm]
            have e11 : (mt_uL (mt_uI (mt_uI (mt_uI t0 9 (Int32.ofNat j)) 8 4) 8 3) 10 (Int32.toInt64 (Int32.ofNat (b j)))).1 11 = Int32.ofNat j := by
              rw [rtI_L, rtI_I, upd_ne (by omega), rtI_I, upd_ne (by omega), rtI_I, upd_ne (by omega)]
              exact r3
            rw [e11, pl_addL, pq_to (by omega)]
          simp only [e340]
          unfold fX7_next_361
          have k : ∀ x : Nat, x < 256 → (Int32.ofNat (b j) = Int32.ofNat x ↔ b j = x) := fun x hx => pl_eq (by omega) (by omega)
          by_cases c3 : lx_sgn (b j) = true
          · rw [if_pos c3]
            rcases (sgn_iff q).mp c3 with e | e | e | e | e | e | e | e | e | e <;> rw [e] <;> rfl
          · rw [if_neg c3]
            have c4 : ¬ (b j = 40 ∨ b j = 41 ∨ b j = 43 ∨ b j = 45 ∨ b j = 42 ∨ b j = 47 ∨ b j = 37 ∨ b j = 61 ∨ b j = 60 ∨ b j = 62) := fun e => c3 ((sgn_iff q).mpr e)
            rw [if_neg (fun e => c4 (by have := (k 40 (by omega)).mp e; omega)), if_neg (fun e => c4 (by have := (k 41 (by omega)).mp e; omega)), if_neg (fun e => c4 (by have := (k 43 (by omega)).mp e; omega)), if_neg (fun e => c4 (by have := (k 45 (by omega)).mp e; omega)), if_neg (fun e => c4 (by have := (k 42 (by omega)).mp e; omega)), if_neg (fun e => c4 (by have := (k 47 (by omega)).mp e; omega)), if_neg (fun e => c4 (by have := (k 37 (by omega)).mp e; omega)), if_neg (fun e => c4 (by have := (k 61 (by omega)).mp e; omega)), if_neg (fun e => c4 (by have := (k 60 (by omega)).mp e; omega)), if_neg (fun e => c4 (by have := (k 62 (by omega)).mp e; omega))]
    · rw [if_neg c] at b9 ⊢
      simp only [pl_bd2]
      rw [if_neg (by decide)]
      simp only [pl_nm, r3, e9, b9, pl_bd2]
      rw [if_neg (by decide), if_pos (show m ≤ j by omega)]
      unfold fX7_next_361
      simp (disch := omega) only [rtI_I, upd_ne]
      rw [h0.2.1]
  rw [body]
  have t9 : ∀ v : Int32, (mt_uI (mt_uI (mt_uI t0 9 (Int32.ofNat j)) 8 4) 8 v).1 9 = Int32.ofNat j ∧ (mt_uI (mt_uI (mt_uI t0 9 (Int32.ofNat j)) 8 4) 8 v).1 11 = Int32.ofNat j ∧ (mt_uI (mt_uI (mt_uI t0 9 (Int32.ofNat j)) 8 4) 8 v).1 8 = v := fun v => by
    simp (disch := omega) only [rtI_I, upd_ne, upd_eq]
    exact ⟨trivial, r3, trivial⟩
  have tv : ∀ v : Int32, TF t (mt_uI (mt_uI (mt_uI t0 9 (Int32.ofNat j)) 8 4) 8 v) := fun v => (r2.trans u1).uI (by omega)
  by_cases c : m ≤ j
  · have ej : j = m := by omega
    simp only [if_pos c]
    refine ⟨_, rfl, (tv 0).uI (by omega), by rw [rtI_I, upd_eq, ej], by rw [rtI_I, upd_ne (by omega)]; exact (t9 0).2.1, hjm, le0.1, hjm, fun q => absurd rfl q, Or.inl ⟨rfl, by rw [rtI_I, upd_ne (by omega)]; exact (t9 0).2.2⟩⟩
  · simp only [if_neg c]
    have hjl : j < m := by omega
    by_cases c1 : lx_let (b j) = true
    · simp only [if_pos c1]
      have hd := lx_run_le (t := lx_let) (b := b) (m := m) m j
      have ha := lx_run_all (t := lx_let) (b := b) (m := m) m j
      obtain ⟨t1, q1, q2, q3, q4, q5, q6⟩ := t_letters (N := N) (b := b) (m := m) 0 N m j j (mt_uL (mt_uI (mt_uI (mt_uI t0 9 (Int32.ofNat j)) 8 4) 8 1) 10 0) (h.tf ((tv 1).uL)) (t9 1).2.1 (Nat.le_refl _) hjm (fun k a b => by omega) (by omega) (by omega) (by omega) (by rw [if_pos (by omega), rtL_L, updL_eq]; rfl)
      refine ⟨t1, q1, ((tv 1).uL).trans q2, by rw [q4]; exact (t9 1).1, q5, hd.2 hjm, le0.1, hjm, fun _ _ => ?_, ?_⟩
      · have : j < lx_run lx_let b m m j := by
          have e : lx_run lx_let b m m j = lx_run lx_let b m (m + 1) j := lx_run_fuel _ _ _ (by omega) (by omega)
          rw [e]
          show j < (if j < m ∧ lx_let (b j) = true then lx_run lx_let b m m (j + 1) else j)
          rw [if_pos ⟨hjl, c1⟩]
          have := (lx_run_le (t := lx_let) (b := b) (m := m) m (j + 1)).1
          omega
        omega
      · have k8 : t1.1 8 = 1 := by rw [q3]; exact (t9 1).2.2
        rw [k8, q6]
        have hl : ∀ k, k < lx_run lx_let b m m j - j → 97 ≤ b (j + k) ∧ b (j + k) ≤ 122 := by
          intro k hk
          have := (ha (j + k) (by omega) (by omega)).2
          unfold lx_let at this
          exact of_decide_eq_true this
        cases hf : lx_words.findIdx? (fun w => w == (List.range (lx_run lx_let b m m j - j)).map (fun k => b (j + k))) with
        | some w =>
          obtain ⟨hw1, hw2, -⟩ := List.findIdx?_eq_some_iff_getElem.mp hf
          have hw3 : lx_words[w] = (List.range (lx_run lx_let b m m j - j)).map (fun k => b (j + k)) := by simpa using hw2
          have hlen : lx_run lx_let b m m j - j ≤ 7 := by
            have := (words_ok _ (List.getElem_mem hw1)).1
            rw [hw3] at this
            simpa using this
          refine Or.inr (Or.inl ⟨rfl, hw1, rfl, ?_⟩)
          rw [if_pos hlen]
          have := (word_iff (f := fun k => b (j + k)) (n := lx_run lx_let b m m j - j) (w := w) (l := lx_words[w]) hl (List.getElem?_eq_getElem hw1)).mp hw3
          rw [this]
        | none =>
          refine Or.inr (Or.inr (Or.inr (Or.inr ⟨rfl, Or.inr ⟨rfl, fun x hx => ?_⟩⟩)))
          by_cases hlen : lx_run lx_let b m m j - j ≤ 7
          · rw [if_pos hlen]
            intro e
            have lt : wcN (fun k => b (j + k)) (lx_run lx_let b m m j - j) < 27 ^ 7 := Nat.lt_of_lt_of_le (wcN_lt hl) (Nat.pow_le_pow_right (by omega) hlen)
            have xb : x < 4000000000 := by
              have : ∀ x ∈ wcodes, x < 4000000000 := by decide
              exact this x hx
            have e2 := congrArg Int64.toInt e
            rw [pq_ti (by omega), pq_ti (by omega)] at e2
            obtain ⟨w, hw, hwx⟩ := List.getElem_of_mem hx
            have hw' : w < lx_words.length := by
              have : wcodes.length = lx_words.length := by decide
              omega
            have := (word_iff (f := fun k => b (j + k)) (n := lx_run lx_let b m m j - j) (w := w) (l := lx_words[w]) hl (List.getElem?_eq_getElem hw')).mpr (by
              rw [List.getD_eq_getElem?_getD, List.getElem?_eq_getElem hw]
              refine Eq.trans ?_ hwx.symm
              omega)
            have nf := List.findIdx?_eq_none_iff.mp hf (lx_words[w]) (List.getElem_mem hw')
            rw [this] at nf
            simp at nf
          · rw [if_neg hlen]
            intro e
            have e2 := congrArg Int64.toInt e
            have xb : x < 4000000000 := by
              have : ∀ x ∈ wcodes, x < 4000000000 := by decide
              exact this x hx
            rw [pq_ti (by omega), show (-1 : Int64).toInt = -1 from rfl] at e2
            omega
    · simp only [if_neg c1]
      by_cases c2 : lx_dig (b j) = true
      · simp only [if_pos c2]
        have hd := lx_run_le (t := lx_dig) (b := b) (m := m) m j
        have ha := lx_run_all (t := lx_dig) (b := b) (m := m) m j
        obtain ⟨t1, q1, q2, q3, q4, q5, q6⟩ := t_digits (N := N) (b := b) (m := m) 0 N m j j (mt_uL (mt_uI (mt_uI (mt_uI t0 9 (Int32.ofNat j)) 8 4) 8 2) 10 0) (h.tf ((tv 2).uL)) (t9 2).2.1 (Nat.le_refl _) hjm (fun k a b => by omega) (by omega) (by omega) (by omega) (by rw [rtL_L, updL_eq]; rfl)
        refine ⟨t1, q1, ((tv 2).uL).trans q2, by rw [q4]; exact (t9 2).1, q5, hd.2 hjm, le0.1, hjm, fun _ _ => ?_, ?_⟩
        · have : j < lx_run lx_dig b m m j := by
            have e : lx_run lx_dig b m m j = lx_run lx_dig b m (m + 1) j := lx_run_fuel _ _ _ (by omega) (by omega)
            rw [e]
            show j < (if j < m ∧ lx_dig (b j) = true then lx_run lx_dig b m m (j + 1) else j)
            rw [if_pos ⟨hjl, c2⟩]
            have := (lx_run_le (t := lx_dig) (b := b) (m := m) m (j + 1)).1
            omega
          omega
        · rw [q3, q6]
          by_cases c3 : 6 < lx_run lx_dig b m m j - j
          · rw [if_pos c3, if_neg (by omega)]
            exact Or.inr (Or.inr (Or.inr (Or.inr ⟨rfl, Or.inl rfl⟩)))
          · rw [if_neg c3, if_pos (by omega)]
            have lt : lx_val b j (lx_run lx_dig b m m j - j) < 10 ^ 6 := Nat.lt_of_lt_of_le (lx_val_lt (fun k hk => by
              have := (ha (j + k) (by omega) (by omega)).2
              unfold lx_dig at this
              exact (of_decide_eq_true this).2)) (Nat.pow_le_pow_right (by omega) (by omega))
            exact Or.inr (Or.inr (Or.inl ⟨rfl, lt, rfl, by rw [show min (lx_run lx_dig b m m j - j) 6 = lx_run lx_dig b m m j - j by omega]⟩))
      · simp only [if_neg c2]
        by_cases c3 : lx_sgn (b j) = true
        · simp only [if_pos c3]
          refine ⟨_, rfl, ((tv 3).uL).uI (by omega), ?_, ?_, by omega, le0.1, hjm, fun _ _ => by omega, Or.inr (Or.inr (Or.inr (Or.inl ⟨rfl, c3, ?_, ?_⟩)))⟩
          · rw [rtI_I, upd_ne (by omega), rtI_L]; exact (t9 3).1
          · rw [rtI_I, upd_eq]
          · rw [rtI_I, upd_ne (by omega), rtI_L]; exact (t9 3).2.2
          · rw [rtL_I, rtL_L, updL_eq]
        · simp only [if_neg c3]
          refine ⟨_, rfl, r2.trans u1, ?_, ?_, hjm, le0.1, hjm, fun _ q => absurd rfl q, Or.inr (Or.inr (Or.inr (Or.inr ⟨rfl, Or.inl ?_⟩)))⟩
          · simp (disch := omega) only [rtI_I, upd_ne, upd_eq]
          · simp (disch := omega) only [rtI_I, upd_ne]; exact r3
          · simp only [rtI_I, upd_eq]
end PO1
