/-! PLAIN LAW 9: numbers compared and divided; feet and wood -/
theorem pl_eq {a b : Nat} (ha : a < 2147483648) (hb : b < 2147483648) : (Int32.ofNat a = Int32.ofNat b) ↔ a = b :=
  ⟨fun h => by have := congrArg Int32.toInt h; rw [pl_ti ha, pl_ti hb] at this; omega, fun h => by rw [h]⟩
theorem pl_eqL {a m : Nat} (ha : a < 2147483648) (hb : OfNat.ofNat m < 2147483648) : (Int32.ofNat a = (no_index (OfNat.ofNat m : Int32))) ↔ a = OfNat.ofNat m := pl_eq ha hb
theorem pl_eqR {a m : Nat} (ha : a < 2147483648) (hb : OfNat.ofNat m < 2147483648) : ((no_index (OfNat.ofNat m : Int32)) = Int32.ofNat a) ↔ OfNat.ofNat m = a := pl_eq hb ha
theorem pl_eqN {a m : Nat} (ha : a < 2147483648) (hb : OfNat.ofNat m < 2147483648) (hm : 0 < (OfNat.ofNat m : Nat)) : (Int32.ofNat a = -(no_index (OfNat.ofNat m : Int32))) ↔ False := by
  refine ⟨fun h => ?_, False.elim⟩
  have q := congrArg Int32.toInt h
  have e : (OfNat.ofNat m : Int32).toInt = (OfNat.ofNat m : Nat) := pl_ti hb
  rw [pl_ti ha, Int32.toInt_neg, e, Int.bmod_eq_of_le (by omega) (by omega)] at q
  omega
theorem pl_le {a b : Nat} (ha : a < 2147483648) (hb : b < 2147483648) : (Int32.ofNat a ≤ Int32.ofNat b) ↔ a ≤ b := Int32.ofNat_le_iff_le ha hb
theorem pl_leL {a m : Nat} (ha : a < 2147483648) (hb : OfNat.ofNat m < 2147483648) : (Int32.ofNat a ≤ (no_index (OfNat.ofNat m : Int32))) ↔ a ≤ OfNat.ofNat m := pl_le ha hb
theorem pl_leR {a m : Nat} (ha : a < 2147483648) (hb : OfNat.ofNat m < 2147483648) : ((no_index (OfNat.ofNat m : Int32)) ≤ Int32.ofNat a) ↔ OfNat.ofNat m ≤ a := pl_le hb ha
theorem pl_lt {a b : Nat} (ha : a < 2147483648) (hb : b < 2147483648) : (Int32.ofNat a < Int32.ofNat b) ↔ a < b := Int32.ofNat_lt_iff_lt ha hb
theorem pl_ltL {a m : Nat} (ha : a < 2147483648) (hb : OfNat.ofNat m < 2147483648) : (Int32.ofNat a < (no_index (OfNat.ofNat m : Int32))) ↔ a < OfNat.ofNat m := pl_lt ha hb
theorem pl_ltR {a m : Nat} (ha : a < 2147483648) (hb : OfNat.ofNat m < 2147483648) : ((no_index (OfNat.ofNat m : Int32)) < Int32.ofNat a) ↔ OfNat.ofNat m < a := pl_lt hb ha
theorem pl_bm {x : Int} (h1 : -2147483648 ≤ x) (h2 : x < 2147483648) : x.bmod (2 ^ 32) = x := Int.bmod_eq_of_le (by omega) (by omega)
theorem pl_bm64 {x : Int} (h1 : -9223372036854775808 ≤ x) (h2 : x < 9223372036854775808) : x.bmod (2 ^ 64) = x := Int.bmod_eq_of_le (by omega) (by omega)
theorem pl_div {a b : Nat} (ha : a < 2147483648) (hb : b < 2147483648) : Int32.ofNat a / Int32.ofNat b = Int32.ofNat (a / b) := by
  have hq : a / b ≤ a := Nat.div_le_self a b
  apply Int32.toInt_inj.mp
  rw [Int32.toInt_div, pl_ti ha, pl_ti hb, pl_ti (by omega), ← Int.ofNat_tdiv]
  generalize a / b = q at hq
  exact pl_bm (by omega) (by omega)
theorem pl_divL {a m : Nat} (ha : a < 2147483648) (hb : OfNat.ofNat m < 2147483648) : Int32.ofNat a / (no_index (OfNat.ofNat m : Int32)) = Int32.ofNat (a / OfNat.ofNat m) := pl_div ha hb
/-! longs -/
theorem pq_ti {n : Nat} (h : n < 9223372036854775808) : (Int64.ofNat n).toInt = n := Int64.toInt_ofNat_of_lt h
theorem pq_add (a b : Nat) : Int64.ofNat a + Int64.ofNat b = Int64.ofNat (a + b) := (Int64.ofNat_add a b).symm
theorem pq_mul (a b : Nat) : Int64.ofNat a * Int64.ofNat b = Int64.ofNat (a * b) := (Int64.ofNat_mul a b).symm
theorem pq_addL (a m : Nat) : Int64.ofNat a + (no_index (OfNat.ofNat m : Int64)) = Int64.ofNat (a + OfNat.ofNat m) := pq_add a m
theorem pq_addR (a m : Nat) : (no_index (OfNat.ofNat m : Int64)) + Int64.ofNat a = Int64.ofNat (OfNat.ofNat m + a) := pq_add m a
theorem pq_mulL (a m : Nat) : Int64.ofNat a * (no_index (OfNat.ofNat m : Int64)) = Int64.ofNat (a * OfNat.ofNat m) := pq_mul a m
theorem pq_mulR (a m : Nat) : (no_index (OfNat.ofNat m : Int64)) * Int64.ofNat a = Int64.ofNat (OfNat.ofNat m * a) := pq_mul m a
theorem pq_div {a b : Nat} (ha : a < 9223372036854775808) (hb : b < 9223372036854775808) : Int64.ofNat a / Int64.ofNat b = Int64.ofNat (a / b) := by
  have hq : a / b ≤ a := Nat.div_le_self a b
  apply Int64.toInt_inj.mp
  rw [Int64.toInt_div, pq_ti ha, pq_ti hb, pq_ti (by omega), ← Int.ofNat_tdiv]
  generalize a / b = q at hq
  exact pl_bm64 (by omega) (by omega)
theorem pq_divL {a m : Nat} (ha : a < 9223372036854775808) (hb : OfNat.ofNat m < 9223372036854775808) : Int64.ofNat a / (no_index (OfNat.ofNat m : Int64)) = Int64.ofNat (a / OfNat.ofNat m) := pq_div ha hb
theorem pq_to {n : Nat} (h : n < 2147483648) : Int32.toInt64 (Int32.ofNat n) = Int64.ofNat n := by
  apply Int64.toInt_inj.mp
  rw [Int32.toInt_toInt64, pl_ti h, pq_ti (by omega)]
theorem pq_of {n : Nat} (h : n < 2147483648) : Int64.toInt32 (Int64.ofNat n) = Int32.ofNat n := by
  apply Int32.toInt_inj.mp
  rw [Int64.toInt_toInt32, pl_ti h, pq_ti (by omega), pl_bm (by omega) (by omega)]
theorem pq_ne {n : Nat} (h : n < 9223372036854775808) (h0 : 0 < n) : ¬ (Int64.ofNat n = 0) := fun e => by
  have q := congrArg Int64.toInt e
  rw [pq_ti h] at q
  have : (0 : Int64).toInt = 0 := rfl
  omega
/-! feet and wood -/
def topN (k si : Nat) : Nat := (si + 2) * (if k = 0 then 900 else if k = 1 then 700 else if k = 2 then 600 else 500)
def halfN (k : Nat) : Nat := if k = 0 then 50 else if k = 1 then 55 else if k = 2 then 70 else 90
def feetN (k si ag : Nat) : Nat := topN k si * (ag * ag) / (ag * ag + halfN k * halfN k)
def woodN (ac k si ag fu : Nat) : Nat := ac * feetN k si ag * fu / 100
theorem topN0 {si : Nat} : topN 0 si = (si + 2) * 900 := by unfold topN; simp
theorem topN1 {si : Nat} : topN 1 si = (si + 2) * 700 := by unfold topN; simp
theorem topN2 {si : Nat} : topN 2 si = (si + 2) * 600 := by unfold topN; simp
theorem topN3 {si : Nat} : topN 3 si = (si + 2) * 500 := by unfold topN; simp
theorem topN_le {k si : Nat} (h : si ≤ 4) : topN k si ≤ 5400 := by
  unfold topN
  have : (if k = 0 then 900 else if k = 1 then 700 else if k = 2 then 600 else 500) ≤ 900 := by
    by_cases a : k = 0 <;> by_cases b : k = 1 <;> by_cases c : k = 2 <;> simp [a, b, c]
  calc (si + 2) * _ ≤ 6 * 900 := Nat.mul_le_mul (by omega) this
    _ = 5400 := rfl
theorem halfN_le {k : Nat} : 50 ≤ halfN k ∧ halfN k ≤ 90 := by
  unfold halfN
  by_cases a : k = 0 <;> by_cases b : k = 1 <;> by_cases c : k = 2 <;> simp [a, b, c]
theorem feetN_le {k si ag : Nat} (h : si ≤ 4) : feetN k si ag ≤ 5400 := by
  unfold feetN
  have h1 := topN_le (k := k) h
  have h2 := (halfN_le (k := k)).1
  have h3 : 0 < ag * ag + halfN k * halfN k := by have := Nat.mul_le_mul h2 h2; omega
  refine (Nat.div_le_iff_le_mul_add_pred h3).mpr ?_
  have h4 : topN k si * (ag * ag) ≤ 5400 * (ag * ag) := Nat.mul_le_mul_right _ h1
  have h5 : (ag * ag + halfN k * halfN k) * 5400 = 5400 * (ag * ag) + 5400 * (halfN k * halfN k) := by rw [Nat.mul_comm, Nat.mul_add]
  omega
theorem woodN_le {ac k si ag fu : Nat} (h1 : ac ≤ 999) (h : si ≤ 4) (h2 : fu ≤ 100) : woodN ac k si ag fu ≤ 5394600 := by
  unfold woodN
  have h3 : ac * feetN k si ag * fu ≤ 999 * 5400 * 100 := Nat.mul_le_mul (Nat.mul_le_mul h1 (feetN_le h)) h2
  omega
theorem pl_k4 {k : Nat} (h : k ≤ 3) : k = 0 ∨ k = 1 ∨ k = 2 ∨ k = 3 := by omega
theorem c_feet {k si ag : Nat} (hk : k ≤ 3) (hs : si ≤ 4) (ha : ag ≤ 500) : fX0_feetOf (Int32.ofNat k) (Int32.ofNat si) (Int32.ofNat ag) = some (Int32.ofNat (feetN k si ag)) := by
  have t1 := topN_le (k := k) hs
  have a1 : ag * ag ≤ 250000 := Nat.mul_le_mul ha ha
  have b1 : topN k si * ag * ag ≤ 5400 * 500 * 500 := Nat.mul_le_mul (Nat.mul_le_mul t1 ha) ha
  have h1 := (halfN_le (k := k))
  have h2 : halfN k * halfN k ≤ 8100 := Nat.mul_le_mul h1.2 h1.2
  have h3 : 2500 ≤ halfN k * halfN k := Nat.mul_le_mul h1.1 h1.1
  have et : fX0_top (Int32.ofNat k) (Int32.ofNat si) = some (Int32.ofNat (topN k si)) := by
    unfold fX0_top fX0_top_39
    rcases pl_k4 hk with rfl | rfl | rfl | rfl
    · rw [if_pos (show Int32.ofNat 0 = 0 from rfl), topN0, pl_addL, show (900 : Int32) - 0 = Int32.ofNat 900 from rfl, pl_mul]
    · rw [if_neg (show ¬ Int32.ofNat 1 = 0 by decide), if_pos (show Int32.ofNat 1 = 1 from rfl), topN1, pl_addL, show (900 : Int32) - 200 = Int32.ofNat 700 from rfl, pl_mul]
    · rw [if_neg (show ¬ Int32.ofNat 2 = 0 by decide), if_neg (show ¬ Int32.ofNat 2 = 1 by decide), if_pos (show Int32.ofNat 2 = 2 from rfl), topN2, pl_addL, show (900 : Int32) - 300 = Int32.ofNat 600 from rfl, pl_mul]
    · rw [if_neg (show ¬ Int32.ofNat 3 = 0 by decide), if_neg (show ¬ Int32.ofNat 3 = 1 by decide), if_neg (show ¬ Int32.ofNat 3 = 2 by decide), topN3, pl_addL, show (900 : Int32) - 400 = Int32.ofNat 500 from rfl, pl_mul]
  have eh : fX0_half (Int32.ofNat k) = some (Int32.ofNat (halfN k)) := by
    unfold fX0_half fX0_half_31 halfN
    rcases pl_k4 hk with rfl | rfl | rfl | rfl
    all_goals rfl
  unfold fX0_feetOf
  rw [et, eh]
  simp (disch := omega) only [pl_bd, pl_mul, pl_add]
  unfold o_nz
  rw [if_neg (by rw [show (0 : Int32) = Int32.ofNat 0 from rfl, pl_eq (by omega) (by omega)]; omega), pl_div (by omega) (by omega)]
  unfold feetN
  rw [Nat.mul_assoc]
theorem t_feet {k si ag : Nat} (hk : k ≤ 3) (hs : si ≤ 4) (ha : ag ≤ 500) : fX7_feetOf (Int32.ofNat k) (Int32.ofNat si) (Int32.ofNat ag) = some (Int32.ofNat (feetN k si ag)) := by
  have f1 := feetN_le (k := k) (ag := ag) hs
  have t1 := topN_le (k := k) hs
  have a1 : ag * ag ≤ 250000 := Nat.mul_le_mul ha ha
  have b1 : topN k si * (ag * ag) ≤ 5400 * 250000 := Nat.mul_le_mul t1 a1
  have h1 := (halfN_le (k := k))
  have h2 : halfN k * halfN k ≤ 8100 := Nat.mul_le_mul h1.2 h1.2
  have h3 : 2500 ≤ halfN k * halfN k := Nat.mul_le_mul h1.1 h1.1
  have e1 : ∀ x : Int64, x = Int64.ofNat (topN k si) → ∀ y : Int64, y = Int64.ofNat (halfN k) → fX7_feetOf_78 (Int32.ofNat ag) x y = some (Int32.ofNat (feetN k si ag)) := by
    intro x hx y hy
    subst hx hy
    unfold fX7_feetOf_78
    simp (disch := omega) only [pl_nm, pq_to, pq_mul, pq_add]
    unfold o_nzl
    rw [if_neg (pq_ne (by omega) (by omega)), pq_div (by omega) (by omega), pq_of (by unfold feetN at f1; omega)]
    rfl
  unfold fX7_feetOf fX7_feetOf_41
  simp (disch := omega) only [pq_to, pq_addL, pq_mulL, pl_nm]
  rcases pl_k4 hk with rfl | rfl | rfl | rfl
  · rw [if_pos (show Int32.ofNat 0 = 0 from rfl), if_pos (show Int32.ofNat 0 = 0 from rfl)]
    exact e1 _ (by rw [topN0]) _ rfl
  · rw [if_neg (show ¬ Int32.ofNat 1 = 0 by decide), if_pos (show Int32.ofNat 1 = 1 from rfl), if_neg (show ¬ Int32.ofNat 1 = 0 by decide), if_pos (show Int32.ofNat 1 = 1 from rfl)]
    exact e1 _ (by rw [topN1]) _ rfl
  · rw [if_neg (show ¬ Int32.ofNat 2 = 0 by decide), if_neg (show ¬ Int32.ofNat 2 = 1 by decide), if_pos (show Int32.ofNat 2 = 2 from rfl), if_neg (show ¬ Int32.ofNat 2 = 0 by decide), if_neg (show ¬ Int32.ofNat 2 = 1 by decide), if_pos (show Int32.ofNat 2 = 2 from rfl)]
    exact e1 _ (by rw [topN2]) _ rfl
  · rw [if_neg (show ¬ Int32.ofNat 3 = 0 by decide), if_neg (show ¬ Int32.ofNat 3 = 1 by decide), if_neg (show ¬ Int32.ofNat 3 = 2 by decide), if_neg (show ¬ Int32.ofNat 3 = 0 by decide), if_neg (show ¬ Int32.ofNat 3 = 1 by decide), if_neg (show ¬ Int32.ofNat 3 = 2 by decide)]
    exact e1 _ (by rw [topN3]) _ rfl
