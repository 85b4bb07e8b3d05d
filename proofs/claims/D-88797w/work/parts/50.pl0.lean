/-! PLAIN LAW 0: numbers and the combinators under simp -/
theorem pl_bd {α β : Type} (a : α) (K : α → Option β) : o_bd (some a) K = K a := rfl
theorem pl_bd2 {α γ β : Type} (a : α) (b : γ) (K : α → γ → Option β) : o_bd2 (some (a, b)) K = K a b := rfl
theorem pl_nm {α β : Type} (x : α) (K : α → β) : o_nm x K = K x := rfl
theorem pl_in {i : Int32} {n k : Nat} (hi : i = Int32.ofNat k) (hk : k < n) (hn : n ≤ 2147483648) : ¬ (i < 0 ∨ n ≤ i.toNatClampNeg) ∧ i.toNatClampNeg = k := by
  subst hi
  have h1 : (Int32.ofNat k).toInt = k := Int32.toInt_ofNat_of_lt (by omega)
  have h2 : (Int32.ofNat k).toNatClampNeg = k := Int32.toNatClampNeg_ofNat_of_lt (by omega)
  refine ⟨?_, h2⟩
  rw [h2, Int32.lt_iff_toInt_lt, h1]
  show ¬ ((k : Int) < 0 ∨ n ≤ k)
  omega
theorem pl_ald {α β : Type} (f : Nat → α) {n k : Nat} (K : α → Option β) (hk : k < n ∧ n ≤ 2147483648) : o_ald f n (Int32.ofNat k) K = K (f k) := by
  obtain ⟨h1, h2⟩ := pl_in (i := Int32.ofNat k) rfl hk.1 hk.2
  unfold o_ald
  rw [if_neg h1, h2]
theorem pl_ast {S β : Type} {n k : Nat} (u : S) (K : S → Option β) (hk : k < n ∧ n ≤ 2147483648) : o_ast n (Int32.ofNat k) u K = K u := by
  obtain ⟨h1, h2⟩ := pl_in (i := Int32.ofNat k) rfl hk.1 hk.2
  unfold o_ast
  rw [if_neg h1]
theorem pl_nc {k : Nat} (h : k < 2147483648) : (Int32.ofNat k).toNatClampNeg = k := Int32.toNatClampNeg_ofNat_of_lt h
theorem pl_add (a b : Nat) : Int32.ofNat a + Int32.ofNat b = Int32.ofNat (a + b) := (Int32.ofNat_add a b).symm
theorem pl_mul (a b : Nat) : Int32.ofNat a * Int32.ofNat b = Int32.ofNat (a * b) := (Int32.ofNat_mul a b).symm
theorem pl_lit (m : Nat) : (OfNat.ofNat (m + 2) : Int32) = Int32.ofNat (m + 2) := rfl
theorem pl_sub {a b : Nat} (h : b ≤ a) : Int32.ofNat a - Int32.ofNat b = Int32.ofNat (a - b) := by
  have : Int32.ofNat a = Int32.ofNat (a - b) + Int32.ofNat b := by rw [pl_add]; congr 1; omega
  rw [this, Int32.add_sub_cancel]
theorem pl_subL {a m : Nat} (h : OfNat.ofNat m ≤ a) : Int32.ofNat a - (no_index (OfNat.ofNat m : Int32)) = Int32.ofNat (a - OfNat.ofNat m) := pl_sub h
theorem pl_addL (a m : Nat) : Int32.ofNat a + (no_index (OfNat.ofNat m : Int32)) = Int32.ofNat (a + OfNat.ofNat m) := pl_add a m
theorem pl_addR (a m : Nat) : (no_index (OfNat.ofNat m : Int32)) + Int32.ofNat a = Int32.ofNat (OfNat.ofNat m + a) := pl_add m a
theorem pl_mulL (a m : Nat) : Int32.ofNat a * (no_index (OfNat.ofNat m : Int32)) = Int32.ofNat (a * OfNat.ofNat m) := pl_mul a m
theorem pl_mulR (a m : Nat) : (no_index (OfNat.ofNat m : Int32)) * Int32.ofNat a = Int32.ofNat (OfNat.ofNat m * a) := pl_mul m a
theorem pl_aldL {α β : Type} (f : Nat → α) {n m : Nat} (K : α → Option β) (hk : OfNat.ofNat m < n ∧ n ≤ 2147483648) : o_ald f n (no_index (OfNat.ofNat m : Int32)) K = K (f (OfNat.ofNat m)) := pl_ald f K hk
theorem pl_astL {S β : Type} {n m : Nat} (u : S) (K : S → Option β) (hk : OfNat.ofNat m < n ∧ n ≤ 2147483648) : o_ast n (no_index (OfNat.ofNat m : Int32)) u K = K u := pl_ast u K hk
theorem pl_ncL {m : Nat} (h : OfNat.ofNat m < 2147483648) : (no_index (OfNat.ofNat m : Int32)).toNatClampNeg = OfNat.ofNat m := pl_nc h
theorem tX_st (N : Nat) (u : TS) {k w : Nat} (hk : k < 24) (hw : w < 14) : fX7_st N u (Int32.ofNat k) (Int32.ofNat w) = some (u.2.2.1 1 (16 + 14 * k + w), u) := by
  unfold fX7_st
  simp (disch := omega) only [pl_add, pl_addL, pl_addR, pl_mul, pl_mulL, pl_mulR, pl_ald, pl_nm]
theorem tX_stL (N : Nat) (u : TS) {k w : Nat} (hk : k < 24) (hw : OfNat.ofNat w < 14) : fX7_st N u (Int32.ofNat k) (no_index (OfNat.ofNat w : Int32)) = some (u.2.2.1 1 (16 + 14 * k + OfNat.ofNat w), u) := tX_st N u hk hw
theorem tX_isBare (N : Nat) (u : TS) {k : Nat} (hk : k < 24) : fX7_isBare N u (Int32.ofNat k) = some (if u.2.2.1 1 (16 + 14 * k + 6) = 0 then 1 else 0, u) := by
  unfold fX7_isBare fX7_isBare_15
  simp (disch := omega) only [tX_stL, pl_bd2]
  split <;> rfl
theorem pl_ti {n : Nat} (h : n < 2147483648) : (Int32.ofNat n).toInt = n := Int32.toInt_ofNat_of_lt h
