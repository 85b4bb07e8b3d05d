/-! PLAIN LAW, LINES 0: words by number; runs -/
/-- the number of letters, of 27 -/
def wcN (g : Nat → Nat) : Nat → Nat
  | 0 => 0
  | n + 1 => 27 * wcN g n + (g n - 96)
theorem wcN_inj {f g : Nat → Nat} : ∀ {n k : Nat}, (∀ i, i < n → 97 ≤ f i ∧ f i ≤ 122) → (∀ i, i < k → 97 ≤ g i ∧ g i ≤ 122) → wcN f n = wcN g k → n = k ∧ ∀ i, i < n → f i = g i
  | 0, 0, _, _, _ => ⟨rfl, fun i hi => by omega⟩
  | 0, k + 1, _, hg, e => by
    have q := hg k (by omega)
    have e : 0 = 27 * wcN g k + (g k - 96) := e
    omega
  | n + 1, 0, hf, _, e => by
    have q := hf n (by omega)
    have e : 27 * wcN f n + (f n - 96) = 0 := e
    omega
  | n + 1, k + 1, hf, hg, e => by
    have q1 := hf n (by omega)
    have q2 := hg k (by omega)
    have e : 27 * wcN f n + (f n - 96) = 27 * wcN g k + (g k - 96) := e
    obtain ⟨r1, r2⟩ := wcN_inj (n := n) (k := k) (fun i hi => hf i (by omega)) (fun i hi => hg i (by omega)) (by omega)
    subst r1
    refine ⟨rfl, fun i hi => ?_⟩
    by_cases c : i = n
    · subst c; omega
    · exact r2 i (by omega)
theorem wcN_lt {f : Nat → Nat} : ∀ {n : Nat}, (∀ i, i < n → 97 ≤ f i ∧ f i ≤ 122) → wcN f n < 27 ^ n
  | 0, _ => by show 0 < 1; omega
  | n + 1, hf => by
    have q := hf n (by omega)
    have r := wcN_lt (n := n) (fun i hi => hf i (by omega))
    show 27 * wcN f n + (f n - 96) < 27 ^ (n + 1)
    rw [Nat.pow_succ]
    omega
/-- the twin's numbers of the words -/
def wcodes : List Nat := [923, 32941, 279252, 220309, 464053, 321697, 125042, 8740379, 223456, 381083, 10494835, 11263, 133743, 603766, 1310105, 495765, 3172008997, 4350799, 249, 423, 1111, 10631, 283619210]
theorem wcodes_ok : (lx_words.map (fun l => wcN (fun i => l.getD i 0) l.length)) = wcodes := by decide +kernel
theorem words_ok : ∀ l ∈ lx_words, l.length ≤ 7 ∧ ∀ x ∈ l, 97 ≤ x ∧ x ≤ 122 := by decide
/-- letters are the word w just if their number is -/
theorem word_iff {f : Nat → Nat} {n w : Nat} {l : List Nat} (hf : ∀ i, i < n → 97 ≤ f i ∧ f i ≤ 122) (hl : lx_words[w]? = some l) : l = (List.range n).map f ↔ wcN f n = wcodes.getD w 0 := by
  have hm := List.mem_of_getElem? hl
  have hw : wcodes.getD w 0 = wcN (fun i => l.getD i 0) l.length := by
    rw [← wcodes_ok, List.getD_eq_getElem?_getD, List.getElem?_map, hl]
    rfl
  have hd : ∀ i, i < l.length → 97 ≤ l.getD i 0 ∧ l.getD i 0 ≤ 122 := by
    intro i hi
    have e : l.getD i 0 = l[i] := by rw [List.getD_eq_getElem?_getD, List.getElem?_eq_getElem hi]; rfl
    rw [e]
    exact (words_ok l hm).2 _ (List.getElem_mem hi)
  rw [hw]
  constructor
  · intro e
    have en : l.length = n := by rw [e]; simp
    subst en
    have : ∀ k, k ≤ l.length → wcN f k = wcN (fun i => l.getD i 0) k := by
      intro k
      induction k with
      | zero => intro _; rfl
      | succ k ih =>
        intro hk
        show 27 * wcN f k + (f k - 96) = 27 * wcN (fun i => l.getD i 0) k + (l.getD k 0 - 96)
        have ek : l.getD k 0 = f k := by
          have : l[k]? = some (f k) := by
            rw [e, List.getElem?_map, List.getElem?_range (by omega)]
            rfl
          rw [List.getD_eq_getElem?_getD, this]
          rfl
        rw [ih (by omega), ek]
    exact this _ (Nat.le_refl _)
  · intro e
    obtain ⟨r1, r2⟩ := wcN_inj hf hd e
    subst r1
    apply List.ext_getElem
    · simp
    · intro i h1 h2
      rw [List.getElem_map, List.getElem_range, r2 i h1]
      rw [List.getD_eq_getElem?_getD, List.getElem?_eq_getElem h1]
      rfl
/-- a run: where it ends, what it holds -/
theorem lx_run_all {t : Nat → Bool} {b : Nat → Nat} {m : Nat} : ∀ n i j, i ≤ j → j < lx_run t b m n i → j < m ∧ t (b j) = true
  | 0, i, j, h1, h2 => by
    have h2 : j < i := h2
    omega
  | n + 1, i, j, h1, h2 => by
    have h2 : j < (if i < m ∧ t (b i) = true then lx_run t b m n (i + 1) else i) := h2
    by_cases c : i < m ∧ t (b i) = true
    · rw [if_pos c] at h2
      by_cases d : j = i
      · subst d; exact c
      · exact lx_run_all n (i + 1) j (by omega) h2
    · rw [if_neg c] at h2; omega
theorem lx_run_stop {t : Nat → Bool} {b : Nat → Nat} {m : Nat} : ∀ n i, m ≤ n + i → ¬ (lx_run t b m n i < m ∧ t (b (lx_run t b m n i)) = true)
  | 0, i, h => by
    show ¬ (i < m ∧ _)
    omega
  | n + 1, i, h => by
    show ¬ ((if i < m ∧ t (b i) = true then lx_run t b m n (i + 1) else i) < m ∧ t (b (if i < m ∧ t (b i) = true then lx_run t b m n (i + 1) else i)) = true)
    by_cases c : i < m ∧ t (b i) = true
    · rw [if_pos c]; exact lx_run_stop n (i + 1) (by omega)
    · rw [if_neg c]; exact c
/-- with enough fuel a run is what it is -/
theorem lx_run_fuel {t : Nat → Bool} {b : Nat → Nat} {m : Nat} : ∀ n k i, m ≤ n + i → m ≤ k + i → lx_run t b m n i = lx_run t b m k i
  | 0, 0, i, _, _ => rfl
  | 0, k + 1, i, h1, h2 => by
    show i = (if i < m ∧ t (b i) = true then _ else i)
    rw [if_neg (by omega)]
  | n + 1, 0, i, h1, h2 => by
    show (if i < m ∧ t (b i) = true then _ else i) = i
    rw [if_neg (by omega)]
  | n + 1, k + 1, i, h1, h2 => by
    show (if i < m ∧ t (b i) = true then lx_run t b m n (i + 1) else i) = (if i < m ∧ t (b i) = true then lx_run t b m k (i + 1) else i)
    by_cases c : i < m ∧ t (b i) = true
    · rw [if_pos c, if_pos c, lx_run_fuel n k (i + 1) (by omega) (by omega)]
    · rw [if_neg c, if_neg c]
