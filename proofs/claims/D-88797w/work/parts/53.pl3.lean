/-! PLAIN LAW 3: the lines' grammar, with no program in sight: tokens, parts (by what they are worth), lines -/
/-- a part, by what the names tell -/
abbrev Ex : Type := (Nat → Int32) → Int32
/-- a token: (0, 0) the end, (1, w) a word, (2, v) a number, (3, c) a sign, (4, 0) none -/
abbrev Tk : Type := Nat × Nat
/-- what two numbers make -/
def ex_bin (c : Nat) (a b : Int32) : Int32 :=
  if c = 43 then a + b else if c = 45 then a - b else if c = 42 then a * b else if c = 47 then (if b = 0 then 0 else a / b) else if c = 37 then (if b = 0 then 0 else a - a / b * b)
  else if c = 61 then (if a = b then 1 else 0) else if c = 60 then (if a < b then 1 else 0) else if c = 62 then (if b < a then 1 else 0) else if c = 124 then (if a ≠ 0 ∨ b ≠ 0 then 1 else 0) else (if a ≠ 0 ∧ b ≠ 0 then 1 else 0)
def ex_num (v : Int32) : Ex := fun _ => v
def ex_nam (w : Nat) : Ex := fun tell => tell w
def ex_neg (e : Ex) : Ex := fun tell => -(e tell)
def ex_not (e : Ex) : Ex := fun tell => if e tell = 0 then 1 else 0
def ex_two (c : Nat) (a b : Ex) : Ex := fun tell => ex_bin c (a tell) (b tell)
/-- the words: keys, names, others -/
def lx_words : List (List Nat) := [[97, 103, 101], [97, 114, 101, 97], [110, 101, 97, 114], [107, 101, 101, 112], [119, 111, 111, 100], [112, 105, 103, 115], [102, 105, 110, 101], [112, 108, 97, 110, 116],
  [107, 105, 110, 100], [115, 105, 116, 101], [115, 116, 101, 101, 112], [111, 108, 100], [102, 117, 108, 108], [97, 99, 114, 101, 115], [98, 108, 111, 99, 107], [121, 101, 97, 114], [104, 101, 97, 114, 116, 104, 115], [104, 101, 97, 100, 115],
  [105, 102], [111, 114], [97, 110, 100], [110, 111, 116], [115, 116, 114, 105, 107, 101]]
def lx_let (x : Nat) : Bool := decide (97 ≤ x ∧ x ≤ 122)
def lx_dig (x : Nat) : Bool := decide (48 ≤ x ∧ x ≤ 57)
def lx_sgn (x : Nat) : Bool := [40, 41, 43, 45, 42, 47, 37, 61, 60, 62].contains x
/-- the end of a run of signs of a sort -/
def lx_run (t : Nat → Bool) (b : Nat → Nat) (m : Nat) : Nat → Nat → Nat
  | 0, i => i
  | n + 1, i => if i < m ∧ t (b i) = true then lx_run t b m n (i + 1) else i
def lx_val (b : Nat → Nat) : Nat → Nat → Nat
  | _, 0 => 0
  | i, n + 1 => 10 * lx_val b i n + (b (i + n) - 48)
/-- the reader's state: token, where it begins, where the next may begin, how many are held open -/
abbrev PS : Type := Tk × Nat × Nat × Nat
abbrev ps_bg (p : PS) : Nat := p.2.1
abbrev ps_hr (p : PS) : Nat := p.2.2.1
abbrev ps_op (p : PS) : Nat := p.2.2.2
/-- the token from a place on: it, where it begins, where the next may begin -/
def lx_at (b : Nat → Nat) (m i : Nat) : Tk × Nat × Nat :=
  let j := lx_run (fun x => x == 32) b m m i
  if m ≤ j then ((0, 0), j, j)
  else if lx_let (b j) = true then
    let e := lx_run lx_let b m m j
    ((match lx_words.findIdx? (fun w => w == (List.range (e - j)).map (fun k => b (j + k))) with
      | some w => (1, w)
      | none => (4, 0)), j, e)
  else if lx_dig (b j) = true then
    let e := lx_run lx_dig b m m j
    ((if 6 < e - j then (4, 0) else (2, lx_val b j (e - j))), j, e)
  else if lx_sgn (b j) = true then ((3, b j), j, j + 1)
  else ((4, 0), j, j)
def ap_nx (b : Nat → Nat) (m : Nat) (hr op : Nat) : Except Nat PS :=
  let q := lx_at b m hr
  if q.1.1 = 4 then .error q.2.1 else .ok (q.1, q.2.1, q.2.2, op)
abbrev ApR : Type := Option (Except Nat (Ex × PS))
def ap_bd (x : ApR) (K : Ex → PS → ApR) : ApR := match x with
  | none => none
  | some (.error n) => some (.error n)
  | some (.ok r) => K r.1 r.2
def ap_to (x : Except Nat PS) (K : PS → ApR) : ApR := match x with
  | .error n => some (.error n)
  | .ok p => K p
/-- a loop: as long as the token is one of a sort, the next, another part, and both make one -/
def ap_loop (nx : Nat → Nat → Except Nat PS) (t : Tk → Option Nat) (sub : PS → ApR) : Nat → Ex → PS → ApR
  | 0, _, _ => none
  | n + 1, e, p => match t p.1 with
    | none => some (.ok (e, p))
    | some c => ap_to (nx (ps_hr p) (ps_op p)) (fun p1 => ap_bd (sub p1) (fun e2 p2 => ap_loop nx t sub n (ex_two c e e2) p2))
def ap_tT (k : Tk) : Option Nat := if k.1 = 3 ∧ (k.2 = 42 ∨ k.2 = 47 ∨ k.2 = 37) then some k.2 else none
def ap_tS (k : Tk) : Option Nat := if k.1 = 3 ∧ (k.2 = 43 ∨ k.2 = 45) then some k.2 else none
def ap_tC (k : Tk) : Option Nat := if k.1 = 3 ∧ (k.2 = 61 ∨ k.2 = 60 ∨ k.2 = 62) then some k.2 else none
def ap_tB (k : Tk) : Option Nat := if k = (1, 20) then some 38 else none
def ap_tA (k : Tk) : Option Nat := if k = (1, 19) then some 124 else none
/-- one more is held open, and the next token -/
def ap_op (nx : Nat → Nat → Except Nat PS) (p : PS) (K : PS → ApR) : ApR := if ps_op p = 6 then some (.error (ps_bg p)) else ap_to (nx (ps_hr p) (ps_op p + 1)) K
def ap_dn (p : PS) : PS := (p.1, ps_bg p, ps_hr p, ps_op p - 1)
def ap_one (nx : Nat → Nat → Except Nat PS) (g : Nat → PS → ApR) (p : PS) : ApR :=
  if p.1.1 = 2 then ap_to (nx (ps_hr p) (ps_op p)) (fun p1 => some (.ok (ex_num (Int32.ofNat p.1.2), p1)))
  else if p.1.1 = 1 ∧ 8 ≤ p.1.2 ∧ p.1.2 < 18 then ap_to (nx (ps_hr p) (ps_op p)) (fun p1 => some (.ok (ex_nam (p.1.2 - 8), p1)))
  else if p.1 = (3, 45) then ap_op nx p (fun p1 => ap_bd (g 0 p1) (fun e p2 => some (.ok (ex_neg e, ap_dn p2))))
  else if p.1 = (3, 40) then ap_op nx p (fun p1 => ap_bd (g 5 p1) (fun e p2 => if p2.1 = (3, 41) then ap_to (nx (ps_hr p2) (ps_op p2 - 1)) (fun p3 => some (.ok (e, p3))) else some (.error (ps_bg p2))))
  else some (.error (ps_bg p))
def ap_not (nx : Nat → Nat → Except Nat PS) (g : Nat → PS → ApR) (p : PS) : ApR :=
  if p.1 = (1, 21) then ap_op nx p (fun p1 => ap_bd (g 3 p1) (fun e p2 => some (.ok (ex_not e, ap_dn p2))))
  else ap_bd (g 2 p) (fun e p1 => match ap_tC p1.1 with
    | none => some (.ok (e, p1))
    | some c => ap_to (nx (ps_hr p1) (ps_op p1)) (fun p2 => ap_bd (g 2 p2) (fun e2 p3 => some (.ok (ex_two c e e2, p3)))))
/-- the six, by depth: one, term, sum, not, both, all -/
def ap (nx : Nat → Nat → Except Nat PS) : Nat → Nat → PS → ApR
  | 0, _, _ => none
  | d + 1, w, p => match w with
    | 0 => ap_one nx (ap nx d) p
    | 1 => ap_bd (ap nx d 0 p) (fun e p1 => ap_loop nx ap_tT (ap nx d 0) 200 e p1)
    | 2 => ap_bd (ap nx d 1 p) (fun e p1 => ap_loop nx ap_tS (ap nx d 1) 200 e p1)
    | 3 => ap_not nx (ap nx d) p
    | 4 => ap_bd (ap nx d 3 p) (fun e p1 => ap_loop nx ap_tB (ap nx d 3) 200 e p1)
    | _ => ap_bd (ap nx d 4 p) (fun e p1 => ap_loop nx ap_tA (ap nx d 4) 200 e p1)
/-- a line: the number of one that is struck; or its key, what it says, its if -/
abbrev Ln : Type := Nat ⊕ (Nat × Ex × Option Ex)
abbrev LnR : Type := Option (Except Nat Ln)
def ap_end (p : PS) (r : Ln) : LnR := if p.1 = (0, 0) then some (.ok r) else some (.error (ps_bg p))
def al_to (x : Except Nat PS) (K : PS → LnR) : LnR := match x with
  | .error n => some (.error n)
  | .ok p => K p
def al_bd (x : ApR) (K : Ex → PS → LnR) : LnR := match x with
  | none => none
  | some (.error n) => some (.error n)
  | some (.ok r) => K r.1 r.2
def al_line (nx : Nat → Nat → Except Nat PS) : LnR := al_to (nx 0 0) (fun p =>
  if p.1 = (1, 22) then al_to (nx (ps_hr p) (ps_op p)) (fun p1 => if p1.1.1 = 2 then al_to (nx (ps_hr p1) (ps_op p1)) (fun p2 => ap_end p2 (.inl p1.1.2)) else some (.error (ps_bg p1)))
  else if p.1.1 = 1 ∧ p.1.2 < 8 then al_to (nx (ps_hr p) (ps_op p)) (fun p1 => al_bd (ap nx 60 5 p1) (fun e p2 =>
    if p2.1 = (1, 18) then al_to (nx (ps_hr p2) (ps_op p2)) (fun p3 => al_bd (ap nx 60 5 p3) (fun e2 p4 => ap_end p4 (.inr (p.1.2, e, some e2))))
    else ap_end p2 (.inr (p.1.2, e, none))))
  else some (.error (ps_bg p)))
def ap_line (b : Nat → Nat) (m : Nat) : LnR := al_line (ap_nx b m)
theorem lx_run_cg {t : Nat → Bool} {b b' : Nat → Nat} {m : Nat} (h : ∀ i, i < m → b' i = b i) : ∀ n i, lx_run t b' m n i = lx_run t b m n i
  | 0, _ => rfl
  | n + 1, i => by
    show (if i < m ∧ t (b' i) = true then lx_run t b' m n (i + 1) else i) = (if i < m ∧ t (b i) = true then lx_run t b m n (i + 1) else i)
    rw [lx_run_cg h n (i + 1)]
    by_cases c : i < m
    · rw [h i c]
    · rw [if_neg (fun q => c q.1), if_neg (fun q => c q.1)]
theorem lx_run_le {t : Nat → Bool} {b : Nat → Nat} {m : Nat} : ∀ n i, i ≤ lx_run t b m n i ∧ (i ≤ m → lx_run t b m n i ≤ m)
  | 0, i => ⟨Nat.le_refl _, fun h => h⟩
  | n + 1, i => by
    show i ≤ (if i < m ∧ t (b i) = true then lx_run t b m n (i + 1) else i) ∧ (i ≤ m → (if i < m ∧ t (b i) = true then lx_run t b m n (i + 1) else i) ≤ m)
    have q := lx_run_le (t := t) (b := b) (m := m) n (i + 1)
    by_cases c : i < m ∧ t (b i) = true
    · rw [if_pos c]; exact ⟨by omega, fun _ => q.2 (by omega)⟩
    · rw [if_neg c]; exact ⟨Nat.le_refl _, fun h => h⟩
theorem lx_val_cg {b b' : Nat → Nat} {i : Nat} : ∀ n, (∀ k, k < n → b' (i + k) = b (i + k)) → lx_val b' i n = lx_val b i n
  | 0, _ => rfl
  | n + 1, h => by
    show 10 * lx_val b' i n + (b' (i + n) - 48) = 10 * lx_val b i n + (b (i + n) - 48)
    rw [lx_val_cg n (fun k hk => h k (by omega)), h n (by omega)]
theorem lx_at_cg {b b' : Nat → Nat} {m : Nat} (h : ∀ i, i < m → b' i = b i) (i : Nat) : lx_at b' m i = lx_at b m i := by
  unfold lx_at
  simp only [lx_run_cg h]
  by_cases c : m ≤ lx_run (fun x => x == 32) b m m i
  · rw [if_pos c, if_pos c]
  · rw [if_neg c, if_neg c, h _ (by omega)]
    have e1 := lx_run_le (t := lx_let) (b := b) (m := m) m (lx_run (fun x => x == 32) b m m i)
    have e2 := lx_run_le (t := lx_dig) (b := b) (m := m) m (lx_run (fun x => x == 32) b m m i)
    have q1 : (List.range (lx_run lx_let b m m (lx_run (fun x => x == 32) b m m i) - lx_run (fun x => x == 32) b m m i)).map (fun k => b' (lx_run (fun x => x == 32) b m m i + k)) = (List.range (lx_run lx_let b m m (lx_run (fun x => x == 32) b m m i) - lx_run (fun x => x == 32) b m m i)).map (fun k => b (lx_run (fun x => x == 32) b m m i + k)) := by
      refine List.map_congr_left (fun k hk => h _ ?_)
      have := List.mem_range.mp hk
      omega
    rw [q1, lx_val_cg _ (fun k hk => h _ (by omega))]
theorem ap_line_cg {b b' : Nat → Nat} {m : Nat} (h : ∀ i, i < m → b' i = b i) : ap_line b' m = ap_line b m := by
  unfold ap_line
  congr 1
  funext hr op
  unfold ap_nx
  rw [lx_at_cg h]
