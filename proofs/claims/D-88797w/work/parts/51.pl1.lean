/-! PLAIN LAW 1: the forest's table: columns of the component's arrays beside the twin's one row -/
/-- a column: (place in the forest, how many, first index there, step there, first index in the row, step there, least, most) -/
abbrev FrE : Type := Nat × Nat × Nat × Nat × Nat × Nat × Int × Int
def fe_p (x : FrE) : Nat := x.1
def fe_n (x : FrE) : Nat := x.2.1
def fe_c (x : FrE) : Nat := x.2.2.1
def fe_d (x : FrE) : Nat := x.2.2.2.1
def fe_b (x : FrE) : Nat := x.2.2.2.2.1
def fe_e (x : FrE) : Nat := x.2.2.2.2.2.1
def fe_lo (x : FrE) : Int := x.2.2.2.2.2.2.1
def fe_hi (x : FrE) : Int := x.2.2.2.2.2.2.2
def fr_tab : List FrE := [(1, 24, 0, 1, 16, 14, 0, 5), (2, 24, 0, 1, 17, 14, 0, 4), (3, 24, 0, 1, 18, 14, 0, 3), (4, 24, 0, 1, 19, 14, 0, 1), (5, 24, 0, 1, 20, 14, 0, 999), (6, 24, 0, 1, 21, 14, 0, 400), (7, 24, 0, 1, 22, 14, 0, 100),
  (8, 24, 0, 1, 23, 14, 0, 10789200), (9, 24, 0, 1, 24, 14, 0, 1000), (10, 24, 0, 1, 25, 14, -1, 400), (11, 24, 0, 1, 26, 14, -1, 400), (34, 24, 0, 1, 27, 14, 0, 8),
  (14, 12, 0, 1, 3410, 3, 0, 5), (15, 12, 0, 1, 3411, 3, 0, 5), (16, 12, 0, 1, 3412, 3, 0, 999),
  (18, 8, 0, 1, 928, 4, 0, 5), (19, 8, 0, 1, 929, 4, 0, 999), (20, 8, 0, 1, 930, 4, 0, 999), (21, 8, 0, 1, 931, 4, 0, 2147483647),
  (25, 16, 0, 1, 1321, 125, 0, 400), (26, 16, 0, 1, 1322, 125, -1, 400),
  (27, 30, 0, 1, 3320, 3, 0, 23), (28, 30, 0, 1, 3321, 3, 0, 2), (29, 30, 0, 1, 3322, 3, 0, 100),
  (30, 12, 0, 1, 3446, 1, -2147483648, 2147483647), (31, 100, 0, 1, 3458, 1, -1, 99), (32, 6, 0, 1, 3558, 2, 0, 999), (33, 6, 0, 1, 3559, 2, 0, 99),
  (35, 192, 0, 5, 3570, 5, 0, 400), (35, 192, 1, 5, 3571, 5, 0, 400), (35, 192, 2, 5, 3572, 5, -2147483648, 2147483647), (35, 192, 3, 5, 3573, 5, -2147483648, 2147483647), (35, 192, 4, 5, 3574, 5, -2147483648, 2147483647)]
/-- the kind of a cell of the row: 0 the table's, 1 single numbers, 2 pairs, 3 parcels, 4 the lines' rest, 5 hauls, 6 the plan, 7 none -/
def fr_cls (i : Nat) : Nat :=
  if i < 8 then 1 else if i < 10 then 6 else if i < 16 then 7 else if i < 352 then (if (i - 16) % 14 < 12 then 0 else if (i - 16) % 14 = 12 then 6 else 7) else if i < 928 then 2 else if i < 960 then 0 else if i < 1320 then 3
  else if i < 3320 then (if (i - 1320) % 125 = 1 ∨ (i - 1320) % 125 = 2 then 0 else 4) else if i < 4530 then 0 else if i < 4536 then 5 else 8
/-- which column, and which of it -/
def fr_ti (i : Nat) : Nat × Nat := match fr_tab.findIdx? (fun x => decide ((fe_b x) ≤ i ∧ (i - (fe_b x)) % (fe_e x) = 0 ∧ (i - (fe_b x)) / (fe_e x) < (fe_n x))) with
  | some k => (k, match fr_tab[k]? with | some x => (i - (fe_b x)) / (fe_e x) | none => 0)
  | none => (99, 0)
def fr_ci (p i : Nat) : Nat × Nat := match fr_tab.findIdx? (fun x => decide ((fe_p x) = p ∧ (fe_c x) ≤ i ∧ (i - (fe_c x)) % (fe_d x) = 0 ∧ (i - (fe_c x)) / (fe_d x) < (fe_n x))) with
  | some k => (k, match fr_tab[k]? with | some x => (i - (fe_c x)) / (fe_d x) | none => 0)
  | none => (99, 0)
theorem fr_chk : ((List.range 33).all (fun k => match fr_tab[k]? with
    | some x => (List.range (fe_n x)).all (fun j => fr_ti ((fe_b x) + (fe_e x) * j) == (k, j) && fr_ci (fe_p x) ((fe_c x) + (fe_d x) * j) == (k, j) && fr_cls ((fe_b x) + (fe_e x) * j) == 0 && decide ((fe_b x) + (fe_e x) * j < 4536))
    | none => false)) = true := by decide +kernel
theorem fr_len : fr_tab.length = 33 := by decide
theorem fr_at {k j : Nat} {x : FrE} (hx : fr_tab[k]? = some x) (hj : j < (fe_n x)) : fr_ti ((fe_b x) + (fe_e x) * j) = (k, j) ∧ fr_ci (fe_p x) ((fe_c x) + (fe_d x) * j) = (k, j) ∧ fr_cls ((fe_b x) + (fe_e x) * j) = 0 ∧ (fe_b x) + (fe_e x) * j < 4536 := by
  have hk : k < 33 := by rw [← fr_len]; exact (List.getElem?_eq_some_iff.mp hx).1
  have h1 := List.all_eq_true.mp fr_chk k (List.mem_range.mpr hk)
  rw [hx] at h1
  have h2 := List.all_eq_true.mp h1 j (List.mem_range.mpr hj)
  simp only [Bool.and_eq_true, beq_iff_eq, decide_eq_true_eq] at h2
  exact ⟨h2.1.1.1, h2.1.1.2, h2.1.2, h2.2⟩
def FRt (F : Nat) (u : CS) (s : Nat → Int32) : Prop := ∀ (k j : Nat) (x : FrE), fr_tab[k]? = some x → j < (fe_n x) → wc_A u (F + (fe_p x)) ((fe_c x) + (fe_d x) * j) = s ((fe_b x) + (fe_e x) * j) ∧ (fe_lo x) ≤ (s ((fe_b x) + (fe_e x) * j)).toInt ∧ (s ((fe_b x) + (fe_e x) * j)).toInt ≤ (fe_hi x)
theorem FRt.put {F : Nat} {u : CS} {s : Nat → Int32} (h : FRt F u s) {k j : Nat} {x : FrE} (hx : fr_tab[k]? = some x) (hj : j < (fe_n x)) {v : Int32} (h1 : (fe_lo x) ≤ v.toInt) (h2 : v.toInt ≤ (fe_hi x)) :
    FRt F (wc_uA u (F + (fe_p x)) ((fe_c x) + (fe_d x) * j) v) (upd s ((fe_b x) + (fe_e x) * j) v) := by
  intro k' j' y hy hj'
  obtain ⟨a1, a2, -, -⟩ := fr_at hx hj
  obtain ⟨b1, b2, -, -⟩ := fr_at hy hj'
  obtain ⟨q1, q2, q3⟩ := h k' j' y hy hj'
  show (if F + (fe_p y) = F + (fe_p x) ∧ (fe_c y) + (fe_d y) * j' = (fe_c x) + (fe_d x) * j then v else wc_A u (F + (fe_p y)) ((fe_c y) + (fe_d y) * j')) = (if (fe_b y) + (fe_e y) * j' = (fe_b x) + (fe_e x) * j then v else s ((fe_b y) + (fe_e y) * j')) ∧ (fe_lo y) ≤ (if (fe_b y) + (fe_e y) * j' = (fe_b x) + (fe_e x) * j then v else s ((fe_b y) + (fe_e y) * j')).toInt ∧ (if (fe_b y) + (fe_e y) * j' = (fe_b x) + (fe_e x) * j then v else s ((fe_b y) + (fe_e y) * j')).toInt ≤ (fe_hi y)
  by_cases c : (fe_b y) + (fe_e y) * j' = (fe_b x) + (fe_e x) * j
  · have e : (k', j') = (k, j) := by rw [← a1, ← b1, c]
    obtain ⟨rfl, rfl⟩ := Prod.mk.inj e
    cases Option.some.inj (hx.symm.trans hy)
    rw [if_pos ⟨rfl, rfl⟩, if_pos rfl]
    exact ⟨rfl, h1, h2⟩
  · rw [if_neg c, if_neg ?_]
    · exact ⟨q1, q2, q3⟩
    · intro ⟨c1, c2⟩
      have c1 : (fe_p y) = (fe_p x) := by omega
      rw [c1, c2] at b2
      obtain ⟨rfl, rfl⟩ := Prod.mk.inj (b2.symm.trans a2)
      cases Option.some.inj (hx.symm.trans hy)
      exact c rfl
theorem FRt.cg {F : Nat} {u u' : CS} {s s' : Nat → Int32} (h : FRt F u s) (hs : ∀ i, fr_cls i = 0 → s' i = s i) (hu : ∀ (x : FrE), x ∈ fr_tab → wc_A u' (F + (fe_p x)) = wc_A u (F + (fe_p x))) : FRt F u' s' := by
  intro k j x hx hj
  rw [hu x (List.mem_of_getElem? hx), hs _ (fr_at hx hj).2.2.1]
  exact h k j x hx hj
