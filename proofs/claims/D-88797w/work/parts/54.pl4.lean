/-! PLAIN LAW 4: the relation of a forest of the component to a row of the twin -/
/-- a place is the same in both -/
def Sm (u u' : CS) (q : Nat) : Prop := wc_I u' q = wc_I u q ∧ wc_L u' q = wc_L u q ∧ wc_A u' q = wc_A u q ∧ wc_B u' q = wc_B u q ∧ wc_P u' q = wc_P u q ∧ wc_Q u' q = wc_Q u q ∧ wc_T u' q = wc_T u q
theorem Sm.rfl' (u : CS) (q : Nat) : Sm u u q := ⟨rfl, rfl, rfl, rfl, rfl, rfl, rfl⟩
theorem Sm.trans {u u' u'' : CS} {q : Nat} (h : Sm u u' q) (h' : Sm u' u'' q) : Sm u u'' q := ⟨h'.1.trans h.1, h'.2.1.trans h.2.1, h'.2.2.1.trans h.2.2.1, h'.2.2.2.1.trans h.2.2.2.1, h'.2.2.2.2.1.trans h.2.2.2.2.1, h'.2.2.2.2.2.1.trans h.2.2.2.2.2.1, h'.2.2.2.2.2.2.trans h.2.2.2.2.2.2⟩
theorem vq2_ne {α : Type} {f : Nat → Nat → α} {n k q : Nat} {x : α} (h : q ≠ n) : up2 f n k x q = f q := by
  funext b; unfold up2; rw [if_neg (fun c => h c.1)]
theorem vq1_ne {α : Type} {f : Nat → Nat → α} {n q : Nat} {g : Nat → α} (h : q ≠ n) : up1 f n g q = f q := by
  unfold up1; rw [if_neg h]
theorem up1_eq {α : Type} {f : Nat → Nat → α} {n : Nat} {g : Nat → α} : up1 f n g n = g := by
  unfold up1; rw [if_pos rfl]
theorem Sm.uI {u : CS} {n k q : Nat} {x : Int32} (h : q ≠ n) : Sm u (wc_uI u n k x) q := ⟨vq2_ne h, rfl, rfl, rfl, rfl, rfl, rfl⟩
theorem Sm.uL {u : CS} {n k q : Nat} {x : Int64} (h : q ≠ n) : Sm u (wc_uL u n k x) q := ⟨rfl, vq2_ne h, rfl, rfl, rfl, rfl, rfl⟩
theorem Sm.uA {u : CS} {n k q : Nat} {x : Int32} (h : q ≠ n) : Sm u (wc_uA u n k x) q := ⟨rfl, rfl, vq2_ne h, rfl, rfl, rfl, rfl⟩
theorem Sm.uB {u : CS} {n k q : Nat} {x : Int64} (h : q ≠ n) : Sm u (wc_uB u n k x) q := ⟨rfl, rfl, rfl, vq2_ne h, rfl, rfl, rfl⟩
theorem Sm.uP {u : CS} {n k q : Nat} {x : Option Nat} (h : q ≠ n) : Sm u (wc_uP u n k x) q := ⟨rfl, rfl, rfl, rfl, vq2_ne h, rfl, rfl⟩
theorem Sm.uQ {u : CS} {n k q : Nat} {x : Option Nat} (h : q ≠ n) : Sm u (wc_uQ u n k x) q := ⟨rfl, rfl, rfl, rfl, rfl, vq2_ne h, rfl⟩
theorem Sm.aA {u : CS} {n q : Nat} {g : Nat → Int32} (h : q ≠ n) : Sm u (wc_aA u n g) q := ⟨rfl, rfl, vq1_ne h, rfl, rfl, rfl, rfl⟩
theorem Sm.aB {u : CS} {n q : Nat} {g : Nat → Int64} (h : q ≠ n) : Sm u (wc_aB u n g) q := ⟨rfl, rfl, rfl, vq1_ne h, rfl, rfl, rfl⟩
theorem Sm.aQ {u : CS} {n q : Nat} {g : Nat → Option Nat} (h : q ≠ n) : Sm u (wc_aQ u n g) q := ⟨rfl, rfl, rfl, rfl, rfl, vq1_ne h, rfl⟩
theorem Sm.new {u : CS} {sh : CSh} {q : Nat} (h : q < wc_z u) : Sm u (wc_new u sh) q := by
  have h' : q ≠ wc_z u := Nat.ne_of_lt h
  refine ⟨vq1_ne h', vq1_ne h', vq1_ne h', vq1_ne h', vq1_ne h', vq1_ne h', ?_⟩
  show (if q = wc_z u then _ else _) = _
  rw [if_neg h']
/-- single numbers: (field, cell, least, most) -/
def fs_tab : List (Nat × Nat × Int × Int) := [(0, 0, 0, 400), (1, 1, 0, 24), (13, 2, 0, 60), (22, 3, 0, 8), (29, 4, 0, 16), (33, 5, 0, 30), (17, 6, 0, 12), (16, 7, -2147483648, 2147483647)]
def FRs (F : Nat) (u : CS) (s : Nat → Int32) : Prop := ∀ x ∈ fs_tab, wc_I u F x.1 = s x.2.1 ∧ x.2.2.1 ≤ (s x.2.1).toInt ∧ (s x.2.1).toInt ≤ x.2.2.2
theorem fs_inj : (fs_tab.all (fun x => fs_tab.all (fun y => (x.1 == y.1) == (x.2.1 == y.2.1) && (!(x.1 == y.1) || x == y)))) = true := by decide
theorem FRs.put {F : Nat} {u : CS} {s : Nat → Int32} (h : FRs F u s) {x : Nat × Nat × Int × Int} (hx : x ∈ fs_tab) {v : Int32} (h1 : x.2.2.1 ≤ v.toInt) (h2 : v.toInt ≤ x.2.2.2) : FRs F (wc_uI u F x.1 v) (upd s x.2.1 v) := by
  intro y hy
  have q := List.all_eq_true.mp (List.all_eq_true.mp fs_inj x hx) y hy
  simp only [Bool.and_eq_true, beq_iff_eq, Bool.or_eq_true, Bool.not_eq_true', beq_eq_false_iff_ne] at q
  show (if F = F ∧ y.1 = x.1 then v else wc_I u F y.1) = (if y.2.1 = x.2.1 then v else s y.2.1) ∧ y.2.2.1 ≤ (if y.2.1 = x.2.1 then v else s y.2.1).toInt ∧ (if y.2.1 = x.2.1 then v else s y.2.1).toInt ≤ y.2.2.2
  by_cases c : y.1 = x.1
  · have e : x = y := by
      rcases q.2 with w | w
      · exact absurd c.symm w
      · exact w
    subst e
    rw [if_pos ⟨rfl, rfl⟩, if_pos rfl]
    exact ⟨rfl, h1, h2⟩
  · have c' : ¬ y.2.1 = x.2.1 := by
      intro w
      have q1 := q.1
      rw [w] at q1
      simp at q1
      exact c q1.symm
    rw [if_neg (fun w => c w.2), if_neg c']
    exact h y hy
theorem fs_cls : ∀ x ∈ fs_tab, fr_cls x.2.1 = 1 := by decide
theorem FRs.cg {F : Nat} {u u' : CS} {s s' : Nat → Int32} (h : FRs F u s) (hs : ∀ i, fr_cls i = 1 → s' i = s i) (hu : ∀ x ∈ fs_tab, wc_I u' F x.1 = wc_I u F x.1) : FRs F u' s' := by
  intro x hx
  rw [hu x hx, hs _ (fs_cls x hx)]
  exact h x hx
/-- neighbours: the component's pairs, the twin's square -/
def FRm (F : Nat) (u : CS) (s : Nat → Int32) : Prop := ∃ l : List (Nat × Nat), s 2 = Int32.ofNat l.length ∧ l.length ≤ 60 ∧
  (∀ (i : Nat) (x : Nat × Nat), l[i]? = some x → wc_A u (F + 12) i = Int32.ofNat x.1 ∧ wc_A u (F + 13) i = Int32.ofNat x.2 ∧ x.1 ≠ x.2 ∧ (x.1 : Int) < (s 1).toInt ∧ (x.2 : Int) < (s 1).toInt) ∧
  l.Pairwise (fun x y => ¬ x = y ∧ ¬ x = (y.2, y.1)) ∧ ∀ a b : Nat, a < 24 → b < 24 → s (352 + 24 * a + b) = if (a, b) ∈ l ∨ (b, a) ∈ l then 1 else 0
/-- hauls: a number, or far -/
def FRh (F : Nat) (u : CS) (s : Nat → Int32) : Prop := ∀ b : Nat, b < 6 → (∃ d : Nat, d ≤ 200000 ∧ wc_A u (F + 17) b = Int32.ofNat d ∧ s (4530 + b) = Int32.ofNat d) ∨ (wc_A u (F + 17) b = 100000000 ∧ s (4530 + b) = 999999)
/-- a parcel -/
def LotR (u : CS) (q : Nat) (s : Nat → Int32) (p : Nat) : Prop :=
  ((wc_T u q = some (.inl 8) ∧ s (960 + 6 * p + 1) = 0 ∧ s (960 + 6 * p + 5) = -1) ∨ (wc_T u q = some (.inl 16) ∧ s (960 + 6 * p + 1) = 1 ∧ wc_I u q 3 = s (960 + 6 * p + 5)) ∨ (wc_T u q = some (.inl 9) ∧ s (960 + 6 * p + 1) = 2 ∧ s (960 + 6 * p + 5) = -1)) ∧
  wc_I u q 0 = s (960 + 6 * p + 2) ∧ wc_I u q 1 = s (960 + 6 * p + 3) ∧ wc_I u q 2 = s (960 + 6 * p + 4) ∧ 0 ≤ (s (960 + 6 * p + 3)).toInt ∧ (s (960 + 6 * p + 3)).toInt ≤ 23
def FRp (F : Nat) (u : CS) (s : Nat → Int32) : Prop := ∀ p : Nat, p < 60 → (wc_Q u (F + 22) p = some (F + 38 + p) ∧ wc_T u (F + 38 + p) = some (.inl 2)) ∧ ((wc_P u (F + 38 + p) 0 = none ∧ s (960 + 6 * p) = 0) ∨ ∃ q : Nat, wc_P u (F + 38 + p) 0 = some q ∧ s (960 + 6 * p) = 1 ∧ 362 ≤ q ∧ q < wc_z u ∧ LotR u q s p)
/-- a part's object, by depth -/
def Rep (u : CS) : Nat → Ex → Nat → Prop
  | 0, _, _ => False
  | d + 1, f, q => (362 ≤ q ∧ q < wc_z u) ∧ ((wc_T u q = some (.inl 12) ∧ f = ex_num (wc_I u q 0)) ∨ (wc_T u q = some (.inl 13) ∧ ∃ w, w < 10 ∧ wc_I u q 0 = Int32.ofNat w ∧ f = ex_nam w) ∨
    (wc_T u q = some (.inl 14) ∧ ∃ a e, wc_P u q 0 = some a ∧ Rep u d e a ∧ f = ex_neg e) ∨ (wc_T u q = some (.inl 11) ∧ ∃ a e, wc_P u q 0 = some a ∧ Rep u d e a ∧ f = ex_not e) ∨
    (wc_T u q = some (.inl 15) ∧ ∃ c a b e1 e2, wc_I u q 0 = Int32.ofNat c ∧ c < 128 ∧ wc_P u q 1 = some a ∧ wc_P u q 2 = some b ∧ Rep u d e1 a ∧ Rep u d e2 b ∧ f = ex_two c e1 e2))
def IsPart (u : CS) (q : Nat) : Prop := wc_T u q = some (.inl 12) ∨ wc_T u q = some (.inl 13) ∨ wc_T u q = some (.inl 14) ∨ wc_T u q = some (.inl 11) ∨ wc_T u q = some (.inl 15)
theorem Rep.keep {u u' : CS} (hz : wc_z u ≤ wc_z u') (hs : ∀ q, 362 ≤ q → q < wc_z u → IsPart u q → Sm u u' q) : ∀ {d : Nat} {f : Ex} {q : Nat}, Rep u d f q → Rep u' d f q
  | 0, _, _, h => h.elim
  | d + 1, f, q, h => by
    obtain ⟨hq, h⟩ := h
    refine ⟨⟨hq.1, Nat.lt_of_lt_of_le hq.2 hz⟩, ?_⟩
    rcases h with ⟨h1, h2⟩ | ⟨h1, w, h2, h3, h4⟩ | ⟨h1, a, e, h2, h3, h4⟩ | ⟨h1, a, e, h2, h3, h4⟩ | ⟨h1, c, a, b, e1, e2, h2, h3, h4, h5, h6, h7, h8⟩
    · have k := hs q hq.1 hq.2 (Or.inl h1)
      exact Or.inl ⟨by rw [k.2.2.2.2.2.2]; exact h1, by rw [k.1]; exact h2⟩
    · have k := hs q hq.1 hq.2 (Or.inr (Or.inl h1))
      exact Or.inr (Or.inl ⟨by rw [k.2.2.2.2.2.2]; exact h1, w, h2, by rw [k.1]; exact h3, h4⟩)
    · have k := hs q hq.1 hq.2 (Or.inr (Or.inr (Or.inl h1)))
      exact Or.inr (Or.inr (Or.inl ⟨by rw [k.2.2.2.2.2.2]; exact h1, a, e, by rw [k.2.2.2.2.1]; exact h2, Rep.keep hz hs h3, h4⟩))
    · have k := hs q hq.1 hq.2 (Or.inr (Or.inr (Or.inr (Or.inl h1))))
      exact Or.inr (Or.inr (Or.inr (Or.inl ⟨by rw [k.2.2.2.2.2.2]; exact h1, a, e, by rw [k.2.2.2.2.1]; exact h2, Rep.keep hz hs h3, h4⟩)))
    · have k := hs q hq.1 hq.2 (Or.inr (Or.inr (Or.inr (Or.inr h1))))
      exact Or.inr (Or.inr (Or.inr (Or.inr ⟨by rw [k.2.2.2.2.2.2]; exact h1, c, a, b, e1, e2, by rw [k.1]; exact h2, h3, by rw [k.2.2.2.2.1]; exact h4, by rw [k.2.2.2.2.1]; exact h5, Rep.keep hz hs h6, Rep.keep hz hs h7, h8⟩)))
/-- a line's object stands for a line -/
def LnO (u : CS) (q : Nat) (ln : Ln) : Prop := match ln with
  | .inl n => wc_I u q 0 = 8 ∧ wc_I u q 3 = Int32.ofNat n
  | .inr (k, e, w) => wc_I u q 0 = Int32.ofNat k ∧ k < 8 ∧ wc_I u q 3 = -1 ∧ (∃ a, wc_P u q 1 = some a ∧ Rep u 150 e a) ∧ (match w with
    | none => wc_P u q 2 = none
    | some e2 => ∃ a, wc_P u q 2 = some a ∧ Rep u 150 e2 a)
/-- what a line's text in the row says -/
def LnS (s : Nat → Int32) (k : Nat) (ln : Ln) : Prop := ∃ m : Nat, m ≤ 120 ∧ s (1320 + 125 * k + 4) = Int32.ofNat m ∧ (∀ i, i < m → 0 ≤ (s (1320 + 125 * k + 5 + i)).toInt ∧ (s (1320 + 125 * k + 5 + i)).toInt ≤ 255) ∧
  ap_line (fun i => (s (1320 + 125 * k + 5 + i)).toNatClampNeg) m = some (.ok ln) ∧ (match ln with
    | .inl n => s (1320 + 125 * k) = 8 ∧ s (1320 + 125 * k + 3) = Int32.ofNat n
    | .inr (key, _, _) => s (1320 + 125 * k) = Int32.ofNat key ∧ s (1320 + 125 * k + 3) = -1)
def FRl (F : Nat) (u : CS) (s : Nat → Int32) : Prop := ∀ k : Nat, k < 16 → (k : Int) < (s 4).toInt → ∃ (q : Nat) (ln : Ln), wc_Q u (F + 24) k = some q ∧ 362 ≤ q ∧ q < wc_z u ∧ wc_T u q = some (.inl 5) ∧ LnO u q ln ∧ LnS s k ln
def FRb (F : Nat) (u : CS) (b : Nat → Int64) : Prop := ∀ k : Nat, k < 8 → wc_B u (F + 23) k = b k
/-- what holds across cells -/
def FRx (s : Nat → Int32) : Prop :=
  (∀ k : Nat, k < 24 → (k : Int) < (s 1).toInt → 1 ≤ (s (16 + 14 * k + 4)).toInt) ∧
  (∀ k : Nat, k < 24 → s (16 + 14 * k + 6) = 0 → s (16 + 14 * k + 5) = 0) ∧
  (∀ k w : Nat, k < 24 → (s 1).toInt ≤ (k : Int) → w < 12 → s (16 + 14 * k + w) = 0) ∧
  (∀ i : Nat, i < 30 → (i : Int) < (s 5).toInt → s (3320 + 3 * i + 1) = 2 → (s (3320 + 3 * i + 2)).toInt ≤ 3) ∧
  (∀ i : Nat, i < 30 → (i : Int) < (s 5).toInt → (s (3320 + 3 * i + 0)).toInt < (s 1).toInt) ∧
  (∀ v : Nat, v < 8 → (s (928 + 4 * v + 3)).toInt ≤ 999000 * (s 0).toInt) ∧
  (∀ v : Nat, v < 8 → (s 3).toInt ≤ (v : Int) → s (928 + 4 * v + 3) = 0)
def FR (F : Nat) (u : CS) (s : Nat → Int32) (b : Nat → Int64) : Prop := FRt F u s ∧ FRs F u s ∧ FRm F u s ∧ FRh F u s ∧ FRp F u s ∧ FRl F u s ∧ FRb F u b ∧ FRx s
def FR0 (F : Nat) (u : CS) (s : Nat → Int32) (b : Nat → Int64) : Prop := FRt F u s ∧ FRs F u s ∧ FRm F u s ∧ FRh F u s ∧ FRp F u s ∧ FRl F u s ∧ FRb F u b
section FRa
variable {F : Nat} {u : CS} {s : Nat → Int32} {b : Nat → Int64}
theorem FR.t (h : FR F u s b) : FRt F u s := h.1
theorem FR.n (h : FR F u s b) : FRs F u s := h.2.1
theorem FR.m (h : FR F u s b) : FRm F u s := h.2.2.1
theorem FR.h (h : FR F u s b) : FRh F u s := h.2.2.2.1
theorem FR.p (h : FR F u s b) : FRp F u s := h.2.2.2.2.1
theorem FR.l (h : FR F u s b) : FRl F u s := h.2.2.2.2.2.1
theorem FR.bk (h : FR F u s b) : FRb F u b := h.2.2.2.2.2.2.1
theorem FR.x (h : FR F u s b) : FRx s := h.2.2.2.2.2.2.2
theorem FR0.t (h : FR0 F u s b) : FRt F u s := h.1
theorem FR0.n (h : FR0 F u s b) : FRs F u s := h.2.1
theorem FR0.m (h : FR0 F u s b) : FRm F u s := h.2.2.1
theorem FR0.h (h : FR0 F u s b) : FRh F u s := h.2.2.2.1
theorem FR0.p (h : FR0 F u s b) : FRp F u s := h.2.2.2.2.1
theorem FR0.l (h : FR0 F u s b) : FRl F u s := h.2.2.2.2.2.1
theorem FR0.bk (h : FR0 F u s b) : FRb F u b := h.2.2.2.2.2.2
theorem FR.o (h : FR F u s b) : FR0 F u s b := ⟨h.t, h.n, h.m, h.h, h.p, h.l, h.bk⟩
theorem FR0.mk (h : FR0 F u s b) (hx : FRx s) : FR F u s b := ⟨h.t, h.n, h.m, h.h, h.p, h.l, h.bk, hx⟩
end FRa
/-- the places of a forest -/
def InF (F q : Nat) : Prop := F ≤ q ∧ q < F + 98
theorem fr_plc : ∀ x ∈ fr_tab, 0 < (fe_p x) ∧ (fe_p x) < 38 ∧ (fe_p x) ≠ 12 ∧ (fe_p x) ≠ 13 ∧ (fe_p x) ≠ 17 ∧ (fe_p x) ≠ 22 ∧ (fe_p x) ≠ 23 ∧ (fe_p x) ≠ 24 ∧ (fe_p x) ≠ 36 ∧ (fe_p x) ≠ 37 := by decide
theorem LnO.keep {u u' : CS} {q : Nat} {ln : Ln} (hz : wc_z u ≤ wc_z u') (hq : Sm u u' q) (hs : ∀ q, 362 ≤ q → q < wc_z u → IsPart u q → Sm u u' q) (h : LnO u q ln) : LnO u' q ln := by
  rcases ln with n | ⟨k, e, w⟩
  · exact ⟨by rw [hq.1]; exact h.1, by rw [hq.1]; exact h.2⟩
  · obtain ⟨h1, h2, h3, ⟨a, h5, h6⟩, h7⟩ := h
    refine ⟨by rw [hq.1]; exact h1, h2, by rw [hq.1]; exact h3, ⟨a, by rw [hq.2.2.2.2.1]; exact h5, Rep.keep hz hs h6⟩, ?_⟩
    cases w with
    | none =>
      show wc_P u' q 2 = none
      rw [hq.2.2.2.2.1]; exact h7
    | some e2 =>
      obtain ⟨b, h9, h10⟩ := h7
      exact ⟨b, by rw [hq.2.2.2.2.1]; exact h9, Rep.keep hz hs h10⟩
/-- the forest stays what it is where its places and the made objects stay -/
theorem FR.keep2 {F : Nat} {u u' : CS} {s : Nat → Int32} {b : Nat → Int64} (h : FR F u s b) (hz : wc_z u ≤ wc_z u') (hs : ∀ q, InF F q ∨ (362 ≤ q ∧ q < wc_z u ∧ (wc_T u q = some (.inl 5) ∨ IsPart u q)) ∨ (362 ≤ q ∧ q < wc_z u ∧ ∃ p, p < 60 ∧ wc_P u (F + 38 + p) 0 = some q) → Sm u u' q) : FR F u' s b := by
  have hf : ∀ p, p < 98 → Sm u u' (F + p) := fun p hp => hs _ (Or.inl ⟨by omega, by omega⟩)
  refine ⟨h.t.cg (fun _ _ => rfl) (fun x hx => (hf (fe_p x) (by have := fr_plc x hx; omega)).2.2.1), h.n.cg (fun _ _ => rfl) (fun x hx => by have := (hf 0 (by omega)).1; rw [Nat.add_zero] at this; rw [this]), ?_, ?_, ?_, ?_, ?_, h.x⟩
  · obtain ⟨l, h1, h2, h3, h4, h5⟩ := h.m
    exact ⟨l, h1, h2, fun i x hi => by rw [(hf 12 (by omega)).2.2.1, (hf 13 (by omega)).2.2.1]; exact h3 i x hi, h4, h5⟩
  · intro b hb
    rw [(hf 17 (by omega)).2.2.1]
    exact h.h b hb
  · intro p hp
    have k := hf (38 + p) (by omega)
    rw [← Nat.add_assoc] at k
    obtain ⟨g0, g⟩ := h.p p hp
    refine ⟨⟨by rw [(hf 22 (by omega)).2.2.2.2.2.1]; exact g0.1, by rw [k.2.2.2.2.2.2]; exact g0.2⟩, ?_⟩
    rcases g with ⟨h1, h2⟩ | ⟨q, h1, h2, h3, h4, h5⟩
    · exact Or.inl ⟨by rw [k.2.2.2.2.1]; exact h1, h2⟩
    · have kq := hs q (Or.inr (Or.inr ⟨h3, h4, p, hp, h1⟩))
      refine Or.inr ⟨q, by rw [k.2.2.2.2.1]; exact h1, h2, h3, Nat.lt_of_lt_of_le h4 hz, ?_⟩
      unfold LotR
      rw [kq.1, kq.2.2.2.2.2.2]
      exact h5
  · intro k hk hk2
    obtain ⟨q, ln, h1, h2, h3, h4, h5, h6⟩ := h.l k hk hk2
    have kq := hs q (Or.inr (Or.inl ⟨h2, h3, Or.inl h4⟩))
    exact ⟨q, ln, by rw [(hf 24 (by omega)).2.2.2.2.2.1]; exact h1, h2, Nat.lt_of_lt_of_le h3 hz, by rw [kq.2.2.2.2.2.2]; exact h4, h5.keep hz kq (fun q a b c => hs q (Or.inr (Or.inl ⟨a, b, Or.inr c⟩))), h6⟩
  · intro k hk
    rw [(hf 23 (by omega)).2.2.2.1]
    exact h.bk k hk
theorem FR.keep {F : Nat} {u u' : CS} {s : Nat → Int32} {b : Nat → Int64} (h : FR F u s b) (hz : wc_z u ≤ wc_z u') (hs : ∀ q, InF F q ∨ (362 ≤ q ∧ q < wc_z u ∧ ∃ c, wc_T u q = some (.inl c)) → Sm u u' q) : FR F u' s b := by
  refine h.keep2 hz (fun q hq => hs q ?_)
  rcases hq with c | ⟨a, b, c⟩ | ⟨a, b, p, hp, c⟩
  · exact Or.inl c
  · refine Or.inr ⟨a, b, ?_⟩
    rcases c with e | e | e | e | e | e <;> exact ⟨_, e⟩
  · refine Or.inr ⟨a, b, ?_⟩
    rcases (h.p p hp).2 with ⟨e, -⟩ | ⟨q', e1, -, -, -, e5⟩
    · rw [e] at c; cases c
    · cases Option.some.inj (c.symm.trans e1)
      rcases e5.1 with e | e | e <;> exact ⟨_, e.1⟩
