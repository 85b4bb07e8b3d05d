/-! PLAIN LAW 7: both sides answer alike; refusals; what is in a range -/
abbrev inB (a : Int32) (lo hi : Int) : Prop := lo ≤ a.toInt ∧ a.toInt ≤ hi
theorem lg_lt {x y : Int64} : lg_cmp x y < 0 ↔ x.toInt < y.toInt := by
  unfold lg_cmp
  rw [← Int64.lt_iff_toInt_lt]
  by_cases c : x > y
  · rw [if_pos c]
    exact ⟨fun h => absurd h (by decide), fun h => (Int64.lt_irrefl (Int64.lt_trans h c)).elim⟩
  · rw [if_neg c]
    by_cases d : x = y
    · rw [if_pos d, d]; exact ⟨fun h => absurd h (by decide), fun h => (Int64.lt_irrefl h).elim⟩
    · rw [if_neg d]
      exact ⟨fun _ => Int64.lt_of_le_of_ne (Int64.not_lt.mp c) d, fun _ => by decide⟩
theorem lg_gt {x y : Int64} : 0 < lg_cmp x y ↔ y.toInt < x.toInt := by
  unfold lg_cmp
  rw [← Int64.lt_iff_toInt_lt]
  by_cases c : x > y
  · rw [if_pos c]; exact ⟨fun _ => c, fun _ => by decide⟩
  · rw [if_neg c]
    refine ⟨fun h => ?_, fun h => absurd h c⟩
    by_cases d : x = y
    · rw [if_pos d] at h; exact absurd h (by decide)
    · rw [if_neg d] at h; exact absurd h (by decide)
theorem lg_eq {x y : Int64} : lg_cmp x y = 0 ↔ x = y := by
  unfold lg_cmp
  by_cases c : x > y
  · rw [if_pos c]; exact ⟨fun h => absurd h (by decide), fun h => (Int64.lt_irrefl (h ▸ c)).elim⟩
  · rw [if_neg c]
    by_cases d : x = y
    · rw [if_pos d]; exact ⟨fun _ => d, fun _ => rfl⟩
    · rw [if_neg d]; exact ⟨fun h => absurd h (by decide), fun h => absurd h d⟩
theorem pl_01 {p : Prop} {i : Decidable p} : ((if p then (1 : Int32) else 0) = 0) ↔ ¬ p := by
  by_cases c : p
  · rw [if_pos c]; exact ⟨fun h => absurd h (by decide), fun h => absurd c h⟩
  · rw [if_neg c]; exact ⟨fun _ => c, fun _ => rfl⟩
theorem pl_bl {β : Type} {p : Prop} {i : Decidable p} (K : Option β) : o_bl (if p then (1 : Int32) else 0) K = K := by
  unfold o_bl
  by_cases c : p
  · rw [if_pos c, if_pos (Or.inr rfl)]
  · rw [if_neg c, if_pos (Or.inl rfl)]
theorem pl_bl0 {β : Type} (K : Option β) : o_bl (0 : Int32) K = K := rfl
theorem pl_bl1 {β : Type} (K : Option β) : o_bl (1 : Int32) K = K := rfl
theorem pl_id {α γ : Type} (x : Option (α × γ)) : o_bd2 x (fun r u => some (r, u)) = x := by
  cases x <;> rfl
theorem c_in (a : Int32) (lo hi : Int64) : fX0_isIn (Int32.toInt64 a) lo hi = some (if inB a lo.toInt hi.toInt then 1 else 0) := by
  unfold fX0_isIn fX0_isIn_17 fX0_isIn_18
  have e : (Int32.toInt64 a).toInt = a.toInt := Int32.toInt_toInt64 a
  by_cases c : lg_cmp (Int32.toInt64 a) lo < 0
  · rw [if_pos c]
    rw [lg_lt, e] at c
    rw [if_neg (fun h => by omega)]; rfl
  · rw [if_neg c]
    rw [lg_lt, e] at c
    by_cases d : 0 < lg_cmp (Int32.toInt64 a) hi
    · rw [if_pos d]
      rw [lg_gt, e] at d
      rw [if_neg (fun h => by omega)]; rfl
    · rw [if_neg d]
      rw [lg_gt, e] at d
      rw [if_pos ⟨by omega, by omega⟩]; rfl
theorem t_in (a lo hi : Int32) : fX7_in a lo hi = some (if inB a lo.toInt hi.toInt then 1 else 0) := by
  unfold fX7_in fX7_in_14 fX7_in_15
  simp only [Int32.lt_iff_toInt_lt]
  by_cases c : a.toInt < lo.toInt
  · rw [if_pos c, if_neg (fun h => by omega)]; rfl
  · rw [if_neg c]
    by_cases d : hi.toInt < a.toInt
    · rw [if_pos d, if_neg (fun h => by omega)]; rfl
    · rw [if_neg d, if_pos ⟨by omega, by omega⟩]; rfl
/-- both answer alike, and stay alike; the component takes at most k cells -/
def Same {α : Type} (k : Nat) (u : CS) (x : Option (α × CS)) (y : Option (α × TS)) : Prop := ∃ r u1 t1, x = some (r, u1) ∧ y = some (r, t1) ∧ RR u1 t1 ∧ wc_z u ≤ wc_z u1 ∧ wc_z u1 ≤ wc_z u + k
section PL7
variable {u u1 : CS} {t t1 : TS} {N : Nat}
theorem Same.ans {α : Type} {r : α} (h : RR u t) : Same 0 u (some (r, u)) (some (r, t)) := ⟨r, u, t, rfl, rfl, h, Nat.le_refl _, Nat.le_refl _⟩
theorem Same.mono {α : Type} {k k' : Nat} {x : Option (α × CS)} {y : Option (α × TS)} (h : Same k u x y) (hk : k ≤ k') : Same k' u x y := by
  obtain ⟨r, u1, t1, a, b, c, d, e⟩ := h
  exact ⟨r, u1, t1, a, b, c, d, by omega⟩
/-- what is counted of refusals has changed -/
theorem RR.rfs (h : RR u t) {k : Nat} (hk : k < 9) {v : Int32} : RR (wc_uA u 2 k v) (mt_uA t 3 k v) := by
  have hs : ∀ q, q ≠ 2 → Sm u (wc_uA u 2 k v) q := fun q hq => Sm.uA hq
  refine ⟨h.f.keep (Nat.le_refl _) (fun q hq => hs q (by unfold InF at hq; omega)), h.w, ?_, ?_, ?_, ?_, ?_, h.o⟩
  · refine ⟨h.i.1, ?_⟩
    rcases h.i.2 with e | ⟨e1, e2, e3⟩
    · exact Or.inl e
    · refine Or.inr ⟨e1, e2.keep (Nat.le_refl _) (fun q hq => hs q (by unfold InF at hq; omega)), ?_⟩
      rw [(hs 333 (by omega)).2.2.1]; exact e3
  · rw [(hs 332 (by omega)).2.2.1]; exact h.k
  · refine ⟨fun i hi => ?_, h.rf.2⟩
    show (if 2 = 2 ∧ i = k then v else wc_A u 2 i) = (if 3 = 3 then upd (t.2.2.1 3) k v else t.2.2.1 3) i
    rw [if_pos rfl]
    unfold upd
    by_cases c : i = k
    · rw [if_pos ⟨rfl, c⟩, if_pos c]
    · rw [if_neg (fun e => c e.2), if_neg c]; exact h.rf.1 i hi
  · obtain ⟨⟨m, m1, m2, m3, m4⟩, w⟩ := h.tp
    refine ⟨⟨m, m1, m2, m3, fun i hi => ?_⟩, fun w' l hl j x hx => ?_⟩
    · rw [(hs 298 (by omega)).2.2.1]; exact m4 i hi
    · rw [(hs (301 + w') (by omega)).2.2.1]; exact w w' l hl j x hx
  · refine ⟨?_, h.ro.2⟩
    rcases h.ro.1 with e | ⟨q, m, e1, e2, e3, e4, e5, e6⟩
    · exact Or.inl e
    · refine Or.inr ⟨q, m, e1, e2, e3, e4, e5, fun i hi => ?_⟩
      obtain ⟨r1, r2, -⟩ := h.ro.2 m q e3 e5
      rw [(hs q (by omega)).2.2.1]; exact e6 i hi
theorem neg_ofNat (k : Nat) : -(-(Int32.ofNat k)) = Int32.ofNat k := Int32.neg_neg
theorem Same.ref (h : RR u t) {k : Nat} (hk : k < 9) : Same 0 u (fX0_refuse N u (-(Int32.ofNat k))) (fX7_refuse N t (-(Int32.ofNat k))) := by
  unfold fX0_refuse fX7_refuse
  simp (disch := omega) only [Int32.neg_neg, pl_ald, pl_ast, pl_nm, pl_nc]
  rw [← h.rf.1 k hk]
  exact ⟨_, _, _, rfl, rfl, h.rfs hk, Nat.le_refl _, Nat.le_refl _⟩
theorem Same.refL (h : RR u t) {m : Nat} (hk : OfNat.ofNat m < 9) : Same 0 u (fX0_refuse N u (-(OfNat.ofNat m : Int32))) (fX7_refuse N t (-(OfNat.ofNat m : Int32))) := Same.ref h hk
theorem Same.hus (h : RR u t) {k : Nat} (hk : k < 9) : Same 0 u (fX0_refuseAsNought N u (-(Int32.ofNat k))) (fX7_hush N t (-(Int32.ofNat k))) := by
  unfold fX0_refuseAsNought fX7_hush
  simp (disch := omega) only [Int32.neg_neg, pl_ald, pl_ast, pl_nm, pl_nc]
  rw [← h.rf.1 k hk]
  exact ⟨_, _, _, rfl, rfl, h.rfs hk, Nat.le_refl _, Nat.le_refl _⟩
theorem Same.husL (h : RR u t) {m : Nat} (hk : OfNat.ofNat m < 9) : Same 0 u (fX0_refuseAsNought N u (-(OfNat.ofNat m : Int32))) (fX7_hush N t (-(OfNat.ofNat m : Int32))) := Same.hus h hk
end PL7
