/-! PLAIN LAW 5: the forest's relation under a change of one cell on both sides -/
theorem cls_m {a b : Nat} (ha : a < 24) (hb : b < 24) : fr_cls (352 + 24 * a + b) = 2 := by
  unfold fr_cls
  rw [if_neg (by omega), if_neg (by omega), if_neg (by omega), if_neg (by omega), if_pos (by omega)]
theorem cls_h {b : Nat} (hb : b < 6) : fr_cls (4530 + b) = 5 := by
  unfold fr_cls
  rw [if_neg (by omega), if_neg (by omega), if_neg (by omega), if_neg (by omega), if_neg (by omega), if_neg (by omega), if_neg (by omega), if_neg (by omega), if_neg (by omega), if_pos (by omega)]
theorem cls_p {p w : Nat} (hp : p < 60) (hw : w < 6) : fr_cls (960 + 6 * p + w) = 3 := by
  unfold fr_cls
  rw [if_neg (by omega), if_neg (by omega), if_neg (by omega), if_neg (by omega), if_neg (by omega), if_neg (by omega), if_pos (by omega)]
theorem cls_l {k w : Nat} (hk : k < 16) (hw : w < 125) (h1 : w ≠ 1) (h2 : w ≠ 2) : fr_cls (1320 + 125 * k + w) = 4 := by
  unfold fr_cls
  rw [if_neg (by omega), if_neg (by omega), if_neg (by omega), if_neg (by omega), if_neg (by omega), if_neg (by omega), if_neg (by omega), if_pos (by omega), if_neg (by omega)]
theorem cls_t {k w : Nat} (hk : k < 24) (hw : w < 12) : fr_cls (16 + 14 * k + w) = 0 := by
  unfold fr_cls
  rw [if_neg (by omega), if_neg (by omega), if_neg (by omega), if_pos (by omega), if_pos (by omega)]
section PL5
variable {F : Nat} {u u' : CS} {s s' : Nat → Int32} {b b' : Nat → Int64}
theorem FRm.cg (h : FRm F u s) (h1 : s' 1 = s 1) (h2 : s' 2 = s 2) (hs : ∀ i, fr_cls i = 2 → s' i = s i) (ha : wc_A u' (F + 12) = wc_A u (F + 12)) (hb : wc_A u' (F + 13) = wc_A u (F + 13)) : FRm F u' s' := by
  obtain ⟨l, q1, q2, q3, q4, q5⟩ := h
  refine ⟨l, h2.trans q1, q2, fun i x hi => ?_, q4, fun a b ha hb => ?_⟩
  · rw [ha, hb, h1]; exact q3 i x hi
  · rw [hs _ (cls_m ha hb)]; exact q5 a b ha hb
theorem FRh.cg (h : FRh F u s) (hs : ∀ i, fr_cls i = 5 → s' i = s i) (ha : wc_A u' (F + 17) = wc_A u (F + 17)) : FRh F u' s' := by
  intro b hb
  rw [ha, hs _ (cls_h hb)]
  exact h b hb
theorem LotR.sh {q p : Nat} (h : LotR u q s p) : wc_T u q = some (.inl 8) ∨ wc_T u q = some (.inl 16) ∨ wc_T u q = some (.inl 9) := by
  rcases h.1 with e | e | e
  · exact Or.inl e.1
  · exact Or.inr (Or.inl e.1)
  · exact Or.inr (Or.inr e.1)
theorem FRp.cg (h : FRp F u s) (hs : ∀ i, fr_cls i = 3 → s' i = s i) (hz : wc_z u ≤ wc_z u') (hp : ∀ p, p < 60 → wc_P u' (F + 38 + p) = wc_P u (F + 38 + p) ∧ wc_T u' (F + 38 + p) = wc_T u (F + 38 + p)) (hQ : wc_Q u' (F + 22) = wc_Q u (F + 22)) (hq : ∀ q, 362 ≤ q → q < wc_z u → (wc_T u q = some (.inl 8) ∨ wc_T u q = some (.inl 16) ∨ wc_T u q = some (.inl 9)) → wc_I u' q = wc_I u q ∧ wc_T u' q = wc_T u q) : FRp F u' s' := by
  intro p hp1
  have c0 := hs (960 + 6 * p) (cls_p (w := 0) hp1 (by omega))
  rw [(hp p hp1).1, (hp p hp1).2, hQ, c0]
  refine ⟨(h p hp1).1, ?_⟩
  rcases (h p hp1).2 with ⟨h1, h2⟩ | ⟨q, h1, h2, h3, h4, h5⟩
  · exact Or.inl ⟨h1, h2⟩
  · refine Or.inr ⟨q, h1, h2, h3, Nat.lt_of_lt_of_le h4 hz, ?_⟩
    have k := hq q h3 h4 h5.sh
    unfold LotR
    rw [k.1, k.2, hs _ (cls_p hp1 (by omega)), hs _ (cls_p hp1 (by omega)), hs _ (cls_p hp1 (by omega)), hs _ (cls_p hp1 (by omega)), hs _ (cls_p hp1 (by omega))]
    exact h5
theorem LnS.cg {k : Nat} {ln : Ln} (hk : k < 16) (h : LnS s k ln) (hs : ∀ i, fr_cls i = 4 → s' i = s i) : LnS s' k ln := by
  obtain ⟨m, h1, h2, h3, h4, h5⟩ := h
  have e : ∀ w, w < 125 → w ≠ 1 → w ≠ 2 → s' (1320 + 125 * k + w) = s (1320 + 125 * k + w) := fun w a b c => hs _ (cls_l hk a b c)
  have e5 : ∀ i, i < 120 → s' (1320 + 125 * k + 5 + i) = s (1320 + 125 * k + 5 + i) := fun i hi => by
    rw [Nat.add_assoc (1320 + 125 * k) 5 i]; exact e (5 + i) (by omega) (by omega) (by omega)
  refine ⟨m, h1, (e 4 (by omega) (by omega) (by omega)).trans h2, fun i hi => by rw [e5 i (by omega)]; exact h3 i hi, ?_, ?_⟩
  · rw [← h4]
    exact ap_line_cg (fun i hi => by rw [e5 i (by omega)])
  · have e0 := e 0 (by omega) (by omega) (by omega)
    rw [Nat.add_zero] at e0
    rcases ln with n | ⟨k', ex, w⟩
    · exact ⟨e0.trans h5.1, (e 3 (by omega) (by omega) (by omega)).trans h5.2⟩
    · exact ⟨e0.trans h5.1, (e 3 (by omega) (by omega) (by omega)).trans h5.2⟩
theorem FRl.cg (h : FRl F u s) (h4 : s' 4 = s 4) (hs : ∀ i, fr_cls i = 4 → s' i = s i) (hz : wc_z u ≤ wc_z u') (hQ : wc_Q u' (F + 24) = wc_Q u (F + 24)) (hq : ∀ q, 362 ≤ q → q < wc_z u → (wc_T u q = some (.inl 5) ∨ IsPart u q) → Sm u u' q) : FRl F u' s' := by
  intro k hk hk2
  rw [h4] at hk2
  obtain ⟨q, ln, a1, a2, a3, a4, a5, a6⟩ := h k hk hk2
  have kq := hq q a2 a3 (Or.inl a4)
  exact ⟨q, ln, by rw [hQ]; exact a1, a2, Nat.lt_of_lt_of_le a3 hz, by rw [kq.2.2.2.2.2.2]; exact a4, a5.keep hz kq (fun q x y z => hq q x y (Or.inr z)), a6.cg hk hs⟩
/-- a cell of the table changes on both sides -/
theorem FR0.putT (hF : F ≤ 199) (h : FR0 F u s b) {k j : Nat} {x : FrE} (hx : fr_tab[k]? = some x) (hj : j < fe_n x) {v : Int32} (h1 : fe_lo x ≤ v.toInt) (h2 : v.toInt ≤ fe_hi x) :
    FR0 F (wc_uA u (F + fe_p x) (fe_c x + fe_d x * j) v) (upd s (fe_b x + fe_e x * j) v) b := by
  have c0 := (fr_at hx hj).2.2.1
  have hs : ∀ i, fr_cls i ≠ 0 → upd s (fe_b x + fe_e x * j) v i = s i := fun i hi => by
    unfold upd
    rw [if_neg]
    intro e
    rw [e] at hi
    exact hi c0
  obtain ⟨p1, p2, p3, p4, p5, p6, p7, p8, -, -⟩ := fr_plc x (List.mem_of_getElem? hx)
  have hA : ∀ p, p ≠ fe_p x → wc_A (wc_uA u (F + fe_p x) (fe_c x + fe_d x * j) v) (F + p) = wc_A u (F + p) := fun p hp => vq2_ne (by omega)
  exact ⟨h.t.put hx hj h1 h2, h.n.cg (fun i hi => hs i (by omega)) (fun _ _ => rfl), h.m.cg (hs 1 (by decide)) (hs 2 (by decide)) (fun i hi => hs i (by omega)) (hA 12 (Ne.symm p3)) (hA 13 (Ne.symm p4)), h.h.cg (fun i hi => hs i (by omega)) (hA 17 (Ne.symm p5)),
    h.p.cg (fun i hi => hs i (by omega)) (Nat.le_refl _) (fun _ _ => ⟨rfl, rfl⟩) rfl (fun _ _ _ _ => ⟨rfl, rfl⟩), h.l.cg (hs 4 (by decide)) (fun i hi => hs i (by omega)) (Nat.le_refl _) rfl (fun q hq _ hk => Sm.uA (by omega)), h.bk⟩
theorem FR.putT (hF : F ≤ 199) (h : FR F u s b) {k j : Nat} {x : FrE} (hx : fr_tab[k]? = some x) (hj : j < fe_n x) {v : Int32} (h1 : fe_lo x ≤ v.toInt) (h2 : v.toInt ≤ fe_hi x) (hX : FRx (upd s (fe_b x + fe_e x * j) v)) :
    FR F (wc_uA u (F + fe_p x) (fe_c x + fe_d x * j) v) (upd s (fe_b x + fe_e x * j) v) b := (h.o.putT hF hx hj h1 h2).mk hX
theorem upd_eq {i : Nat} {v : Int32} : upd s i v i = v := by unfold upd; rw [if_pos rfl]
theorem upd_ne {i j : Nat} {v : Int32} (h : j ≠ i) : upd s i v j = s j := by unfold upd; rw [if_neg h]
/-- what holds across cells, under a change of a cell that is no single number -/
theorem FRx.up (h : FRx s) {i : Nat} {v : Int32} (c : 16 ≤ i)
    (acre : ∀ k, k < 24 → i = 16 + 14 * k + 4 → (k : Int) < (s 1).toInt → 1 ≤ v.toInt)
    (bare1 : ∀ k, k < 24 → i = 16 + 14 * k + 6 → v = 0 → s (16 + 14 * k + 5) = 0)
    (bare2 : ∀ k, k < 24 → i = 16 + 14 * k + 5 → s (16 + 14 * k + 6) = 0 → v = 0)
    (zero : ∀ k w, k < 24 → w < 12 → i = 16 + 14 * k + w → (s 1).toInt ≤ (k : Int) → v = 0)
    (told1 : ∀ m, m < 30 → i = 3320 + 3 * m + 1 → (m : Int) < (s 5).toInt → v = 2 → (s (3320 + 3 * m + 2)).toInt ≤ 3)
    (told2 : ∀ m, m < 30 → i = 3320 + 3 * m + 2 → (m : Int) < (s 5).toInt → s (3320 + 3 * m + 1) = 2 → v.toInt ≤ 3)
    (ordr : ∀ m, m < 30 → i = 3320 + 3 * m + 0 → (m : Int) < (s 5).toInt → v.toInt < (s 1).toInt)
    (owed : ∀ w, w < 8 → i = 928 + 4 * w + 3 → v.toInt ≤ 999000 * (s 0).toInt ∧ ((s 3).toInt ≤ (w : Int) → v = 0)) : FRx (upd s i v) := by
  have e0 : upd s i v 0 = s 0 := upd_ne (by omega)
  have e1 : upd s i v 1 = s 1 := upd_ne (by omega)
  have e5 : upd s i v 5 = s 5 := upd_ne (by omega)
  have e3 : upd s i v 3 = s 3 := upd_ne (by omega)
  unfold FRx
  rw [e0, e1, e5, e3]
  refine ⟨fun k hk h1 => ?_, fun k hk => ?_, fun k w hk h1 hw => ?_, fun m hm h1 => ?_, fun m hm h1 => ?_, fun w hw => ?_, fun w hw h1 => ?_⟩
  · by_cases d : 16 + 14 * k + 4 = i
    · rw [d, upd_eq]; exact acre k hk d.symm h1
    · rw [upd_ne d]; exact h.1 k hk h1
  · by_cases d : 16 + 14 * k + 6 = i
    · rw [d, upd_eq, upd_ne (by omega)]; exact bare1 k hk d.symm
    · by_cases d2 : 16 + 14 * k + 5 = i
      · rw [d2, upd_eq, upd_ne d]; exact bare2 k hk d2.symm
      · rw [upd_ne d, upd_ne d2]; exact h.2.1 k hk
  · by_cases d : 16 + 14 * k + w = i
    · rw [d, upd_eq]; exact zero k w hk hw d.symm h1
    · rw [upd_ne d]; exact h.2.2.1 k w hk h1 hw
  · by_cases d : 3320 + 3 * m + 1 = i
    · rw [d, upd_eq, upd_ne (by omega)]; exact told1 m hm d.symm h1
    · by_cases d2 : 3320 + 3 * m + 2 = i
      · rw [d2, upd_eq, upd_ne d]; exact told2 m hm d2.symm h1
      · rw [upd_ne d, upd_ne d2]; exact h.2.2.2.1 m hm h1
  · by_cases d : 3320 + 3 * m + 0 = i
    · rw [d, upd_eq]; exact ordr m hm d.symm h1
    · rw [upd_ne d]; exact h.2.2.2.2.1 m hm h1
  · by_cases d : 928 + 4 * w + 3 = i
    · rw [d, upd_eq]; exact (owed w hw d.symm).1
    · rw [upd_ne d]; exact h.2.2.2.2.2.1 w hw
  · by_cases d : 928 + 4 * w + 3 = i
    · rw [d, upd_eq]; exact (owed w hw d.symm).2 h1
    · rw [upd_ne d]; exact h.2.2.2.2.2.2 w hw h1
/-- a cell that none of it speaks of -/
theorem FRx.far (h : FRx s) {i : Nat} {v : Int32} (c : 16 ≤ i) (c1 : ∀ k w, k < 24 → w < 12 → i ≠ 16 + 14 * k + w) (c2 : i < 3320 ∨ 3410 ≤ i) (c3 : ∀ w, w < 8 → i ≠ 928 + 4 * w + 3) : FRx (upd s i v) :=
  h.up c (fun k hk e => absurd e (c1 k 4 hk (by omega))) (fun k hk e => absurd e (c1 k 6 hk (by omega))) (fun k hk e => absurd e (c1 k 5 hk (by omega))) (fun k w hk hw e => absurd e (c1 k w hk hw)) (fun m hm e => by omega) (fun m hm e => by omega) (fun m hm e => by omega) (fun w hw e => absurd e (c3 w hw))
theorem up2_eq {α : Type} {f : Nat → Nat → α} {n k : Nat} {x : α} : up2 f n k x n k = x := by unfold up2; rw [if_pos ⟨rfl, rfl⟩]
theorem up2_nk {α : Type} {f : Nat → Nat → α} {n k j : Nat} {x : α} (h : j ≠ k) : up2 f n k x n j = f n j := by unfold up2; rw [if_neg (fun c => h c.2)]
/-- a single number changes on both sides -/
theorem FR0.putS (hF : F ≤ 199) (h : FR0 F u s b) {x : Nat × Nat × Int × Int} (hx : x ∈ fs_tab) {v : Int32} (h1 : x.2.2.1 ≤ v.toInt) (h2 : v.toInt ≤ x.2.2.2) (hm : FRm F (wc_uI u F x.1 v) (upd s x.2.1 v)) (hl : FRl F (wc_uI u F x.1 v) (upd s x.2.1 v)) : FR0 F (wc_uI u F x.1 v) (upd s x.2.1 v) b := by
  have c0 := fs_cls x hx
  have hs : ∀ i, fr_cls i ≠ 1 → upd s x.2.1 v i = s i := fun i hi => upd_ne (fun e => by rw [e] at hi; exact hi c0)
  exact ⟨h.t.cg (fun i hi => hs i (by omega)) (fun _ _ => rfl), h.n.put hx h1 h2, hm, h.h.cg (fun i hi => hs i (by omega)) rfl, h.p.cg (fun i hi => hs i (by omega)) (Nat.le_refl _) (fun _ _ => ⟨rfl, rfl⟩) rfl (fun q hq _ _ => ⟨vq2_ne (by omega), rfl⟩), hl, h.bk⟩
theorem FR.putS (hF : F ≤ 199) (h : FR F u s b) {x : Nat × Nat × Int × Int} (hx : x ∈ fs_tab) {v : Int32} (h1 : x.2.2.1 ≤ v.toInt) (h2 : v.toInt ≤ x.2.2.2) (hm : FRm F (wc_uI u F x.1 v) (upd s x.2.1 v)) (hl : FRl F (wc_uI u F x.1 v) (upd s x.2.1 v)) (hX : FRx (upd s x.2.1 v)) : FR F (wc_uI u F x.1 v) (upd s x.2.1 v) b := (h.o.putS hF hx h1 h2 hm hl).mk hX
theorem FRm.put (h : FRm F u s) {f i : Nat} {v : Int32} (h1 : i ≠ 1) (h2 : i ≠ 2) (h3 : fr_cls i ≠ 2) : FRm F (wc_uI u F f v) (upd s i v) :=
  h.cg (upd_ne (Ne.symm h1)) (upd_ne (Ne.symm h2)) (fun j hj => upd_ne (fun e => h3 (e ▸ hj))) rfl rfl
theorem FRl.put (hF : F ≤ 199) (h : FRl F u s) {f i : Nat} {v : Int32} (h1 : i ≠ 4) (h3 : fr_cls i ≠ 4) : FRl F (wc_uI u F f v) (upd s i v) :=
  h.cg (upd_ne (Ne.symm h1)) (fun j hj => upd_ne (fun e => h3 (e ▸ hj))) (Nat.le_refl _) rfl (fun q hq _ _ => Sm.uI (by omega))
theorem upd_self {i : Nat} {v : Int32} (h : s i = v) : upd s i v = s := by
  funext j
  unfold upd
  by_cases c : j = i
  · rw [if_pos c, c, h]
  · rw [if_neg c]
/-- what holds across cells, under a change of single numbers -/
theorem FRx.lo (h : FRx s) (hs : ∀ i, 16 ≤ i → s' i = s i) (h0 : (s 0).toInt ≤ (s' 0).toInt) (h1 : s' 1 = s 1) (h3 : (s 3).toInt ≤ (s' 3).toInt) (h5 : (s' 5).toInt ≤ (s 5).toInt) : FRx s' := by
  unfold FRx
  rw [h1]
  refine ⟨fun k hk q => ?_, fun k hk => ?_, fun k w hk q hw => ?_, fun m hm q => ?_, fun m hm q => ?_, fun w hw => ?_, fun w hw q => ?_⟩
  · rw [hs _ (by omega)]; exact h.1 k hk q
  · rw [hs _ (by omega), hs _ (by omega)]; exact h.2.1 k hk
  · rw [hs _ (by omega)]; exact h.2.2.1 k w hk q hw
  · rw [hs _ (by omega), hs _ (by omega)]; exact h.2.2.2.1 m hm (by omega)
  · rw [hs _ (by omega)]; exact h.2.2.2.2.1 m hm (by omega)
  · rw [hs _ (by omega)]; exact Int.le_trans (h.2.2.2.2.2.1 w hw) (by omega)
  · rw [hs _ (by omega)]; exact h.2.2.2.2.2.2 w hw (by omega)
theorem FRx.sn (h : FRx s) {i : Nat} {v : Int32} (hi : i = 2 ∨ i = 4 ∨ i = 6 ∨ i = 7 ∨ i = 8 ∨ i = 9) : FRx (upd s i v) :=
  h.lo (fun j hj => upd_ne (by omega)) (by rw [upd_ne (by omega)]; omega) (upd_ne (by omega)) (by rw [upd_ne (by omega)]; omega) (by rw [upd_ne (by omega)]; omega)
theorem FRx.s0 (h : FRx s) {v : Int32} (hv : (s 0).toInt ≤ v.toInt) : FRx (upd s 0 v) :=
  h.lo (fun j hj => upd_ne (by omega)) (by rw [upd_eq]; exact hv) (upd_ne (by omega)) (by rw [upd_ne (by omega)]; omega) (by rw [upd_ne (by omega)]; omega)
theorem FRx.s3 (h : FRx s) {v : Int32} (hv : (s 3).toInt ≤ v.toInt) : FRx (upd s 3 v) :=
  h.lo (fun j hj => upd_ne (by omega)) (by rw [upd_ne (by omega)]; omega) (upd_ne (by omega)) (by rw [upd_eq]; exact hv) (by rw [upd_ne (by omega)]; omega)
theorem FRx.s5 (h : FRx s) {v : Int32} (hv : v.toInt ≤ (s 5).toInt) : FRx (upd s 5 v) :=
  h.lo (fun j hj => upd_ne (by omega)) (by rw [upd_ne (by omega)]; omega) (upd_ne (by omega)) (by rw [upd_ne (by omega)]; omega) (by rw [upd_eq]; exact hv)
/-- a single number, but stands, pairs, lines -/
theorem FR0.putN (hF : F ≤ 199) (h : FR0 F u s b) {f i : Nat} {lo hi : Int} (hx : (f, i, lo, hi) ∈ fs_tab) {v : Int32} (h1 : lo ≤ v.toInt) (h2 : v.toInt ≤ hi) (hi : i ≠ 1 ∧ i ≠ 2 ∧ i ≠ 4) : FR0 F (wc_uI u F f v) (upd s i v) b := by
  have c := fs_cls _ hx
  have c : fr_cls i = 1 := c
  exact h.putS hF hx h1 h2 (h.m.put hi.1 hi.2.1 (by omega)) (h.l.put hF hi.2.2 (by omega))
theorem FR.putN (hF : F ≤ 199) (h : FR F u s b) {f i : Nat} {lo hi : Int} (hx : (f, i, lo, hi) ∈ fs_tab) {v : Int32} (h1 : lo ≤ v.toInt) (h2 : v.toInt ≤ hi) (hi : i ≠ 1 ∧ i ≠ 2 ∧ i ≠ 4) (hX : FRx (upd s i v)) : FR F (wc_uI u F f v) (upd s i v) b := (h.o.putN hF hx h1 h2 hi).mk hX
theorem cls_lt {i : Nat} (hi : fr_cls i ≤ 4) : i < 4530 := by
  rcases Nat.lt_or_ge i 4530 with q | q
  · exact q
  · exfalso
    unfold fr_cls at hi
    rw [if_neg (by omega), if_neg (by omega), if_neg (by omega), if_neg (by omega), if_neg (by omega), if_neg (by omega), if_neg (by omega), if_neg (by omega), if_neg (by omega)] at hi
    split at hi <;> omega
theorem FRm.s1 (h : FRm F u s) {f : Nat} {v : Int32} (hv : (s 1).toInt ≤ v.toInt) : FRm F (wc_uI u F f v) (upd s 1 v) := by
  obtain ⟨l, q1, q2, q3, q4, q5⟩ := h
  refine ⟨l, by rw [upd_ne (by omega)]; exact q1, q2, fun i x hi => ?_, q4, fun a b ha hb => by rw [upd_ne (by omega)]; exact q5 a b ha hb⟩
  obtain ⟨a1, a2, a3, a4, a5⟩ := q3 i x hi
  exact ⟨a1, a2, a3, by rw [upd_eq]; omega, by rw [upd_eq]; omega⟩
theorem cls_o {m w : Nat} (hm : m < 30) (hw : w < 3) : fr_cls (3320 + 3 * m + w) = 0 := by
  unfold fr_cls
  rw [if_neg (by omega), if_neg (by omega), if_neg (by omega), if_neg (by omega), if_neg (by omega), if_neg (by omega), if_neg (by omega), if_neg (by omega), if_pos (by omega)]
theorem cls_v {v w : Nat} (hv : v < 8) (hw : w < 4) : fr_cls (928 + 4 * v + w) = 0 := by
  unfold fr_cls
  rw [if_neg (by omega), if_neg (by omega), if_neg (by omega), if_neg (by omega), if_neg (by omega), if_pos (by omega)]
/-- the forest stays what it is where the row's cells that count stay -/
theorem FRx.cg (h : FRx s) (hs : ∀ i, fr_cls i ≤ 1 → s' i = s i) : FRx s' := by
  have c : ∀ i, i < 8 → s' i = s i := fun i hi => hs i (by unfold fr_cls; rw [if_pos hi]; omega)
  unfold FRx
  rw [c 0 (by omega), c 1 (by omega), c 3 (by omega), c 5 (by omega)]
  refine ⟨fun k hk q => ?_, fun k hk => ?_, fun k w hk q hw => ?_, fun m hm q => ?_, fun m hm q => ?_, fun w hw => ?_, fun w hw q => ?_⟩
  · rw [hs _ (by rw [cls_t hk (by omega)]; omega)]; exact h.1 k hk q
  · rw [hs _ (by rw [cls_t hk (by omega)]; omega), hs _ (by rw [cls_t hk (by omega)]; omega)]; exact h.2.1 k hk
  · rw [hs _ (by rw [cls_t hk (by omega)]; omega)]; exact h.2.2.1 k w hk q hw
  · rw [hs _ (by rw [cls_o hm (by omega)]; omega), hs _ (by rw [cls_o hm (by omega)]; omega)]; exact h.2.2.2.1 m hm q
  · rw [hs _ (by rw [cls_o hm (by omega)]; omega)]; exact h.2.2.2.2.1 m hm q
  · rw [hs _ (by rw [cls_v hw (by omega)]; omega)]; exact h.2.2.2.2.2.1 w hw
  · rw [hs _ (by rw [cls_v hw (by omega)]; omega)]; exact h.2.2.2.2.2.2 w hw q
theorem FR0.cgS (hF : F ≤ 199) (h : FR0 F u s b) (hs : ∀ i, fr_cls i ≤ 5 → s' i = s i) : FR0 F u s' b :=
  ⟨h.t.cg (fun i hi => hs i (by omega)) (fun _ _ => rfl), h.n.cg (fun i hi => hs i (by omega)) (fun _ _ => rfl), h.m.cg (hs 1 (by decide)) (hs 2 (by decide)) (fun i hi => hs i (by omega)) rfl rfl, h.h.cg (fun i hi => hs i (by omega)) rfl,
    h.p.cg (fun i hi => hs i (by omega)) (Nat.le_refl _) (fun _ _ => ⟨rfl, rfl⟩) rfl (fun _ _ _ _ => ⟨rfl, rfl⟩), h.l.cg (hs 4 (by decide)) (fun i hi => hs i (by omega)) (Nat.le_refl _) rfl (fun q _ _ _ => Sm.rfl' _ _), h.bk⟩
theorem FR.cgS (hF : F ≤ 199) (h : FR F u s b) (hs : ∀ i, fr_cls i ≤ 5 → s' i = s i) : FR F u s' b := (h.o.cgS hF hs).mk (h.x.cg (fun i hi => hs i (by omega)))
end PL5
