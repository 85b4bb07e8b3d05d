/-! PLAIN LAW, METHODS 8: parcels made and ended; sell, loss -/
section PM8
variable {u u1 : CS} {t t1 : TS} {N F : Nat} {s : Nat → Int32} {b : Nat → Int64}
theorem FRb.put (h : FRb F u b) {k : Nat} {v : Int64} : FRb F (wc_uB u (F + 23) k v) (vp_updL b k v) := by
  intro j hj
  show (if F + 23 = F + 23 ∧ j = k then v else wc_B u (F + 23) j) = (if j = k then v else b j)
  by_cases c : j = k
  · rw [if_pos ⟨rfl, c⟩, if_pos c]
  · rw [if_neg (fun e => c e.2), if_neg c]; exact h j hj
theorem FR0.putB (hF : F ≤ 199) (h : FR0 F u s b) {k : Nat} {v : Int64} : FR0 F (wc_uB u (F + 23) k v) s (vp_updL b k v) :=
  ⟨h.t.cg (fun _ _ => rfl) (fun _ _ => rfl), h.n.cg (fun _ _ => rfl) (fun _ _ => rfl), h.m.cg rfl rfl (fun _ _ => rfl) rfl rfl, h.h.cg (fun _ _ => rfl) rfl, h.p.cg (fun _ _ => rfl) (Nat.le_refl _) (fun _ _ => ⟨rfl, rfl⟩) rfl (fun _ _ _ _ => ⟨rfl, rfl⟩), h.l.cg rfl (fun _ _ => rfl) (Nat.le_refl _) rfl (fun q hq _ _ => Sm.uB (by omega)), h.bk.put⟩
theorem FR.putB (hF : F ≤ 199) (h : FR F u s b) {k : Nat} {v : Int64} : FR F (wc_uB u (F + 23) k v) s (vp_updL b k v) := (h.o.putB hF).mk h.x
/-- a parcel is gone -/
theorem FR.drop (hF : F ≤ 199) (h : FR F u s b) {p : Nat} (hp : p < 60) : FR F (wc_uP u (F + 38 + p) 0 none) (upd s (960 + 6 * p) 0) b := by
  have hs : ∀ i, fr_cls i ≠ 3 → upd s (960 + 6 * p) 0 i = s i := fun i hi => upd_ne (fun e => hi (by rw [e]; exact cls_p (w := 0) hp (by omega)))
  refine ⟨h.t.cg (fun i hi => hs i (by omega)) (fun _ _ => rfl), h.n.cg (fun i hi => hs i (by omega)) (fun _ _ => rfl), h.m.cg (hs 1 (by decide)) (hs 2 (by decide)) (fun i hi => hs i (by omega)) rfl rfl, h.h.cg (fun i hi => hs i (by omega)) rfl, fun p' hp' => ?_, h.l.cg (hs 4 (by decide)) (fun i hi => hs i (by omega)) (Nat.le_refl _) rfl (fun q hq _ _ => Sm.uP (by omega)), h.bk, h.x.cg (fun i hi => hs i (by omega))⟩
  obtain ⟨g1, g2⟩ := h.p p' hp'
  refine ⟨g1, ?_⟩
  by_cases c : p' = p
  · subst c
    exact Or.inl ⟨by simp only [rP_uP, up2_eq], upd_eq⟩
  · have e : wc_P (wc_uP u (F + 38 + p) 0 none) (F + 38 + p') = wc_P u (F + 38 + p') := by simp (disch := omega) only [rP_uP, vq2_ne]
    rw [e]
    rcases g2 with ⟨h1, h2⟩ | ⟨q, h1, h2, h3, h4, h5⟩
    · exact Or.inl ⟨h1, by rw [upd_ne (by omega)]; exact h2⟩
    · refine Or.inr ⟨q, h1, by rw [upd_ne (by omega)]; exact h2, h3, h4, ?_⟩
      unfold LotR
      simp (disch := omega) only [upd_ne]
      exact h5
theorem NZ.drop (hF : F = 3 ∨ F = 101 ∨ F = 199) {p : Nat} (hp : p < 60) : NZ F u (wc_uP u (F + 38 + p) 0 none) := by
  refine ⟨Nat.le_refl _, fun q _ hn => Sm.uP (fun e => hn (by unfold InF; omega)), rfl, fun w => ⟨fun a q ha e => ?_, fun a a' q ha ha' e e' => ?_, w.2.2.1, w.2.2.2⟩⟩
  · by_cases c : a = F + 38 + p
    · subst c
      simp only [rP_uP, up2_eq] at e
      cases e
    · simp only [rP_uP, vq2_ne c] at e
      exact w.1 a q ha e
  · by_cases c : a = F + 38 + p
    · subst c
      simp only [rP_uP, up2_eq] at e
      cases e
    · by_cases c' : a' = F + 38 + p
      · subst c'
        simp only [rP_uP, up2_eq] at e'
        cases e'
      · simp only [rP_uP, vq2_ne c] at e
        simp only [rP_uP, vq2_ne c'] at e'
        exact w.2.1 a a' q ha ha' e e'
/-- an object is made: the forest stays -/
theorem FR.new (hF : F ≤ 199) (hz : 362 ≤ wc_z u) (h : FR F u s b) {c : Nat} : FR F (wc_new u (.inl c)) s b :=
  h.keep (Nat.le_succ _) (fun q hq => Sm.new (by unfold InF at hq; omega))
/-- a new parcel: the component's object q at its place n, the twin's six cells -/
theorem FR.putP (hF : F ≤ 199) (h : FR F u s b) {n q : Nat} {fe st ki vi : Int32} (hn : n < 60) (hq : 362 ≤ q ∧ q < wc_z u) (hT : (wc_T u q = some (.inl 8) ∧ ki = 0 ∧ vi = -1) ∨ (wc_T u q = some (.inl 16) ∧ ki = 1 ∧ wc_I u q 3 = vi) ∨ (wc_T u q = some (.inl 9) ∧ ki = 2 ∧ vi = -1))
    (hfr : ∀ p, p < 60 → wc_P u (F + 38 + p) 0 ≠ some q) (hst : 0 ≤ st.toInt ∧ st.toInt ≤ 23) :
    FR F (wc_uP (wc_uI (wc_uI (wc_uI u q 1 st) q 0 fe) q 2 (wc_I u F 0)) (F + 38 + n) 0 (some q)) (upd (upd (upd (upd (upd (upd s (960 + 6 * n) 1) (960 + 6 * n + 1) ki) (960 + 6 * n + 2) fe) (960 + 6 * n + 3) st) (960 + 6 * n + 4) (s 0)) (960 + 6 * n + 5) vi) b := by
  have hs : ∀ i, fr_cls i ≠ 3 → upd (upd (upd (upd (upd (upd s (960 + 6 * n) 1) (960 + 6 * n + 1) ki) (960 + 6 * n + 2) fe) (960 + 6 * n + 3) st) (960 + 6 * n + 4) (s 0)) (960 + 6 * n + 5) vi i = s i := fun i hi => by
    have e : ∀ w, w < 6 → i ≠ 960 + 6 * n + w := fun w hw e => hi (by rw [e]; exact cls_p hn hw)
    rw [upd_ne (e 5 (by omega)), upd_ne (e 4 (by omega)), upd_ne (e 3 (by omega)), upd_ne (e 2 (by omega)), upd_ne (e 1 (by omega)), upd_ne (i := 960 + 6 * n) (e 0 (by omega))]
  have hy : wc_I u F 0 = s 0 := (h.n (0, 0, 0, 400) (by decide)).1
  have hI : ∀ q', q' ≠ q → wc_I (wc_uP (wc_uI (wc_uI (wc_uI u q 1 st) q 0 fe) q 2 (wc_I u F 0)) (F + 38 + n) 0 (some q)) q' = wc_I u q' := fun q' hq' => by simp only [rI_uP, rI_uI, vq2_ne hq']
  have hS : ∀ q', 362 ≤ q' → q' ≠ q → Sm u (wc_uP (wc_uI (wc_uI (wc_uI u q 1 st) q 0 fe) q 2 (wc_I u F 0)) (F + 38 + n) 0 (some q)) q' := fun q' h1 h2 => ((((Sm.uI h2).trans (Sm.uI h2)).trans (Sm.uI h2)).trans (Sm.uP (by omega)))
  have hnp : ∀ q', (wc_T u q' = some (.inl 5) ∨ IsPart u q') → q' ≠ q := by
    intro q' hk e
    subst e
    rcases hT with ⟨e, -⟩ | ⟨e, -⟩ | ⟨e, -⟩ <;> rcases hk with k | k | k | k | k | k <;> rw [e] at k <;> cases k
  refine ⟨h.t.cg (fun i hi => hs i (by omega)) (fun _ _ => rfl), h.n.cg (fun i hi => hs i (by omega)) (fun x _ => by rw [hI F (by omega)]), h.m.cg (hs 1 (by decide)) (hs 2 (by decide)) (fun i hi => hs i (by omega)) rfl rfl, h.h.cg (fun i hi => hs i (by omega)) rfl, fun p' hp' => ?_, h.l.cg (hs 4 (by decide)) (fun i hi => hs i (by omega)) (Nat.le_refl _) rfl (fun q' hq' _ hk => hS q' hq' (hnp q' hk)), h.bk, h.x.cg (fun i hi => hs i (by omega))⟩
  obtain ⟨g1, g2⟩ := h.p p' hp'
  refine ⟨g1, ?_⟩
  by_cases c : p' = n
  · subst c
    refine Or.inr ⟨q, by simp only [rP_uP, up2_eq], ?_, hq.1, hq.2, ?_⟩
    · simp (disch := omega) only [upd_ne, upd_eq]
    · unfold LotR
      simp (disch := omega) only [upd_ne, upd_eq, rI_uP, rI_uI, rT_uP, rT_uI, up2_nk, up2_eq]
      exact ⟨hT, trivial, trivial, hy, hst⟩
  · have e : wc_P (wc_uP (wc_uI (wc_uI (wc_uI u q 1 st) q 0 fe) q 2 (wc_I u F 0)) (F + 38 + n) 0 (some q)) (F + 38 + p') = wc_P u (F + 38 + p') := by simp (disch := omega) only [rP_uP, rP_uI, vq2_ne]
    rw [e]
    rcases g2 with ⟨h1, h2⟩ | ⟨q', h1, h2, h3, h4, h5⟩
    · refine Or.inl ⟨h1, ?_⟩
      simp (disch := omega) only [upd_ne]
      exact h2
    · have nq : q' ≠ q := fun e => hfr p' hp' (by rw [h1, e])
      refine Or.inr ⟨q', h1, ?_, h3, h4, ?_⟩
      · simp (disch := omega) only [upd_ne]
        exact h2
      · unfold LotR
        rw [hI q' nq]
        simp (disch := omega) only [upd_ne]
        exact h5
theorem RW.put (hF : F = 3 ∨ F = 101 ∨ F = 199) (w : RW u) {n q : Nat} {x1 x2 x3 : Int32} (hn : n < 60) (hq : 362 ≤ q ∧ q < wc_z u) (hT : wc_T u q = some (.inl 8) ∨ wc_T u q = some (.inl 16) ∨ wc_T u q = some (.inl 9)) (hfr : ∀ a, IsSlot a → wc_P u a 0 ≠ some q) :
    RW (wc_uP (wc_uI (wc_uI (wc_uI u q 1 x1) q 0 x2) q 2 x3) (F + 38 + n) 0 (some q)) := by
  refine ⟨fun a q' ha e => ?_, fun a a' q' ha ha' e e' => ?_, w.2.2.1, w.2.2.2⟩
  · by_cases c : a = F + 38 + n
    · subst c
      simp only [rP_uP, up2_eq] at e
      cases e
      exact ⟨hq.1, hq.2, hT⟩
    · simp only [rP_uP, rP_uI, vq2_ne c] at e
      exact w.1 a q' ha e
  · by_cases c : a = F + 38 + n
    · subst c
      simp only [rP_uP, up2_eq] at e
      cases e
      by_cases c' : a' = F + 38 + n
      · exact c'.symm
      · simp only [rP_uP, rP_uI, vq2_ne c'] at e'
        exact absurd e' (hfr a' ha')
    · simp only [rP_uP, rP_uI, vq2_ne c] at e
      by_cases c' : a' = F + 38 + n
      · subst c'
        simp only [rP_uP, up2_eq] at e'
        cases e'
        exact absurd e (hfr a ha)
      · simp only [rP_uP, rP_uI, vq2_ne c'] at e'
        exact w.2.1 a a' q' ha ha' e e'
theorem pl_lt3 {β : Type} {q : Nat} (h : wc_T u q = some (.inl 8) ∨ wc_T u q = some (.inl 16) ∨ wc_T u q = some (.inl 9)) (K : Option β) : o_lt u q K = K := by
  unfold o_lt
  rw [if_pos h]
theorem isSlot_of (hF : F = 3 ∨ F = 101 ∨ F = 199) {p : Nat} (hp : p < 60) : IsSlot (F + 38 + p) := by
  unfold IsSlot
  omega
/-- both make a parcel, where one is free -/
theorem makes_ok (hN : 100000 ≤ N) (hF : F = 3 ∨ F = 101 ∨ F = 199) (h : FR F u (tS t) b) (w : RW u) {n q : Nat} {fe st ki vi : Int32} (hn : n < 60) (f1 : fX1_free N F u = some (Int32.ofNat n, u)) (f2 : fX7_free N t = some (Int32.ofNat n, t)) (hq : 362 ≤ q ∧ q < wc_z u)
    (hT : (wc_T u q = some (.inl 8) ∧ ki = 0 ∧ vi = -1) ∨ (wc_T u q = some (.inl 16) ∧ ki = 1 ∧ wc_I u q 3 = vi) ∨ (wc_T u q = some (.inl 9) ∧ ki = 2 ∧ vi = -1)) (hfr : ∀ a, IsSlot a → wc_P u a 0 ≠ some q) (hst : 0 ≤ st.toInt ∧ st.toInt ≤ 23) :
    ∃ u1 t1, fX1_put N F u q st fe = some (Int32.ofNat n, u1) ∧ fX7_makes N t ki fe st vi = some (Int32.ofNat n, t1) ∧ FR F u1 (tS t1) b ∧ wc_z u1 = wc_z u ∧ (∀ q', q' ≠ q → ¬ InF F q' → Sm u u1 q') ∧ wc_I u1 F 43 = wc_I u F 43 ∧ RW u1 ∧ TX t t1 ∧ t1.2.2.2 = t.2.2.2 ∧ t1.1 = t.1 ∧ (∀ a, a ≠ 1 → t1.2.2.1 a = t.2.2.1 a) ∧ ∀ i, i < 960 ∨ 1320 ≤ i → tS t1 i = tS t i := by
  have hT3 : wc_T u q = some (.inl 8) ∨ wc_T u q = some (.inl 16) ∨ wc_T u q = some (.inl 9) := by
    rcases hT with e | e | e
    · exact Or.inl e.1
    · exact Or.inr (Or.inl e.1)
    · exact Or.inr (Or.inr e.1)
  obtain ⟨⟨g1, g2⟩, -⟩ := h.p n hn
  refine ⟨wc_uP (wc_uI (wc_uI (wc_uI u q 1 st) q 0 fe) q 2 (wc_I u F 0)) (F + 38 + n) 0 (some q), mt_uA (mt_uA (mt_uA (mt_uA (mt_uA (mt_uA t 1 (960 + 6 * n) 1) 1 (960 + 6 * n + 1) ki) 1 (960 + 6 * n + 2) fe) 1 (960 + 6 * n + 3) st) 1 (960 + 6 * n + 4) (t.2.2.1 1 0)) 1 (960 + 6 * n + 5) vi, ?_, ?_, h.putP (by omega) hn hq hT (fun p hp => hfr _ (isSlot_of hF hp)) hst, rfl, ?_, ?_, w.put hF hn hq hT3 hfr, ?_, rfl, rfl, fun a ha => ?_, fun i hi => ?_⟩
  · unfold fX1_put
    rw [f1]
    simp only [pl_bd2, pl_nm]
    rw [pl_lt3 hT3, pl_lt3 (u := wc_uI u q 1 st) hT3, pl_lt3 (u := wc_uI (wc_uI u q 1 st) q 0 fe) hT3]
    have g1' : wc_Q (wc_uI (wc_uI (wc_uI u q 1 st) q 0 fe) q 2 (wc_I u F 0)) (F + 22) n = some (F + 38 + n) := g1
    have e0 : wc_I (wc_uI (wc_uI u q 1 st) q 0 fe) F 0 = wc_I u F 0 := by simp (disch := omega) only [rI_uI, vq2_ne]
    rw [e0]
    simp (disch := omega) only [pl_ald, g1', pl_nn, pl_nm]
    rw [pl_sh (u := wc_uI (wc_uI (wc_uI u q 1 st) q 0 fe) q 2 (wc_I u F 0)) g2]
  · unfold fX7_makes
    rw [f2]
    simp (disch := omega) only [pl_bd, pl_bd2, pl_nm, pl_id, pl_ald, pl_ast, pl_aldL, pl_astL, pl_nc, pl_ncL, pl_add, pl_addL, pl_addR, pl_mul, pl_mulL, pl_mulR, pl_sub, pl_subL, pl_eq, pl_eqL, pl_eqR, pl_eqN, pl_le, pl_leL, pl_leR, pl_lt, pl_ltL, pl_ltR, pl_div, pl_divL, pl_01, pl_bl, pl_bl0, pl_bl1, ite_not, c_in, t_in, Int32.reduceToInt, Int64.reduceToInt, upd_eq, upd_ne, up2_eq, up2_nk, vq2_ne, up1_eq, vq1_ne, Nat.reduceAdd, Nat.reduceMul, if_true, if_false, rI_uI, rI_uL, rI_uA, rI_uB, rI_uP, rI_uQ, rI_aA, rI_aB, rI_aQ, rL_uI, rL_uL, rL_uA, rL_uB, rL_uP, rL_uQ, rL_aA, rL_aB, rL_aQ, rA_uI, rA_uL, rA_uA, rA_uB, rA_uP, rA_uQ, rA_aA, rA_aB, rA_aQ, rB_uI, rB_uL, rB_uA, rB_uB, rB_uP, rB_uQ, rB_aA, rB_aB, rB_aQ, rP_uI, rP_uL, rP_uA, rP_uB, rP_uP, rP_uQ, rP_aA, rP_aB, rP_aQ, rQ_uI, rQ_uL, rQ_uA, rQ_uB, rQ_uP, rQ_uQ, rQ_aA, rQ_aB, rQ_aQ, rT_uI, rT_uL, rT_uA, rT_uB, rT_uP, rT_uQ, rT_aA, rT_aB, rT_aQ, rz_uI, rz_uL, rz_uA, rz_uB, rz_uP, rz_uQ, rz_aA, rz_aB, rz_aQ, rtI_L, rtI_A, rtI_B, rtL_I, rtL_A, rtL_B, rtA_I, rtA_L, rtA_B, rtB_I, rtB_L, rtB_A, rtI_I, rtL_L, rtA_A, rtA_An, rtB_B, rtB_Bn, updL_eq, updL_ne]
  · intro q' h1 h2
    exact (((Sm.uI h1).trans (Sm.uI h1)).trans (Sm.uI h1)).trans (Sm.uP (fun e => h2 (by unfold InF; omega)))
  · simp (disch := omega) only [rI_uP, rI_uI, vq2_ne]
  · exact (((((TX.rfl'.uA (by omega) (by omega)).uA (by omega) (by omega)).uA (by omega) (by omega)).uA (by omega) (by omega)).uA (by omega) (by omega)).uA (by omega) (by omega)
  · simp (disch := exact ha) only [rtA_An]
  · simp (disch := omega) only [tS, rtA_A, upd_ne]
end PM8
