/-! PLAIN LAW 6: the relation of the whole component to the whole twin -/
abbrev tS (t : TS) : Nat → Int32 := t.2.2.1 1
abbrev tB (t : TS) : Nat → Int64 := t.2.2.2 2
def IsSlot (a : Nat) : Prop := (41 ≤ a ∧ a < 101) ∨ (139 ≤ a ∧ a < 199) ∨ (237 ≤ a ∧ a < 297)
/-- each slot holds an object of its own, or none; each line's place holds a line's object, or none -/
def RW (u : CS) : Prop := (∀ a q, IsSlot a → wc_P u a 0 = some q → 362 ≤ q ∧ q < wc_z u ∧ (wc_T u q = some (.inl 8) ∨ wc_T u q = some (.inl 16) ∨ wc_T u q = some (.inl 9))) ∧
  (∀ a a' q, IsSlot a → IsSlot a' → wc_P u a 0 = some q → wc_P u a' 0 = some q → a = a') ∧
  (∀ F k q, F = 3 ∨ F = 101 ∨ F = 199 → k < 16 → wc_Q u (F + 24) k = some q → 362 ≤ q ∧ q < wc_z u ∧ wc_T u q = some (.inl 5)) ∧ 362 ≤ wc_z u
/-- the plan that is kept -/
def KR (K : Int32) (a s : Nat → Int32) : Prop := 0 ≤ K.toInt ∧ K.toInt < 2 ^ (s 1).toNatClampNeg ∧ (K = 0 ∧ s 8 = 0 ∨ K ≠ 0 ∧ s 8 = 1 ∧ s 9 = K ∧ ∀ k, k < 24 → (K.toInt / 2 ^ k) % 2 = 1 → a k = s (16 + 14 * k + 12) ∧ -1 ≤ (a k).toInt ∧ (a k).toInt ≤ 3)
def RI (u : CS) (t : TS) : Prop := wc_I u 0 5 = t.1 35 ∧ (t.1 35 = 0 ∨ t.1 35 = 1 ∧ FR 199 u (t.2.2.1 33) (t.2.2.2 34) ∧ KR (wc_I u 0 23) (wc_A u 333) (t.2.2.1 33))
def RF (u : CS) (t : TS) : Prop := (∀ i, i < 9 → wc_A u 2 i = t.2.2.1 3 i) ∧ ∀ k, 1 ≤ k → k < 9 → wc_I u (334 + k) 6 = -(Int32.ofNat k)
/-- a byte, as the component has it -/
def byt (x : Nat) : Int32 := Int32.ofInt (if x < 128 then (x : Int) else (x : Int) - 256)
def RTp (u : CS) (t : TS) : Prop := (∃ m : Nat, m ≤ 120 ∧ wc_I u 297 1 = Int32.ofNat m ∧ t.1 5 = Int32.ofNat m ∧ ∀ i, i < m → ∃ x : Nat, x < 256 ∧ t.2.2.1 4 i = Int32.ofNat x ∧ wc_A u 298 i = byt x) ∧
  ∀ w (l : List Nat), lx_words[w]? = some l → ∀ j x, l[j]? = some x → wc_A u (301 + w) j = Int32.ofNat x
def RRo (u : CS) (t : TS) : Prop := (wc_P u 0 25 = none ∧ t.1 40 = 0 ∨ ∃ q m, wc_P u 0 25 = some q ∧ t.1 40 = 1 ∧ m ≤ 100 ∧ t.1 39 = Int32.ofNat m ∧ wc_Q u 334 m = some q ∧ ∀ i, i < m → wc_A u q i = t.2.2.1 38 i) ∧
  ∀ n q, n ≤ 100 → wc_Q u 334 n = some q → 362 ≤ q ∧ q < wc_z u ∧ wc_T u q = some (.inr (0, n))
def RO (u : CS) (t : TS) : Prop := wc_I u 3 43 = -1 ∧ wc_I u 101 43 = -1 ∧ wc_I u 199 43 = -1 ∧ t.1 17 = -1
def RR (u : CS) (t : TS) : Prop := FR 3 u (tS t) (tB t) ∧ RW u ∧ RI u t ∧ KR (wc_I u 0 21) (wc_A u 332) (tS t) ∧ RF u t ∧ RTp u t ∧ RRo u t ∧ RO u t
section PL6
variable {u u1 : CS} {t t1 : TS}
theorem RR.f (h : RR u t) : FR 3 u (tS t) (tB t) := h.1
theorem RR.w (h : RR u t) : RW u := h.2.1
theorem RR.i (h : RR u t) : RI u t := h.2.2.1
theorem RR.k (h : RR u t) : KR (wc_I u 0 21) (wc_A u 332) (tS t) := h.2.2.2.1
theorem RR.rf (h : RR u t) : RF u t := h.2.2.2.2.1
theorem RR.tp (h : RR u t) : RTp u t := h.2.2.2.2.2.1
theorem RR.ro (h : RR u t) : RRo u t := h.2.2.2.2.2.2.1
theorem RR.o (h : RR u t) : RO u t := h.2.2.2.2.2.2.2
/-- the twin's other parts are the same -/
def TSm (t t1 : TS) : Prop := (∀ k, k = 5 ∨ k = 17 ∨ k = 35 ∨ k = 39 ∨ k = 40 → t1.1 k = t.1 k) ∧ (∀ k, k = 3 ∨ k = 4 ∨ k = 33 ∨ k = 38 → t1.2.2.1 k = t.2.2.1 k) ∧ t1.2.2.2 34 = t.2.2.2 34
theorem TSm.rfl' (t : TS) : TSm t t := ⟨fun _ _ => rfl, fun _ _ => rfl, rfl⟩
theorem TSm.trans {t2 : TS} (h : TSm t t1) (h' : TSm t1 t2) : TSm t t2 := ⟨fun k hk => (h'.1 k hk).trans (h.1 k hk), fun k hk => (h'.2.1 k hk).trans (h.2.1 k hk), h'.2.2.trans h.2.2⟩
theorem TSm.uA1 {i : Nat} {v : Int32} : TSm t (mt_uA t 1 i v) := ⟨fun _ _ => rfl, fun k hk => if_neg (by omega), rfl⟩
theorem TSm.uA {a i : Nat} {v : Int32} (h : a ≠ 3 ∧ a ≠ 4 ∧ a ≠ 33 ∧ a ≠ 38) : TSm t (mt_uA t a i v) := ⟨fun _ _ => rfl, fun k hk => if_neg (by omega), rfl⟩
theorem TSm.uB2 {i : Nat} {v : Int64} : TSm t (mt_uB t 2 i v) := ⟨fun _ _ => rfl, fun _ _ => rfl, rfl⟩
theorem TSm.uI {k : Nat} {v : Int32} (h : k ≠ 5 ∧ k ≠ 17 ∧ k ≠ 35 ∧ k ≠ 39 ∧ k ≠ 40) : TSm t (mt_uI t k v) := ⟨fun j hj => if_neg (by omega), fun _ _ => rfl, rfl⟩
theorem TSm.uL {k : Nat} {v : Int64} : TSm t (mt_uL t k v) := ⟨fun _ _ => rfl, fun _ _ => rfl, rfl⟩
theorem RW.same (h : RW u) (hz : wc_z u ≤ wc_z u1) (hP : ∀ a, IsSlot a → wc_P u1 a = wc_P u a) (hQ : ∀ F, F = 3 ∨ F = 101 ∨ F = 199 → wc_Q u1 (F + 24) = wc_Q u (F + 24)) (hT : ∀ q, 362 ≤ q → q < wc_z u → wc_T u1 q = wc_T u q) : RW u1 := by
  refine ⟨fun a q ha e => ?_, fun a a' q ha ha' e e' => ?_, fun F k q hF hk e => ?_, Nat.le_trans h.2.2.2 hz⟩
  · rw [hP a ha] at e
    obtain ⟨h1, h2, h3⟩ := h.1 a q ha e
    rw [hT q h1 h2]
    exact ⟨h1, Nat.lt_of_lt_of_le h2 hz, h3⟩
  · rw [hP a ha] at e
    rw [hP a' ha'] at e'
    exact h.2.1 a a' q ha ha' e e'
  · rw [hQ F hF] at e
    obtain ⟨h1, h2, h3⟩ := h.2.2.1 F k q hF hk e
    rw [hT q h1 h2]
    exact ⟨h1, Nat.lt_of_lt_of_le h2 hz, h3⟩
theorem KR.up {K : Int32} {a s s1 : Nat → Int32} (h : KR K a s) (hk : ∀ i, fr_cls i = 6 → s1 i = s i) (h1 : (s 1).toInt ≤ (s1 1).toInt) : KR K a s1 := by
  obtain ⟨k1, k2, k3⟩ := h
  have m1 : (2 : Int) ^ (s 1).toNatClampNeg ≤ 2 ^ (s1 1).toNatClampNeg := by
    have e : (s 1).toNatClampNeg ≤ (s1 1).toNatClampNeg := by
      show (s 1).toInt.toNat ≤ (s1 1).toInt.toNat
      omega
    have := Nat.pow_le_pow_right (show 0 < 2 by omega) e
    exact_mod_cast this
  refine ⟨k1, Int.lt_of_lt_of_le k2 m1, ?_⟩
  rw [hk 8 (by decide), hk 9 (by decide)]
  rcases k3 with e | ⟨e1, e2, e3, e4⟩
  · exact Or.inl e
  · refine Or.inr ⟨e1, e2, e3, fun k hk1 hb => ?_⟩
    rw [hk (16 + 14 * k + 12) (by unfold fr_cls; rw [if_neg (by omega), if_neg (by omega), if_neg (by omega), if_pos (by omega), if_neg (by omega), if_pos (by omega)])]
    exact e4 k hk1 hb
/-- only the forest that counts has changed -/
theorem RR.nowW (h : RR u t) (hz : wc_z u ≤ wc_z u1) (hs : ∀ q, ¬ InF 3 q → q < 343 ∨ 362 ≤ q → q < wc_z u → Sm u u1 q) (hw : RW u1) (h43 : wc_I u1 3 43 = wc_I u 3 43) (ht : TSm t t1)
    (hK : KR (wc_I u 0 21) (wc_A u 332) (tS t1)) (hf : FR 3 u1 (tS t1) (tB t1)) : RR u1 t1 := by
  have hz0 := h.w.2.2.2
  have st : ∀ q, ¬ InF 3 q → q < 343 → Sm u u1 q := fun q a b => hs q a (Or.inl b) (by omega)
  have dy : ∀ q, 362 ≤ q → q < wc_z u → Sm u u1 q := fun q a b => hs q (fun c => by unfold InF at c; omega) (Or.inr a) b
  have n0 : ¬ InF 3 0 := by unfold InF; omega
  refine ⟨hf, hw, ?_, ?_, ?_, ?_, ?_, ?_⟩
  · refine ⟨by rw [(st 0 n0 (by omega)).1, ht.1 35 (by omega)]; exact h.i.1, ?_⟩
    rw [ht.1 35 (by omega), ht.2.1 33 (by omega), ht.2.2]
    rcases h.i.2 with e | ⟨e1, e2, e3⟩
    · exact Or.inl e
    · refine Or.inr ⟨e1, e2.keep hz (fun q hq => ?_), ?_⟩
      · rcases hq with c | c
        · exact st q (fun d => by unfold InF at c d; omega) (by unfold InF at c; omega)
        · exact dy q c.1 c.2.1
      · rw [(st 0 n0 (by omega)).1, (st 333 (by unfold InF; omega) (by omega)).2.2.1]; exact e3
  · rw [(st 0 n0 (by omega)).1, (st 332 (by unfold InF; omega) (by omega)).2.2.1]; exact hK
  · refine ⟨fun i hi => by rw [(st 2 (by unfold InF; omega) (by omega)).2.2.1, ht.2.1 3 (by omega)]; exact h.rf.1 i hi, fun k a b => by rw [(st (334 + k) (by unfold InF; omega) (by omega)).1]; exact h.rf.2 k a b⟩
  · obtain ⟨⟨m, m1, m2, m3, m4⟩, w⟩ := h.tp
    refine ⟨⟨m, m1, by rw [(st 297 (by unfold InF; omega) (by omega)).1]; exact m2, by rw [ht.1 5 (by omega)]; exact m3, fun i hi => ?_⟩, fun w' l hl j x hx => ?_⟩
    · rw [ht.2.1 4 (by omega), (st 298 (by unfold InF; omega) (by omega)).2.2.1]; exact m4 i hi
    · have hw : w' < 23 := (List.getElem?_eq_some_iff.mp hl).1
      rw [(st (301 + w') (by unfold InF; omega) (by omega)).2.2.1]; exact w w' l hl j x hx
  · have s0 := st 0 n0 (by omega)
    have s3 := st 334 (by unfold InF; omega) (by omega)
    refine ⟨?_, fun n q hn e => ?_⟩
    · rw [s0.2.2.2.2.1, ht.1 40 (by omega), ht.1 39 (by omega), ht.2.1 38 (by omega)]
      rcases h.ro.1 with e | ⟨q, m, e1, e2, e3, e4, e5, e6⟩
      · exact Or.inl e
      · refine Or.inr ⟨q, m, e1, e2, e3, e4, by rw [s3.2.2.2.2.2.1]; exact e5, fun i hi => ?_⟩
        obtain ⟨r1, r2, -⟩ := h.ro.2 m q e3 e5
        rw [(dy q r1 r2).2.2.1]; exact e6 i hi
    · rw [s3.2.2.2.2.2.1] at e
      obtain ⟨r1, r2, r3⟩ := h.ro.2 n q hn e
      exact ⟨r1, Nat.lt_of_lt_of_le r2 hz, by rw [(dy q r1 r2).2.2.2.2.2.2]; exact r3⟩
  · exact ⟨h43.trans h.o.1, by rw [(st 101 (by unfold InF; omega) (by omega)).1]; exact h.o.2.1, by rw [(st 199 (by unfold InF; omega) (by omega)).1]; exact h.o.2.2.1, by rw [ht.1 17 (by omega)]; exact h.o.2.2.2⟩
theorem RR.nowK (h : RR u t) (hz : wc_z u ≤ wc_z u1) (hs : ∀ q, ¬ InF 3 q → q < 343 ∨ 362 ≤ q → q < wc_z u → Sm u u1 q) (h22 : ∀ a, IsSlot a → wc_P u1 a = wc_P u a) (h24 : wc_Q u1 27 = wc_Q u 27) (h43 : wc_I u1 3 43 = wc_I u 3 43) (ht : TSm t t1)
    (hK : KR (wc_I u 0 21) (wc_A u 332) (tS t1)) (hf : FR 3 u1 (tS t1) (tB t1)) : RR u1 t1 := by
  have hz0 := h.w.2.2.2
  have st : ∀ q, ¬ InF 3 q → q < 343 → Sm u u1 q := fun q a b => hs q a (Or.inl b) (by omega)
  have dy : ∀ q, 362 ≤ q → q < wc_z u → Sm u u1 q := fun q a b => hs q (fun c => by unfold InF at c; omega) (Or.inr a) b
  refine h.nowW hz hs (h.w.same hz h22 (fun F hF => ?_) (fun q a b => (dy q a b).2.2.2.2.2.2)) h43 ht hK hf
  rcases hF with rfl | rfl | rfl
  · exact h24
  · exact (st 125 (by unfold InF; omega) (by omega)).2.2.2.2.2.1
  · exact (st 223 (by unfold InF; omega) (by omega)).2.2.2.2.2.1
/-- only what is beside the forests has changed: the tape, the row -/
theorem RR.side (h : RR u t) (hz : wc_z u ≤ wc_z u1) (hs : ∀ q, 1 ≤ q → q < 297 → Sm u u1 q) (hd : ∀ q c, 362 ≤ q → q < wc_z u → wc_T u q = some (.inl c) → Sm u u1 q)
    (hR : ∀ k, 1 ≤ k → k < 9 → wc_I u1 (334 + k) 6 = wc_I u (334 + k) 6) (h5 : wc_I u1 0 5 = wc_I u 0 5) (h21 : wc_I u1 0 21 = wc_I u 0 21) (h23 : wc_I u1 0 23 = wc_I u 0 23) (hA : wc_A u1 332 = wc_A u 332) (hB : wc_A u1 333 = wc_A u 333)
    (t1s : tS t1 = tS t) (t2s : tB t1 = tB t) (t3 : t1.2.2.1 33 = t.2.2.1 33) (t4 : t1.2.2.2 34 = t.2.2.2 34) (t5 : t1.1 35 = t.1 35) (t6 : t1.1 17 = t.1 17) (t7 : t1.2.2.1 3 = t.2.2.1 3) (htp : RTp u1 t1) (hro : RRo u1 t1) : RR u1 t1 := by
  have hz0 := h.w.2.2.2
  have hF : ∀ F q, F ≤ 199 → 3 ≤ F → InF F q ∨ (362 ≤ q ∧ q < wc_z u ∧ ∃ c, wc_T u q = some (.inl c)) → Sm u u1 q := by
    intro F q hF hF3 hq
    rcases hq with c | ⟨a, b, c, d⟩
    · unfold InF at c; exact hs q (by omega) (by omega)
    · exact hd q c a b d
  refine ⟨by rw [t1s, t2s]; exact h.f.keep hz (fun q => hF 3 q (by omega) (by omega)), ?_, ?_, by rw [h21, hA, t1s]; exact h.k, ?_, htp, hro, ?_⟩
  · refine ⟨fun a q ha e => ?_, fun a a' q ha ha' e e' => ?_, fun F k q hF hk e => ?_, by omega⟩
    · rw [(hs a (by unfold IsSlot at ha; omega) (by unfold IsSlot at ha; omega)).2.2.2.2.1] at e
      obtain ⟨a1, a2, a3⟩ := h.w.1 a q ha e
      refine ⟨a1, by omega, ?_⟩
      rcases a3 with e | e | e <;> rw [(hd q _ a1 a2 e).2.2.2.2.2.2, e] <;> simp
    · rw [(hs a (by unfold IsSlot at ha; omega) (by unfold IsSlot at ha; omega)).2.2.2.2.1] at e
      rw [(hs a' (by unfold IsSlot at ha'; omega) (by unfold IsSlot at ha'; omega)).2.2.2.2.1] at e'
      exact h.w.2.1 a a' q ha ha' e e'
    · rw [(hs (F + 24) (by omega) (by omega)).2.2.2.2.2.1] at e
      obtain ⟨a1, a2, a3⟩ := h.w.2.2.1 F k q hF hk e
      exact ⟨a1, by omega, by rw [(hd q _ a1 a2 a3).2.2.2.2.2.2]; exact a3⟩
  · refine ⟨by rw [h5, t5]; exact h.i.1, ?_⟩
    rw [t5, t3, t4, h23, hB]
    rcases h.i.2 with e | ⟨e1, e2, e3⟩
    · exact Or.inl e
    · exact Or.inr ⟨e1, e2.keep hz (fun q => hF 199 q (by omega) (by omega)), e3⟩
  · exact ⟨fun i hi => by rw [(hs 2 (by omega) (by omega)).2.2.1, t7]; exact h.rf.1 i hi, fun k a b => (hR k a b).trans (h.rf.2 k a b)⟩
  · exact ⟨by rw [(hs 3 (by omega) (by omega)).1]; exact h.o.1, by rw [(hs 101 (by omega) (by omega)).1]; exact h.o.2.1, by rw [(hs 199 (by omega) (by omega)).1]; exact h.o.2.2.1, t6.trans h.o.2.2.2⟩
theorem cls6 {i : Nat} (h : fr_cls i = 6) : i = 8 ∨ i = 9 ∨ (16 ≤ i ∧ i < 352 ∧ (i - 16) % 14 = 12) := by
  unfold fr_cls at h
  by_cases c1 : i < 8
  · rw [if_pos c1] at h; omega
  · rw [if_neg c1] at h
    by_cases c2 : i < 10
    · omega
    · rw [if_neg c2] at h
      by_cases c3 : i < 16
      · rw [if_pos c3] at h; omega
      · rw [if_neg c3] at h
        by_cases c4 : i < 352
        · rw [if_pos c4] at h
          by_cases c5 : (i - 16) % 14 < 12
          · rw [if_pos c5] at h; omega
          · rw [if_neg c5] at h
            by_cases c6 : (i - 16) % 14 = 12
            · omega
            · rw [if_neg c6] at h; omega
        · rw [if_neg c4] at h
          exact absurd h (by repeat' split
                             all_goals omega)
/-- the twin has changed in the row (but the plan and fewer stands), the books and what is scratch alone -/
def TX (t t1 : TS) : Prop := TSm t t1 ∧ (∀ i, fr_cls i = 6 → tS t1 i = tS t i) ∧ (tS t 1).toInt ≤ (tS t1 1).toInt
theorem TX.rfl' : TX t t := ⟨TSm.rfl' _, fun _ _ => rfl, Int.le_refl _⟩
theorem TX.trans {t2 : TS} (h : TX t t1) (h' : TX t1 t2) : TX t t2 := ⟨h.1.trans h'.1, fun i hi => (h'.2.1 i hi).trans (h.2.1 i hi), Int.le_trans h.2.2 h'.2.2⟩
theorem TX.uA (h : TX t t1) {i : Nat} {v : Int32} (h1 : i ≠ 1) (h6 : ¬ (i = 8 ∨ i = 9 ∨ (16 ≤ i ∧ i < 352 ∧ (i - 16) % 14 = 12))) : TX t (mt_uA t1 1 i v) := by
  have e : ∀ j, tS (mt_uA t1 1 i v) j = upd (tS t1) i v j := fun j => rfl
  refine h.trans ⟨TSm.uA1, fun j hj => ?_, ?_⟩
  · rw [e, upd_ne (s := tS t1) (i := i) (j := j) (fun q => h6 (by rw [← q]; exact cls6 hj))]
  · rw [e, upd_ne (Ne.symm h1)]; exact Int.le_refl _
theorem TX.o (h : TX t t1) {t2 : TS} (h1 : TSm t1 t2) (h2 : tS t2 = tS t1) : TX t t2 := h.trans ⟨h1, fun _ _ => by rw [h2], by rw [h2]; exact Int.le_refl _⟩
theorem TX.uB (h : TX t t1) {i : Nat} {v : Int64} : TX t (mt_uB t1 2 i v) := h.o TSm.uB2 rfl
/-- only arrays and numbers of a forest have changed -/
def NX (F : Nat) (u u1 : CS) : Prop := wc_z u1 = wc_z u ∧ (∀ q, ¬ InF F q → Sm u u1 q) ∧ wc_P u1 = wc_P u ∧ wc_Q u1 = wc_Q u ∧ wc_T u1 = wc_T u ∧ wc_I u1 F 43 = wc_I u F 43
theorem NX.rfl' {F : Nat} : NX F u u := ⟨rfl, fun _ _ => Sm.rfl' _ _, rfl, rfl, rfl, rfl⟩
theorem NX.trans {F : Nat} {u2 : CS} (h : NX F u u1) (h' : NX F u1 u2) : NX F u u2 := ⟨h'.1.trans h.1, fun q hq => (h.2.1 q hq).trans (h'.2.1 q hq), h'.2.2.1.trans h.2.2.1, h'.2.2.2.1.trans h.2.2.2.1, h'.2.2.2.2.1.trans h.2.2.2.2.1, h'.2.2.2.2.2.trans h.2.2.2.2.2⟩
theorem NX.uA {F p k : Nat} {v : Int32} (h : NX F u u1) (hp : InF F p) : NX F u (wc_uA u1 p k v) := h.trans ⟨rfl, fun q hq => Sm.uA (fun e => hq (e ▸ hp)), rfl, rfl, rfl, rfl⟩
theorem NX.aA {F p : Nat} {g : Nat → Int32} (h : NX F u u1) (hp : InF F p) : NX F u (wc_aA u1 p g) := h.trans ⟨rfl, fun q hq => Sm.aA (fun e => hq (e ▸ hp)), rfl, rfl, rfl, rfl⟩
theorem NX.uB {F p k : Nat} {v : Int64} (h : NX F u u1) (hp : InF F p) : NX F u (wc_uB u1 p k v) := h.trans ⟨rfl, fun q hq => Sm.uB (fun e => hq (e ▸ hp)), rfl, rfl, rfl, rfl⟩
theorem NX.uI {F k : Nat} {v : Int32} (h : NX F u u1) (hk : k ≠ 43) : NX F u (wc_uI u1 F k v) := h.trans ⟨rfl, fun q hq => Sm.uI (fun e => hq (by subst e; exact ⟨Nat.le_refl _, by omega⟩)), rfl, rfl, rfl, up2_nk (Ne.symm hk)⟩
theorem RR.nx (h : RR u t) (hn : NX 3 u u1) (ht : TX t t1) (hf : FR 3 u1 (tS t1) (tB t1)) : RR u1 t1 :=
  h.nowK (Nat.le_of_eq hn.1.symm) (fun q a _ _ => hn.2.1 q a) (fun a _ => by rw [hn.2.2.1]) (by rw [hn.2.2.2.1]) hn.2.2.2.2.2 ht.1 (h.k.up ht.2.1 ht.2.2) hf
theorem RR.nxK (h : RR u t) (hn : NX 3 u u1) (ht : TSm t t1) (hK : KR (wc_I u 0 21) (wc_A u 332) (tS t1)) (hf : FR 3 u1 (tS t1) (tB t1)) : RR u1 t1 :=
  h.nowK (Nat.le_of_eq hn.1.symm) (fun q a _ _ => hn.2.1 q a) (fun a _ => by rw [hn.2.2.1]) (by rw [hn.2.2.2.1]) hn.2.2.2.2.2 ht hK hf
/-- a forest has changed, and objects may have been made -/
def NZ (F : Nat) (u u1 : CS) : Prop := wc_z u ≤ wc_z u1 ∧ (∀ q, q < wc_z u → ¬ InF F q → Sm u u1 q) ∧ wc_I u1 F 43 = wc_I u F 43 ∧ (RW u → RW u1)
theorem NZ.rfl' {F : Nat} : NZ F u u := ⟨Nat.le_refl _, fun _ _ _ => Sm.rfl' _ _, rfl, fun h => h⟩
theorem NZ.trans {F : Nat} {u2 : CS} (h : NZ F u u1) (h' : NZ F u1 u2) : NZ F u u2 := ⟨Nat.le_trans h.1 h'.1, fun q hq hn => (h.2.1 q hq hn).trans (h'.2.1 q (Nat.lt_of_lt_of_le hq h.1) hn), h'.2.2.1.trans h.2.2.1, fun w => h'.2.2.2 (h.2.2.2 w)⟩
theorem NX.nz {F : Nat} (h : NX F u u1) : NZ F u u1 := ⟨Nat.le_of_eq h.1.symm, fun q _ hn => h.2.1 q hn, h.2.2.2.2.2, fun w => w.same (Nat.le_of_eq h.1.symm) (fun a _ => by rw [h.2.2.1]) (fun F _ => by rw [h.2.2.2.1]) (fun q _ _ => by rw [h.2.2.2.2.1])⟩
theorem RR.nz (h : RR u t) (hn : NZ 3 u u1) (ht : TX t t1) (hf : FR 3 u1 (tS t1) (tB t1)) : RR u1 t1 :=
  h.nowW hn.1 (fun q a _ b => hn.2.1 q b a) (hn.2.2.2 h.w) hn.2.2.1 ht.1 (h.k.up ht.2.1 ht.2.2) hf
end PL6
