/-! PLAIN LAW, LINES 5: the twin's other loops -/
section PO5
variable {t t1 t2 : TS} {N m k : Nat} {b : Nat → Nat} {p : PS} {n : Nat} {g : Nat → TS → Option (Int32 × TS)}
theorem add_val {c : Nat} (hc : c = 43 ∨ c = 45) (ag : TS → Int32 → Option (Int32 × TS)) (v r : Int32) : (if (if c = 43 then (1 : Int32) else 0) = 0 then ag t (v - r) else ag t (v + r)) = ag t (ex_bin c v r) := by
  rcases hc with rfl | rfl
  · rw [show ex_bin 43 v r = v + r by unfold ex_bin; simp, if_pos rfl, if_neg (by decide)]
  · rw [show ex_bin 45 v r = v - r by unfold ex_bin; simp, if_neg (show ¬ 45 = 43 by omega), if_pos rfl]
theorem add_red {c : Nat} (hc : c = 43 ∨ c = 45) (hz : t.2.1 10 = Int64.ofNat c) {ag : TS → Int32 → Option (Int32 × TS)} {v : Int32} : fX7_added_23 N g ag t v = o_bd (fX7_next N t) (fun u1 => o_bd2 (g 1 u1) (fun r3 u2 => (if (if c = 43 then (1 : Int32) else 0) = 0 then ag u2 (v - r3) else ag u2 (v + r3)))) := by
  unfold fX7_added_23 fX7_added_39 fX7_added_62
  rw [hz]
  rcases hc with rfl | rfl
  · have p43 : lg_cmp (Int64.ofNat 43) (43 : Int64) = 0 := lg_eq.mpr rfl
    rw [if_pos p43, if_pos rfl]
  · have p43 : ¬ (lg_cmp (Int64.ofNat 45) (43 : Int64) = 0) := fun q => absurd ((pq_eq (c := 43) (by omega) (by omega)).mp (lg_eq.mp q)) (by omega)
    rw [if_neg p43, if_neg (show ¬ 45 = 43 by omega)]
theorem t_addLoop (hN : 100000 ≤ N) {sub : PS → ApR} (hs : SubR b m k (g 1) sub) (n : Nat) : ∀ (f : Nat) (e : Ex) (v : Int32) (t : TS) (p : PS) (r : Except Nat (Ex × PS)), n < f → TR b m t p → t.1 15 = Int32.ofNat k → v = e (tellV (tS t) (t.1 17) k (t.1 16)) → ap_loop (ap_nx b m) ap_tS sub n e p = some r → Rs b m k t (fX7_added_5 N g f t v) r := by
  induction n with
  | zero => intro f e v t p r _ _ _ _ h; cases h
  | succ n ih =>
    intro f e v t p r hf h h15 hv hr
    obtain ⟨f, rfl⟩ : ∃ g, f = g + 1 + 1 := ⟨f - 2, by omega⟩
    have hr : (match ap_tS p.1 with
      | none => some (.ok (e, p))
      | some c => ap_to (ap_nx b m (ps_hr p) (ps_op p)) (fun p1 => ap_bd (sub p1) (fun e2 p2 => ap_loop (ap_nx b m) ap_tS sub n (ex_two c e e2) p2))) = some r := hr
    have go : ∀ c, p.1 = (3, c) → (c = 43 ∨ c = 45) → Rs b m k t (fX7_added_23 N g (fX7_added_5 N g (f + 1)) t v) r := by
      intro c hp hc
      have ht : ap_tS p.1 = some c := by unfold ap_tS; rw [hp, if_pos ⟨rfl, hc⟩]
      rw [ht] at hr
      simp only [] at hr
      obtain ⟨z1, z2⟩ := sgn_tok h hp
      rw [add_red hc z1]
      obtain ⟨t1, a1, a2, a3, a4⟩ := h.next hN
      rw [a1]
      simp only [pl_bd]
      cases hx : ap_nx b m (ps_hr p) (ps_op p) with
      | error n' =>
        rw [hx] at hr
        cases hr
        obtain ⟨v2, t2, d1, d2, d3⟩ := hs.2 t1 n' (a4 n' hx)
        rw [d1]
        simp only [pl_bd2]
        rw [add_val hc (fX7_added_5 N g (f + 1))]
        exact ⟨_, t2, (d_loops d3).2.1, d3, a2.trans d2⟩
      | ok p1 =>
        rw [hx] at hr
        obtain ⟨b1, -⟩ := a3 p1 hx
        have hr : ap_bd (sub p1) (fun e2 p2 => ap_loop (ap_nx b m) ap_tS sub n (ex_two c e e2) p2) = some r := hr
        cases hy : sub p1 with
        | none => rw [hy] at hr; cases hr
        | some r1 =>
          rw [hy] at hr
          have q := hs.1 t1 p1 r1 b1 (a2.who h15) hy
          cases r1 with
          | error n' =>
            cases hr
            obtain ⟨v2, t2, d1, d2, d3⟩ := q
            rw [d1]
            simp only [pl_bd2]
            rw [add_val hc (fX7_added_5 N g (f + 1))]
            exact ⟨_, t2, (d_loops d2).2.1, d2, a2.trans d3⟩
          | ok q1 =>
            obtain ⟨t2, d1, d2, d3⟩ := q
            rw [d1]
            simp only [pl_bd2]
            rw [add_val hc (fX7_added_5 N g (f + 1))]
            have tg := a2.trans d3
            refine Rs.from (ih (f + 1) (ex_two c e q1.1) _ t2 q1.2 r (by omega) d2 (tg.who h15) ?_ hr) tg
            rw [tg.tell, hv, a2.tell]
            rfl
    show Rs b m k t (o_bd2 _ _) r
    have s43 : fX7_isSign N t 43 = some (if p.1 = (3, 43) then 1 else 0, t) := t_sign h (c := 43) (by omega)
    have s45 : fX7_isSign N t 45 = some (if p.1 = (3, 45) then 1 else 0, t) := t_sign h (c := 45) (by omega)
    rw [s43]
    simp only [pl_bd2, s45, pl_01, ite_not]
    by_cases c1 : p.1 = (3, 43)
    · rw [if_pos c1]; exact go 43 c1 (by omega)
    · rw [if_neg c1]
      by_cases c2 : p.1 = (3, 45)
      · rw [if_pos c2]; exact go 45 c2 (by omega)
      · rw [if_neg c2]
        have ht : ap_tS p.1 = none := by
          unfold ap_tS
          rw [if_neg]
          rintro ⟨x1, x2⟩
          have : p.1 = (3, p.1.2) := by rw [← x1]
          rcases x2 with x2 | x2 <;> rw [x2] at this
          · exact c1 this
          · exact c2 this
        rw [ht] at hr
        cases hr
        exact ⟨t, by rw [hv], h, TG.rfl'⟩
def bothV (ag : TS → Int32 → Option (Int32 × TS)) (u : TS) (v r : Int32) : Option (Int32 × TS) := if v = 0 then ag u 0 else if r = 0 then ag u 0 else ag u 1
theorem bothV_val {ag : TS → Int32 → Option (Int32 × TS)} {u : TS} {v r : Int32} : bothV ag u v r = ag u (ex_bin 38 v r) := by
  unfold bothV
  rw [show ex_bin 38 v r = (if v ≠ 0 ∧ r ≠ 0 then 1 else 0) by unfold ex_bin; simp]
  by_cases c1 : v = 0
  · rw [if_pos c1, if_neg (fun q => q.1 c1)]
  · rw [if_neg c1]
    by_cases c2 : r = 0
    · rw [if_pos c2, if_neg (fun q => q.2 c2)]
    · rw [if_neg c2, if_pos ⟨c1, c2⟩]
def eithV (ag : TS → Int32 → Option (Int32 × TS)) (u : TS) (v r : Int32) : Option (Int32 × TS) := if v = 0 then (if r = 0 then ag u 0 else ag u 1) else ag u 1
theorem eithV_val {ag : TS → Int32 → Option (Int32 × TS)} {u : TS} {v r : Int32} : eithV ag u v r = ag u (ex_bin 124 v r) := by
  unfold eithV
  rw [show ex_bin 124 v r = (if v ≠ 0 ∨ r ≠ 0 then 1 else 0) by unfold ex_bin; simp]
  by_cases c1 : v = 0
  · rw [if_pos c1]
    by_cases c2 : r = 0
    · rw [if_pos c2, if_neg (fun q => by rcases q with q | q; exact q c1; exact q c2)]
    · rw [if_neg c2, if_pos (Or.inr c2)]
  · rw [if_neg c1, if_pos (Or.inl c1)]
theorem t_bothLoop (hN : 100000 ≤ N) {sub : PS → ApR} (hs : SubR b m k (g 3) sub) (n : Nat) : ∀ (f : Nat) (e : Ex) (v : Int32) (t : TS) (p : PS) (r : Except Nat (Ex × PS)), n < f → TR b m t p → t.1 15 = Int32.ofNat k → v = e (tellV (tS t) (t.1 17) k (t.1 16)) → ap_loop (ap_nx b m) ap_tB sub n e p = some r → Rs b m k t (fX7_both_5 N g f t v) r := by
  induction n with
  | zero => intro f e v t p r _ _ _ _ h; cases h
  | succ n ih =>
    intro f e v t p r hf h h15 hv hr
    obtain ⟨f, rfl⟩ : ∃ g, f = g + 1 + 1 := ⟨f - 2, by omega⟩
    have hr : (match ap_tB p.1 with
      | none => some (.ok (e, p))
      | some c => ap_to (ap_nx b m (ps_hr p) (ps_op p)) (fun p1 => ap_bd (sub p1) (fun e2 p2 => ap_loop (ap_nx b m) ap_tB sub n (ex_two c e e2) p2))) = some r := hr
    have go : p.1 = (1, 20) → Rs b m k t (o_bd (fX7_next N t) (fun u4 => o_bd2 (g 3 u4) (fun r6 u5 => bothV (fX7_both_5 N g (f + 1)) u5 v r6))) r := by
      intro hp
      have ht : ap_tB p.1 = some 38 := by unfold ap_tB; rw [if_pos hp]
      rw [ht] at hr
      simp only [] at hr
      obtain ⟨t1, a1, a2, a3, a4⟩ := h.next hN
      rw [a1]
      simp only [pl_bd]
      cases hx : ap_nx b m (ps_hr p) (ps_op p) with
      | error n' =>
        rw [hx] at hr
        cases hr
        obtain ⟨v2, t2, d1, d2, d3⟩ := hs.2 t1 n' (a4 n' hx)
        rw [d1]
        simp only [pl_bd2]
        rw [bothV_val]
        exact ⟨_, t2, (d_loops d3).2.2.1, d3, a2.trans d2⟩
      | ok p1 =>
        rw [hx] at hr
        obtain ⟨b1, -⟩ := a3 p1 hx
        have hr : ap_bd (sub p1) (fun e2 p2 => ap_loop (ap_nx b m) ap_tB sub n (ex_two 38 e e2) p2) = some r := hr
        cases hy : sub p1 with
        | none => rw [hy] at hr; cases hr
        | some r1 =>
          rw [hy] at hr
          have q := hs.1 t1 p1 r1 b1 (a2.who h15) hy
          cases r1 with
          | error n' =>
            cases hr
            obtain ⟨v2, t2, d1, d2, d3⟩ := q
            rw [d1]
            simp only [pl_bd2]
            rw [bothV_val]
            exact ⟨_, t2, (d_loops d2).2.2.1, d2, a2.trans d3⟩
          | ok q1 =>
            obtain ⟨t2, d1, d2, d3⟩ := q
            rw [d1]
            simp only [pl_bd2]
            rw [bothV_val]
            have tg := a2.trans d3
            refine Rs.from (ih (f + 1) (ex_two 38 e q1.1) _ t2 q1.2 r (by omega) d2 (tg.who h15) ?_ hr) tg
            rw [tg.tell, hv, a2.tell]
            rfl
    show Rs b m k t (o_bd2 _ _) r
    have sw : fX7_isWord N t 1111 = some (if p.1 = (1, 20) then 1 else 0, t) := by rw [← wcl20]; exact t_word h (by omega)
    rw [sw]
    simp only [pl_bd2, pl_01, ite_not]
    by_cases c1 : p.1 = (1, 20)
    · rw [if_pos c1]; exact go c1
    · rw [if_neg c1]
      have ht : ap_tB p.1 = none := by unfold ap_tB; rw [if_neg c1]
      rw [ht] at hr
      cases hr
      exact ⟨t, by rw [hv], h, TG.rfl'⟩
theorem t_eithLoop (hN : 100000 ≤ N) {sub : PS → ApR} (hs : SubR b m k (g 4) sub) (n : Nat) : ∀ (f : Nat) (e : Ex) (v : Int32) (t : TS) (p : PS) (r : Except Nat (Ex × PS)), n < f → TR b m t p → t.1 15 = Int32.ofNat k → v = e (tellV (tS t) (t.1 17) k (t.1 16)) → ap_loop (ap_nx b m) ap_tA sub n e p = some r → Rs b m k t (fX7_either_5 N g f t v) r := by
  induction n with
  | zero => intro f e v t p r _ _ _ _ h; cases h
  | succ n ih =>
    intro f e v t p r hf h h15 hv hr
    obtain ⟨f, rfl⟩ : ∃ g, f = g + 1 + 1 := ⟨f - 2, by omega⟩
    have hr : (match ap_tA p.1 with
      | none => some (.ok (e, p))
      | some c => ap_to (ap_nx b m (ps_hr p) (ps_op p)) (fun p1 => ap_bd (sub p1) (fun e2 p2 => ap_loop (ap_nx b m) ap_tA sub n (ex_two c e e2) p2))) = some r := hr
    have go : p.1 = (1, 19) → Rs b m k t (o_bd (fX7_next N t) (fun u4 => o_bd2 (g 4 u4) (fun r6 u5 => eithV (fX7_either_5 N g (f + 1)) u5 v r6))) r := by
      intro hp
      have ht : ap_tA p.1 = some 124 := by unfold ap_tA; rw [if_pos hp]
      rw [ht] at hr
      simp only [] at hr
      obtain ⟨t1, a1, a2, a3, a4⟩ := h.next hN
      rw [a1]
      simp only [pl_bd]
      cases hx : ap_nx b m (ps_hr p) (ps_op p) with
      | error n' =>
        rw [hx] at hr
        cases hr
        obtain ⟨v2, t2, d1, d2, d3⟩ := hs.2 t1 n' (a4 n' hx)
        rw [d1]
        simp only [pl_bd2]
        rw [eithV_val]
        exact ⟨_, t2, (d_loops d3).2.2.2, d3, a2.trans d2⟩
      | ok p1 =>
        rw [hx] at hr
        obtain ⟨b1, -⟩ := a3 p1 hx
        have hr : ap_bd (sub p1) (fun e2 p2 => ap_loop (ap_nx b m) ap_tA sub n (ex_two 124 e e2) p2) = some r := hr
        cases hy : sub p1 with
        | none => rw [hy] at hr; cases hr
        | some r1 =>
          rw [hy] at hr
          have q := hs.1 t1 p1 r1 b1 (a2.who h15) hy
          cases r1 with
          | error n' =>
            cases hr
            obtain ⟨v2, t2, d1, d2, d3⟩ := q
            rw [d1]
            simp only [pl_bd2]
            rw [eithV_val]
            exact ⟨_, t2, (d_loops d2).2.2.2, d2, a2.trans d3⟩
          | ok q1 =>
            obtain ⟨t2, d1, d2, d3⟩ := q
            rw [d1]
            simp only [pl_bd2]
            rw [eithV_val]
            have tg := a2.trans d3
            refine Rs.from (ih (f + 1) (ex_two 124 e q1.1) _ t2 q1.2 r (by omega) d2 (tg.who h15) ?_ hr) tg
            rw [tg.tell, hv, a2.tell]
            rfl
    show Rs b m k t (o_bd2 _ _) r
    have sw : fX7_isWord N t 423 = some (if p.1 = (1, 19) then 1 else 0, t) := by rw [← wcl19]; exact t_word h (by omega)
    rw [sw]
    simp only [pl_bd2, pl_01, ite_not]
    by_cases c1 : p.1 = (1, 19)
    · rw [if_pos c1]; exact go c1
    · rw [if_neg c1]
      have ht : ap_tA p.1 = none := by unfold ap_tA; rw [if_neg c1]
      rw [ht] at hr
      cases hr
      exact ⟨t, by rw [hv], h, TG.rfl'⟩
end PO5
