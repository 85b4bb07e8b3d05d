/-! PLAIN LAW, LINES 8: the twin's not; the twin's reader is the grammar -/
section PO8
variable {t t1 t2 : TS} {N m k : Nat} {b : Nat → Nat} {p : PS} {n : Nat} {g : Nat → TS → Option (Int32 × TS)}
theorem cmp_val {c : Nat} (hc : c = 61 ∨ c = 60 ∨ c = 62) (v r : Int32) : (if (lg_cmp (Int64.ofNat c) (60 : Int64)) = 0 then (if r ≤ v then some ((0 : Int32), t) else some ((1 : Int32), t)) else (if (lg_cmp (Int64.ofNat c) (61 : Int64)) = 0 then (if v = r then some ((1 : Int32), t) else some ((0 : Int32), t)) else (if v ≤ r then some ((0 : Int32), t) else some ((1 : Int32), t)))) = some (ex_bin c v r, t) := by
  have e60 : ∀ c : Nat, c < 256 → c ≠ 60 → ¬ (lg_cmp (Int64.ofNat c) (60 : Int64) = 0) := fun c hc hn q => hn ((pq_eq (c := 60) (by omega) (by omega)).mp (lg_eq.mp q))
  have e61 : ∀ c : Nat, c < 256 → c ≠ 61 → ¬ (lg_cmp (Int64.ofNat c) (61 : Int64) = 0) := fun c hc hn q => hn ((pq_eq (c := 61) (by omega) (by omega)).mp (lg_eq.mp q))
  rcases hc with rfl | rfl | rfl
  · have p61 : lg_cmp (Int64.ofNat 61) (61 : Int64) = 0 := lg_eq.mpr rfl
    rw [if_neg (e60 61 (by omega) (by omega)), if_pos p61, show ex_bin 61 v r = (if v = r then 1 else 0) by unfold ex_bin; simp]
    split <;> rfl
  · have p60 : lg_cmp (Int64.ofNat 60) (60 : Int64) = 0 := lg_eq.mpr rfl
    rw [if_pos p60, show ex_bin 60 v r = (if v < r then 1 else 0) by unfold ex_bin; simp]
    by_cases c1 : r ≤ v
    · rw [if_pos c1, if_neg (Int32.not_lt.mpr c1)]
    · rw [if_neg c1, if_pos (Int32.not_le.mp c1)]
  · rw [if_neg (e60 62 (by omega) (by omega)), if_neg (e61 62 (by omega) (by omega)), show ex_bin 62 v r = (if r < v then 1 else 0) by unfold ex_bin; simp]
    by_cases c1 : v ≤ r
    · rw [if_pos c1, if_neg (Int32.not_lt.mpr c1)]
    · rw [if_neg c1, if_pos (Int32.not_le.mp c1)]
theorem t_not (hN : 100000 ≤ N) {ga : Nat → PS → ApR} (h2 : SubR b m k (g 2) (ga 2)) (h3 : SubR b m k (g 3) (ga 3)) (hop : ∀ w p e p', ga w p = some (.ok (e, p')) → ps_op p' = ps_op p) (h : TR b m t p) (h15 : t.1 15 = Int32.ofNat k) {r : Except Nat (Ex × PS)} (hr : ap_not (ap_nx b m) ga p = some r) : Rs b m k t (fX7_not N g t) r := by
  have sw : fX7_isWord N t 10631 = some (if p.1 = (1, 21) then 1 else 0, t) := by rw [← wcl21]; exact t_word h (by omega)
  unfold ap_not at hr
  unfold fX7_not
  rw [sw]
  simp only [pl_bd2, pl_01, ite_not]
  by_cases c21 : p.1 = (1, 21)
  · rw [if_pos c21] at hr ⊢
    unfold ap_op at hr
    obtain ⟨o1, o2⟩ := t_opens (N := N) hN h
    by_cases c6 : ps_op p = 6
    · rw [if_pos c6] at hr
      cases hr
      obtain ⟨t1, a1, a2, a3⟩ := o1 c6
      rw [a1]
      exact ⟨0, t1, rfl, a3, a2⟩
    · rw [if_neg c6] at hr
      obtain ⟨t1, a1, a2, a3, a4⟩ := o2 c6
      rw [a1]
      simp only [pl_bd2, if_neg (show ¬ ((1 : Int32) = 0) by decide)]
      unfold fX7_not_43
      have red : ∀ (t2 : TS) (v : Int32), (if v = 0 then some ((1 : Int32), t2) else some ((0 : Int32), t2)) = some ((if v = 0 then (1 : Int32) else 0), t2) := fun t2 v => by split <;> rfl
      cases hx : ap_nx b m (ps_hr p) (ps_op p + 1) with
      | error n' =>
        rw [hx] at hr
        cases hr
        obtain ⟨v2, t2, d1, d2, d3⟩ := h3.2 t1 n' (a4 n' hx)
        rw [d1]
        simp only [pl_bd2, pl_nm]
        rw [red]
        exact ⟨_, _, rfl, d3.uI12, (a2.trans d2).uI (by omega)⟩
      | ok p1 =>
        rw [hx] at hr
        obtain ⟨b1, -, b3, -⟩ := a3 p1 hx
        have hr : ap_bd (ga 3 p1) (fun e p2 => some (.ok (ex_not e, ap_dn p2))) = some r := hr
        cases hy : ga 3 p1 with
        | none => rw [hy] at hr; cases hr
        | some r1 =>
          rw [hy] at hr
          have q := h3.1 t1 p1 r1 b1 (a2.who h15) hy
          cases r1 with
          | error n' =>
            cases hr
            obtain ⟨v2, t2, d1, d2, d3⟩ := q
            rw [d1]
            simp only [pl_bd2, pl_nm]
            rw [red]
            exact ⟨_, _, rfl, d2.uI12, (a2.trans d3).uI (by omega)⟩
          | ok q1 =>
            cases hr
            obtain ⟨t2, d1, d2, d3⟩ := q
            rw [d1]
            simp only [pl_bd2, pl_nm]
            rw [red]
            refine ⟨_, by rw [a2.tell]; rfl, ?_, (a2.trans d3).uI (by omega)⟩
            rcases d2.dn with x | x
            · exact x
            · have := hop 3 p1 q1.1 q1.2 hy
              omega
  · rw [if_neg c21] at hr ⊢
    cases hy : ga 2 p with
    | none => rw [hy] at hr; cases hr
    | some r1 =>
      rw [hy] at hr
      have q := h2.1 t p r1 h h15 hy
      cases r1 with
      | error n' =>
        cases hr
        obtain ⟨v2, t2, d1, d2, d3⟩ := q
        rw [d1]
        simp only [pl_bd2]
        rw [d_sign d2]
        simp only [pl_bd2, if_true]
        rw [d_sign d2]
        simp only [pl_bd2, if_true]
        rw [d_sign d2]
        simp only [pl_bd2, if_true]
        exact ⟨v2, t2, rfl, d2, d3⟩
      | ok q1 =>
        obtain ⟨t1, d1, d2, d3⟩ := q
        rw [d1]
        simp only [pl_bd2]
        have hr : (match ap_tC q1.2.1 with
          | none => some (.ok (q1.1, q1.2))
          | some c => ap_to (ap_nx b m (ps_hr q1.2) (ps_op q1.2)) (fun p2 => ap_bd (ga 2 p2) (fun e2 p3 => some (.ok (ex_two c q1.1 e2, p3))))) = some r := hr
        have s60 : fX7_isSign N t1 60 = some (if q1.2.1 = (3, 60) then 1 else 0, t1) := t_sign d2 (c := 60) (by omega)
        have s61 : fX7_isSign N t1 61 = some (if q1.2.1 = (3, 61) then 1 else 0, t1) := t_sign d2 (c := 61) (by omega)
        have s62 : fX7_isSign N t1 62 = some (if q1.2.1 = (3, 62) then 1 else 0, t1) := t_sign d2 (c := 62) (by omega)
        have go : ∀ c, q1.2.1 = (3, c) → (c = 61 ∨ c = 60 ∨ c = 62) → Rs b m k t (fX7_not_78 N g t1 (q1.1 (tellV (tS t) (t.1 17) k (t.1 16)))) r := by
          intro c hp hc
          have ht : ap_tC q1.2.1 = some c := by unfold ap_tC; rw [hp, if_pos ⟨rfl, hc⟩]
          rw [ht] at hr
          have hr : ap_to (ap_nx b m (ps_hr q1.2) (ps_op q1.2)) (fun p2 => ap_bd (ga 2 p2) (fun e2 p3 => some (.ok (ex_two c q1.1 e2, p3)))) = some r := hr
          obtain ⟨z1, -⟩ := sgn_tok d2 hp
          unfold fX7_not_78 fX7_not_137 fX7_not_133 fX7_not_138
          simp only [pl_nm]
          rw [z1]
          obtain ⟨t2, a1, a2, a3, a4⟩ := d2.next hN
          rw [a1]
          simp only [pl_bd]
          cases hx : ap_nx b m (ps_hr q1.2) (ps_op q1.2) with
          | error n' =>
            rw [hx] at hr
            cases hr
            obtain ⟨v2, t3, e1, e2, e3⟩ := h2.2 t2 n' (a4 n' hx)
            rw [e1]
            simp only [pl_bd2]
            rw [cmp_val hc]
            exact ⟨_, t3, rfl, e3, (d3.trans a2).trans e2⟩
          | ok p2 =>
            rw [hx] at hr
            have hr : ap_bd (ga 2 p2) (fun e2 p3 => some (.ok (ex_two c q1.1 e2, p3))) = some r := hr
            cases hz : ga 2 p2 with
            | none => rw [hz] at hr; cases hr
            | some r2 =>
              rw [hz] at hr
              have q := h2.1 t2 p2 r2 (a3 p2 hx).1 ((d3.trans a2).who h15) hz
              cases r2 with
              | error n' =>
                cases hr
                obtain ⟨v2, t3, e1, e2, e3⟩ := q
                rw [e1]
                simp only [pl_bd2]
                rw [cmp_val hc]
                exact ⟨_, t3, rfl, e2, (d3.trans a2).trans e3⟩
              | ok q2 =>
                cases hr
                obtain ⟨t3, e1, e2, e3⟩ := q
                rw [e1]
                simp only [pl_bd2]
                rw [cmp_val hc]
                exact ⟨t3, by rw [(d3.trans a2).tell]; rfl, e2, (d3.trans a2).trans e3⟩
        rw [s60]
        simp only [pl_bd2, s61, s62, pl_01, ite_not]
        by_cases c1 : q1.2.1 = (3, 60)
        · rw [if_pos c1]; exact go 60 c1 (by omega)
        · rw [if_neg c1]
          by_cases c2 : q1.2.1 = (3, 61)
          · rw [if_pos c2]; exact go 61 c2 (by omega)
          · rw [if_neg c2]
            by_cases c3 : q1.2.1 = (3, 62)
            · rw [if_pos c3]; exact go 62 c3 (by omega)
            · rw [if_neg c3]
              have ht : ap_tC q1.2.1 = none := by
                unfold ap_tC
                rw [if_neg]
                rintro ⟨x1, x2⟩
                have : q1.2.1 = (3, q1.2.1.2) := by rw [← x1]
                rcases x2 with x2 | x2 | x2 <;> rw [x2] at this
                · exact c2 this
                · exact c1 this
                · exact c3 this
              rw [ht] at hr
              cases hr
              exact ⟨t1, rfl, d2, d3⟩
/-- the twin's reader is the grammar -/
theorem t_ap (hN : 100000 ≤ N) (hk : WhoN k) (d : Nat) : ∀ (D w : Nat) (t : TS) (p : PS) (r : Except Nat (Ex × PS)), w ≤ 5 → d + 6 ≤ D → TR b m t p → t.1 15 = Int32.ofNat k → ap (ap_nx b m) d w p = some r → Rs b m k t (pgX7 N D w t) r := by
  induction d with
  | zero => intro D w t p r _ _ _ _ h; cases h
  | succ d ih =>
    intro D w t p r hw hD h h15 hr
    obtain ⟨D, rfl⟩ : ∃ E, D = E + 1 := ⟨D - 1, by omega⟩
    have sb : ∀ a, a ≤ 5 → SubR b m k (pgX7 N D a) (ap (ap_nx b m) d a) := fun a ha => ⟨fun t p r x1 x2 x3 => ih D a t p r ha (by omega) x1 x2 x3, fun t n x => d_pg hN D a t ha (by omega) x⟩
    have hop : ∀ w p e p', ap (ap_nx b m) d w p = some (.ok (e, p')) → ps_op p' = ps_op p := fun w p e p' x => ap_opEq d w p e p' x
    have two : ∀ (a : Nat) (ha : a ≤ 5) (tst : Tk → Option Nat) (L : TS → Int32 → Option (Int32 × TS)), (∀ (e : Ex) (v : Int32) (t : TS) (p : PS) (r : Except Nat (Ex × PS)), TR b m t p → t.1 15 = Int32.ofNat k → v = e (tellV (tS t) (t.1 17) k (t.1 16)) → ap_loop (ap_nx b m) tst (ap (ap_nx b m) d a) 200 e p = some r → Rs b m k t (L t v) r) → (∀ (t : TS) (n : Nat) (v : Int32), Dm b m t n → L t v = some (v, t)) → ap_bd (ap (ap_nx b m) d a p) (fun e p1 => ap_loop (ap_nx b m) tst (ap (ap_nx b m) d a) 200 e p1) = some r → Rs b m k t (o_bd2 (pgX7 N D a t) (fun v u => L u v)) r := by
      intro a ha tst L hL hd hr
      cases hy : ap (ap_nx b m) d a p with
      | none => rw [hy] at hr; cases hr
      | some r1 =>
        rw [hy] at hr
        have q := (sb a ha).1 t p r1 h h15 hy
        cases r1 with
        | error n' =>
          cases hr
          obtain ⟨v2, t2, d1, d2, d3⟩ := q
          rw [d1]
          simp only [pl_bd2]
          exact ⟨v2, t2, hd t2 n' v2 d2, d2, d3⟩
        | ok q1 =>
          obtain ⟨t2, d1, d2, d3⟩ := q
          rw [d1]
          simp only [pl_bd2]
          exact (hL q1.1 _ t2 q1.2 r d2 (d3.who h15) (by rw [d3.tell]) hr).from d3
    obtain ⟨M, hM⟩ : ∃ M, N = M + 1 := ⟨N - 1, by omega⟩
    rcases (by omega : w = 0 ∨ w = 1 ∨ w = 2 ∨ w = 3 ∨ w = 4 ∨ w = 5) with rfl | rfl | rfl | rfl | rfl | rfl
    · exact t_one hN hk (sb 0 (by omega)) (sb 5 (by omega)) hop h h15 hr
    · exact two 0 (by omega) ap_tT (fX7_term_5 N (pgX7 N D) N) (fun e v t p r x1 x2 x3 x4 => t_termLoop hN (sb 0 (by omega)) 200 N e v t p r (by omega) x1 x2 x3 x4) (fun t n v x => by rw [hM]; exact (d_loops x).1) hr
    · exact two 1 (by omega) ap_tS (fX7_added_5 N (pgX7 N D) N) (fun e v t p r x1 x2 x3 x4 => t_addLoop hN (sb 1 (by omega)) 200 N e v t p r (by omega) x1 x2 x3 x4) (fun t n v x => by rw [hM]; exact (d_loops x).2.1) hr
    · exact t_not hN (sb 2 (by omega)) (sb 3 (by omega)) hop h h15 hr
    · exact two 3 (by omega) ap_tB (fX7_both_5 N (pgX7 N D) N) (fun e v t p r x1 x2 x3 x4 => t_bothLoop hN (sb 3 (by omega)) 200 N e v t p r (by omega) x1 x2 x3 x4) (fun t n v x => by rw [hM]; exact (d_loops x).2.2.1) hr
    · exact two 4 (by omega) ap_tA (fX7_either_5 N (pgX7 N D) N) (fun e v t p r x1 x2 x3 x4 => t_eithLoop hN (sb 4 (by omega)) 200 N e v t p r (by omega) x1 x2 x3 x4) (fun t n v x => by rw [hM]; exact (d_loops x).2.2.2) hr
end PO8
