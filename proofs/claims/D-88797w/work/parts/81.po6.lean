/-! PLAIN LAW, LINES 6: the twin's reader is the grammar -/
section PO6
variable {t t1 t2 : TS} {N m k : Nat} {b : Nat → Nat} {p : PS} {n : Nat} {g : Nat → TS → Option (Int32 × TS)}
theorem TR.dn (h : TR b m t p) : TR b m (mt_uI t 12 (t.1 12 - 1)) (ap_dn p) ∨ ps_op p = 0 := by
  by_cases c : ps_op p = 0
  · exact Or.inr c
  · left
    obtain ⟨h1, h2, h3, h4, h5, h6, h7, h8, h9, h10⟩ := h
    refine ⟨h1.tg (TG.rfl'.uI (by omega)), by rw [rtI_I, upd_ne (by omega)]; exact h2, by rw [rtI_I, upd_ne (by omega)]; exact h3, h4, by rw [rtI_I, upd_ne (by omega)]; exact h5, h6, ?_, by show ps_op p - 1 ≤ 6; omega, by rw [rtI_I, upd_ne (by omega)]; exact h9, h10⟩
    rw [rtI_I, upd_eq, h7, pl_subL (by omega)]
    rfl
theorem Dm.uI12 (h : Dm b m t n) {v : Int32} : Dm b m (mt_uI t 12 v) n := by
  refine ⟨h.1.tg (TG.rfl'.uI (by omega)), h.2.1, ?_⟩
  rw [rtI_I, upd_ne (by omega), upd_ne (by omega), upd_ne (by omega), upd_ne (by omega)]
  exact h.2.2
theorem t_sgn3 (h : TR b m t p) : t.1 8 = 3 → p.1.1 = 3 := by
  intro e
  obtain ⟨-, -, -, -, -, -, -, -, h2, h3⟩ := h
  rcases h2 with ⟨-, e1⟩ | ⟨-, -, e1, -⟩ | ⟨-, -, e1, -⟩ | ⟨e1, -⟩ | ⟨e1, -⟩
  · rw [e1] at e; exact absurd e (by decide)
  · rw [e1] at e; exact absurd e (by decide)
  · rw [e1] at e; exact absurd e (by decide)
  · exact e1
  · exact absurd e1 h3
theorem t_k8 (h : TR b m t p) : (t.1 8 = 1 ↔ p.1.1 = 1) ∧ (t.1 8 = 2 ↔ p.1.1 = 2) ∧ (p.1.1 = 1 → p.1.2 < 23) ∧ (p.1.1 = 2 → p.1.2 < 1000000 ∧ t.2.1 10 = Int64.ofNat p.1.2) := by
  obtain ⟨-, -, -, -, -, -, -, -, h2, h3⟩ := h
  rcases h2 with ⟨e, e1⟩ | ⟨e, e0, e1, e2⟩ | ⟨e, e0, e1, e2⟩ | ⟨e, e0, e1, e2⟩ | ⟨e, -⟩
  · have e : p.1.1 = 0 := by rw [e]
    rw [e1, e]; exact ⟨by decide, by decide, by omega, by omega⟩
  · rw [e1, e]; exact ⟨by decide, by decide, fun _ => e0, by omega⟩
  · rw [e1, e]; exact ⟨by decide, by decide, by omega, fun _ => ⟨e0, e2⟩⟩
  · rw [e1, e]; exact ⟨by decide, by decide, by omega, by omega⟩
  · exact absurd e h3
/-- the next token, and what has been read -/
theorem next_ok (hN : 100000 ≤ N) (h : TR b m t p) {v : Int32} {e : Ex} (hv : v = e (tellV (tS t) (t.1 17) k (t.1 16))) {r : Except Nat (Ex × PS)} (hr : ap_to (ap_nx b m (ps_hr p) (ps_op p)) (fun p1 => some (.ok (e, p1))) = some r) : Rs b m k t (o_bd (fX7_next N t) (fun u => some (v, u))) r := by
  obtain ⟨t1, a1, a2, a3, a4⟩ := h.next hN
  rw [a1]
  simp only [pl_bd]
  cases hx : ap_nx b m (ps_hr p) (ps_op p) with
  | error n' =>
    rw [hx] at hr
    cases hr
    exact ⟨v, t1, rfl, a4 n' hx, a2⟩
  | ok p1 =>
    rw [hx] at hr
    cases hr
    exact ⟨t1, by rw [hv], (a3 p1 hx).1, a2⟩
theorem t_one (hN : 100000 ≤ N) (hk : WhoN k) {ga : Nat → PS → ApR} (h0 : SubR b m k (g 0) (ga 0)) (h5 : SubR b m k (g 5) (ga 5)) (hop : ∀ w p e p', ga w p = some (.ok (e, p')) → ps_op p' = ps_op p) (h : TR b m t p) (h15 : t.1 15 = Int32.ofNat k) {r : Except Nat (Ex × PS)} (hr : ap_one (ap_nx b m) ga p = some r) : Rs b m k t (fX7_one N g t) r := by
  have s45 : fX7_isSign N t 45 = some (if p.1 = (3, 45) then 1 else 0, t) := t_sign h (c := 45) (by omega)
  have s40 : fX7_isSign N t 40 = some (if p.1 = (3, 40) then 1 else 0, t) := t_sign h (c := 40) (by omega)
  obtain ⟨k1, k2, k3, k4⟩ := t_k8 h
  obtain ⟨tf, f1, f2, f3, f4⟩ := r_fail (N := N) h
  unfold ap_one at hr
  unfold fX7_one
  rw [s45]
  simp only [pl_bd2, pl_01, ite_not, s40]
  by_cases c45 : p.1 = (3, 45)
  · rw [if_pos c45]
    rw [if_neg (by rw [c45]; decide), if_neg (by rw [c45]; omega), if_pos c45] at hr
    unfold ap_op at hr
    obtain ⟨o1, o2⟩ := t_opens (N := N) hN h
    by_cases c6 : ps_op p = 6
    · rw [if_pos c6] at hr
      cases hr
      obtain ⟨t1, a1, a2, a3⟩ := o1 c6
      rw [a1]
      exact ⟨0, t1, rfl, a3, a2⟩
    · rw [if_neg c6] at hr
      obtain ⟨t1, a1, a2, a3, a4⟩ := o2 c6
      rw [a1]
      simp only [pl_bd2, if_neg (show ¬ ((1 : Int32) = 0) by decide)]
      unfold fX7_one_161
      cases hx : ap_nx b m (ps_hr p) (ps_op p + 1) with
      | error n' =>
        rw [hx] at hr
        cases hr
        obtain ⟨v2, t2, d1, d2, d3⟩ := h0.2 t1 n' (a4 n' hx)
        rw [d1]
        simp only [pl_bd2, pl_nm]
        exact ⟨_, _, rfl, d3.uI12, (a2.trans d2).uI (by omega)⟩
      | ok p1 =>
        rw [hx] at hr
        obtain ⟨b1, -, b3, -⟩ := a3 p1 hx
        have hr : ap_bd (ga 0 p1) (fun e p2 => some (.ok (ex_neg e, ap_dn p2))) = some r := hr
        cases hy : ga 0 p1 with
        | none => rw [hy] at hr; cases hr
        | some r1 =>
          rw [hy] at hr
          have q := h0.1 t1 p1 r1 b1 (a2.who h15) hy
          cases r1 with
          | error n' =>
            cases hr
            obtain ⟨v2, t2, d1, d2, d3⟩ := q
            rw [d1]
            simp only [pl_bd2, pl_nm]
            exact ⟨_, _, rfl, d2.uI12, (a2.trans d3).uI (by omega)⟩
          | ok q1 =>
            cases hr
            obtain ⟨t2, d1, d2, d3⟩ := q
            rw [d1]
            simp only [pl_bd2, pl_nm]
            refine ⟨_, by rw [a2.tell]; rfl, ?_, (a2.trans d3).uI (by omega)⟩
            rcases d2.dn with x | x
            · exact x
            · have := hop 0 p1 q1.1 q1.2 hy
              omega
  · rw [if_neg c45]
    by_cases c40 : p.1 = (3, 40)
    · rw [if_pos c40]
      rw [if_neg (by rw [c40]; decide), if_neg (by rw [c40]; omega), if_neg c45, if_pos c40] at hr
      unfold ap_op at hr
      obtain ⟨o1, o2⟩ := t_opens (N := N) hN h
      by_cases c6 : ps_op p = 6
      · rw [if_pos c6] at hr
        cases hr
        obtain ⟨t1, a1, a2, a3⟩ := o1 c6
        rw [a1]
        exact ⟨0, t1, rfl, a3, a2⟩
      · rw [if_neg c6] at hr
        obtain ⟨t1, a1, a2, a3, a4⟩ := o2 c6
        rw [a1]
        simp only [pl_bd2, if_neg (show ¬ ((1 : Int32) = 0) by decide)]
        -- what a failed reader does from here
        have bad : ∀ (t2 : TS) (v : Int32) (n' : Nat), Dm b m t2 n' → TG t t2 → Rs b m k t (o_bd2 (fX7_isSign N t2 (41 : Int32)) (fun r27 u26 => (if r27 = 0 then o_bd (fX7_fail N u26) (fun u29 => fX7_one_71 N g u29 v) else fX7_one_71 N g u26 v))) (.error n') := by
          intro t2 v n' hd tg
          rw [d_sign hd]
          simp only [pl_bd2, if_true]
          obtain ⟨t3, e1, e2, e3, e4, e5⟩ := d_fail (N := N) hd
          rw [e1]
          simp only [pl_bd]
          unfold fX7_one_71 fX7_one_161
          simp only [pl_nm]
          rw [if_neg (by rw [rtI_I, upd_ne (by omega), e4]; decide)]
          exact ⟨_, _, rfl, e2.uI12, (tg.trans e3).uI (by omega)⟩
        cases hx : ap_nx b m (ps_hr p) (ps_op p + 1) with
        | error n' =>
          rw [hx] at hr
          cases hr
          obtain ⟨v2, t2, d1, d2, d3⟩ := h5.2 t1 n' (a4 n' hx)
          rw [d1]
          simp only [pl_bd2]
          exact bad t2 v2 n' d3 (a2.trans d2)
        | ok p1 =>
          rw [hx] at hr
          obtain ⟨b1, -, b3, -⟩ := a3 p1 hx
          have hr : ap_bd (ga 5 p1) (fun e p2 => if p2.1 = (3, 41) then ap_to (ap_nx b m (ps_hr p2) (ps_op p2 - 1)) (fun p3 => some (.ok (e, p3))) else some (.error (ps_bg p2))) = some r := hr
          cases hy : ga 5 p1 with
          | none => rw [hy] at hr; cases hr
          | some r1 =>
            rw [hy] at hr
            have q := h5.1 t1 p1 r1 b1 (a2.who h15) hy
            cases r1 with
            | error n' =>
              cases hr
              obtain ⟨v2, t2, d1, d2, d3⟩ := q
              rw [d1]
              simp only [pl_bd2]
              exact bad t2 v2 n' d2 (a2.trans d3)
            | ok q1 =>
              obtain ⟨t2, d1, d2, d3⟩ := q
              have hr : (if q1.2.1 = (3, 41) then ap_to (ap_nx b m (ps_hr q1.2) (ps_op q1.2 - 1)) (fun p3 => some (.ok (q1.1, p3))) else some (.error (ps_bg q1.2))) = some r := hr
              rw [d1]
              simp only [pl_bd2]
              have s41 : fX7_isSign N t2 41 = some (if q1.2.1 = (3, 41) then 1 else 0, t2) := t_sign d2 (c := 41) (by omega)
              rw [s41]
              simp only [pl_bd2, pl_01, ite_not]
              have tg := a2.trans d3
              by_cases c41 : q1.2.1 = (3, 41)
              · rw [if_pos c41] at hr ⊢
                unfold fX7_one_71 fX7_one_161
                simp only [pl_nm]
                have op1 := hop 5 p1 q1.1 q1.2 hy
                rcases d2.dn with x | x
                · rw [if_pos x.2.1]
                  exact (next_ok (k := k) hN x (v := q1.1 (tellV (tS t1) (t1.1 17) k (t1.1 16))) (e := q1.1) (by rw [(d3.uI (k := 12) (v := t2.1 12 - 1) (by omega)).tell]) hr).from (tg.uI (by omega))
                · omega
              · rw [if_neg c41] at hr ⊢
                cases hr
                obtain ⟨t3, e1, e2, e3, e4⟩ := r_fail (N := N) d2
                rw [e1]
                simp only [pl_bd]
                unfold fX7_one_71 fX7_one_161
                simp only [pl_nm]
                rw [if_neg (by rw [rtI_I, upd_ne (by omega), e4]; decide)]
                exact ⟨_, _, rfl, e2.uI12, (tg.trans e3).uI (by omega)⟩
    · rw [if_neg c40, if_pos h.2.1]
      rw [if_neg c45, if_neg c40] at hr
      unfold fX7_one_123 fX7_one_157 fX7_one_161
      by_cases c2 : p.1.1 = 2
      · rw [if_pos (k2.mpr c2)]
        rw [if_pos c2] at hr
        simp only [pl_nm]
        exact next_ok hN h (by rw [(k4 c2).2, pq_of (by have := (k4 c2).1; omega)]; rfl) hr
      · rw [if_neg (fun q => c2 (k2.mp q)), if_pos h.2.1]
        rw [if_neg c2] at hr
        by_cases c1 : p.1.1 = 1
        · rw [if_pos (k1.mpr c1)]
          have hp : p.1 = (1, p.1.2) := by rw [← c1]
          obtain ⟨n1, n2⟩ := t_name (N := N) h hk h15 hp (k3 c1)
          by_cases c8 : 8 ≤ p.1.2 ∧ p.1.2 < 18
          · rw [if_pos ⟨c1, c8⟩] at hr
            rw [n1 c8]
            simp only [pl_bd2]
            rw [if_pos h.2.1]
            exact next_ok hN h rfl hr
          · rw [if_neg (fun q => c8 q.2)] at hr
            cases hr
            obtain ⟨t1, a1, a2, a3, a4⟩ := n2 c8
            rw [a1]
            simp only [pl_bd2]
            rw [if_neg (by rw [a4]; decide)]
            exact ⟨0, t1, rfl, a3, a2⟩
        · rw [if_neg (fun q => c1 (k1.mp q))]
          rw [if_neg (fun q => c1 q.1)] at hr
          cases hr
          rw [f1]
          exact ⟨0, tf, rfl, f2, f3⟩
end PO6
