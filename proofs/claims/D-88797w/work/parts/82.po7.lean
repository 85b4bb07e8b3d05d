/-! PLAIN LAW, LINES 7: the twin's not; all six -/
section PO7
variable {t t1 t2 : TS} {N m k : Nat} {b : Nat → Nat} {p : PS} {n : Nat} {g : Nat → TS → Option (Int32 × TS)}
theorem nx_op {hr op : Nat} {p1 : PS} (h : ap_nx b m hr op = .ok p1) : ps_op p1 = op := by
  unfold ap_nx at h
  simp only [] at h
  by_cases c : (lx_at b m hr).1.1 = 4
  · rw [if_pos c] at h; cases h
  · rw [if_neg c] at h; cases h; rfl
theorem loop_op {tst : Tk → Option Nat} {sub : PS → ApR} (hs : ∀ p e p', sub p = some (.ok (e, p')) → ps_op p' = ps_op p) (n : Nat) : ∀ (e : Ex) (p : PS) (e' : Ex) (p' : PS), ap_loop (ap_nx b m) tst sub n e p = some (.ok (e', p')) → ps_op p' = ps_op p := by
  induction n with
  | zero => intro e p e' p' h; cases h
  | succ n ih =>
    intro e p e' p' h
    have h : (match tst p.1 with
      | none => some (.ok (e, p))
      | some c => ap_to (ap_nx b m (ps_hr p) (ps_op p)) (fun p1 => ap_bd (sub p1) (fun e2 p2 => ap_loop (ap_nx b m) tst sub n (ex_two c e e2) p2))) = some (.ok (e', p')) := h
    cases ht : tst p.1 with
    | none => rw [ht] at h; cases h; rfl
    | some c =>
      rw [ht] at h
      have h : ap_to (ap_nx b m (ps_hr p) (ps_op p)) (fun p1 => ap_bd (sub p1) (fun e2 p2 => ap_loop (ap_nx b m) tst sub n (ex_two c e e2) p2)) = some (.ok (e', p')) := h
      cases hx : ap_nx b m (ps_hr p) (ps_op p) with
      | error n' => rw [hx] at h; cases h
      | ok p1 =>
        rw [hx] at h
        have h : ap_bd (sub p1) (fun e2 p2 => ap_loop (ap_nx b m) tst sub n (ex_two c e e2) p2) = some (.ok (e', p')) := h
        cases hy : sub p1 with
        | none => rw [hy] at h; cases h
        | some r1 =>
          rw [hy] at h
          cases r1 with
          | error n' => cases h
          | ok q =>
            rw [ih _ _ _ _ h, hs p1 q.1 q.2 hy, nx_op hx]
theorem ap_opEq (d : Nat) : ∀ (w : Nat) (p : PS) (e : Ex) (p' : PS), ap (ap_nx b m) d w p = some (.ok (e, p')) → ps_op p' = ps_op p := by
  induction d with
  | zero => intro w p e p' h; cases h
  | succ d ih =>
    have two : ∀ (a w : Nat) (tst : Tk → Option Nat) (p : PS) (e : Ex) (p' : PS), ap_bd (ap (ap_nx b m) d a p) (fun e p1 => ap_loop (ap_nx b m) tst (ap (ap_nx b m) d a) 200 e p1) = some (.ok (e, p')) → ps_op p' = ps_op p := by
      intro a w tst p e p' h
      cases hy : ap (ap_nx b m) d a p with
      | none => rw [hy] at h; cases h
      | some r1 =>
        rw [hy] at h
        cases r1 with
        | error n' => cases h
        | ok q => rw [loop_op (fun p e p' h => ih a p e p' h) 200 _ _ _ _ h, ih a p q.1 q.2 hy]
    have opn : ∀ (a : Nat) (F : Ex → Ex) (p : PS) (e : Ex) (p' : PS), ap_op (ap_nx b m) p (fun p1 => ap_bd (ap (ap_nx b m) d a p1) (fun e p2 => some (.ok (F e, ap_dn p2)))) = some (.ok (e, p')) → ps_op p' = ps_op p := by
      intro a F p e p' h
      unfold ap_op at h
      by_cases c : ps_op p = 6
      · rw [if_pos c] at h; cases h
      · rw [if_neg c] at h
        cases hx : ap_nx b m (ps_hr p) (ps_op p + 1) with
        | error n' => rw [hx] at h; cases h
        | ok p1 =>
          rw [hx] at h
          have h : ap_bd (ap (ap_nx b m) d a p1) (fun e p2 => some (.ok (F e, ap_dn p2))) = some (.ok (e, p')) := h
          cases hy : ap (ap_nx b m) d a p1 with
          | none => rw [hy] at h; cases h
          | some r1 =>
            rw [hy] at h
            cases r1 with
            | error n' => cases h
            | ok q =>
              cases h
              show ps_op q.2 - 1 = _
              rw [ih a p1 q.1 q.2 hy, nx_op hx]
              omega
    have nxt : ∀ (E : Ex) (hr op : Nat) (e : Ex) (p' : PS), ap_to (ap_nx b m hr op) (fun p1 => some (.ok (E, p1))) = some (.ok (e, p')) → ps_op p' = op := by
      intro E hr op e p' h
      cases hx : ap_nx b m hr op with
      | error n' => rw [hx] at h; cases h
      | ok p1 => rw [hx] at h; cases h; exact nx_op hx
    intro w p e p' h
    rcases w with _ | _ | _ | _ | _ | w
    · have h : ap_one (ap_nx b m) (ap (ap_nx b m) d) p = some (.ok (e, p')) := h
      unfold ap_one at h
      by_cases c1 : p.1.1 = 2
      · rw [if_pos c1] at h; exact nxt _ _ _ _ _ h
      · rw [if_neg c1] at h
        by_cases c2 : p.1.1 = 1 ∧ 8 ≤ p.1.2 ∧ p.1.2 < 18
        · rw [if_pos c2] at h; exact nxt _ _ _ _ _ h
        · rw [if_neg c2] at h
          by_cases c3 : p.1 = (3, 45)
          · rw [if_pos c3] at h; exact opn 0 ex_neg p e p' h
          · rw [if_neg c3] at h
            by_cases c4 : p.1 = (3, 40)
            · rw [if_pos c4] at h
              unfold ap_op at h
              by_cases c : ps_op p = 6
              · rw [if_pos c] at h; cases h
              · rw [if_neg c] at h
                cases hx : ap_nx b m (ps_hr p) (ps_op p + 1) with
                | error n' => rw [hx] at h; cases h
                | ok p1 =>
                  rw [hx] at h
                  have h : ap_bd (ap (ap_nx b m) d 5 p1) (fun e p2 => if p2.1 = (3, 41) then ap_to (ap_nx b m (ps_hr p2) (ps_op p2 - 1)) (fun p3 => some (.ok (e, p3))) else some (.error (ps_bg p2))) = some (.ok (e, p')) := h
                  cases hy : ap (ap_nx b m) d 5 p1 with
                  | none => rw [hy] at h; cases h
                  | some r1 =>
                    rw [hy] at h
                    cases r1 with
                    | error n' => cases h
                    | ok q =>
                      have h : (if q.2.1 = (3, 41) then ap_to (ap_nx b m (ps_hr q.2) (ps_op q.2 - 1)) (fun p3 => some (.ok (q.1, p3))) else some (.error (ps_bg q.2))) = some (.ok (e, p')) := h
                      by_cases c41 : q.2.1 = (3, 41)
                      · rw [if_pos c41] at h
                        rw [nxt _ _ _ _ _ h, ih 5 p1 q.1 q.2 hy, nx_op hx]
                        omega
                      · rw [if_neg c41] at h; cases h
            · rw [if_neg c4] at h; cases h
    · exact two 0 1 ap_tT p e p' h
    · exact two 1 2 ap_tS p e p' h
    · have h : ap_not (ap_nx b m) (ap (ap_nx b m) d) p = some (.ok (e, p')) := h
      unfold ap_not at h
      by_cases c1 : p.1 = (1, 21)
      · rw [if_pos c1] at h; exact opn 3 ex_not p e p' h
      · rw [if_neg c1] at h
        cases hy : ap (ap_nx b m) d 2 p with
        | none => rw [hy] at h; cases h
        | some r1 =>
          rw [hy] at h
          cases r1 with
          | error n' => cases h
          | ok q =>
            have o1 := ih 2 p q.1 q.2 hy
            have h : (match ap_tC q.2.1 with
              | none => some (.ok (q.1, q.2))
              | some c => ap_to (ap_nx b m (ps_hr q.2) (ps_op q.2)) (fun p2 => ap_bd (ap (ap_nx b m) d 2 p2) (fun e2 p3 => some (.ok (ex_two c q.1 e2, p3))))) = some (.ok (e, p')) := h
            cases ht : ap_tC q.2.1 with
            | none => rw [ht] at h; cases h; exact o1
            | some c =>
              rw [ht] at h
              have h : ap_to (ap_nx b m (ps_hr q.2) (ps_op q.2)) (fun p2 => ap_bd (ap (ap_nx b m) d 2 p2) (fun e2 p3 => some (.ok (ex_two c q.1 e2, p3)))) = some (.ok (e, p')) := h
              cases hx : ap_nx b m (ps_hr q.2) (ps_op q.2) with
              | error n' => rw [hx] at h; cases h
              | ok p2 =>
                rw [hx] at h
                have h : ap_bd (ap (ap_nx b m) d 2 p2) (fun e2 p3 => some (.ok (ex_two c q.1 e2, p3))) = some (.ok (e, p')) := h
                cases hz : ap (ap_nx b m) d 2 p2 with
                | none => rw [hz] at h; cases h
                | some r2 =>
                  rw [hz] at h
                  cases r2 with
                  | error n' => cases h
                  | ok q2 =>
                    cases h
                    rw [ih 2 p2 q2.1 q2.2 hz, nx_op hx, o1]
    · exact two 3 4 ap_tB p e p' h
    · exact two 4 5 ap_tA p e p' h
end PO7
