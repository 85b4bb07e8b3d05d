/-! PLAIN LAW, LINES 4: the twin's reader against the grammar -/
/-- what a call of the twin's reader makes of what the grammar says -/
def Rs (b : Nat → Nat) (m k : Nat) (t : TS) (x : Option (Int32 × TS)) (r : Except Nat (Ex × PS)) : Prop := match r with
  | .ok q => ∃ t1, x = some (q.1 (tellV (tS t) (t.1 17) k (t.1 16)), t1) ∧ TR b m t1 q.2 ∧ TG t t1
  | .error n => ∃ v t1, x = some (v, t1) ∧ Dm b m t1 n ∧ TG t t1
section PO4
variable {t t1 t2 : TS} {N m k : Nat} {b : Nat → Nat} {p : PS} {n : Nat} {g : Nat → TS → Option (Int32 × TS)}
theorem TG.tell (h : TG t t1) : tellV (tS t1) (t1.1 17) k (t1.1 16) = tellV (tS t) (t.1 17) k (t.1 16) := by
  rw [h.1 17 (by omega) (by omega) (by omega) (by omega) (by omega) (by omega), h.1 16 (by omega) (by omega) (by omega) (by omega) (by omega) (by omega), show tS t1 = tS t by show t1.2.2.1 1 = _; rw [h.2.2]]
theorem TG.who (h : TG t t1) (e : t.1 15 = Int32.ofNat k) : t1.1 15 = Int32.ofNat k := (h.1 15 (by omega) (by omega) (by omega) (by omega) (by omega) (by omega)).trans e
theorem Rs.from {x : Option (Int32 × TS)} {r : Except Nat (Ex × PS)} (h : Rs b m k t1 x r) (h' : TG t t1) : Rs b m k t x r := by
  cases r with
  | ok q =>
    obtain ⟨t2, a, c, d⟩ := h
    exact ⟨t2, by rw [← h'.tell]; exact a, c, h'.trans d⟩
  | error n =>
    obtain ⟨v, t2, a, c, d⟩ := h
    exact ⟨v, t2, a, c, h'.trans d⟩
/-- what a loop of the twin's has of its part -/
def SubR (b : Nat → Nat) (m k : Nat) (g : TS → Option (Int32 × TS)) (sub : PS → ApR) : Prop := (∀ t p r, TR b m t p → t.1 15 = Int32.ofNat k → sub p = some r → Rs b m k t (g t) r) ∧ ∀ t n, Dm b m t n → ∃ v t1, g t = some (v, t1) ∧ TG t t1 ∧ Dm b m t1 n
theorem Rs.bad {f : Nat} {x : Option (Int32 × TS)} (h : ∃ v t1, x = some (v, t1) ∧ Dm b m t1 n ∧ TG t t1) : Rs b m k t x (.error n) := h
theorem sgn_tok (h : TR b m t p) {c : Nat} (hp : p.1 = (3, c)) : t.2.1 10 = Int64.ofNat c ∧ c < 256 := by
  obtain ⟨-, -, -, -, -, -, -, -, h2, -⟩ := h
  rw [hp] at h2
  rcases h2 with ⟨e, -⟩ | ⟨e, -⟩ | ⟨e, -⟩ | ⟨-, e, -, e2⟩ | ⟨e, -⟩
  · cases e
  · cases e
  · cases e
  · refine ⟨e2, ?_⟩
    have e0 : lx_sgn c = true := e
    unfold lx_sgn at e0
    simp at e0
    omega
  · cases e
theorem div_m1 (x : Int32) : x / (-1) = -x := by
  apply Int32.toInt_inj.mp
  have e : (-1 : Int32).toInt = -1 := rfl
  rw [Int32.toInt_div, e, Int.tdiv_neg, Int.tdiv_one, Int32.toInt_neg]
theorem mod_m1 (x : Int32) : x - x / (-1) * (-1) = 0 := by
  rw [div_m1, Int32.mul_neg, Int32.mul_one, Int32.neg_neg, Int32.sub_self]
theorem term_val {c : Nat} (hc : c = 42 ∨ c = 47 ∨ c = 37) (ag : TS → Int32 → Option (Int32 × TS)) (v r : Int32) : (if (lg_cmp (Int64.ofNat c) (42 : Int64)) = 0 then ag t (v * r) else (if r = 0 then ag t (0 : Int32) else (if r = (-1 : Int32) then (if (lg_cmp (Int64.ofNat c) (47 : Int64)) = 0 then ag t (-v) else ag t (0 : Int32)) else (if (lg_cmp (Int64.ofNat c) (47 : Int64)) = 0 then o_nz r (ag t (v / r)) else o_nz r (ag t (v - v / r * r)))))) = ag t (ex_bin c v r) := by
  have e42 : ∀ c : Nat, c < 256 → c ≠ 42 → ¬ (lg_cmp (Int64.ofNat c) (42 : Int64) = 0) := fun c hc hn q => hn ((pq_eq (c := 42) (by omega) (by omega)).mp (lg_eq.mp q))
  have e47 : ∀ c : Nat, c < 256 → c ≠ 47 → ¬ (lg_cmp (Int64.ofNat c) (47 : Int64) = 0) := fun c hc hn q => hn ((pq_eq (c := 47) (by omega) (by omega)).mp (lg_eq.mp q))
  rcases hc with rfl | rfl | rfl
  · have p42 : lg_cmp (Int64.ofNat 42) (42 : Int64) = 0 := lg_eq.mpr rfl
    rw [if_pos p42, show ex_bin 42 v r = v * r by unfold ex_bin; simp]
  · have p47 : lg_cmp (Int64.ofNat 47) (47 : Int64) = 0 := lg_eq.mpr rfl
    rw [if_neg (e42 47 (by omega) (by omega)), if_pos p47, if_pos p47, show ex_bin 47 v r = (if r = 0 then 0 else v / r) by unfold ex_bin; simp]
    by_cases c1 : r = 0
    · rw [if_pos c1, if_pos c1]
    · rw [if_neg c1, if_neg c1]
      by_cases c2 : r = -1
      · rw [if_pos c2, c2, div_m1]
      · rw [if_neg c2]; unfold o_nz; rw [if_neg c1]
  · rw [if_neg (e42 37 (by omega) (by omega)), if_neg (e47 37 (by omega) (by omega)), if_neg (e47 37 (by omega) (by omega)), show ex_bin 37 v r = (if r = 0 then 0 else v - v / r * r) by unfold ex_bin; simp]
    by_cases c1 : r = 0
    · rw [if_pos c1, if_pos c1]
    · rw [if_neg c1, if_neg c1]
      by_cases c2 : r = -1
      · rw [if_pos c2, c2, mod_m1]
      · rw [if_neg c2]; unfold o_nz; rw [if_neg c1]
theorem t_termLoop (hN : 100000 ≤ N) {sub : PS → ApR} (hs : SubR b m k (g 0) sub) (n : Nat) : ∀ (f : Nat) (e : Ex) (v : Int32) (t : TS) (p : PS) (r : Except Nat (Ex × PS)), n < f → TR b m t p → t.1 15 = Int32.ofNat k → v = e (tellV (tS t) (t.1 17) k (t.1 16)) → ap_loop (ap_nx b m) ap_tT sub n e p = some r → Rs b m k t (fX7_term_5 N g f t v) r := by
  induction n with
  | zero => intro f e v t p r _ _ _ _ h; cases h
  | succ n ih =>
    intro f e v t p r hf h h15 hv hr
    obtain ⟨f, rfl⟩ : ∃ g, f = g + 1 + 1 := ⟨f - 2, by omega⟩
    have hr : (match ap_tT p.1 with
      | none => some (.ok (e, p))
      | some c => ap_to (ap_nx b m (ps_hr p) (ps_op p)) (fun p1 => ap_bd (sub p1) (fun e2 p2 => ap_loop (ap_nx b m) ap_tT sub n (ex_two c e e2) p2))) = some r := hr
    have go : ∀ c, p.1 = (3, c) → (c = 42 ∨ c = 47 ∨ c = 37) → Rs b m k t (fX7_term_32 N g (fX7_term_5 N g (f + 1)) t v) r := by
      intro c hp hc
      have ht : ap_tT p.1 = some c := by unfold ap_tT; rw [hp, if_pos ⟨rfl, hc⟩]
      rw [ht] at hr
      simp only [] at hr
      obtain ⟨z1, z2⟩ := sgn_tok h hp
      unfold fX7_term_32 fX7_term_117 fX7_term_93 fX7_term_116 fX7_term_117
      simp only [pl_nm]
      rw [z1]
      obtain ⟨t1, a1, a2, a3, a4⟩ := h.next hN
      rw [a1]
      simp only [pl_bd]
      cases hx : ap_nx b m (ps_hr p) (ps_op p) with
      | error n' =>
        rw [hx] at hr
        cases hr
        obtain ⟨v2, t2, d1, d2, d3⟩ := hs.2 t1 n' (a4 n' hx)
        rw [d1]
        simp only [pl_bd2]
        rw [term_val hc (fX7_term_5 N g (f + 1))]
        exact ⟨_, t2, (d_loops d3).1, d3, a2.trans d2⟩
      | ok p1 =>
        rw [hx] at hr
        obtain ⟨b1, -⟩ := a3 p1 hx
        have hr : ap_bd (sub p1) (fun e2 p2 => ap_loop (ap_nx b m) ap_tT sub n (ex_two c e e2) p2) = some r := hr
        cases hy : sub p1 with
        | none => rw [hy] at hr; cases hr
        | some r1 =>
          rw [hy] at hr
          have q := hs.1 t1 p1 r1 b1 (a2.who h15) hy
          cases r1 with
          | error n' =>
            cases hr
            obtain ⟨v2, t2, d1, d2, d3⟩ := q
            rw [d1]
            simp only [pl_bd2]
            rw [term_val hc (fX7_term_5 N g (f + 1))]
            exact ⟨_, t2, (d_loops d2).1, d2, a2.trans d3⟩
          | ok q1 =>
            obtain ⟨t2, d1, d2, d3⟩ := q
            rw [d1]
            simp only [pl_bd2]
            rw [term_val hc (fX7_term_5 N g (f + 1))]
            have tg := a2.trans d3
            refine Rs.from (ih (f + 1) (ex_two c e q1.1) _ t2 q1.2 r (by omega) d2 (tg.who h15) ?_ hr) tg
            rw [tg.tell, hv, a2.tell]
            rfl
    show Rs b m k t (o_bd2 _ _) r
    have s42 : fX7_isSign N t 42 = some (if p.1 = (3, 42) then 1 else 0, t) := t_sign h (c := 42) (by omega)
    have s47 : fX7_isSign N t 47 = some (if p.1 = (3, 47) then 1 else 0, t) := t_sign h (c := 47) (by omega)
    have s37 : fX7_isSign N t 37 = some (if p.1 = (3, 37) then 1 else 0, t) := t_sign h (c := 37) (by omega)
    rw [s42]
    simp only [pl_bd2, s47, s37, pl_01, ite_not]
    by_cases c1 : p.1 = (3, 42)
    · rw [if_pos c1]; exact go 42 c1 (by omega)
    · rw [if_neg c1]
      by_cases c2 : p.1 = (3, 47)
      · rw [if_pos c2]; exact go 47 c2 (by omega)
      · rw [if_neg c2]
        by_cases c3 : p.1 = (3, 37)
        · rw [if_pos c3]; exact go 37 c3 (by omega)
        · rw [if_neg c3]
          have ht : ap_tT p.1 = none := by
            unfold ap_tT
            rw [if_neg]
            rintro ⟨x1, x2⟩
            have : p.1 = (3, p.1.2) := by rw [← x1]
            rcases x2 with x2 | x2 | x2 <;> rw [x2] at this
            · exact c1 this
            · exact c2 this
            · exact c3 this
          rw [ht] at hr
          cases hr
          exact ⟨t, by rw [hv], h, TG.rfl'⟩
end PO4
