/-! PLAIN LAW, LINES 2: the twin's reader against the grammar: tokens asked, names, a reader that has failed -/
def TG (t t1 : TS) : Prop := (∀ k, k ≠ 8 → k ≠ 9 → k ≠ 11 → k ≠ 12 → k ≠ 13 → k ≠ 14 → t1.1 k = t.1 k) ∧ (∀ k, k ≠ 10 → t1.2.1 k = t.2.1 k) ∧ t1.2.2 = t.2.2
def TR (b : Nat → Nat) (m : Nat) (t : TS) (p : PS) : Prop := PT t b m ∧ t.1 13 = 0 ∧ t.1 11 = Int32.ofNat (ps_hr p) ∧ ps_hr p ≤ m ∧ t.1 9 = Int32.ofNat (ps_bg p) ∧ ps_bg p ≤ m ∧ t.1 12 = Int32.ofNat (ps_op p) ∧ ps_op p ≤ 6 ∧ TokR p.1 (t.1 8) (t.2.1 10) ∧ p.1.1 ≠ 4
def Dm (b : Nat → Nat) (m : Nat) (t : TS) (n : Nat) : Prop := PT t b m ∧ n ≤ m ∧ ((t.1 13 = 1 ∧ t.1 14 = Int32.ofNat n) ∨ (t.1 13 = 0 ∧ t.1 9 = Int32.ofNat n ∧ (t.1 8 = 4 ∨ (t.1 8 = 1 ∧ ∀ x ∈ wcodes, t.2.1 10 ≠ Int64.ofNat x))))
/-- what the names tell, of a stand or (from 100 on) of a village -/
def tellV (s : Nat → Int32) (old : Int32) (k : Nat) (year : Int32) (w : Nat) : Int32 :=
  if w = 7 then year else if 100 ≤ k then (if w = 6 then s (928 + 4 * (k - 100)) else if w = 8 then s (928 + 4 * (k - 100) + 1) else if w = 9 then s (928 + 4 * (k - 100) + 2) else 0)
  else if w = 0 then s (16 + 14 * k + 2) else if w = 1 then s (16 + 14 * k + 1) else if w = 2 then s (16 + 14 * k + 3) else if w = 3 then (if old = -1 then s (16 + 14 * k + 5) else old) else if w = 4 then s (16 + 14 * k + 6) else if w = 5 then s (16 + 14 * k + 4) else if w = 6 then s (16 + 14 * k + 0) else 0
def WhoN (k : Nat) : Prop := k < 24 ∨ (100 ≤ k ∧ k < 108)
section PO2
variable {t t1 t2 : TS} {N m : Nat} {b : Nat → Nat} {p : PS} {n : Nat}
theorem TG.rfl' : TG t t := ⟨fun _ _ _ _ _ _ _ => rfl, fun _ _ => rfl, rfl⟩
theorem TG.trans (h : TG t t1) (h' : TG t1 t2) : TG t t2 := ⟨fun k a b c d e f => (h'.1 k a b c d e f).trans (h.1 k a b c d e f), fun k a => (h'.2.1 k a).trans (h.2.1 k a), h'.2.2.trans h.2.2⟩
theorem TF.tg (h : TF t t1) : TG t t1 := ⟨fun k a b c _ _ _ => h.1 k a b c, h.2.1, h.2.2⟩
theorem TG.uI {k : Nat} {v : Int32} (h : TG t t1) (hk : k = 8 ∨ k = 9 ∨ k = 11 ∨ k = 12 ∨ k = 13 ∨ k = 14) : TG t (mt_uI t1 k v) := h.trans ⟨fun j a b c d e f => upd_ne (by omega), fun _ _ => rfl, rfl⟩
theorem PT.tg (h : PT t b m) (h' : TG t t1) : PT t1 b m := ⟨h.1, (h'.1 7 (by omega) (by omega) (by omega) (by omega) (by omega) (by omega)).trans h.2.1, fun i hi => by rw [h'.2.2]; exact h.2.2 i hi⟩
theorem wcodes_nd : ∀ i, i < 23 → ∀ j, j < 23 → wcodes.getD i 0 = wcodes.getD j 0 → i = j := by decide +kernel
theorem wcodes_lt {i : Nat} (hi : i < 23) : wcodes.getD i 0 < 4000000000 ∧ wcodes.getD i 0 ∈ wcodes := by
  have : ∀ i, i < 23 → wcodes.getD i 0 < 4000000000 ∧ wcodes.getD i 0 ∈ wcodes := by decide +kernel
  exact this i hi
theorem pq_eq {a c : Nat} (ha : a < 9223372036854775808) (hc : c < 9223372036854775808) : Int64.ofNat a = Int64.ofNat c ↔ a = c :=
  ⟨fun h => by have := congrArg Int64.toInt h; rw [pq_ti ha, pq_ti hc] at this; omega, fun h => by rw [h]⟩
/-- is the token that sign -/
theorem t_sign (h : TR b m t p) {c : Nat} (hc : c < 256) : fX7_isSign N t (Int32.ofNat c) = some (if p.1 = (3, c) then 1 else 0, t) := by
  obtain ⟨-, h1, -, -, -, -, -, -, h2, h3⟩ := h
  unfold fX7_isSign fX7_isSign_29 fX7_isSign_30
  rw [if_pos h1]
  obtain ⟨⟨k, x⟩, q⟩ := p
  rcases h2 with ⟨e, e1⟩ | ⟨e, e0, e1, e2⟩ | ⟨e, e0, e1, e2⟩ | ⟨e, e0, e1, e2⟩ | ⟨e, e1⟩
  · have e : (k, x) = (0, 0) := e
    cases e
    rw [e1, if_neg (by decide), if_neg (by simp)]; rfl
  · have e : k = 1 := e
    subst e
    rw [e1, if_neg (by decide), if_neg (by simp)]; rfl
  · have e : k = 2 := e
    subst e
    rw [e1, if_neg (by decide), if_neg (by simp)]; rfl
  · have e : k = 3 := e
    subst e
    have xs : x < 256 := by
      have e0 : lx_sgn x = true := e0
      unfold lx_sgn at e0
      simp at e0
      omega
    rw [e1, if_pos rfl, e2, pq_to (by omega)]
    by_cases d : x = c
    · subst d
      rw [if_pos (lg_eq.mpr rfl), if_pos rfl]; rfl
    · rw [if_neg (fun q => d ((pq_eq (by omega) (by omega)).mp (lg_eq.mp q))), if_neg (fun q => d (Prod.mk.inj q).2)]; rfl
  · exact absurd e h3
/-- is the token that word -/
theorem t_word (h : TR b m t p) {w : Nat} (hw : w < 23) : fX7_isWord N t (Int64.ofNat (wcodes.getD w 0)) = some (if p.1 = (1, w) then 1 else 0, t) := by
  obtain ⟨-, h1, -, -, -, -, -, -, h2, h3⟩ := h
  unfold fX7_isWord fX7_isWord_28 fX7_isWord_29
  rw [if_pos h1]
  obtain ⟨⟨k, x⟩, q⟩ := p
  rcases h2 with ⟨e, e1⟩ | ⟨e, e0, e1, e2⟩ | ⟨e, e0, e1, e2⟩ | ⟨e, e0, e1, e2⟩ | ⟨e, e1⟩
  · have e : (k, x) = (0, 0) := e
    cases e
    rw [e1, if_neg (by decide), if_neg (by simp)]; rfl
  · have e : k = 1 := e
    subst e
    have e0 : x < 23 := e0
    rw [e1, if_pos rfl, e2]
    have l1 := (wcodes_lt e0).1
    have l2 := (wcodes_lt hw).1
    by_cases d : x = w
    · subst d
      rw [if_pos (lg_eq.mpr rfl), if_pos rfl]; rfl
    · rw [if_neg (fun q => d (wcodes_nd x e0 w hw ((pq_eq (by omega) (by omega)).mp (lg_eq.mp q)))), if_neg (fun q => d (Prod.mk.inj q).2)]; rfl
  · have e : k = 2 := e
    subst e
    rw [e1, if_neg (by decide), if_neg (by simp)]; rfl
  · have e : k = 3 := e
    subst e
    rw [e1, if_neg (by decide), if_neg (by simp)]; rfl
  · exact absurd e h3
theorem d_sign (h : Dm b m t n) (c : Int32) : fX7_isSign N t c = some (0, t) := by
  unfold fX7_isSign fX7_isSign_29 fX7_isSign_30
  rcases h.2.2 with ⟨e, -⟩ | ⟨e, -, e1⟩
  · rw [if_neg (by rw [e]; decide)]; rfl
  · rw [if_pos e]
    rcases e1 with e1 | ⟨e1, -⟩ <;> rw [e1, if_neg (by decide)] <;> rfl
theorem d_word (h : Dm b m t n) {w : Nat} (hw : w < 23) : fX7_isWord N t (Int64.ofNat (wcodes.getD w 0)) = some (0, t) := by
  unfold fX7_isWord fX7_isWord_28 fX7_isWord_29
  rcases h.2.2 with ⟨e, -⟩ | ⟨e, -, e1⟩
  · rw [if_neg (by rw [e]; decide)]; rfl
  · rw [if_pos e]
    rcases e1 with e1 | ⟨e1, e2⟩
    · rw [e1, if_neg (by decide)]; rfl
    · rw [e1, if_pos rfl, if_neg (fun q => e2 _ (wcodes_lt hw).2 (lg_eq.mp q))]; rfl
/-- it fails where it stands -/
theorem d_fail (h : Dm b m t n) : ∃ t1, fX7_fail N t = some t1 ∧ Dm b m t1 n ∧ TG t t1 ∧ t1.1 13 = 1 ∧ t1.1 14 = Int32.ofNat n := by
  unfold fX7_fail fX7_fail_20
  rcases h.2.2 with ⟨e, e'⟩ | ⟨e, e9, e1⟩
  · rw [if_neg (by rw [e]; decide)]
    exact ⟨t, rfl, h, TG.rfl', e, e'⟩
  · rw [if_pos e]
    simp only [pl_nm]
    have q : (mt_uI t 13 1).1 9 = Int32.ofNat n := by rw [rtI_I, upd_ne (by omega)]; exact e9
    rw [q]
    have tg : TG t (mt_uI (mt_uI t 13 1) 14 (Int32.ofNat n)) := (TG.rfl'.uI (by omega)).uI (by omega)
    have a : (mt_uI (mt_uI t 13 1) 14 (Int32.ofNat n)).1 13 = 1 := by rw [rtI_I, upd_ne (by omega), rtI_I, upd_eq]
    have c : (mt_uI (mt_uI t 13 1) 14 (Int32.ofNat n)).1 14 = Int32.ofNat n := by rw [rtI_I, upd_eq]
    exact ⟨_, rfl, ⟨h.1.tg tg, h.2.1, Or.inl ⟨a, c⟩⟩, tg, a, c⟩
theorem r_fail (h : TR b m t p) : ∃ t1, fX7_fail N t = some t1 ∧ Dm b m t1 (ps_bg p) ∧ TG t t1 ∧ t1.1 13 = 1 := by
  unfold fX7_fail fX7_fail_20
  rw [if_pos h.2.1]
  simp only [pl_nm]
  have q : (mt_uI t 13 1).1 9 = Int32.ofNat (ps_bg p) := by rw [rtI_I, upd_ne (by omega)]; exact h.2.2.2.2.1
  rw [q]
  have tg : TG t (mt_uI (mt_uI t 13 1) 14 (Int32.ofNat (ps_bg p))) := (TG.rfl'.uI (by omega)).uI (by omega)
  have a : (mt_uI (mt_uI t 13 1) 14 (Int32.ofNat (ps_bg p))).1 13 = 1 := by rw [rtI_I, upd_ne (by omega), rtI_I, upd_eq]
  exact ⟨_, rfl, ⟨h.1.tg tg, h.2.2.2.2.2.1, Or.inl ⟨a, by rw [rtI_I, upd_eq]⟩⟩, tg, a⟩
/-- the next token -/
theorem r_next (hN : 100000 ≤ N) (hP : PT t b m) (h13 : t.1 13 = 0) {hr op : Nat} (h11 : t.1 11 = Int32.ofNat hr) (hh : hr ≤ m) (h12 : t.1 12 = Int32.ofNat op) (ho : op ≤ 6) : ∃ t1, fX7_next N t = some t1 ∧ TG t t1 ∧ (∀ p1, ap_nx b m hr op = .ok p1 → TR b m t1 p1 ∧ hr ≤ ps_hr p1 ∧ ps_op p1 = op ∧ (p1.1.1 ≠ 0 → hr < ps_hr p1)) ∧ ∀ n, ap_nx b m hr op = .error n → Dm b m t1 n := by
  obtain ⟨t1, r1, r2, r3, r4, r5, r6, r7, r8, r9⟩ := t_next hN hP h11 hh
  refine ⟨t1, r1, r2.tg, fun p1 e => ?_, fun n e => ?_⟩
  · unfold ap_nx at e
    simp only [] at e
    by_cases c : (lx_at b m hr).1.1 = 4
    · rw [if_pos c] at e; cases e
    · rw [if_neg c] at e
      cases e
      refine ⟨⟨hP.tf r2, (r2.1 13 (by omega) (by omega) (by omega)).trans h13, r4, r5, r3, r7, (r2.1 12 (by omega) (by omega) (by omega)).trans h12, ho, r9, c⟩, ?_, rfl, fun q => r8 q c⟩
      by_cases c0 : (lx_at b m hr).1.1 = 0
      · have : (lx_at b m hr).2.2 = (lx_at b m hr).2.1 := by
          rcases r9 with ⟨e, -⟩ | ⟨e, -⟩ | ⟨e, -⟩ | ⟨e, -⟩ | ⟨e, -⟩
          · unfold lx_at at e ⊢
            simp only [] at e ⊢
            by_cases c5 : m ≤ lx_run (fun x => x == 32) b m m hr
            · rw [if_pos c5]
            · rw [if_neg c5] at e
              exfalso
              revert e
              by_cases c6 : lx_let (b (lx_run (fun x => x == 32) b m m hr)) = true
              · rw [if_pos c6]
                cases lx_words.findIdx? (fun w => w == (List.range (lx_run lx_let b m m (lx_run (fun x => x == 32) b m m hr) - lx_run (fun x => x == 32) b m m hr)).map (fun k => b (lx_run (fun x => x == 32) b m m hr + k))) <;> simp
              · rw [if_neg c6]
                by_cases c7 : lx_dig (b (lx_run (fun x => x == 32) b m m hr)) = true
                · rw [if_pos c7]
                  by_cases c8 : 6 < lx_run lx_dig b m m (lx_run (fun x => x == 32) b m m hr) - lx_run (fun x => x == 32) b m m hr
                  · simp [c8]
                  · simp [c8]
                · rw [if_neg c7]
                  by_cases c9 : lx_sgn (b (lx_run (fun x => x == 32) b m m hr)) = true
                  · simp [c9]
                  · simp [c9]
          · omega
          · omega
          · omega
          · omega
        show hr ≤ (lx_at b m hr).2.2
        omega
      · exact Nat.le_of_lt (r8 c0 c)
  · unfold ap_nx at e
    simp only [] at e
    by_cases c : (lx_at b m hr).1.1 = 4
    · rw [if_pos c] at e
      cases e
      refine ⟨hP.tf r2, r7, Or.inr ⟨(r2.1 13 (by omega) (by omega) (by omega)).trans h13, r3, ?_⟩⟩
      rcases r9 with ⟨e, -⟩ | ⟨e, -⟩ | ⟨e, -⟩ | ⟨e, -⟩ | ⟨-, e⟩
      · rw [e] at c; cases c
      · omega
      · omega
      · omega
      · exact e
    · rw [if_neg c] at e; cases e
theorem TR.next (hN : 100000 ≤ N) (h : TR b m t p) : ∃ t1, fX7_next N t = some t1 ∧ TG t t1 ∧ (∀ p1, ap_nx b m (ps_hr p) (ps_op p) = .ok p1 → TR b m t1 p1 ∧ ps_hr p ≤ ps_hr p1 ∧ ps_op p1 = ps_op p ∧ (p1.1.1 ≠ 0 → ps_hr p < ps_hr p1)) ∧ ∀ n, ap_nx b m (ps_hr p) (ps_op p) = .error n → Dm b m t1 n :=
  r_next hN h.1 h.2.1 h.2.2.1 h.2.2.2.1 h.2.2.2.2.2.2.1 h.2.2.2.2.2.2.2.1
end PO2
