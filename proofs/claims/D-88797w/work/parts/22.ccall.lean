set_option maxRecDepth 100000
/-! the static cells: shapes, references (printed by cworld.py) -/
def wc_shF (o : Nat) : Option CSh := match o with
  | 0 => some (.inl 1)
  | 1 => some (.inr (0, 24))
  | 2 => some (.inr (0, 24))
  | 3 => some (.inr (0, 24))
  | 4 => some (.inr (0, 24))
  | 5 => some (.inr (0, 24))
  | 6 => some (.inr (0, 24))
  | 7 => some (.inr (0, 24))
  | 8 => some (.inr (0, 24))
  | 9 => some (.inr (0, 24))
  | 10 => some (.inr (0, 24))
  | 11 => some (.inr (0, 24))
  | 12 => some (.inr (0, 60))
  | 13 => some (.inr (0, 60))
  | 14 => some (.inr (0, 12))
  | 15 => some (.inr (0, 12))
  | 16 => some (.inr (0, 12))
  | 17 => some (.inr (0, 6))
  | 18 => some (.inr (0, 8))
  | 19 => some (.inr (0, 8))
  | 20 => some (.inr (0, 8))
  | 21 => some (.inr (0, 8))
  | 22 => some (.inr (6, 60))
  | 23 => some (.inr (1, 8))
  | 24 => some (.inr (7, 16))
  | 25 => some (.inr (0, 16))
  | 26 => some (.inr (0, 16))
  | 27 => some (.inr (0, 30))
  | 28 => some (.inr (0, 30))
  | 29 => some (.inr (0, 30))
  | 30 => some (.inr (0, 12))
  | 31 => some (.inr (0, 100))
  | 32 => some (.inr (0, 6))
  | 33 => some (.inr (0, 6))
  | 34 => some (.inr (0, 24))
  | 35 => some (.inr (0, 960))
  | 36 => some (.inr (2, 24))
  | 37 => some (.inr (0, 24))
  | _ => some (.inl 2)
def wc_shR (n : Nat) : Option CSh := match n with
  | 297 => some (.inl 3)
  | 298 => some (.inr (3, 120))
  | 299 => some (.inl 4)
  | 300 => some (.inr (8, 23))
  | 301 => some (.inr (4, 3))
  | 302 => some (.inr (4, 4))
  | 303 => some (.inr (4, 4))
  | 304 => some (.inr (4, 4))
  | 305 => some (.inr (4, 4))
  | 306 => some (.inr (4, 4))
  | 307 => some (.inr (4, 4))
  | 308 => some (.inr (4, 5))
  | 309 => some (.inr (4, 4))
  | 310 => some (.inr (4, 4))
  | 311 => some (.inr (4, 5))
  | 312 => some (.inr (4, 3))
  | 313 => some (.inr (4, 4))
  | 314 => some (.inr (4, 5))
  | 315 => some (.inr (4, 5))
  | 316 => some (.inr (4, 4))
  | 317 => some (.inr (4, 7))
  | 318 => some (.inr (4, 5))
  | 319 => some (.inr (4, 2))
  | 320 => some (.inr (4, 2))
  | 321 => some (.inr (4, 3))
  | 322 => some (.inr (4, 3))
  | 323 => some (.inr (4, 6))
  | 324 => some (.inl 5)
  | 325 => some (.inr (0, 7))
  | 326 => some (.inr (2, 28))
  | 327 => some (.inr (0, 28))
  | 328 => some (.inr (0, 7))
  | 329 => some (.inr (2, 49))
  | 330 => some (.inr (0, 7))
  | 331 => some (.inr (0, 7))
  | 332 => some (.inr (0, 24))
  | 333 => some (.inr (0, 24))
  | 334 => some (.inr (9, 101))
  | _ => some (.inl 6)
def wc_sh0 (n : Nat) : Option CSh := match n with
  | 0 => some (.inl 0)
  | 1 => some (.inr (5, 9))
  | _ => some (.inr (0, 9))
def wc_sh (n : Nat) : Option CSh := if n < 3 then wc_sh0 n else if n < 101 then wc_shF (n - 3) else if n < 199 then wc_shF (n - 101) else if n < 297 then wc_shF (n - 199) else if n < 343 then wc_shR n else none
def wc_ai (k : Nat) : Nat := match k with
  | 2 => 1
  | 3 => 2
  | 4 => 3
  | 5 => 4
  | 6 => 5
  | 7 => 6
  | 8 => 7
  | 9 => 8
  | 10 => 9
  | 11 => 10
  | 12 => 11
  | 14 => 12
  | 15 => 13
  | 18 => 14
  | 19 => 15
  | 20 => 16
  | 21 => 17
  | 23 => 18
  | 24 => 19
  | 25 => 20
  | 26 => 21
  | 27 => 22
  | 28 => 23
  | 30 => 24
  | 31 => 25
  | 32 => 26
  | 34 => 27
  | 35 => 28
  | 36 => 29
  | 37 => 30
  | 38 => 31
  | 39 => 32
  | 40 => 33
  | 41 => 34
  | 42 => 35
  | 44 => 36
  | 45 => 37
  | _ => 0
def wc_sr (n k : Nat) : Option Nat := if n = 0 then (match k with
  | 0 => some 1
  | 1 => some 2
  | 2 => some 3
  | 3 => some 101
  | 4 => some 199
  | 6 => some 297
  | 7 => some 325
  | 10 => some 326
  | 11 => some 327
  | 12 => some 328
  | 13 => some 329
  | 14 => some 330
  | 15 => some 331
  | 22 => some 332
  | 24 => some 333
  | 26 => some 334
  | _ => none) else if n = 3 ∨ n = 101 ∨ n = 199 then (if wc_ai k = 0 then none else some (n + wc_ai k)) else if n = 297 then (match k with
  | 0 => some 298
  | 8 => some 299
  | 9 => some 300
  | 11 => some 324
  | _ => none) else none
def wc_sq (n k : Nat) : Option Nat := if n = 1 then (if k = 0 ∨ 9 ≤ k then none else some (334 + k)) else if n = 25 ∨ n = 123 ∨ n = 221 then (if k < 60 then some (n + 16 + k) else none) else if n = 300 then (if k < 23 then some (301 + k) else none) else none
/-- the three forests' places -/
def wc_F (F : Nat) : Prop := F = 3 ∨ F = 101 ∨ F = 199
theorem wc_F3 : wc_F 3 := Or.inl rfl
theorem wc_F101 : wc_F 101 := Or.inr (Or.inl rfl)
theorem wc_F199 : wc_F 199 := Or.inr (Or.inr rfl)
/-- what never changes: static shapes, static references -/
def wc_S (u : CS) : Prop := (∀ (n : Nat) (x : CSh), wc_sh n = some x → wc_T u n = some x) ∧ (∀ n k m : Nat, wc_sr n k = some m → wc_P u n k = some m) ∧ (∀ n k m : Nat, wc_sq n k = some m → wc_Q u n k = some m) ∧ 362 ≤ wc_z u
theorem wc_S.uI {u : CS} {n k : Nat} {x : Int32} (h : wc_S u) : wc_S (wc_uI u n k x) := h
theorem wc_S.uL {u : CS} {n k : Nat} {x : Int64} (h : wc_S u) : wc_S (wc_uL u n k x) := h
theorem wc_S.uA {u : CS} {n k : Nat} {x : Int32} (h : wc_S u) : wc_S (wc_uA u n k x) := h
theorem wc_S.uB {u : CS} {n k : Nat} {x : Int64} (h : wc_S u) : wc_S (wc_uB u n k x) := h
theorem wc_S.aA {u : CS} {n : Nat} {g : Nat → Int32} (h : wc_S u) : wc_S (wc_aA u n g) := h
theorem wc_S.aB {u : CS} {n : Nat} {g : Nat → Int64} (h : wc_S u) : wc_S (wc_aB u n g) := h
theorem wc_S.uP {u : CS} {n k : Nat} {x : Option Nat} (hn : wc_sr n k = none) (h : wc_S u) : wc_S (wc_uP u n k x) := by
  refine ⟨h.1, fun a b m hm => ?_, h.2.2⟩
  show up2 (wc_P u) n k x a b = some m
  unfold up2
  by_cases q : a = n ∧ b = k
  · rw [q.1, q.2, hn] at hm; cases hm
  · rw [if_neg q]; exact h.2.1 a b m hm
theorem wc_S.uQ {u : CS} {n k : Nat} {x : Option Nat} (hn : wc_sq n k = none) (h : wc_S u) : wc_S (wc_uQ u n k x) := by
  refine ⟨h.1, h.2.1, fun a b m hm => ?_, h.2.2.2⟩
  show up2 (wc_Q u) n k x a b = some m
  unfold up2
  by_cases q : a = n ∧ b = k
  · rw [q.1, q.2, hn] at hm; cases hm
  · rw [if_neg q]; exact h.2.2.1 a b m hm
theorem wc_S.aQ {u : CS} {n : Nat} {g : Nat → Option Nat} (hn : ∀ k, wc_sq n k = none) (h : wc_S u) : wc_S (wc_aQ u n g) := by
  refine ⟨h.1, h.2.1, fun a b m hm => ?_, h.2.2.2⟩
  show up1 (wc_Q u) n g a b = some m
  by_cases q : a = n
  · rw [q, hn b] at hm; cases hm
  · rw [up1_ne _ _ q]; exact h.2.2.1 a b m hm
theorem wc_sh_lt {n : Nat} {x : CSh} (h : wc_sh n = some x) : n < 343 := by
  rcases Nat.lt_or_ge n 343 with q | q
  · exact q
  · unfold wc_sh at h
    rw [if_neg (by omega), if_neg (by omega), if_neg (by omega), if_neg (by omega), if_neg (by omega)] at h
    cases h
theorem wc_sr_lt {n k m : Nat} (h : wc_sr n k = some m) : n = 0 ∨ n = 3 ∨ n = 101 ∨ n = 199 ∨ n = 297 := by
  unfold wc_sr at h
  by_cases q1 : n = 0
  · exact Or.inl q1
  rw [if_neg q1] at h
  by_cases q2 : n = 3 ∨ n = 101 ∨ n = 199
  · rcases q2 with q | q | q <;> simp [q]
  rw [if_neg q2] at h
  by_cases q3 : n = 297
  · simp [q3]
  rw [if_neg q3] at h
  cases h
theorem wc_sq_lt {n k m : Nat} (h : wc_sq n k = some m) : n < 343 := by
  unfold wc_sq at h
  by_cases q1 : n = 1
  · omega
  rw [if_neg q1] at h
  by_cases q2 : n = 25 ∨ n = 123 ∨ n = 221
  · omega
  rw [if_neg q2] at h
  by_cases q3 : n = 300
  · omega
  rw [if_neg q3] at h
  cases h
theorem wc_S.new {u : CS} {sh : CSh} (h : wc_S u) : wc_S (wc_new u sh) := by
  have hz := h.2.2.2
  refine ⟨fun n x hx => ?_, fun a b m hm => ?_, fun a b m hm => ?_, Nat.le_succ_of_le hz⟩
  · have := wc_sh_lt hx
    show (if n = wc_z u then some sh else wc_T u n) = some x
    rw [if_neg (by omega)]
    exact h.1 n x hx
  · have := wc_sr_lt hm
    show up1 (wc_P u) (wc_z u) (fun _ => none) a b = some m
    rw [up1_ne _ _ (by omega)]
    exact h.2.1 a b m hm
  · have := wc_sq_lt hm
    show up1 (wc_Q u) (wc_z u) (fun _ => none) a b = some m
    rw [up1_ne _ _ (by omega)]
    exact h.2.2.1 a b m hm
/-- an object that is none of the five with static references -/
theorem wc_S.noR {u : CS} (h : wc_S u) {n c k : Nat} (ht : wc_T u n = some (.inl c)) (hc : 1 < c ∧ c ≠ 3) : wc_sr n k = none := by
  cases hm : wc_sr n k with
  | none => rfl
  | some m =>
    rcases wc_sr_lt hm with rfl | rfl | rfl | rfl | rfl
    · rw [h.1 0 (.inl 0) rfl] at ht; cases ht; omega
    · rw [h.1 3 (.inl 1) rfl] at ht; cases ht; omega
    · rw [h.1 101 (.inl 1) rfl] at ht; cases ht; omega
    · rw [h.1 199 (.inl 1) rfl] at ht; cases ht; omega
    · rw [h.1 297 (.inl 3) rfl] at ht; cases ht; omega
def wc_St (D : va_G) (dA : Nat → ClassId) (h : Nat) (u : CS) (U : State) : Prop := wc_W D dA h u U.heap ∧ wc_S u ∧ wc_K D dA U
def wc_Qr (D : va_G) (dA : Nat → ClassId) (h : Nat) (v : Option Value) (u : CS) : Array Value → State → Outcome → State → Prop := fun _ st oc t => oc = .returned v ∧ wc_W D dA h u t.heap ∧ wc_S u ∧ va_F (CA h) st t
/-- pure checks of shapes, null -/
def o_sh {β : Type} (u : CS) (n : Nat) (x : CSh) (K : Option β) : Option β := if wc_T u n = some x then K else none
def o_nn {β : Type} (p : Option Nat) (K : Nat → Option β) : Option β := match p with
  | none => none
  | some n => K n
/-- null or not -/
def o_nu {β : Type} (p : Option Nat) (A : Option β) (K : Nat → Option β) : Option β := match p with
  | none => A
  | some n => K n
/-- an array of ints of whatever length -/
def o_ln {β : Type} (u : CS) (n t : Nat) (K : Nat → Option β) : Option β := match wc_T u n with
  | some (.inr (t1, len)) => if t1 = t then K len else none
  | _ => none
def wc_lot (u : CS) (n : Nat) : Prop := wc_T u n = some (.inl 8) ∨ wc_T u n = some (.inl 16) ∨ wc_T u n = some (.inl 9)
def o_lt {β : Type} (u : CS) (n : Nat) (K : Option β) : Option β := if wc_T u n = some (.inl 8) ∨ wc_T u n = some (.inl 16) ∨ wc_T u n = some (.inl 9) then K else none
theorem o_sh_some {β : Type} {u : CS} {n : Nat} {x : CSh} {K : Option β} {R : β} (h : o_sh u n x K = some R) : wc_T u n = some x ∧ K = some R := by
  unfold o_sh at h
  by_cases c : wc_T u n = some x
  · rw [if_pos c] at h; exact ⟨c, h⟩
  · rw [if_neg c] at h; cases h
theorem o_lt_some {β : Type} {u : CS} {n : Nat} {K : Option β} {R : β} (h : o_lt u n K = some R) : wc_lot u n ∧ K = some R := by
  unfold o_lt at h
  by_cases c : wc_T u n = some (.inl 8) ∨ wc_T u n = some (.inl 16) ∨ wc_T u n = some (.inl 9)
  · rw [if_pos c] at h; exact ⟨c, h⟩
  · rw [if_neg c] at h; cases h
theorem o_nn_some {β : Type} {p : Option Nat} {K : Nat → Option β} {R : β} (h : o_nn p K = some R) : ∃ n, p = some n ∧ K n = some R := by
  cases p with
  | none => cases h
  | some n => exact ⟨n, rfl, h⟩
theorem o_ln_some {β : Type} {u : CS} {n t : Nat} {K : Nat → Option β} {R : β} (h : o_ln u n t K = some R) : ∃ len, wc_T u n = some (.inr (t, len)) ∧ K len = some R := by
  unfold o_ln at h
  cases ht : wc_T u n with
  | none => rw [ht] at h; cases h
  | some x =>
    cases x with
    | inl c => rw [ht] at h; cases h
    | inr x =>
      obtain ⟨t1, len⟩ := x
      rw [ht] at h
      by_cases c : t1 = t
      · subst c
        exact ⟨len, rfl, by simpa using h⟩
      · simp [c] at h
section CRC
variable {p : Program} {l : Launch} {e : Env} {R : Room} {s : State} {m : MethodId} {args : Array Value} {below : List Frame} {meth : Method} {c : Code} {H : Heap} {locs : List Loc} {cells slots : Nat} {Q : State → Prop} {cc : ByteArray} {nL pc : Nat} {ls : Array Slot} {rest : List Value} {D : va_G} {dA : Nat → ClassId} {h : Nat} {u : CS} {H0 : Heap} {own : String} {ρ : Type} {r0 : ρ}
theorem z_nmp {x : Option Nat} {K : Option Nat → Option ρ} (hE : o_nm x K = some r0) (k : ∀ y : Option Nat, K y = some r0 → W p l e R s m args below meth c H locs cells slots Q (F0 m pc ls (wc_rf h y :: rest))) : W p l e R s m args below meth c H locs cells slots Q (F0 m pc ls (wc_rf h x :: rest)) := k x hE
theorem wc_blind (av : List Value) : FrameBlind (va_Pc av (wc_St D dA h u)) := fun a U g mk q => by
  obtain ⟨q0, q1, q2, q3, q4⟩ := q
  exact ⟨q0, q1, q2, va_K.moved (u := U) (U := U.calling g mk a) (Vm.Alike.refl U.vm) q3, wc_N.same (s := U) (U := U.calling g mk a) rfl q4⟩
theorem wc_preV (hK : wc_K D dA s) (hW : wc_W D dA h u H) (hS : wc_S u) {n ci : Nat} {q : vw_C} (ht : wc_T u n = some (.inl ci)) (hc : vwCl[ci]? = some q) (As : List Value) : PreV s H q.1 (h + n) (va_Pc (.ref (h + n) :: As) (wc_St D dA h u)) As := ⟨wc_blind _, wc_recv hK hW ht hc, fun U hU hw => ⟨rfl, by rw [hU]; exact hW, hS, hK.warm hw⟩⟩
theorem wc_preS (hK : wc_K D dA s) (hW : wc_W D dA h u H) (hS : wc_S u) (As : List Value) : PreS s H (va_Pc As (wc_St D dA h u)) As := ⟨wc_blind _, fun U hU hw => ⟨rfl, by rw [hU]; exact hW, hS, hK.warm hw⟩⟩
/-- behind a call of a method of the component -/
theorem wc_call {A0 : Nat → Prop} {mc ms : Nat} {v : Option Value} {u1 : CS} {a : Array Value} {st0 : List Value} (hr : va_Run p l e R s m args below meth c H locs cells slots mc ms (F0 m pc ls st0) rest (wc_Qr D dA h v u1 a) (CA h)) (hS : va_S A0 H0 H locs) (hA : ∀ q, CA h q → A0 q)
    (kk : ∀ (H1 : Heap) (locs1 : List Loc), wc_W D dA h u1 H1 → wc_S u1 → va_S A0 H0 H1 locs1 → H.size ≤ H1.size → (∀ q : Nat, q < H.size → ¬ CA h q → H1[q]? = H[q]?) → W p l e R s m args below meth c H1 locs1 (cells + mc) (slots + ms) Q (F0 m (pc + 3) ls (v.toList ++ rest))) : W p l e R s m args below meth c H locs cells slots Q (F0 m pc ls st0) := by
  intro T hT X
  obtain ⟨v', st₀, t, T', L, h0, X', hL, e1, e2, ⟨hv, hb, hs1, hz, hk⟩, st⟩ := hr T hT X
  cases hv
  rw [h0] at hz hk
  obtain ⟨t2, a1, b1⟩ := kk T'.heap (locs ++ L) (by rw [e1]; exact hb) hs1
    ⟨Nat.le_trans hS.1 (by rw [e1]; exact hz), fun q h1 h2 => by rw [e1, hk q (Nat.lt_of_lt_of_le h1 hS.1) (fun z => h2 (hA q z))]; exact hS.2.1 q h1 h2, fun q hq => by
      rcases List.mem_append.mp hq with h | h
      · exact hS.2.2 q h
      · exact hA _ (hL q h)⟩ (by rw [e1]; exact hz) (fun q h1 h2 => by rw [e1]; exact hk q h1 h2) T' rfl X'
  exact ⟨t2, st t2 a1, b1⟩
/-- a method of the component: from its entry -/
theorem wc_met {y : MethodName} {bytes : ByteArray} {maxL mc ms : Nat} {ret : Option FieldType} {rm : Room} {av : List Value} {v : Option Value} {u1 : CS} {lv : List (Nat × Value)} (hy : plainName y.cls = true) (hyc : y.cls = own) (hn : Nat.ble (lg_sl av).length maxL = true) (hlv : lv_args 0 av = lv)
    (body : ∀ (p : Program) (e : Env) (s : State) (m : MethodId) (args : Array Value) (below : List Frame) (meth : Method) (c : Code) (ls : Array Slot), CC p m c bytes maxL s args D dA own → meth.sig.returnType = ret → meth.locks = false → wc_W D dA h u s.heap → wc_S u → va_S (CA h) s.heap s.heap [] → lv_has ls maxL lv →
      W p l e rm s m args below meth c s.heap [] 0 0 (MQ below (wc_Qr D dA h v u1) args s mc ms (CA h)) (F0 m 0 ls [])) : Met l y (ws_ y bytes maxL ret) rm (va_Pc av (wc_St D dA h u)) (wc_Qr D dA h v u1) mc ms (CA h) := by
  refine Met.ofW (cc := bytes) (maxL := maxL) (ret := ret) hy rfl ?_
  intro p e s m args below meth c s₁ B hml hv
  obtain ⟨rfl, hT, hS, hK⟩ := hv
  have hts := atoms_spec (ws := ws_ y bytes maxL ret) B.pre
  have hts : ∀ w ∈ lw_all, w.before _ s = true := fun w h => hts w (List.mem_cons_of_mem _ h)
  have hown : s.vm.findClass y.cls = some m.cls := findClass_of_methodNamed B.named
  rw [lg_entry_eq]
  have hl := lv_entry av (n := maxL) (Nat.le_of_ble_eq_true hn)
  rw [hlv] at hl
  exact body p e s m _ below meth c _ ⟨⟨B.exec, B.bytes, hml, by rw [← hyc]; exact hown, hts⟩, hK⟩ B.returns B.notSynchronized hT hS va_S.rf hl
theorem wc_iret {x r : Int32} {u1 : CS} (C : CC p m c cc nL s args D dA own) (hr : meth.sig.returnType = some .int) (hlocks : meth.locks = false) (hW : wc_W D dA h u H) (hS : wc_S u) (hV : va_S (CA h) s.heap H locs) (hE : some (x, u) = some (r, u1)) (d : decode cc pc = .ok (.ireturn, 1)) : W p l e R s m args below meth c H locs cells slots (MQ below (wc_Qr D dA h (some (.int r)) u1) args s cells slots (CA h)) (F0 m pc ls [.int x]) := by
  cases hE
  exact W.iret C.1.1 C.1.2.1 hr (fun t ht hw => ⟨rfl, by rw [ht]; exact hW, hS, hV.F ht⟩) hV.2.2 d
theorem wc_zret {x r : Int32} {u1 : CS} (C : CC p m c cc nL s args D dA own) (hr : meth.sig.returnType = some .boolean) (hlocks : meth.locks = false) (hW : wc_W D dA h u H) (hS : wc_S u) (hV : va_S (CA h) s.heap H locs) (hb1 : x = 0 ∨ x = 1) (hE : some (x, u) = some (r, u1)) (d : decode cc pc = .ok (.ireturn, 1)) : W p l e R s m args below meth c H locs cells slots (MQ below (wc_Qr D dA h (some (.int r)) u1) args s cells slots (CA h)) (F0 m pc ls [.int x]) := by
  cases hE
  exact W.zret C.1.1 C.1.2.1 hr (z_nar hb1) (fun t ht hw => ⟨rfl, by rw [ht]; exact hW, hS, hV.F ht⟩) hV.2.2 d
theorem wc_cret {x r : Int32} {u1 : CS} (C : CC p m c cc nL s args D dA own) (hr : meth.sig.returnType = some .char) (hlocks : meth.locks = false) (hW : wc_W D dA h u H) (hS : wc_S u) (hV : va_S (CA h) s.heap H locs) (hb1 : narrow .char (.int x) = .int x) (hE : some (x, u) = some (r, u1)) (d : decode cc pc = .ok (.ireturn, 1)) : W p l e R s m args below meth c H locs cells slots (MQ below (wc_Qr D dA h (some (.int r)) u1) args s cells slots (CA h)) (F0 m pc ls [.int x]) := by
  cases hE
  exact W.zret C.1.1 C.1.2.1 hr hb1 (fun t ht hw => ⟨rfl, by rw [ht]; exact hW, hS, hV.F ht⟩) hV.2.2 d
theorem wc_lret {x r : Int64} {u1 : CS} (C : CC p m c cc nL s args D dA own) (hr : meth.sig.returnType = some .long) (hlocks : meth.locks = false) (hW : wc_W D dA h u H) (hS : wc_S u) (hV : va_S (CA h) s.heap H locs) (hE : some (x, u) = some (r, u1)) (d : decode cc pc = .ok (.lreturn, 1)) : W p l e R s m args below meth c H locs cells slots (MQ below (wc_Qr D dA h (some (.long r)) u1) args s cells slots (CA h)) (F0 m pc ls [.long x]) := by
  cases hE
  exact W.lret C.1.1 C.1.2.1 hr (fun t ht hw => ⟨rfl, by rw [ht]; exact hW, hS, hV.F ht⟩) hV.2.2 d
theorem wc_vret {u1 : CS} (C : CC p m c cc nL s args D dA own) (hr : meth.sig.returnType = none) (hlocks : meth.locks = false) (hW : wc_W D dA h u H) (hS : wc_S u) (hV : va_S (CA h) s.heap H locs) (hE : some u = some u1) (d : decode cc pc = .ok (.return_, 1)) : W p l e R s m args below meth c H locs cells slots (MQ below (wc_Qr D dA h none u1) args s cells slots (CA h)) (F0 m pc ls []) := by
  cases hE
  exact W.vret C.1.1 C.1.2.1 hr (fun t ht hw => ⟨rfl, by rw [ht]; exact hW, hS, hV.F ht⟩) hV.2.2 d
theorem wc_aret {x r : Option Nat} {u1 : CS} {nm : String} (C : CC p m c cc nL s args D dA own) (hr : meth.sig.returnType = some (.object nm)) (hlocks : meth.locks = false) (hW : wc_W D dA h u H) (hS : wc_S u) (hV : va_S (CA h) s.heap H locs) (hE : some (x, u) = some (r, u1)) (d : decode cc pc = .ok (.areturn, 1)) : W p l e R s m args below meth c H locs cells slots (MQ below (wc_Qr D dA h (some (wc_rf h r)) u1) args s cells slots (CA h)) (F0 m pc ls [wc_rf h x]) := by
  cases hE
  exact W.aret C.1.1 C.1.2.1 hr (Or.inl ⟨nm, rfl⟩) (by cases x <;> simp [wc_rf]) (fun t ht hw => ⟨rfl, by rw [ht]; exact hW, hS, hV.F ht⟩) hV.2.2 d
end CRC
theorem st_F {u : CS} {F : Nat} (hS : wc_S u) (hF : wc_F F) : wc_T u F = some (.inl 1) := hS.1 _ _ (by rcases hF with rfl | rfl | rfl <;> rfl)
theorem st_0 {u : CS} (hS : wc_S u) : wc_T u 0 = some (.inl 0) := hS.1 _ _ rfl
theorem st_297 {u : CS} (hS : wc_S u) : wc_T u 297 = some (.inl 3) := hS.1 _ _ rfl
theorem st_299 {u : CS} (hS : wc_S u) : wc_T u 299 = some (.inl 4) := hS.1 _ _ rfl
theorem st_324 {u : CS} (hS : wc_S u) : wc_T u 324 = some (.inl 5) := hS.1 _ _ rfl
theorem st_F_blocks {u : CS} {F : Nat} (hS : wc_S u) (hF : wc_F F) : wc_T u (F + 1) = some (.inr (0, 24)) := hS.1 _ _ (by rcases hF with rfl | rfl | rfl <;> rfl)
theorem sp_F_blocks {u : CS} {F : Nat} (hS : wc_S u) (hF : wc_F F) : wc_P u F 2 = some (F + 1) := hS.2.1 _ _ _ (by rcases hF with rfl | rfl | rfl <;> rfl)
theorem st_F_sites {u : CS} {F : Nat} (hS : wc_S u) (hF : wc_F F) : wc_T u (F + 2) = some (.inr (0, 24)) := hS.1 _ _ (by rcases hF with rfl | rfl | rfl <;> rfl)
theorem sp_F_sites {u : CS} {F : Nat} (hS : wc_S u) (hF : wc_F F) : wc_P u F 3 = some (F + 2) := hS.2.1 _ _ _ (by rcases hF with rfl | rfl | rfl <;> rfl)
theorem st_F_kinds {u : CS} {F : Nat} (hS : wc_S u) (hF : wc_F F) : wc_T u (F + 3) = some (.inr (0, 24)) := hS.1 _ _ (by rcases hF with rfl | rfl | rfl <;> rfl)
theorem sp_F_kinds {u : CS} {F : Nat} (hS : wc_S u) (hF : wc_F F) : wc_P u F 4 = some (F + 3) := hS.2.1 _ _ _ (by rcases hF with rfl | rfl | rfl <;> rfl)
theorem st_F_steeps {u : CS} {F : Nat} (hS : wc_S u) (hF : wc_F F) : wc_T u (F + 4) = some (.inr (0, 24)) := hS.1 _ _ (by rcases hF with rfl | rfl | rfl <;> rfl)
theorem sp_F_steeps {u : CS} {F : Nat} (hS : wc_S u) (hF : wc_F F) : wc_P u F 5 = some (F + 4) := hS.2.1 _ _ _ (by rcases hF with rfl | rfl | rfl <;> rfl)
theorem st_F_acres {u : CS} {F : Nat} (hS : wc_S u) (hF : wc_F F) : wc_T u (F + 5) = some (.inr (0, 24)) := hS.1 _ _ (by rcases hF with rfl | rfl | rfl <;> rfl)
theorem sp_F_acres {u : CS} {F : Nat} (hS : wc_S u) (hF : wc_F F) : wc_P u F 6 = some (F + 5) := hS.2.1 _ _ _ (by rcases hF with rfl | rfl | rfl <;> rfl)
theorem st_F_ages {u : CS} {F : Nat} (hS : wc_S u) (hF : wc_F F) : wc_T u (F + 6) = some (.inr (0, 24)) := hS.1 _ _ (by rcases hF with rfl | rfl | rfl <;> rfl)
theorem sp_F_ages {u : CS} {F : Nat} (hS : wc_S u) (hF : wc_F F) : wc_P u F 7 = some (F + 6) := hS.2.1 _ _ _ (by rcases hF with rfl | rfl | rfl <;> rfl)
theorem st_F_fulls {u : CS} {F : Nat} (hS : wc_S u) (hF : wc_F F) : wc_T u (F + 7) = some (.inr (0, 24)) := hS.1 _ _ (by rcases hF with rfl | rfl | rfl <;> rfl)
theorem sp_F_fulls {u : CS} {F : Nat} (hS : wc_S u) (hF : wc_F F) : wc_P u F 8 = some (F + 7) := hS.2.1 _ _ _ (by rcases hF with rfl | rfl | rfl <;> rfl)
theorem st_F_lying {u : CS} {F : Nat} (hS : wc_S u) (hF : wc_F F) : wc_T u (F + 8) = some (.inr (0, 24)) := hS.1 _ _ (by rcases hF with rfl | rfl | rfl <;> rfl)
theorem sp_F_lying {u : CS} {F : Nat} (hS : wc_S u) (hF : wc_F F) : wc_P u F 9 = some (F + 8) := hS.2.1 _ _ _ (by rcases hF with rfl | rfl | rfl <;> rfl)
theorem st_F_bugs {u : CS} {F : Nat} (hS : wc_S u) (hF : wc_F F) : wc_T u (F + 9) = some (.inr (0, 24)) := hS.1 _ _ (by rcases hF with rfl | rfl | rfl <;> rfl)
theorem sp_F_bugs {u : CS} {F : Nat} (hS : wc_S u) (hF : wc_F F) : wc_P u F 10 = some (F + 9) := hS.2.1 _ _ _ (by rcases hF with rfl | rfl | rfl <;> rfl)
theorem st_F_cutIn {u : CS} {F : Nat} (hS : wc_S u) (hF : wc_F F) : wc_T u (F + 10) = some (.inr (0, 24)) := hS.1 _ _ (by rcases hF with rfl | rfl | rfl <;> rfl)
theorem sp_F_cutIn {u : CS} {F : Nat} (hS : wc_S u) (hF : wc_F F) : wc_P u F 11 = some (F + 10) := hS.2.1 _ _ _ (by rcases hF with rfl | rfl | rfl <;> rfl)
theorem st_F_plantedIn {u : CS} {F : Nat} (hS : wc_S u) (hF : wc_F F) : wc_T u (F + 11) = some (.inr (0, 24)) := hS.1 _ _ (by rcases hF with rfl | rfl | rfl <;> rfl)
theorem sp_F_plantedIn {u : CS} {F : Nat} (hS : wc_S u) (hF : wc_F F) : wc_P u F 12 = some (F + 11) := hS.2.1 _ _ _ (by rcases hF with rfl | rfl | rfl <;> rfl)
theorem st_F_pairA {u : CS} {F : Nat} (hS : wc_S u) (hF : wc_F F) : wc_T u (F + 12) = some (.inr (0, 60)) := hS.1 _ _ (by rcases hF with rfl | rfl | rfl <;> rfl)
theorem sp_F_pairA {u : CS} {F : Nat} (hS : wc_S u) (hF : wc_F F) : wc_P u F 14 = some (F + 12) := hS.2.1 _ _ _ (by rcases hF with rfl | rfl | rfl <;> rfl)
theorem st_F_pairB {u : CS} {F : Nat} (hS : wc_S u) (hF : wc_F F) : wc_T u (F + 13) = some (.inr (0, 60)) := hS.1 _ _ (by rcases hF with rfl | rfl | rfl <;> rfl)
theorem sp_F_pairB {u : CS} {F : Nat} (hS : wc_S u) (hF : wc_F F) : wc_P u F 15 = some (F + 13) := hS.2.1 _ _ _ (by rcases hF with rfl | rfl | rfl <;> rfl)
theorem st_F_roadA {u : CS} {F : Nat} (hS : wc_S u) (hF : wc_F F) : wc_T u (F + 14) = some (.inr (0, 12)) := hS.1 _ _ (by rcases hF with rfl | rfl | rfl <;> rfl)
theorem sp_F_roadA {u : CS} {F : Nat} (hS : wc_S u) (hF : wc_F F) : wc_P u F 18 = some (F + 14) := hS.2.1 _ _ _ (by rcases hF with rfl | rfl | rfl <;> rfl)
theorem st_F_roadB {u : CS} {F : Nat} (hS : wc_S u) (hF : wc_F F) : wc_T u (F + 15) = some (.inr (0, 12)) := hS.1 _ _ (by rcases hF with rfl | rfl | rfl <;> rfl)
theorem sp_F_roadB {u : CS} {F : Nat} (hS : wc_S u) (hF : wc_F F) : wc_P u F 19 = some (F + 15) := hS.2.1 _ _ _ (by rcases hF with rfl | rfl | rfl <;> rfl)
theorem st_F_lengths {u : CS} {F : Nat} (hS : wc_S u) (hF : wc_F F) : wc_T u (F + 16) = some (.inr (0, 12)) := hS.1 _ _ (by rcases hF with rfl | rfl | rfl <;> rfl)
theorem sp_F_lengths {u : CS} {F : Nat} (hS : wc_S u) (hF : wc_F F) : wc_P u F 20 = some (F + 16) := hS.2.1 _ _ _ (by rcases hF with rfl | rfl | rfl <;> rfl)
theorem st_F_hauls {u : CS} {F : Nat} (hS : wc_S u) (hF : wc_F F) : wc_T u (F + 17) = some (.inr (0, 6)) := hS.1 _ _ (by rcases hF with rfl | rfl | rfl <;> rfl)
theorem sp_F_hauls {u : CS} {F : Nat} (hS : wc_S u) (hF : wc_F F) : wc_P u F 21 = some (F + 17) := hS.2.1 _ _ _ (by rcases hF with rfl | rfl | rfl <;> rfl)
theorem st_F_homes {u : CS} {F : Nat} (hS : wc_S u) (hF : wc_F F) : wc_T u (F + 18) = some (.inr (0, 8)) := hS.1 _ _ (by rcases hF with rfl | rfl | rfl <;> rfl)
theorem sp_F_homes {u : CS} {F : Nat} (hS : wc_S u) (hF : wc_F F) : wc_P u F 23 = some (F + 18) := hS.2.1 _ _ _ (by rcases hF with rfl | rfl | rfl <;> rfl)
theorem st_F_hearths {u : CS} {F : Nat} (hS : wc_S u) (hF : wc_F F) : wc_T u (F + 19) = some (.inr (0, 8)) := hS.1 _ _ (by rcases hF with rfl | rfl | rfl <;> rfl)
theorem sp_F_hearths {u : CS} {F : Nat} (hS : wc_S u) (hF : wc_F F) : wc_P u F 24 = some (F + 19) := hS.2.1 _ _ _ (by rcases hF with rfl | rfl | rfl <;> rfl)
theorem st_F_heads {u : CS} {F : Nat} (hS : wc_S u) (hF : wc_F F) : wc_T u (F + 20) = some (.inr (0, 8)) := hS.1 _ _ (by rcases hF with rfl | rfl | rfl <;> rfl)
theorem sp_F_heads {u : CS} {F : Nat} (hS : wc_S u) (hF : wc_F F) : wc_P u F 25 = some (F + 20) := hS.2.1 _ _ _ (by rcases hF with rfl | rfl | rfl <;> rfl)
theorem st_F_owed {u : CS} {F : Nat} (hS : wc_S u) (hF : wc_F F) : wc_T u (F + 21) = some (.inr (0, 8)) := hS.1 _ _ (by rcases hF with rfl | rfl | rfl <;> rfl)
theorem sp_F_owed {u : CS} {F : Nat} (hS : wc_S u) (hF : wc_F F) : wc_P u F 26 = some (F + 21) := hS.2.1 _ _ _ (by rcases hF with rfl | rfl | rfl <;> rfl)
theorem st_F_slots {u : CS} {F : Nat} (hS : wc_S u) (hF : wc_F F) : wc_T u (F + 22) = some (.inr (6, 60)) := hS.1 _ _ (by rcases hF with rfl | rfl | rfl <;> rfl)
theorem sp_F_slots {u : CS} {F : Nat} (hS : wc_S u) (hF : wc_F F) : wc_P u F 27 = some (F + 22) := hS.2.1 _ _ _ (by rcases hF with rfl | rfl | rfl <;> rfl)
theorem st_F_books {u : CS} {F : Nat} (hS : wc_S u) (hF : wc_F F) : wc_T u (F + 23) = some (.inr (1, 8)) := hS.1 _ _ (by rcases hF with rfl | rfl | rfl <;> rfl)
theorem sp_F_books {u : CS} {F : Nat} (hS : wc_S u) (hF : wc_F F) : wc_P u F 28 = some (F + 23) := hS.2.1 _ _ _ (by rcases hF with rfl | rfl | rfl <;> rfl)
theorem st_F_line {u : CS} {F : Nat} (hS : wc_S u) (hF : wc_F F) : wc_T u (F + 24) = some (.inr (7, 16)) := hS.1 _ _ (by rcases hF with rfl | rfl | rfl <;> rfl)
theorem sp_F_line {u : CS} {F : Nat} (hS : wc_S u) (hF : wc_F F) : wc_P u F 30 = some (F + 24) := hS.2.1 _ _ _ (by rcases hF with rfl | rfl | rfl <;> rfl)
theorem st_F_cameIn {u : CS} {F : Nat} (hS : wc_S u) (hF : wc_F F) : wc_T u (F + 25) = some (.inr (0, 16)) := hS.1 _ _ (by rcases hF with rfl | rfl | rfl <;> rfl)
theorem sp_F_cameIn {u : CS} {F : Nat} (hS : wc_S u) (hF : wc_F F) : wc_P u F 31 = some (F + 25) := hS.2.1 _ _ _ (by rcases hF with rfl | rfl | rfl <;> rfl)
theorem st_F_struckIn {u : CS} {F : Nat} (hS : wc_S u) (hF : wc_F F) : wc_T u (F + 26) = some (.inr (0, 16)) := hS.1 _ _ (by rcases hF with rfl | rfl | rfl <;> rfl)
theorem sp_F_struckIn {u : CS} {F : Nat} (hS : wc_S u) (hF : wc_F F) : wc_P u F 32 = some (F + 26) := hS.2.1 _ _ _ (by rcases hF with rfl | rfl | rfl <;> rfl)
theorem st_F_orderStand {u : CS} {F : Nat} (hS : wc_S u) (hF : wc_F F) : wc_T u (F + 27) = some (.inr (0, 30)) := hS.1 _ _ (by rcases hF with rfl | rfl | rfl <;> rfl)
theorem sp_F_orderStand {u : CS} {F : Nat} (hS : wc_S u) (hF : wc_F F) : wc_P u F 34 = some (F + 27) := hS.2.1 _ _ _ (by rcases hF with rfl | rfl | rfl <;> rfl)
theorem st_F_orderSort {u : CS} {F : Nat} (hS : wc_S u) (hF : wc_F F) : wc_T u (F + 28) = some (.inr (0, 30)) := hS.1 _ _ (by rcases hF with rfl | rfl | rfl <;> rfl)
theorem sp_F_orderSort {u : CS} {F : Nat} (hS : wc_S u) (hF : wc_F F) : wc_P u F 35 = some (F + 28) := hS.2.1 _ _ _ (by rcases hF with rfl | rfl | rfl <;> rfl)
theorem st_F_orderTold {u : CS} {F : Nat} (hS : wc_S u) (hF : wc_F F) : wc_T u (F + 29) = some (.inr (0, 30)) := hS.1 _ _ (by rcases hF with rfl | rfl | rfl <;> rfl)
theorem sp_F_orderTold {u : CS} {F : Nat} (hS : wc_S u) (hF : wc_F F) : wc_P u F 36 = some (F + 29) := hS.2.1 _ _ _ (by rcases hF with rfl | rfl | rfl <;> rfl)
theorem st_F_sown {u : CS} {F : Nat} (hS : wc_S u) (hF : wc_F F) : wc_T u (F + 30) = some (.inr (0, 12)) := hS.1 _ _ (by rcases hF with rfl | rfl | rfl <;> rfl)
theorem sp_F_sown {u : CS} {F : Nat} (hS : wc_S u) (hF : wc_F F) : wc_P u F 37 = some (F + 30) := hS.2.1 _ _ _ (by rcases hF with rfl | rfl | rfl <;> rfl)
theorem st_F_winds {u : CS} {F : Nat} (hS : wc_S u) (hF : wc_F F) : wc_T u (F + 31) = some (.inr (0, 100)) := hS.1 _ _ (by rcases hF with rfl | rfl | rfl <;> rfl)
theorem sp_F_winds {u : CS} {F : Nat} (hS : wc_S u) (hF : wc_F F) : wc_P u F 38 = some (F + 31) := hS.2.1 _ _ _ (by rcases hF with rfl | rfl | rfl <;> rfl)
theorem st_F_thieves {u : CS} {F : Nat} (hS : wc_S u) (hF : wc_F F) : wc_T u (F + 32) = some (.inr (0, 6)) := hS.1 _ _ (by rcases hF with rfl | rfl | rfl <;> rfl)
theorem sp_F_thieves {u : CS} {F : Nat} (hS : wc_S u) (hF : wc_F F) : wc_P u F 39 = some (F + 32) := hS.2.1 _ _ _ (by rcases hF with rfl | rfl | rfl <;> rfl)
theorem st_F_guards {u : CS} {F : Nat} (hS : wc_S u) (hF : wc_F F) : wc_T u (F + 33) = some (.inr (0, 6)) := hS.1 _ _ (by rcases hF with rfl | rfl | rfl <;> rfl)
theorem sp_F_guards {u : CS} {F : Nat} (hS : wc_S u) (hF : wc_F F) : wc_P u F 40 = some (F + 33) := hS.2.1 _ _ _ (by rcases hF with rfl | rfl | rfl <;> rfl)
theorem st_F_countMany {u : CS} {F : Nat} (hS : wc_S u) (hF : wc_F F) : wc_T u (F + 34) = some (.inr (0, 24)) := hS.1 _ _ (by rcases hF with rfl | rfl | rfl <;> rfl)
theorem sp_F_countMany {u : CS} {F : Nat} (hS : wc_S u) (hF : wc_F F) : wc_P u F 41 = some (F + 34) := hS.2.1 _ _ _ (by rcases hF with rfl | rfl | rfl <;> rfl)
theorem st_F_counts {u : CS} {F : Nat} (hS : wc_S u) (hF : wc_F F) : wc_T u (F + 35) = some (.inr (0, 960)) := hS.1 _ _ (by rcases hF with rfl | rfl | rfl <;> rfl)
theorem sp_F_counts {u : CS} {F : Nat} (hS : wc_S u) (hF : wc_F F) : wc_P u F 42 = some (F + 35) := hS.2.1 _ _ _ (by rcases hF with rfl | rfl | rfl <;> rfl)
theorem st_F_isOpen {u : CS} {F : Nat} (hS : wc_S u) (hF : wc_F F) : wc_T u (F + 36) = some (.inr (2, 24)) := hS.1 _ _ (by rcases hF with rfl | rfl | rfl <;> rfl)
theorem sp_F_isOpen {u : CS} {F : Nat} (hS : wc_S u) (hF : wc_F F) : wc_P u F 44 = some (F + 36) := hS.2.1 _ _ _ (by rcases hF with rfl | rfl | rfl <;> rfl)
theorem st_F_bugsBefore {u : CS} {F : Nat} (hS : wc_S u) (hF : wc_F F) : wc_T u (F + 37) = some (.inr (0, 24)) := hS.1 _ _ (by rcases hF with rfl | rfl | rfl <;> rfl)
theorem sp_F_bugsBefore {u : CS} {F : Nat} (hS : wc_S u) (hF : wc_F F) : wc_P u F 45 = some (F + 37) := hS.2.1 _ _ _ (by rcases hF with rfl | rfl | rfl <;> rfl)
theorem st_0_refusals {u : CS} (hS : wc_S u) : wc_T u 1 = some (.inr (5, 9)) := hS.1 _ _ rfl
theorem sp_0_refusals {u : CS} (hS : wc_S u) : wc_P u 0 0 = some 1 := hS.2.1 _ _ _ rfl
theorem st_0_refused {u : CS} (hS : wc_S u) : wc_T u 2 = some (.inr (0, 9)) := hS.1 _ _ rfl
theorem sp_0_refused {u : CS} (hS : wc_S u) : wc_P u 0 1 = some 2 := hS.2.1 _ _ _ rfl
theorem sp_0_now {u : CS} (hS : wc_S u) : wc_P u 0 2 = some 3 := hS.2.1 _ _ _ rfl
theorem sp_0_trial {u : CS} (hS : wc_S u) : wc_P u 0 3 = some 101 := hS.2.1 _ _ _ rfl
theorem sp_0_image {u : CS} (hS : wc_S u) : wc_P u 0 4 = some 199 := hS.2.1 _ _ _ rfl
theorem sp_0_reader {u : CS} (hS : wc_S u) : wc_P u 0 6 = some 297 := hS.2.1 _ _ _ rfl
theorem st_0_members {u : CS} (hS : wc_S u) : wc_T u 325 = some (.inr (0, 7)) := hS.1 _ _ rfl
theorem sp_0_members {u : CS} (hS : wc_S u) : wc_P u 0 7 = some 325 := hS.2.1 _ _ _ rfl
theorem st_0_isRipe {u : CS} (hS : wc_S u) : wc_T u 326 = some (.inr (2, 28)) := hS.1 _ _ rfl
theorem sp_0_isRipe {u : CS} (hS : wc_S u) : wc_P u 0 10 = some 326 := hS.2.1 _ _ _ rfl
theorem st_0_woodThen {u : CS} (hS : wc_S u) : wc_T u 327 = some (.inr (0, 28)) := hS.1 _ _ rfl
theorem sp_0_woodThen {u : CS} (hS : wc_S u) : wc_P u 0 11 = some 327 := hS.2.1 _ _ _ rfl
theorem st_0_areas {u : CS} (hS : wc_S u) : wc_T u 328 = some (.inr (0, 7)) := hS.1 _ _ rfl
theorem sp_0_areas {u : CS} (hS : wc_S u) : wc_P u 0 12 = some 328 := hS.2.1 _ _ _ rfl
theorem st_0_isNear {u : CS} (hS : wc_S u) : wc_T u 329 = some (.inr (2, 49)) := hS.1 _ _ rfl
theorem sp_0_isNear {u : CS} (hS : wc_S u) : wc_P u 0 13 = some 329 := hS.2.1 _ _ _ rfl
theorem st_0_choice {u : CS} (hS : wc_S u) : wc_T u 330 = some (.inr (0, 7)) := hS.1 _ _ rfl
theorem sp_0_choice {u : CS} (hS : wc_S u) : wc_P u 0 14 = some 330 := hS.2.1 _ _ _ rfl
theorem st_0_best {u : CS} (hS : wc_S u) : wc_T u 331 = some (.inr (0, 7)) := hS.1 _ _ rfl
theorem sp_0_best {u : CS} (hS : wc_S u) : wc_P u 0 15 = some 331 := hS.2.1 _ _ _ rfl
theorem st_0_keptTen {u : CS} (hS : wc_S u) : wc_T u 332 = some (.inr (0, 24)) := hS.1 _ _ rfl
theorem sp_0_keptTen {u : CS} (hS : wc_S u) : wc_P u 0 22 = some 332 := hS.2.1 _ _ _ rfl
theorem st_0_imageTen {u : CS} (hS : wc_S u) : wc_T u 333 = some (.inr (0, 24)) := hS.1 _ _ rfl
theorem sp_0_imageTen {u : CS} (hS : wc_S u) : wc_P u 0 24 = some 333 := hS.2.1 _ _ _ rfl
theorem st_0_rowsOf {u : CS} (hS : wc_S u) : wc_T u 334 = some (.inr (9, 101)) := hS.1 _ _ rfl
theorem sp_0_rowsOf {u : CS} (hS : wc_S u) : wc_P u 0 26 = some 334 := hS.2.1 _ _ _ rfl
theorem sp_297_tape {u : CS} (hS : wc_S u) : wc_P u 297 0 = some 298 := hS.2.1 _ _ _ rfl
theorem sp_297_fault {u : CS} (hS : wc_S u) : wc_P u 297 8 = some 299 := hS.2.1 _ _ _ rfl
theorem sp_297_words {u : CS} (hS : wc_S u) : wc_P u 297 9 = some 300 := hS.2.1 _ _ _ rfl
theorem sp_297_first {u : CS} (hS : wc_S u) : wc_P u 297 11 = some 324 := hS.2.1 _ _ _ rfl
theorem st_297_tape {u : CS} (hS : wc_S u) : wc_T u 298 = some (.inr (3, 120)) := hS.1 _ _ rfl
theorem st_297_words {u : CS} (hS : wc_S u) : wc_T u 300 = some (.inr (8, 23)) := hS.1 _ _ rfl
theorem wc_cat {h : Nat} {r : Option Nat} : (wc_rf h r).category = 1 := by cases r <;> rfl
theorem wc_rf_map (h : Nat) (r : Option Nat) : va_rf (r.map (fun m => h + m)) = wc_rf h r := by cases r <;> rfl
theorem o_nu_none {β : Type} {A : Option β} {K : Nat → Option β} {R : β} (h : o_nu none A K = some R) : A = some R := h
theorem o_nu_nn {β : Type} {n : Nat} {A : Option β} {K : Nat → Option β} {R : β} (h : o_nu (some n) A K = some R) : K n = some R := h
section CRD
variable {p : Program} {l : Launch} {e : Env} {R : Room} {s : State} {m : MethodId} {args : Array Value} {below : List Frame} {meth : Method} {c : Code} {H : Heap} {locs : List Loc} {cells slots : Nat} {Q : State → Prop} {cc : ByteArray} {nL pc : Nat} {ls : Array Slot} {rest : List Value} {D : va_G} {dA : Nat → ClassId} {h : Nat} {u : CS} {H0 : Heap} {own : String} {ρ : Type} {r0 : ρ}
theorem z_aload_n (hexec : p.tables.exec = Jvm.exec) (hb : c.code = cc) {k : Fin 4} {i : Nat} {x : Option Nat} (hdg : decode cc pc = .ok (.aload_n k, 1)) (hi : (k : Nat) = i) (hl : ls[i]? = some (.val (wc_rf h x)))
    (kk : W p l e R s m args below meth c H locs cells slots Q (F0 m (pc + 1) ls (wc_rf h x :: rest))) : W p l e R s m args below meth c H locs cells slots Q (F0 m pc ls rest) := by
  cases x with
  | none => exact lv_aload_nN hexec hb hdg hi hl kk
  | some n => exact lv_aload_n hexec hb hdg hi hl kk
theorem z_aload (hexec : p.tables.exec = Jvm.exec) (hb : c.code = cc) {i : Nat} {x : Option Nat} (hdg : decode cc pc = .ok (.aload i, 2)) (hl : ls[i]? = some (.val (wc_rf h x)))
    (kk : W p l e R s m args below meth c H locs cells slots Q (F0 m (pc + 2) ls (wc_rf h x :: rest))) : W p l e R s m args below meth c H locs cells slots Q (F0 m pc ls rest) := by
  cases x with
  | none => exact lv_aloadN hexec hb hdg hl kk
  | some n => exact lv_aload hexec hb hdg hl kk
theorem z_astore_n (hexec : p.tables.exec = Jvm.exec) (hb : c.code = cc) {k : Fin 4} {i nL : Nat} {x : Option Nat} {lv lv' : List (Nat × Value)} (hdg : decode cc pc = .ok (.astore_n k, 1)) (hi : (k : Nat) = i) (hh : lv_has ls nL lv) (hn : i < nL) (hl : (i, wc_rf h x) :: lv.filter (fun q => !(q.1 == i) && !(q.1 + 1 == i && q.2.category == 2)) = lv')
    (kk : ∀ ls' : Array Slot, lv_has ls' nL lv' → W p l e R s m args below meth c H locs cells slots Q (F0 m (pc + 1) ls' rest)) : W p l e R s m args below meth c H locs cells slots Q (F0 m pc ls (wc_rf h x :: rest)) := by
  cases x with
  | none => exact lv_astore_nN hexec hb hdg hi hh hn hl kk
  | some n => exact lv_astore_n hexec hb hdg hi hh hn hl kk
theorem z_astore (hexec : p.tables.exec = Jvm.exec) (hb : c.code = cc) {i nL : Nat} {x : Option Nat} {lv lv' : List (Nat × Value)} (hdg : decode cc pc = .ok (.astore i, 2)) (hh : lv_has ls nL lv) (hn : i < nL) (hl : (i, wc_rf h x) :: lv.filter (fun q => !(q.1 == i) && !(q.1 + 1 == i && q.2.category == 2)) = lv')
    (kk : ∀ ls' : Array Slot, lv_has ls' nL lv' → W p l e R s m args below meth c H locs cells slots Q (F0 m (pc + 2) ls' rest)) : W p l e R s m args below meth c H locs cells slots Q (F0 m pc ls (wc_rf h x :: rest)) := by
  cases x with
  | none => exact lv_astoreN hexec hb hdg hh hn hl kk
  | some n => exact lv_astore hexec hb hdg hh hn hl kk
/-- an array of references, an element -/
theorem wc_ldqG {i : Int32} {K : Option Nat → Option ρ} {n len t : Nat} {ty : FieldType} (C : CC p m c cc nL s args D dA own) (hW : wc_W D dA h u H) (ht : wc_T u n = some (.inr (t, len))) (hc : wc_con h u t n = .inr (.inr (.inr (.inr (fun j => (wc_Q u n j).map (fun m => h + m)))))) (hty : (wc_tys dA)[t]? = some (dA t, ty)) (hr : ty.isReference = true) (hE : o_ald (wc_Q u n) len i K = some r0) (d : decode cc pc = .ok (.aaload, 1)) (k : K (wc_Q u n i.toNatClampNeg) = some r0 → W p l e R s m args below meth c H locs cells slots Q (F0 m (pc + 1) ls (wc_rf h (wc_Q u n i.toNatClampNeg) :: rest))) : W p l e R s m args below meth c H locs cells slots Q (F0 m pc ls (.int i :: .ref (h + n) :: rest)) := by
  have hin := (o_ald_some hE).1
  have hlt : i.toNatClampNeg < len := Nat.not_le.mp fun q => hin (Or.inr q)
  have hcell : H[h + n]? = some (arrV (dA t) len (fun j => va_rf ((wc_Q u n j).map (fun m => h + m)))) := by
    have h1 := hW.2.2.2 n _ (wc_cellA h dA ht)
    rw [hc] at h1
    exact h1
  refine W.aald (v := va_rf ((wc_Q u n i.toNatClampNeg).map (fun m => h + m))) (ty := ty) C.1.1 C.1.2.1 hcell ((C.2.1.2 t _ hty).1 len _) hr (fun q => by cases q) (by rw [arrV_size]; exact hin) (arrV_read _ _ hlt) rfl rfl d ?_
  rw [wc_rf_map]
  exact k (o_ald_some hE).2
theorem wc_ldq5 {i : Int32} {K : Option Nat → Option ρ} {n len : Nat} (C : CC p m c cc nL s args D dA own) (hW : wc_W D dA h u H) (ht : wc_T u n = some (.inr (5, len))) (hE : o_ald (wc_Q u n) len i K = some r0) (d : decode cc pc = .ok (.aaload, 1)) (k : K (wc_Q u n i.toNatClampNeg) = some r0 → W p l e R s m args below meth c H locs cells slots Q (F0 m (pc + 1) ls (wc_rf h (wc_Q u n i.toNatClampNeg) :: rest))) : W p l e R s m args below meth c H locs cells slots Q (F0 m pc ls (.int i :: .ref (h + n) :: rest)) := wc_ldqG C hW ht rfl rfl rfl hE d k
theorem wc_ldq6 {i : Int32} {K : Option Nat → Option ρ} {n len : Nat} (C : CC p m c cc nL s args D dA own) (hW : wc_W D dA h u H) (ht : wc_T u n = some (.inr (6, len))) (hE : o_ald (wc_Q u n) len i K = some r0) (d : decode cc pc = .ok (.aaload, 1)) (k : K (wc_Q u n i.toNatClampNeg) = some r0 → W p l e R s m args below meth c H locs cells slots Q (F0 m (pc + 1) ls (wc_rf h (wc_Q u n i.toNatClampNeg) :: rest))) : W p l e R s m args below meth c H locs cells slots Q (F0 m pc ls (.int i :: .ref (h + n) :: rest)) := wc_ldqG C hW ht rfl rfl rfl hE d k
theorem wc_ldq7 {i : Int32} {K : Option Nat → Option ρ} {n len : Nat} (C : CC p m c cc nL s args D dA own) (hW : wc_W D dA h u H) (ht : wc_T u n = some (.inr (7, len))) (hE : o_ald (wc_Q u n) len i K = some r0) (d : decode cc pc = .ok (.aaload, 1)) (k : K (wc_Q u n i.toNatClampNeg) = some r0 → W p l e R s m args below meth c H locs cells slots Q (F0 m (pc + 1) ls (wc_rf h (wc_Q u n i.toNatClampNeg) :: rest))) : W p l e R s m args below meth c H locs cells slots Q (F0 m pc ls (.int i :: .ref (h + n) :: rest)) := wc_ldqG C hW ht rfl rfl rfl hE d k
theorem wc_ldq8 {i : Int32} {K : Option Nat → Option ρ} {n len : Nat} (C : CC p m c cc nL s args D dA own) (hW : wc_W D dA h u H) (ht : wc_T u n = some (.inr (8, len))) (hE : o_ald (wc_Q u n) len i K = some r0) (d : decode cc pc = .ok (.aaload, 1)) (k : K (wc_Q u n i.toNatClampNeg) = some r0 → W p l e R s m args below meth c H locs cells slots Q (F0 m (pc + 1) ls (wc_rf h (wc_Q u n i.toNatClampNeg) :: rest))) : W p l e R s m args below meth c H locs cells slots Q (F0 m pc ls (.int i :: .ref (h + n) :: rest)) := wc_ldqG C hW ht rfl rfl rfl hE d k
theorem wc_ldq9 {i : Int32} {K : Option Nat → Option ρ} {n len : Nat} (C : CC p m c cc nL s args D dA own) (hW : wc_W D dA h u H) (ht : wc_T u n = some (.inr (9, len))) (hE : o_ald (wc_Q u n) len i K = some r0) (d : decode cc pc = .ok (.aaload, 1)) (k : K (wc_Q u n i.toNatClampNeg) = some r0 → W p l e R s m args below meth c H locs cells slots Q (F0 m (pc + 1) ls (wc_rf h (wc_Q u n i.toNatClampNeg) :: rest))) : W p l e R s m args below meth c H locs cells slots Q (F0 m pc ls (.int i :: .ref (h + n) :: rest)) := wc_ldqG C hW ht rfl rfl rfl hE d k
end CRD
section CL
variable {p : Program} {l : Launch} {e : Env} {R : Room} {s : State} {m : MethodId} {args : Array Value} {below : List Frame} {meth : Method} {c : Code} {H : Heap} {locs : List Loc} {cells slots : Nat} {Q : State → Prop} {cc : ByteArray} {nL pc : Nat} {ls : Array Slot} {rest : List Value} {D : va_G} {dA : Nat → ClassId} {h : Nat} {u : CS} {H0 : Heap} {ρ : Type} {r0 : ρ} {n : Nat}
theorem cg_X0_257_l (C : CC p m c cc nL s args D dA RX0) (hW : wc_W D dA h u H) (ht : wc_lot u n) (d : decode cc pc = .ok (.getfield 257, 3)) (k : W p l e R s m args below meth c H locs cells slots Q (F0 m (pc + 3) ls (.int (wc_I u n 0) :: rest))) : W p l e R s m args below meth c H locs cells slots Q (F0 m pc ls (.ref (h + n) :: rest)) := by
  rcases ht with ht | ht | ht
  · exact cg_X0_257_8 C hW ht d k
  · exact cg_X0_257_16 C hW ht d k
  · exact cg_X0_257_9 C hW ht d k
theorem cg_X0_260_l (C : CC p m c cc nL s args D dA RX0) (hW : wc_W D dA h u H) (ht : wc_lot u n) (d : decode cc pc = .ok (.getfield 260, 3)) (k : W p l e R s m args below meth c H locs cells slots Q (F0 m (pc + 3) ls (.int (wc_I u n 1) :: rest))) : W p l e R s m args below meth c H locs cells slots Q (F0 m pc ls (.ref (h + n) :: rest)) := by
  rcases ht with ht | ht | ht
  · exact cg_X0_260_8 C hW ht d k
  · exact cg_X0_260_16 C hW ht d k
  · exact cg_X0_260_9 C hW ht d k
theorem cg_X0_263_l (C : CC p m c cc nL s args D dA RX0) (hW : wc_W D dA h u H) (ht : wc_lot u n) (d : decode cc pc = .ok (.getfield 263, 3)) (k : W p l e R s m args below meth c H locs cells slots Q (F0 m (pc + 3) ls (.int (wc_I u n 2) :: rest))) : W p l e R s m args below meth c H locs cells slots Q (F0 m pc ls (.ref (h + n) :: rest)) := by
  rcases ht with ht | ht | ht
  · exact cg_X0_263_8 C hW ht d k
  · exact cg_X0_263_16 C hW ht d k
  · exact cg_X0_263_9 C hW ht d k
theorem cp_X1_262_l {x : Int32} {K : CS → Option ρ} {J : CS → Prop} (C : CC p m c cc nL s args D dA RX1) (hW : wc_W D dA h u H) (hS : va_S (CA h) H0 H locs) (ht : wc_lot u n) (hJ : J (wc_uI u n 1 x)) (hE : o_nm (wc_uI u n 1 x) K = some r0) (d : decode cc pc = .ok (.putfield 262, 3)) (k : ∀ (u1 : CS) (H1 : Heap) (locs1 : List Loc), K u1 = some r0 → wc_W D dA h u1 H1 → J u1 → va_S (CA h) H0 H1 locs1 → W p l e R s m args below meth c H1 locs1 cells slots Q (F0 m (pc + 3) ls rest)) : W p l e R s m args below meth c H locs cells slots Q (F0 m pc ls (.int x :: .ref (h + n) :: rest)) := by
  rcases ht with ht | ht | ht
  · exact cp_X1_262_8 C hW hS ht hJ hE d k
  · exact cp_X1_262_16 C hW hS ht hJ hE d k
  · exact cp_X1_262_9 C hW hS ht hJ hE d k
theorem cp_X1_265_l {x : Int32} {K : CS → Option ρ} {J : CS → Prop} (C : CC p m c cc nL s args D dA RX1) (hW : wc_W D dA h u H) (hS : va_S (CA h) H0 H locs) (ht : wc_lot u n) (hJ : J (wc_uI u n 0 x)) (hE : o_nm (wc_uI u n 0 x) K = some r0) (d : decode cc pc = .ok (.putfield 265, 3)) (k : ∀ (u1 : CS) (H1 : Heap) (locs1 : List Loc), K u1 = some r0 → wc_W D dA h u1 H1 → J u1 → va_S (CA h) H0 H1 locs1 → W p l e R s m args below meth c H1 locs1 cells slots Q (F0 m (pc + 3) ls rest)) : W p l e R s m args below meth c H locs cells slots Q (F0 m pc ls (.int x :: .ref (h + n) :: rest)) := by
  rcases ht with ht | ht | ht
  · exact cp_X1_265_8 C hW hS ht hJ hE d k
  · exact cp_X1_265_16 C hW hS ht hJ hE d k
  · exact cp_X1_265_9 C hW hS ht hJ hE d k
theorem cp_X1_268_l {x : Int32} {K : CS → Option ρ} {J : CS → Prop} (C : CC p m c cc nL s args D dA RX1) (hW : wc_W D dA h u H) (hS : va_S (CA h) H0 H locs) (ht : wc_lot u n) (hJ : J (wc_uI u n 2 x)) (hE : o_nm (wc_uI u n 2 x) K = some r0) (d : decode cc pc = .ok (.putfield 268, 3)) (k : ∀ (u1 : CS) (H1 : Heap) (locs1 : List Loc), K u1 = some r0 → wc_W D dA h u1 H1 → J u1 → va_S (CA h) H0 H1 locs1 → W p l e R s m args below meth c H1 locs1 cells slots Q (F0 m (pc + 3) ls rest)) : W p l e R s m args below meth c H locs cells slots Q (F0 m pc ls (.int x :: .ref (h + n) :: rest)) := by
  rcases ht with ht | ht | ht
  · exact cp_X1_268_8 C hW hS ht hJ hE d k
  · exact cp_X1_268_16 C hW hS ht hJ hE d k
  · exact cp_X1_268_9 C hW hS ht hJ hE d k
theorem cg_X8_9_l (C : CC p m c cc nL s args D dA RX8) (hW : wc_W D dA h u H) (ht : wc_lot u n) (d : decode cc pc = .ok (.getfield 9, 3)) (k : W p l e R s m args below meth c H locs cells slots Q (F0 m (pc + 3) ls (.int (wc_I u n 0) :: rest))) : W p l e R s m args below meth c H locs cells slots Q (F0 m pc ls (.ref (h + n) :: rest)) := by
  rcases ht with ht | ht | ht
  · exact cg_X8_9_8 C hW ht d k
  · exact cg_X8_9_16 C hW ht d k
  · exact cg_X8_9_9 C hW ht d k
theorem cp_X8_9_l {x : Int32} {K : CS → Option ρ} {J : CS → Prop} (C : CC p m c cc nL s args D dA RX8) (hW : wc_W D dA h u H) (hS : va_S (CA h) H0 H locs) (ht : wc_lot u n) (hJ : J (wc_uI u n 0 x)) (hE : o_nm (wc_uI u n 0 x) K = some r0) (d : decode cc pc = .ok (.putfield 9, 3)) (k : ∀ (u1 : CS) (H1 : Heap) (locs1 : List Loc), K u1 = some r0 → wc_W D dA h u1 H1 → J u1 → va_S (CA h) H0 H1 locs1 → W p l e R s m args below meth c H1 locs1 cells slots Q (F0 m (pc + 3) ls rest)) : W p l e R s m args below meth c H locs cells slots Q (F0 m pc ls (.int x :: .ref (h + n) :: rest)) := by
  rcases ht with ht | ht | ht
  · exact cp_X8_9_8 C hW hS ht hJ hE d k
  · exact cp_X8_9_16 C hW hS ht hJ hE d k
  · exact cp_X8_9_9 C hW hS ht hJ hE d k
theorem cg_X8_15_l (C : CC p m c cc nL s args D dA RX8) (hW : wc_W D dA h u H) (ht : wc_lot u n) (d : decode cc pc = .ok (.getfield 15, 3)) (k : W p l e R s m args below meth c H locs cells slots Q (F0 m (pc + 3) ls (.int (wc_I u n 1) :: rest))) : W p l e R s m args below meth c H locs cells slots Q (F0 m pc ls (.ref (h + n) :: rest)) := by
  rcases ht with ht | ht | ht
  · exact cg_X8_15_8 C hW ht d k
  · exact cg_X8_15_16 C hW ht d k
  · exact cg_X8_15_9 C hW ht d k
theorem cp_X8_15_l {x : Int32} {K : CS → Option ρ} {J : CS → Prop} (C : CC p m c cc nL s args D dA RX8) (hW : wc_W D dA h u H) (hS : va_S (CA h) H0 H locs) (ht : wc_lot u n) (hJ : J (wc_uI u n 1 x)) (hE : o_nm (wc_uI u n 1 x) K = some r0) (d : decode cc pc = .ok (.putfield 15, 3)) (k : ∀ (u1 : CS) (H1 : Heap) (locs1 : List Loc), K u1 = some r0 → wc_W D dA h u1 H1 → J u1 → va_S (CA h) H0 H1 locs1 → W p l e R s m args below meth c H1 locs1 cells slots Q (F0 m (pc + 3) ls rest)) : W p l e R s m args below meth c H locs cells slots Q (F0 m pc ls (.int x :: .ref (h + n) :: rest)) := by
  rcases ht with ht | ht | ht
  · exact cp_X8_15_8 C hW hS ht hJ hE d k
  · exact cp_X8_15_16 C hW hS ht hJ hE d k
  · exact cp_X8_15_9 C hW hS ht hJ hE d k
theorem cg_X8_18_l (C : CC p m c cc nL s args D dA RX8) (hW : wc_W D dA h u H) (ht : wc_lot u n) (d : decode cc pc = .ok (.getfield 18, 3)) (k : W p l e R s m args below meth c H locs cells slots Q (F0 m (pc + 3) ls (.int (wc_I u n 2) :: rest))) : W p l e R s m args below meth c H locs cells slots Q (F0 m pc ls (.ref (h + n) :: rest)) := by
  rcases ht with ht | ht | ht
  · exact cg_X8_18_8 C hW ht d k
  · exact cg_X8_18_16 C hW ht d k
  · exact cg_X8_18_9 C hW ht d k
theorem cp_X8_18_l {x : Int32} {K : CS → Option ρ} {J : CS → Prop} (C : CC p m c cc nL s args D dA RX8) (hW : wc_W D dA h u H) (hS : va_S (CA h) H0 H locs) (ht : wc_lot u n) (hJ : J (wc_uI u n 2 x)) (hE : o_nm (wc_uI u n 2 x) K = some r0) (d : decode cc pc = .ok (.putfield 18, 3)) (k : ∀ (u1 : CS) (H1 : Heap) (locs1 : List Loc), K u1 = some r0 → wc_W D dA h u1 H1 → J u1 → va_S (CA h) H0 H1 locs1 → W p l e R s m args below meth c H1 locs1 cells slots Q (F0 m (pc + 3) ls rest)) : W p l e R s m args below meth c H locs cells slots Q (F0 m pc ls (.int x :: .ref (h + n) :: rest)) := by
  rcases ht with ht | ht | ht
  · exact cp_X8_18_8 C hW hS ht hJ hE d k
  · exact cp_X8_18_16 C hW hS ht hJ hE d k
  · exact cp_X8_18_9 C hW hS ht hJ hE d k
end CL
