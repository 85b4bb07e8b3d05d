set_option maxRecDepth 100000
/-! the component's classes: kinds of fields (0: int, 1: long, 2: reference), how many (printed by cworld.py) -/
def wc_kd (c k : Nat) : Nat := match c with
  | 0 => match k with
    | 0 => 2
    | 1 => 2
    | 2 => 2
    | 3 => 2
    | 4 => 2
    | 6 => 2
    | 7 => 2
    | 10 => 2
    | 11 => 2
    | 12 => 2
    | 13 => 2
    | 14 => 2
    | 15 => 2
    | 17 => 1
    | 18 => 1
    | 20 => 1
    | 22 => 2
    | 24 => 2
    | 25 => 2
    | 26 => 2
    | _ => 0
  | 1 => match k with
    | 2 => 2
    | 3 => 2
    | 4 => 2
    | 5 => 2
    | 6 => 2
    | 7 => 2
    | 8 => 2
    | 9 => 2
    | 10 => 2
    | 11 => 2
    | 12 => 2
    | 14 => 2
    | 15 => 2
    | 18 => 2
    | 19 => 2
    | 20 => 2
    | 21 => 2
    | 23 => 2
    | 24 => 2
    | 25 => 2
    | 26 => 2
    | 27 => 2
    | 28 => 2
    | 30 => 2
    | 31 => 2
    | 32 => 2
    | 34 => 2
    | 35 => 2
    | 36 => 2
    | 37 => 2
    | 38 => 2
    | 39 => 2
    | 40 => 2
    | 41 => 2
    | 42 => 2
    | 44 => 2
    | 45 => 2
    | _ => 0
  | 2 => match k with
    | 0 => 2
    | _ => 0
  | 3 => match k with
    | 0 => 2
    | 8 => 2
    | 9 => 2
    | 11 => 2
    | _ => 0
  | 4 => match k with
    | 0 => 2
    | 1 => 2
    | 2 => 2
    | 3 => 2
    | 4 => 2
    | _ => 0
  | 5 => match k with
    | 1 => 2
    | 2 => 2
    | _ => 0
  | 6 => match k with
    | 0 => 2
    | 1 => 2
    | 2 => 2
    | 3 => 2
    | 4 => 2
    | _ => 0
  | 7 => match k with
    | 1 => 2
    | 2 => 2
    | 3 => 2
    | 4 => 2
    | 6 => 2
    | 10 => 1
    | 21 => 2
    | 24 => 2
    | 25 => 2
    | 26 => 2
    | 27 => 2
    | 28 => 2
    | 29 => 2
    | 30 => 2
    | 31 => 1
    | 32 => 1
    | 33 => 2
    | 34 => 2
    | 36 => 2
    | 37 => 2
    | 38 => 2
    | _ => 0
  | 8 => match k with
    | _ => 0
  | 9 => match k with
    | _ => 0
  | 11 => match k with
    | 0 => 2
    | _ => 0
  | 12 => match k with
    | _ => 0
  | 13 => match k with
    | _ => 0
  | 14 => match k with
    | 0 => 2
    | _ => 0
  | 15 => match k with
    | 1 => 2
    | 2 => 2
    | _ => 0
  | 16 => match k with
    | _ => 0
  | _ => 0
def wc_nf (c : Nat) : Nat := match c with
  | 0 => 27
  | 1 => 46
  | 2 => 1
  | 3 => 12
  | 4 => 7
  | 5 => 4
  | 6 => 7
  | 7 => 41
  | 8 => 3
  | 9 => 3
  | 10 => 1
  | 11 => 1
  | 12 => 1
  | 13 => 1
  | 14 => 1
  | 15 => 3
  | 16 => 4
  | _ => 0
/-! THE COMPONENT'S WORLD: a pure heap by places (addresses from h on): fields, arrays, shapes -/
abbrev CSh : Type := Nat ⊕ (Nat × Nat)
abbrev CS : Type := (Nat → Nat → Int32) × (Nat → Nat → Int64) × (Nat → Nat → Int32) × (Nat → Nat → Int64) × (Nat → Nat → Option Nat) × (Nat → Nat → Option Nat) × (Nat → Option CSh) × Nat
abbrev wc_I (u : CS) : Nat → Nat → Int32 := u.1
abbrev wc_L (u : CS) : Nat → Nat → Int64 := u.2.1
abbrev wc_A (u : CS) : Nat → Nat → Int32 := u.2.2.1
abbrev wc_B (u : CS) : Nat → Nat → Int64 := u.2.2.2.1
abbrev wc_P (u : CS) : Nat → Nat → Option Nat := u.2.2.2.2.1
abbrev wc_Q (u : CS) : Nat → Nat → Option Nat := u.2.2.2.2.2.1
abbrev wc_T (u : CS) : Nat → Option CSh := u.2.2.2.2.2.2.1
abbrev wc_z (u : CS) : Nat := u.2.2.2.2.2.2.2
def up2 {α : Type} (f : Nat → Nat → α) (n k : Nat) (x : α) : Nat → Nat → α := fun a b => if a = n ∧ b = k then x else f a b
def up1 {α : Type} (f : Nat → Nat → α) (n : Nat) (g : Nat → α) : Nat → Nat → α := fun a => if a = n then g else f a
theorem up2_ne {α : Type} (f : Nat → Nat → α) {n m k : Nat} (x : α) (h : m ≠ n) : up2 f n k x m = f m := by
  funext b
  simp [up2, h]
theorem up2_at {α : Type} (f : Nat → Nat → α) (n k j : Nat) (x : α) : up2 f n k x n j = if j = k then x else f n j := by
  simp [up2]
theorem up1_ne {α : Type} (f : Nat → Nat → α) {n m : Nat} (g : Nat → α) (h : m ≠ n) : up1 f n g m = f m := by
  simp [up1, h]
theorem up1_at {α : Type} (f : Nat → Nat → α) (n : Nat) (g : Nat → α) : up1 f n g n = g := by
  simp [up1]
def wc_uI (u : CS) (n k : Nat) (x : Int32) : CS := (up2 u.1 n k x, u.2)
def wc_uL (u : CS) (n k : Nat) (x : Int64) : CS := (u.1, up2 u.2.1 n k x, u.2.2)
def wc_uA (u : CS) (n k : Nat) (x : Int32) : CS := (u.1, u.2.1, up2 u.2.2.1 n k x, u.2.2.2)
def wc_uB (u : CS) (n k : Nat) (x : Int64) : CS := (u.1, u.2.1, u.2.2.1, up2 u.2.2.2.1 n k x, u.2.2.2.2)
def wc_uP (u : CS) (n k : Nat) (x : Option Nat) : CS := (u.1, u.2.1, u.2.2.1, u.2.2.2.1, up2 u.2.2.2.2.1 n k x, u.2.2.2.2.2)
def wc_uQ (u : CS) (n k : Nat) (x : Option Nat) : CS := (u.1, u.2.1, u.2.2.1, u.2.2.2.1, u.2.2.2.2.1, up2 u.2.2.2.2.2.1 n k x, u.2.2.2.2.2.2)
/-- a whole array's contents anew -/
def wc_aA (u : CS) (n : Nat) (g : Nat → Int32) : CS := (u.1, u.2.1, up1 u.2.2.1 n g, u.2.2.2)
def wc_aB (u : CS) (n : Nat) (g : Nat → Int64) : CS := (u.1, u.2.1, u.2.2.1, up1 u.2.2.2.1 n g, u.2.2.2.2)
def wc_aQ (u : CS) (n : Nat) (g : Nat → Option Nat) : CS := (u.1, u.2.1, u.2.2.1, u.2.2.2.1, u.2.2.2.2.1, up1 u.2.2.2.2.2.1 n g, u.2.2.2.2.2.2)
/-- a new cell at the end: its fields and elements are 0, null -/
def wc_new (u : CS) (sh : CSh) : CS := (up1 u.1 (wc_z u) (fun _ => 0), up1 u.2.1 (wc_z u) (fun _ => 0), up1 u.2.2.1 (wc_z u) (fun _ => 0), up1 u.2.2.2.1 (wc_z u) (fun _ => 0), up1 u.2.2.2.2.1 (wc_z u) (fun _ => none), up1 u.2.2.2.2.2.1 (wc_z u) (fun _ => none), (fun a => if a = wc_z u then some sh else wc_T u a), wc_z u + 1)
def wc_rf (h : Nat) (r : Option Nat) : Value := match r with
  | none => .null
  | some m => .ref (h + m)
def wc_val (h : Nat) (u : CS) (c n k : Nat) : Value := match wc_kd c k with
  | 0 => .int (wc_I u n k)
  | 1 => .long (wc_L u n k)
  | _ => wc_rf h (wc_P u n k)
def wc_fs (h : Nat) (u : CS) (c n : Nat) : List Value := (List.range (wc_nf c)).map (wc_val h u c n)
def wc_con (h : Nat) (u : CS) (t n : Nat) : (Nat → Int32) ⊕ (Nat → Int64) ⊕ (Nat → UInt32) ⊕ (Nat → UInt64) ⊕ (Nat → Option Nat) := match t with
  | 0 => .inl (wc_A u n)
  | 1 => .inr (.inl (wc_B u n))
  | 2 => .inl (wc_A u n)
  | 3 => .inl (wc_A u n)
  | 4 => .inl (wc_A u n)
  | _ => .inr (.inr (.inr (.inr (fun j => (wc_Q u n j).map (fun m => h + m)))))
def wc_cell (h : Nat) (dA : Nat → ClassId) (u : CS) (n : Nat) : Option va_E := match wc_T u n with
  | none => none
  | some (.inl c) => some (.inr (c, wc_fs h u c n))
  | some (.inr (t, len)) => some (.inl (dA t, len, wc_con h u t n))
abbrev wc_tys (dA : Nat → ClassId) : List (ClassId × FieldType) := [(dA 0, .int), (dA 1, .long), (dA 2, .boolean), (dA 3, .byte), (dA 4, .char), (dA 5, .object "WoodState$Refusal"), (dA 6, .object "WoodState$Slot"), (dA 7, .object "WoodState$Line"), (dA 8, .array .char), (dA 9, .array .int)]
/-- the cells that the component may change: all from h on but the twin's -/
def CA (h : Nat) : Nat → Prop := fun q => h ≤ q ∧ ¬ (h + 343 ≤ q ∧ q < h + 362)
def wc_W (D : va_G) (dA : Nat → ClassId) (h : Nat) (u : CS) (H : Heap) : Prop :=
  H.size = h + wc_z u ∧ (∀ n : Nat, wc_z u ≤ n → wc_T u n = none) ∧ (∀ n : Nat, 343 ≤ n → n < 362 → wc_T u n = none) ∧ ∀ (n : Nat) (e : va_E), wc_cell h dA u n = some e → va_at D vwCl (h + n, e) H
def wc_nwOK : Cond → Bool
  | .fieldLinkNest .. => true
  | .methodLinkNest .. => true
  | .castable .. => true
  | .declares .. => true
  | _ => false
def wc_nw : List Cond := lw_tbl.filter wc_nwOK
def wc_ncl : List (String × String) := [("WoodState$Lot", "WoodState$Due"), ("WoodState$Loss", "WoodState$Due"), ("WoodState$Lot", "WoodState$Loss"), ("WoodState$Due", "WoodState$Loss"), ("WoodState$Fault", "WoodState$Refusal"), ("java/lang/NegativeArraySizeException", "java/lang/NullPointerException")]
/-- the statics of Throwable lie below b -/
def wc_TS (b : Nat) (U : State) : Prop := ∀ (c : ClassId) (k : Class) (a : Nat), U.vm.findClass "java/lang/Throwable" = some c → U.vm.classes[c]? = some k → k.statics = some a → a < b
def wc_N (b : Nat) (U : State) : Prop := (∀ w ∈ wc_nw, va_Nw w U) ∧ (∀ q ∈ wc_ncl, va_Nc q.1 q.2 U) ∧ wc_TS b U ∧ modulesRight_1 U = true
theorem wc_TS.moved {b : Nat} {s U : State} (ha : s.vm.Alike U.vm) (h : wc_TS b s) : wc_TS b U := by
  intro c k a h1 h2 h3
  rw [ha.findClass] at h1
  obtain ⟨k', hk', e⟩ := ha.symm.2.2 c k h2
  refine h c k' a h1 hk' ?_
  rw [e]
  exact h3
theorem wc_mod {s U : State} (ha : s.vm.Alike U.vm) (h : modulesRight_1 s = true) : modulesRight_1 U = true := by
  have e : U.vm.modules = s.vm.modules := (congrArg (fun v : Vm => v.modules) ha.1).trans rfl
  unfold modulesRight_1 at h ⊢
  rw [e]
  exact h
theorem wc_N.warm {b0 : Nat} {s U : State} (hW : s.WarmedH U.vm) (h : wc_N b0 s) : wc_N b0 U := by
  refine ⟨fun w hw => ?_, fun q hq => (h.2.1 q hq).moved hW.alike, h.2.2.1.moved hW.alike, wc_mod hW.alike h.2.2.2⟩
  have h1 := h.1 w hw
  have h2 := (List.mem_filter.mp hw).2
  cases w with
  | fieldLinkNest a i b n d k => exact va_Nw.warmF hW h1
  | methodLinkNest a i x k => exact va_Nw.warmM hW h1
  | castable a b => exact va_Nw.warmC hW h1
  | declares x => exact va_Nw.warmD hW h1
  | _ => cases h2
theorem wc_N.same {b0 : Nat} {s U : State} (hv : s.vm = U.vm) (h : wc_N b0 s) : wc_N b0 U := by
  have ha : s.vm.Alike U.vm := by rw [hv]; exact Vm.Alike.refl _
  refine ⟨fun w hw => ?_, fun q hq => (h.2.1 q hq).moved ha, h.2.2.1.moved ha, wc_mod ha h.2.2.2⟩
  have h1 := h.1 w hw
  have h2 := (List.mem_filter.mp hw).2
  cases w with
  | fieldLinkNest a i b n d k => exact va_Nw.same rfl hv h1
  | methodLinkNest a i x k => exact va_Nw.same rfl hv h1
  | castable a b => exact va_Nw.same rfl hv h1
  | declares x => exact va_Nw.same rfl hv h1
  | _ => cases h2
theorem wc_N.at {b0 : Nat} {s : State} (h : wc_N b0 s) {w : Cond} (hq : w ∈ lw_tbl) (hk : wc_nwOK w = true) : va_Nw w s := h.1 w (List.mem_filter.mpr ⟨hq, hk⟩)
def wc_K (D : va_G) (dA : Nat → ClassId) (U : State) : Prop := va_K D vwCl (wc_tys dA) U ∧ wc_N (dA 10) U
theorem wc_K.warm {D : va_G} {dA : Nat → ClassId} {s U : State} (hW : s.WarmedH U.vm) (h : wc_K D dA s) : wc_K D dA U := ⟨va_K.moved hW.alike h.1, h.2.warm hW⟩
def CC (p : Program) (m : MethodId) (c : Code) (cc : ByteArray) (nL : Nat) (s : State) (args : Array Value) (D : va_G) (dA : Nat → ClassId) (own : String) : Prop := CallFix p m c cc nL s args lw_all own ∧ wc_K D dA s
section CB
variable {D : va_G} {dA : Nat → ClassId} {h : Nat} {u u1 : CS} {H H1 : Heap}
theorem wc_W.lt (hW : wc_W D dA h u H) {n : Nat} {x : CSh} (ht : wc_T u n = some x) : n < wc_z u := by
  rcases Nat.lt_or_ge n (wc_z u) with q | q
  · exact q
  · rw [hW.2.1 n q] at ht; cases ht
theorem wc_W.inA (hW : wc_W D dA h u H) {n : Nat} {x : CSh} (ht : wc_T u n = some x) : CA h (h + n) := by
  refine ⟨Nat.le_add_right _ _, fun q => ?_⟩
  rw [hW.2.2.1 n (by omega) (by omega)] at ht
  cases ht
/-- one cell is written -/
theorem wc_W.set (hW : wc_W D dA h u H) {n : Nat} {e1 : va_E} (hz : wc_z u1 = wc_z u) (hT : wc_T u1 = wc_T u) (ho : ∀ m, m ≠ n → wc_cell h dA u1 m = wc_cell h dA u m) (hc : wc_cell h dA u1 n = some e1) (he : va_at D vwCl (h + n, e1) H1) (hs : H1.size = H.size) (oq : ∀ q : Nat, q ≠ h + n → H1[q]? = H[q]?) : wc_W D dA h u1 H1 := by
  refine ⟨by rw [hs, hz]; exact hW.1, by rw [hz, hT]; exact hW.2.1, by rw [hT]; exact hW.2.2.1, fun m e hm => ?_⟩
  by_cases q : m = n
  · subst q
    cases hc.symm.trans hm
    exact he
  · rw [ho m q] at hm
    exact (hW.2.2.2 m e hm).kept (oq _ (by show h + m ≠ h + n; omega))
/-- another cell is as it was -/
theorem wc_cell_ne {m n : Nat} (h : Nat) (dA : Nat → ClassId) {u u1 : CS} (hT : wc_T u1 m = wc_T u m) (h1 : wc_I u1 m = wc_I u m) (h2 : wc_L u1 m = wc_L u m) (h3 : wc_A u1 m = wc_A u m) (h4 : wc_B u1 m = wc_B u m) (h5 : wc_P u1 m = wc_P u m) (h6 : wc_Q u1 m = wc_Q u m) : wc_cell h dA u1 m = wc_cell h dA u m := by
  simp only [wc_cell]
  rw [hT]
  cases wc_T u m with
  | none => rfl
  | some x =>
    cases x with
    | inl c =>
      refine congrArg (fun f => some (Sum.inr (c, f))) (List.map_congr_left fun k _ => ?_)
      simp only [wc_val, h1, h2, h5]
    | inr x =>
      obtain ⟨t, len⟩ := x
      simp only [wc_con, h3, h4, h6]
/-- a cell is made -/
theorem wc_W.push (hW : wc_W D dA h u H) {sh : CSh} {e1 : va_E} (hcz : ¬ (343 ≤ wc_z u ∧ wc_z u < 362)) (hc : wc_cell h dA (wc_new u sh) (wc_z u) = some e1) (he : va_at D vwCl (h + wc_z u, e1) H1) (hs : H1.size = H.size + 1) (oq : ∀ q : Nat, q < H.size → H1[q]? = H[q]?) : wc_W D dA h (wc_new u sh) H1 := by
  refine ⟨by rw [hs, hW.1]; rfl, fun n hn => ?_, fun n h1 h2 => ?_, fun m e hm => ?_⟩
  · have hn : wc_z u + 1 ≤ n := hn
    show (if n = wc_z u then some sh else wc_T u n) = none
    rw [if_neg (by omega)]
    exact hW.2.1 n (by omega)
  · show (if n = wc_z u then some sh else wc_T u n) = none
    rw [if_neg (by omega)]
    exact hW.2.2.1 n h1 h2
  · by_cases q : m = wc_z u
    · subst q
      cases hc.symm.trans hm
      exact he
    · have e1 : wc_cell h dA (wc_new u sh) m = wc_cell h dA u m := wc_cell_ne (n := m) h dA (if_neg q) (up1_ne _ _ q) (up1_ne _ _ q) (up1_ne _ _ q) (up1_ne _ _ q) (up1_ne _ _ q) (up1_ne _ _ q)
      rw [e1] at hm
      have hl : m < wc_z u := by
        cases ht : wc_T u m with
        | none => rw [wc_cell, ht] at hm; cases hm
        | some x => exact hW.lt ht
      exact (hW.2.2.2 m e hm).kept (oq _ (by show h + m < H.size; rw [hW.1]; omega))
theorem wc_cellO (h : Nat) (dA : Nat → ClassId) {u : CS} {n c : Nat} (ht : wc_T u n = some (.inl c)) : wc_cell h dA u n = some (.inr (c, wc_fs h u c n)) := by rw [wc_cell, ht]
theorem wc_cellA (h : Nat) (dA : Nat → ClassId) {u : CS} {n t len : Nat} (ht : wc_T u n = some (.inr (t, len))) : wc_cell h dA u n = some (.inl (dA t, len, wc_con h u t n)) := by rw [wc_cell, ht]
theorem wc_fs_at (h : Nat) (u : CS) (n : Nat) {c k : Nat} (hk : k < wc_nf c) : (wc_fs h u c n)[k]? = some (wc_val h u c n k) := by
  rw [wc_fs, List.getElem?_map, List.getElem?_range hk]; rfl
theorem wc_one (hW : wc_W D dA h u H) {n : Nat} {e : va_E} (hc : wc_cell h dA u n = some e) : va_P D vwCl [(h + n, e)] H := by
  intro k q hk
  have hz : k < 1 := (List.getElem?_eq_some_iff.mp hk).1
  rw [show k = 0 by omega] at hk
  cases hk
  exact hW.2.2.2 n e hc
theorem wc_recv {s : State} (hK : wc_K D dA s) (hW : wc_W D dA h u H) {n c : Nat} (ht : wc_T u n = some (.inl c)) {q : vw_C} (hc : vwCl[c]? = some q) : ∃ cell : Cell, H[h + n]? = some cell ∧ cell.vm.isStatics = false ∧ s.vm.findClass q.1 = some cell.cls := va_recv hK.1 (wc_one hW (wc_cellO h dA ht)) hc (q0 := 0) rfl
/-- an object's list of fields, one of them set -/
theorem wc_fs_set (h : Nat) {u u1 : CS} {c n k : Nat} {v : Value} (hk : wc_val h u1 c n k = v) (ho : ∀ j, j ≠ k → wc_val h u1 c n j = wc_val h u c n j) : (wc_fs h u c n).set k v = wc_fs h u1 c n := by
  refine List.ext_getElem? fun j => ?_
  by_cases hl : j < wc_nf c
  · rw [wc_fs_at h u1 n hl]
    by_cases hj : j = k
    · subst hj
      rw [List.getElem?_set_self (by simp [wc_fs, hl]), hk]
    · rw [List.getElem?_set_ne (Ne.symm hj), wc_fs_at h u n hl, ho j hj]
  · rw [List.getElem?_eq_none (by simp [wc_fs]; omega), List.getElem?_eq_none (by simp [wc_fs]; omega)]
end CB
