section CG400
variable {p : Program} {l : Launch} {e : Env} {R : Room} {s : State} {m : MethodId} {args : Array Value} {below : List Frame} {meth : Method} {c : Code} {H : Heap} {locs : List Loc} {cells slots : Nat} {Q : State → Prop} {cc : ByteArray} {nL pc : Nat} {ls : Array Slot} {rest : List Value} {D : va_G} {dA : Nat → ClassId} {h : Nat} {H0 : Heap}
def pr_rm (d k : Nat) : Room := { frames := 4 + d, cells := k, slots := 4 * k, locals := 90 + 32 * d }
theorem pr_r {d f x k : Nat} (h1 : f + 1 ≤ 4) (h2 : x ≤ 90) : f + 1 ≤ (pr_rm (d + 1) k).frames ∧ x ≤ (pr_rm (d + 1) k).locals := by
  constructor
  · show _ ≤ 4 + (d + 1)
    omega
  · show _ ≤ 90 + 32 * (d + 1)
    omega
theorem pr_rr {d k k2 j : Nat} (h : j ≤ 13 := by decide) : (pr_rm d k2).frames + 1 ≤ (pr_rm (d + 1) k).frames ∧ 8 + (j + 11) + (pr_rm d k2).locals ≤ (pr_rm (d + 1) k).locals := by
  constructor
  · show 4 + d + 1 ≤ 4 + (d + 1)
    omega
  · show 8 + (j + 11) + (90 + 32 * d) ≤ 90 + 32 * (d + 1)
    omega
def pr_M (l : Launch) (D : va_G) (dA : Nat → ClassId) (h d w : Nat) (u u1 : CS) (V : Option Nat ⊕ Nat) (z0 : Nat) : Prop := match w with
  | 0 => MetX l yX3_one (ws_ yX3_one cX3_one 2 (some (.object "WoodState$Part"))) (pr_rm d (wc_z u1 - z0)) (va_Pc [.ref (h + 297)] (wc_St D dA h u)) (wc_Qx D dA h (wc_vr h V) u1) (wc_z u1 - z0) (4 * (wc_z u1 - z0)) (CA h)
  | 1 => MetX l yX3_term (ws_ yX3_term cX3_term 3 (some (.object "WoodState$Part"))) (pr_rm d (wc_z u1 - z0)) (va_Pc [.ref (h + 297)] (wc_St D dA h u)) (wc_Qx D dA h (wc_vr h V) u1) (wc_z u1 - z0) (4 * (wc_z u1 - z0)) (CA h)
  | 2 => MetX l yX3_sum (ws_ yX3_sum cX3_sum 3 (some (.object "WoodState$Part"))) (pr_rm d (wc_z u1 - z0)) (va_Pc [.ref (h + 297)] (wc_St D dA h u)) (wc_Qx D dA h (wc_vr h V) u1) (wc_z u1 - z0) (4 * (wc_z u1 - z0)) (CA h)
  | 3 => MetX l yX3_not (ws_ yX3_not cX3_not 3 (some (.object "WoodState$Part"))) (pr_rm d (wc_z u1 - z0)) (va_Pc [.ref (h + 297)] (wc_St D dA h u)) (wc_Qx D dA h (wc_vr h V) u1) (wc_z u1 - z0) (4 * (wc_z u1 - z0)) (CA h)
  | 4 => MetX l yX3_both (ws_ yX3_both cX3_both 2 (some (.object "WoodState$Part"))) (pr_rm d (wc_z u1 - z0)) (va_Pc [.ref (h + 297)] (wc_St D dA h u)) (wc_Qx D dA h (wc_vr h V) u1) (wc_z u1 - z0) (4 * (wc_z u1 - z0)) (CA h)
  | _ => MetX l yX3_all (ws_ yX3_all cX3_all 2 (some (.object "WoodState$Part"))) (pr_rm d (wc_z u1 - z0)) (va_Pc [.ref (h + 297)] (wc_St D dA h u)) (wc_Qx D dA h (wc_vr h V) u1) (wc_z u1 - z0) (4 * (wc_z u1 - z0)) (CA h)
def pr_hyp (l : Launch) (D : va_G) (dA : Nat → ClassId) (h d : Nat) (g : Nat → CS → Option ((Option Nat ⊕ Nat) × CS)) : Prop := ∀ (w : Nat) (u u1 : CS) (V : Option Nat ⊕ Nat) (z0 : Nat), wc_z u = z0 → wc_z u ≤ wc_z u1 → g w u = some (V, u1) → pr_M l D dA h d w u u1 V z0
theorem cxw_X3_101 {β : Type} {vf : β ⊕ Nat → Option Value ⊕ Nat} (hvf : ∀ n, vf (.inr n) = .inr n) {z0 : Nat} {u uF : CS} {Vf : β ⊕ Nat} {K : Option Nat → CS → Option ((β ⊕ Nat) × CS)} {x : Option ((Option Nat ⊕ Nat) × CS)} {rm : CS → Room} (C : CC p m c cc nL s args D dA RX3) (hlocks : meth.locks = false) (hnh : c.exceptionTable.isEmpty = true) (hZ : z0 ≤ wc_z u ∧ wc_z u ≤ wc_z uF) (hRc : R.cells = wc_z uF - z0) (hRs : R.slots = 4 * (wc_z uF - z0)) (hW : wc_W D dA h u H) (hS : wc_S u) (hV : va_S (CA h) s.heap H locs) (ht : wc_T u 297 = some (.inl 3)) (hE : o_bw u x K = some (Vf, uF)) (hM : ∀ (V : Option Nat ⊕ Nat) (u1 : CS), wc_z u ≤ wc_z u1 → x = some (V, u1) → MetX l yX3_one (ws_ yX3_one cX3_one 2 (some (.object "WoodState$Part"))) (rm u1) (va_Pc [.ref (h + 297)] (wc_St D dA h u)) (wc_Qx D dA h ((wc_vr h) V) u1) (wc_z u1 - wc_z u) (4 * (wc_z u1 - wc_z u)) (CA h)) (hrc : ∀ u1, (rm u1).cells = wc_z u1 - wc_z u) (hrs : ∀ u1, (rm u1).slots = 4 * (wc_z u1 - wc_z u)) (hR : ∀ u1, (rm u1).frames + 1 ≤ R.frames ∧ 8 + (2 + 11) + (rm u1).locals ≤ R.locals) (d : decode cc pc = .ok (.invokevirtual 101, 3)) (hsz : ls.size = nL) (hro : (rest.map fun v => v.category).sum ≤ 8) (kk : ∀ (a : Option Nat) (u2 : CS) (H1 : Heap) (locs1 : List Loc), K a u2 = some (Vf, uF) → wc_W D dA h u2 H1 → wc_S u2 → va_S (CA h) s.heap H1 locs1 → (z0 ≤ wc_z u2 ∧ wc_z u2 ≤ wc_z uF) → W p l e R s m args below meth c H1 locs1 (wc_z u2 - z0) (4 * (wc_z u2 - z0)) (MQX below (wc_Qx D dA h (vf Vf) uF) args s (wc_z uF - z0) (4 * (wc_z uF - z0)) (CA h)) (F0 m (pc + 3) ls (wc_rf h a :: rest))) : W p l e R s m args below meth c H locs (wc_z u - z0) (4 * (wc_z u - z0)) (MQX below (wc_Qx D dA h (vf Vf) uF) args s (wc_z uF - z0) (4 * (wc_z uF - z0)) (CA h)) (F0 m pc ls (.ref (h + 297) :: rest)) :=
  wz_callW (f := fun r => some (wc_rf h r)) (As := []) (fun _ => rfl) (wc_vrN h) hvf C hlocks hnh hZ hRc hRs hE hM (fun u1 => cwV 0 C.1.2.2.2.2 (lw_V q1102 q1104 qs48 q170 q1105) rfl (hrc u1) (hrs u1) (by decide +kernel) (hR u1)) (wc_preV (q := (RX3, TX3, 12)) C.2 hW hS ht rfl _) rfl hsz hro d hV kk
theorem cyw_X3_101 {β : Type} {z0 : Nat} {u uF : CS} {rF : β} {K : Option Nat → CS → Option (β × CS)} {Kh : Nat → CS → Option (β × CS)} {x : Option ((Option Nat ⊕ Nat) × CS)} {rm : CS → Room} (C : CC p m c cc nL s args D dA RX3) (hZ : z0 ≤ wc_z u ∧ wc_z u ≤ wc_z uF) (hRc : R.cells = wc_z uF - z0) (hRs : R.slots = 4 * (wc_z uF - z0)) (hW : wc_W D dA h u H) (hS : wc_S u) (hV : va_S (CA h) s.heap H locs) (ht : wc_T u 297 = some (.inl 3)) (hE : o_bh u x K Kh = some (rF, uF)) (hM : ∀ (V : Option Nat ⊕ Nat) (u1 : CS), wc_z u ≤ wc_z u1 → x = some (V, u1) → MetX l yX3_one (ws_ yX3_one cX3_one 2 (some (.object "WoodState$Part"))) (rm u1) (va_Pc [.ref (h + 297)] (wc_St D dA h u)) (wc_Qx D dA h ((wc_vr h) V) u1) (wc_z u1 - wc_z u) (4 * (wc_z u1 - wc_z u)) (CA h)) (hrc : ∀ u1, (rm u1).cells = wc_z u1 - wc_z u) (hrs : ∀ u1, (rm u1).slots = 4 * (wc_z u1 - wc_z u)) (hR : ∀ u1, (rm u1).frames + 1 ≤ R.frames ∧ 8 + (2 + 11) + (rm u1).locals ≤ R.locals) (d : decode cc pc = .ok (.invokevirtual 101, 3)) (hsz : ls.size = nL) (hro : (rest.map fun v => v.category).sum ≤ 8) (kk : ∀ (a : Option Nat) (u2 : CS) (H1 : Heap) (locs1 : List Loc), K a u2 = some (rF, uF) → wc_W D dA h u2 H1 → wc_S u2 → va_S (CA h) s.heap H1 locs1 → (z0 ≤ wc_z u2 ∧ wc_z u2 ≤ wc_z uF) → W p l e R s m args below meth c H1 locs1 (wc_z u2 - z0) (4 * (wc_z u2 - z0)) Q (F0 m (pc + 3) ls (wc_rf h a :: rest))) (kh : ∀ (n : Nat) (u2 : CS) (H1 : Heap) (locs1 : List Loc), Kh n u2 = some (rF, uF) → wc_W D dA h u2 H1 → wc_S u2 → va_S (CA h) s.heap H1 locs1 → (z0 ≤ wc_z u2 ∧ wc_z u2 ≤ wc_z uF) → ∃ (hpc : Nat) (cell : Cell), H1[h + n]? = some cell ∧ xh_go p l e R s m args below meth c locs1 (wc_z u2 - z0) (4 * (wc_z u2 - z0)) (F0 m pc ls rest) (h + n) cell c.exceptionTable.toList hpc ∧ W p l e R s m args below meth c H1 locs1 (wc_z u2 - z0) (4 * (wc_z u2 - z0)) Q (F0 m hpc ls [.ref (h + n)])) : W p l e R s m args below meth c H locs (wc_z u - z0) (4 * (wc_z u - z0)) Q (F0 m pc ls (.ref (h + 297) :: rest)) :=
  wz_callH (f := fun r => some (wc_rf h r)) (As := []) (fun _ => rfl) (wc_vrN h) C hZ hRc hRs hE hM (fun u1 => cwV 0 C.1.2.2.2.2 (lw_V q1102 q1104 qs48 q170 q1105) rfl (hrc u1) (hrs u1) (by decide +kernel) (hR u1)) (wc_preV (q := (RX3, TX3, 12)) C.2 hW hS ht rfl _) rfl hsz hro d hV kk kh
theorem cxw_X3_117 {β : Type} {vf : β ⊕ Nat → Option Value ⊕ Nat} (hvf : ∀ n, vf (.inr n) = .inr n) {z0 : Nat} {u uF : CS} {Vf : β ⊕ Nat} {K : Option Nat → CS → Option ((β ⊕ Nat) × CS)} {x : Option ((Option Nat ⊕ Nat) × CS)} {rm : CS → Room} (C : CC p m c cc nL s args D dA RX3) (hlocks : meth.locks = false) (hnh : c.exceptionTable.isEmpty = true) (hZ : z0 ≤ wc_z u ∧ wc_z u ≤ wc_z uF) (hRc : R.cells = wc_z uF - z0) (hRs : R.slots = 4 * (wc_z uF - z0)) (hW : wc_W D dA h u H) (hS : wc_S u) (hV : va_S (CA h) s.heap H locs) (ht : wc_T u 297 = some (.inl 3)) (hE : o_bw u x K = some (Vf, uF)) (hM : ∀ (V : Option Nat ⊕ Nat) (u1 : CS), wc_z u ≤ wc_z u1 → x = some (V, u1) → MetX l yX3_term (ws_ yX3_term cX3_term 3 (some (.object "WoodState$Part"))) (rm u1) (va_Pc [.ref (h + 297)] (wc_St D dA h u)) (wc_Qx D dA h ((wc_vr h) V) u1) (wc_z u1 - wc_z u) (4 * (wc_z u1 - wc_z u)) (CA h)) (hrc : ∀ u1, (rm u1).cells = wc_z u1 - wc_z u) (hrs : ∀ u1, (rm u1).slots = 4 * (wc_z u1 - wc_z u)) (hR : ∀ u1, (rm u1).frames + 1 ≤ R.frames ∧ 8 + (3 + 11) + (rm u1).locals ≤ R.locals) (d : decode cc pc = .ok (.invokevirtual 117, 3)) (hsz : ls.size = nL) (hro : (rest.map fun v => v.category).sum ≤ 8) (kk : ∀ (a : Option Nat) (u2 : CS) (H1 : Heap) (locs1 : List Loc), K a u2 = some (Vf, uF) → wc_W D dA h u2 H1 → wc_S u2 → va_S (CA h) s.heap H1 locs1 → (z0 ≤ wc_z u2 ∧ wc_z u2 ≤ wc_z uF) → W p l e R s m args below meth c H1 locs1 (wc_z u2 - z0) (4 * (wc_z u2 - z0)) (MQX below (wc_Qx D dA h (vf Vf) uF) args s (wc_z uF - z0) (4 * (wc_z uF - z0)) (CA h)) (F0 m (pc + 3) ls (wc_rf h a :: rest))) : W p l e R s m args below meth c H locs (wc_z u - z0) (4 * (wc_z u - z0)) (MQX below (wc_Qx D dA h (vf Vf) uF) args s (wc_z uF - z0) (4 * (wc_z uF - z0)) (CA h)) (F0 m pc ls (.ref (h + 297) :: rest)) :=
  wz_callW (f := fun r => some (wc_rf h r)) (As := []) (fun _ => rfl) (wc_vrN h) hvf C hlocks hnh hZ hRc hRs hE hM (fun u1 => cwV 0 C.1.2.2.2.2 (lw_V q1098 q1100 qs47 q170 q1101) rfl (hrc u1) (hrs u1) (by decide +kernel) (hR u1)) (wc_preV (q := (RX3, TX3, 12)) C.2 hW hS ht rfl _) rfl hsz hro d hV kk
theorem cyw_X3_117 {β : Type} {z0 : Nat} {u uF : CS} {rF : β} {K : Option Nat → CS → Option (β × CS)} {Kh : Nat → CS → Option (β × CS)} {x : Option ((Option Nat ⊕ Nat) × CS)} {rm : CS → Room} (C : CC p m c cc nL s args D dA RX3) (hZ : z0 ≤ wc_z u ∧ wc_z u ≤ wc_z uF) (hRc : R.cells = wc_z uF - z0) (hRs : R.slots = 4 * (wc_z uF - z0)) (hW : wc_W D dA h u H) (hS : wc_S u) (hV : va_S (CA h) s.heap H locs) (ht : wc_T u 297 = some (.inl 3)) (hE : o_bh u x K Kh = some (rF, uF)) (hM : ∀ (V : Option Nat ⊕ Nat) (u1 : CS), wc_z u ≤ wc_z u1 → x = some (V, u1) → MetX l yX3_term (ws_ yX3_term cX3_term 3 (some (.object "WoodState$Part"))) (rm u1) (va_Pc [.ref (h + 297)] (wc_St D dA h u)) (wc_Qx D dA h ((wc_vr h) V) u1) (wc_z u1 - wc_z u) (4 * (wc_z u1 - wc_z u)) (CA h)) (hrc : ∀ u1, (rm u1).cells = wc_z u1 - wc_z u) (hrs : ∀ u1, (rm u1).slots = 4 * (wc_z u1 - wc_z u)) (hR : ∀ u1, (rm u1).frames + 1 ≤ R.frames ∧ 8 + (3 + 11) + (rm u1).locals ≤ R.locals) (d : decode cc pc = .ok (.invokevirtual 117, 3)) (hsz : ls.size = nL) (hro : (rest.map fun v => v.category).sum ≤ 8) (kk : ∀ (a : Option Nat) (u2 : CS) (H1 : Heap) (locs1 : List Loc), K a u2 = some (rF, uF) → wc_W D dA h u2 H1 → wc_S u2 → va_S (CA h) s.heap H1 locs1 → (z0 ≤ wc_z u2 ∧ wc_z u2 ≤ wc_z uF) → W p l e R s m args below meth c H1 locs1 (wc_z u2 - z0) (4 * (wc_z u2 - z0)) Q (F0 m (pc + 3) ls (wc_rf h a :: rest))) (kh : ∀ (n : Nat) (u2 : CS) (H1 : Heap) (locs1 : List Loc), Kh n u2 = some (rF, uF) → wc_W D dA h u2 H1 → wc_S u2 → va_S (CA h) s.heap H1 locs1 → (z0 ≤ wc_z u2 ∧ wc_z u2 ≤ wc_z uF) → ∃ (hpc : Nat) (cell : Cell), H1[h + n]? = some cell ∧ xh_go p l e R s m args below meth c locs1 (wc_z u2 - z0) (4 * (wc_z u2 - z0)) (F0 m pc ls rest) (h + n) cell c.exceptionTable.toList hpc ∧ W p l e R s m args below meth c H1 locs1 (wc_z u2 - z0) (4 * (wc_z u2 - z0)) Q (F0 m hpc ls [.ref (h + n)])) : W p l e R s m args below meth c H locs (wc_z u - z0) (4 * (wc_z u - z0)) Q (F0 m pc ls (.ref (h + 297) :: rest)) :=
  wz_callH (f := fun r => some (wc_rf h r)) (As := []) (fun _ => rfl) (wc_vrN h) C hZ hRc hRs hE hM (fun u1 => cwV 0 C.1.2.2.2.2 (lw_V q1098 q1100 qs47 q170 q1101) rfl (hrc u1) (hrs u1) (by decide +kernel) (hR u1)) (wc_preV (q := (RX3, TX3, 12)) C.2 hW hS ht rfl _) rfl hsz hro d hV kk kh
theorem cxw_X3_129 {β : Type} {vf : β ⊕ Nat → Option Value ⊕ Nat} (hvf : ∀ n, vf (.inr n) = .inr n) {z0 : Nat} {u uF : CS} {Vf : β ⊕ Nat} {K : Option Nat → CS → Option ((β ⊕ Nat) × CS)} {x : Option ((Option Nat ⊕ Nat) × CS)} {rm : CS → Room} (C : CC p m c cc nL s args D dA RX3) (hlocks : meth.locks = false) (hnh : c.exceptionTable.isEmpty = true) (hZ : z0 ≤ wc_z u ∧ wc_z u ≤ wc_z uF) (hRc : R.cells = wc_z uF - z0) (hRs : R.slots = 4 * (wc_z uF - z0)) (hW : wc_W D dA h u H) (hS : wc_S u) (hV : va_S (CA h) s.heap H locs) (ht : wc_T u 297 = some (.inl 3)) (hE : o_bw u x K = some (Vf, uF)) (hM : ∀ (V : Option Nat ⊕ Nat) (u1 : CS), wc_z u ≤ wc_z u1 → x = some (V, u1) → MetX l yX3_sum (ws_ yX3_sum cX3_sum 3 (some (.object "WoodState$Part"))) (rm u1) (va_Pc [.ref (h + 297)] (wc_St D dA h u)) (wc_Qx D dA h ((wc_vr h) V) u1) (wc_z u1 - wc_z u) (4 * (wc_z u1 - wc_z u)) (CA h)) (hrc : ∀ u1, (rm u1).cells = wc_z u1 - wc_z u) (hrs : ∀ u1, (rm u1).slots = 4 * (wc_z u1 - wc_z u)) (hR : ∀ u1, (rm u1).frames + 1 ≤ R.frames ∧ 8 + (3 + 11) + (rm u1).locals ≤ R.locals) (d : decode cc pc = .ok (.invokevirtual 129, 3)) (hsz : ls.size = nL) (hro : (rest.map fun v => v.category).sum ≤ 8) (kk : ∀ (a : Option Nat) (u2 : CS) (H1 : Heap) (locs1 : List Loc), K a u2 = some (Vf, uF) → wc_W D dA h u2 H1 → wc_S u2 → va_S (CA h) s.heap H1 locs1 → (z0 ≤ wc_z u2 ∧ wc_z u2 ≤ wc_z uF) → W p l e R s m args below meth c H1 locs1 (wc_z u2 - z0) (4 * (wc_z u2 - z0)) (MQX below (wc_Qx D dA h (vf Vf) uF) args s (wc_z uF - z0) (4 * (wc_z uF - z0)) (CA h)) (F0 m (pc + 3) ls (wc_rf h a :: rest))) : W p l e R s m args below meth c H locs (wc_z u - z0) (4 * (wc_z u - z0)) (MQX below (wc_Qx D dA h (vf Vf) uF) args s (wc_z uF - z0) (4 * (wc_z uF - z0)) (CA h)) (F0 m pc ls (.ref (h + 297) :: rest)) :=
  wz_callW (f := fun r => some (wc_rf h r)) (As := []) (fun _ => rfl) (wc_vrN h) hvf C hlocks hnh hZ hRc hRs hE hM (fun u1 => cwV 0 C.1.2.2.2.2 (lw_V q1094 q1096 qs46 q170 q1097) rfl (hrc u1) (hrs u1) (by decide +kernel) (hR u1)) (wc_preV (q := (RX3, TX3, 12)) C.2 hW hS ht rfl _) rfl hsz hro d hV kk
theorem cyw_X3_129 {β : Type} {z0 : Nat} {u uF : CS} {rF : β} {K : Option Nat → CS → Option (β × CS)} {Kh : Nat → CS → Option (β × CS)} {x : Option ((Option Nat ⊕ Nat) × CS)} {rm : CS → Room} (C : CC p m c cc nL s args D dA RX3) (hZ : z0 ≤ wc_z u ∧ wc_z u ≤ wc_z uF) (hRc : R.cells = wc_z uF - z0) (hRs : R.slots = 4 * (wc_z uF - z0)) (hW : wc_W D dA h u H) (hS : wc_S u) (hV : va_S (CA h) s.heap H locs) (ht : wc_T u 297 = some (.inl 3)) (hE : o_bh u x K Kh = some (rF, uF)) (hM : ∀ (V : Option Nat ⊕ Nat) (u1 : CS), wc_z u ≤ wc_z u1 → x = some (V, u1) → MetX l yX3_sum (ws_ yX3_sum cX3_sum 3 (some (.object "WoodState$Part"))) (rm u1) (va_Pc [.ref (h + 297)] (wc_St D dA h u)) (wc_Qx D dA h ((wc_vr h) V) u1) (wc_z u1 - wc_z u) (4 * (wc_z u1 - wc_z u)) (CA h)) (hrc : ∀ u1, (rm u1).cells = wc_z u1 - wc_z u) (hrs : ∀ u1, (rm u1).slots = 4 * (wc_z u1 - wc_z u)) (hR : ∀ u1, (rm u1).frames + 1 ≤ R.frames ∧ 8 + (3 + 11) + (rm u1).locals ≤ R.locals) (d : decode cc pc = .ok (.invokevirtual 129, 3)) (hsz : ls.size = nL) (hro : (rest.map fun v => v.category).sum ≤ 8) (kk : ∀ (a : Option Nat) (u2 : CS) (H1 : Heap) (locs1 : List Loc), K a u2 = some (rF, uF) → wc_W D dA h u2 H1 → wc_S u2 → va_S (CA h) s.heap H1 locs1 → (z0 ≤ wc_z u2 ∧ wc_z u2 ≤ wc_z uF) → W p l e R s m args below meth c H1 locs1 (wc_z u2 - z0) (4 * (wc_z u2 - z0)) Q (F0 m (pc + 3) ls (wc_rf h a :: rest))) (kh : ∀ (n : Nat) (u2 : CS) (H1 : Heap) (locs1 : List Loc), Kh n u2 = some (rF, uF) → wc_W D dA h u2 H1 → wc_S u2 → va_S (CA h) s.heap H1 locs1 → (z0 ≤ wc_z u2 ∧ wc_z u2 ≤ wc_z uF) → ∃ (hpc : Nat) (cell : Cell), H1[h + n]? = some cell ∧ xh_go p l e R s m args below meth c locs1 (wc_z u2 - z0) (4 * (wc_z u2 - z0)) (F0 m pc ls rest) (h + n) cell c.exceptionTable.toList hpc ∧ W p l e R s m args below meth c H1 locs1 (wc_z u2 - z0) (4 * (wc_z u2 - z0)) Q (F0 m hpc ls [.ref (h + n)])) : W p l e R s m args below meth c H locs (wc_z u - z0) (4 * (wc_z u - z0)) Q (F0 m pc ls (.ref (h + 297) :: rest)) :=
  wz_callH (f := fun r => some (wc_rf h r)) (As := []) (fun _ => rfl) (wc_vrN h) C hZ hRc hRs hE hM (fun u1 => cwV 0 C.1.2.2.2.2 (lw_V q1094 q1096 qs46 q170 q1097) rfl (hrc u1) (hrs u1) (by decide +kernel) (hR u1)) (wc_preV (q := (RX3, TX3, 12)) C.2 hW hS ht rfl _) rfl hsz hro d hV kk kh
theorem cxw_X3_123 {β : Type} {vf : β ⊕ Nat → Option Value ⊕ Nat} (hvf : ∀ n, vf (.inr n) = .inr n) {z0 : Nat} {u uF : CS} {Vf : β ⊕ Nat} {K : Option Nat → CS → Option ((β ⊕ Nat) × CS)} {x : Option ((Option Nat ⊕ Nat) × CS)} {rm : CS → Room} (C : CC p m c cc nL s args D dA RX3) (hlocks : meth.locks = false) (hnh : c.exceptionTable.isEmpty = true) (hZ : z0 ≤ wc_z u ∧ wc_z u ≤ wc_z uF) (hRc : R.cells = wc_z uF - z0) (hRs : R.slots = 4 * (wc_z uF - z0)) (hW : wc_W D dA h u H) (hS : wc_S u) (hV : va_S (CA h) s.heap H locs) (ht : wc_T u 297 = some (.inl 3)) (hE : o_bw u x K = some (Vf, uF)) (hM : ∀ (V : Option Nat ⊕ Nat) (u1 : CS), wc_z u ≤ wc_z u1 → x = some (V, u1) → MetX l yX3_not (ws_ yX3_not cX3_not 3 (some (.object "WoodState$Part"))) (rm u1) (va_Pc [.ref (h + 297)] (wc_St D dA h u)) (wc_Qx D dA h ((wc_vr h) V) u1) (wc_z u1 - wc_z u) (4 * (wc_z u1 - wc_z u)) (CA h)) (hrc : ∀ u1, (rm u1).cells = wc_z u1 - wc_z u) (hrs : ∀ u1, (rm u1).slots = 4 * (wc_z u1 - wc_z u)) (hR : ∀ u1, (rm u1).frames + 1 ≤ R.frames ∧ 8 + (3 + 11) + (rm u1).locals ≤ R.locals) (d : decode cc pc = .ok (.invokevirtual 123, 3)) (hsz : ls.size = nL) (hro : (rest.map fun v => v.category).sum ≤ 8) (kk : ∀ (a : Option Nat) (u2 : CS) (H1 : Heap) (locs1 : List Loc), K a u2 = some (Vf, uF) → wc_W D dA h u2 H1 → wc_S u2 → va_S (CA h) s.heap H1 locs1 → (z0 ≤ wc_z u2 ∧ wc_z u2 ≤ wc_z uF) → W p l e R s m args below meth c H1 locs1 (wc_z u2 - z0) (4 * (wc_z u2 - z0)) (MQX below (wc_Qx D dA h (vf Vf) uF) args s (wc_z uF - z0) (4 * (wc_z uF - z0)) (CA h)) (F0 m (pc + 3) ls (wc_rf h a :: rest))) : W p l e R s m args below meth c H locs (wc_z u - z0) (4 * (wc_z u - z0)) (MQX below (wc_Qx D dA h (vf Vf) uF) args s (wc_z uF - z0) (4 * (wc_z uF - z0)) (CA h)) (F0 m pc ls (.ref (h + 297) :: rest)) :=
  wz_callW (f := fun r => some (wc_rf h r)) (As := []) (fun _ => rfl) (wc_vrN h) hvf C hlocks hnh hZ hRc hRs hE hM (fun u1 => cwV 0 C.1.2.2.2.2 (lw_V q1071 q1073 qs44 q170 q1074) rfl (hrc u1) (hrs u1) (by decide +kernel) (hR u1)) (wc_preV (q := (RX3, TX3, 12)) C.2 hW hS ht rfl _) rfl hsz hro d hV kk
theorem cyw_X3_123 {β : Type} {z0 : Nat} {u uF : CS} {rF : β} {K : Option Nat → CS → Option (β × CS)} {Kh : Nat → CS → Option (β × CS)} {x : Option ((Option Nat ⊕ Nat) × CS)} {rm : CS → Room} (C : CC p m c cc nL s args D dA RX3) (hZ : z0 ≤ wc_z u ∧ wc_z u ≤ wc_z uF) (hRc : R.cells = wc_z uF - z0) (hRs : R.slots = 4 * (wc_z uF - z0)) (hW : wc_W D dA h u H) (hS : wc_S u) (hV : va_S (CA h) s.heap H locs) (ht : wc_T u 297 = some (.inl 3)) (hE : o_bh u x K Kh = some (rF, uF)) (hM : ∀ (V : Option Nat ⊕ Nat) (u1 : CS), wc_z u ≤ wc_z u1 → x = some (V, u1) → MetX l yX3_not (ws_ yX3_not cX3_not 3 (some (.object "WoodState$Part"))) (rm u1) (va_Pc [.ref (h + 297)] (wc_St D dA h u)) (wc_Qx D dA h ((wc_vr h) V) u1) (wc_z u1 - wc_z u) (4 * (wc_z u1 - wc_z u)) (CA h)) (hrc : ∀ u1, (rm u1).cells = wc_z u1 - wc_z u) (hrs : ∀ u1, (rm u1).slots = 4 * (wc_z u1 - wc_z u)) (hR : ∀ u1, (rm u1).frames + 1 ≤ R.frames ∧ 8 + (3 + 11) + (rm u1).locals ≤ R.locals) (d : decode cc pc = .ok (.invokevirtual 123, 3)) (hsz : ls.size = nL) (hro : (rest.map fun v => v.category).sum ≤ 8) (kk : ∀ (a : Option Nat) (u2 : CS) (H1 : Heap) (locs1 : List Loc), K a u2 = some (rF, uF) → wc_W D dA h u2 H1 → wc_S u2 → va_S (CA h) s.heap H1 locs1 → (z0 ≤ wc_z u2 ∧ wc_z u2 ≤ wc_z uF) → W p l e R s m args below meth c H1 locs1 (wc_z u2 - z0) (4 * (wc_z u2 - z0)) Q (F0 m (pc + 3) ls (wc_rf h a :: rest))) (kh : ∀ (n : Nat) (u2 : CS) (H1 : Heap) (locs1 : List Loc), Kh n u2 = some (rF, uF) → wc_W D dA h u2 H1 → wc_S u2 → va_S (CA h) s.heap H1 locs1 → (z0 ≤ wc_z u2 ∧ wc_z u2 ≤ wc_z uF) → ∃ (hpc : Nat) (cell : Cell), H1[h + n]? = some cell ∧ xh_go p l e R s m args below meth c locs1 (wc_z u2 - z0) (4 * (wc_z u2 - z0)) (F0 m pc ls rest) (h + n) cell c.exceptionTable.toList hpc ∧ W p l e R s m args below meth c H1 locs1 (wc_z u2 - z0) (4 * (wc_z u2 - z0)) Q (F0 m hpc ls [.ref (h + n)])) : W p l e R s m args below meth c H locs (wc_z u - z0) (4 * (wc_z u - z0)) Q (F0 m pc ls (.ref (h + 297) :: rest)) :=
  wz_callH (f := fun r => some (wc_rf h r)) (As := []) (fun _ => rfl) (wc_vrN h) C hZ hRc hRs hE hM (fun u1 => cwV 0 C.1.2.2.2.2 (lw_V q1071 q1073 qs44 q170 q1074) rfl (hrc u1) (hrs u1) (by decide +kernel) (hR u1)) (wc_preV (q := (RX3, TX3, 12)) C.2 hW hS ht rfl _) rfl hsz hro d hV kk kh
theorem cxw_X3_132 {β : Type} {vf : β ⊕ Nat → Option Value ⊕ Nat} (hvf : ∀ n, vf (.inr n) = .inr n) {z0 : Nat} {u uF : CS} {Vf : β ⊕ Nat} {K : Option Nat → CS → Option ((β ⊕ Nat) × CS)} {x : Option ((Option Nat ⊕ Nat) × CS)} {rm : CS → Room} (C : CC p m c cc nL s args D dA RX3) (hlocks : meth.locks = false) (hnh : c.exceptionTable.isEmpty = true) (hZ : z0 ≤ wc_z u ∧ wc_z u ≤ wc_z uF) (hRc : R.cells = wc_z uF - z0) (hRs : R.slots = 4 * (wc_z uF - z0)) (hW : wc_W D dA h u H) (hS : wc_S u) (hV : va_S (CA h) s.heap H locs) (ht : wc_T u 297 = some (.inl 3)) (hE : o_bw u x K = some (Vf, uF)) (hM : ∀ (V : Option Nat ⊕ Nat) (u1 : CS), wc_z u ≤ wc_z u1 → x = some (V, u1) → MetX l yX3_both (ws_ yX3_both cX3_both 2 (some (.object "WoodState$Part"))) (rm u1) (va_Pc [.ref (h + 297)] (wc_St D dA h u)) (wc_Qx D dA h ((wc_vr h) V) u1) (wc_z u1 - wc_z u) (4 * (wc_z u1 - wc_z u)) (CA h)) (hrc : ∀ u1, (rm u1).cells = wc_z u1 - wc_z u) (hrs : ∀ u1, (rm u1).slots = 4 * (wc_z u1 - wc_z u)) (hR : ∀ u1, (rm u1).frames + 1 ≤ R.frames ∧ 8 + (2 + 11) + (rm u1).locals ≤ R.locals) (d : decode cc pc = .ok (.invokevirtual 132, 3)) (hsz : ls.size = nL) (hro : (rest.map fun v => v.category).sum ≤ 8) (kk : ∀ (a : Option Nat) (u2 : CS) (H1 : Heap) (locs1 : List Loc), K a u2 = some (Vf, uF) → wc_W D dA h u2 H1 → wc_S u2 → va_S (CA h) s.heap H1 locs1 → (z0 ≤ wc_z u2 ∧ wc_z u2 ≤ wc_z uF) → W p l e R s m args below meth c H1 locs1 (wc_z u2 - z0) (4 * (wc_z u2 - z0)) (MQX below (wc_Qx D dA h (vf Vf) uF) args s (wc_z uF - z0) (4 * (wc_z uF - z0)) (CA h)) (F0 m (pc + 3) ls (wc_rf h a :: rest))) : W p l e R s m args below meth c H locs (wc_z u - z0) (4 * (wc_z u - z0)) (MQX below (wc_Qx D dA h (vf Vf) uF) args s (wc_z uF - z0) (4 * (wc_z uF - z0)) (CA h)) (F0 m pc ls (.ref (h + 297) :: rest)) :=
  wz_callW (f := fun r => some (wc_rf h r)) (As := []) (fun _ => rfl) (wc_vrN h) hvf C hlocks hnh hZ hRc hRs hE hM (fun u1 => cwV 0 C.1.2.2.2.2 (lw_V q1067 q1069 qs43 q170 q1070) rfl (hrc u1) (hrs u1) (by decide +kernel) (hR u1)) (wc_preV (q := (RX3, TX3, 12)) C.2 hW hS ht rfl _) rfl hsz hro d hV kk
theorem cyw_X3_132 {β : Type} {z0 : Nat} {u uF : CS} {rF : β} {K : Option Nat → CS → Option (β × CS)} {Kh : Nat → CS → Option (β × CS)} {x : Option ((Option Nat ⊕ Nat) × CS)} {rm : CS → Room} (C : CC p m c cc nL s args D dA RX3) (hZ : z0 ≤ wc_z u ∧ wc_z u ≤ wc_z uF) (hRc : R.cells = wc_z uF - z0) (hRs : R.slots = 4 * (wc_z uF - z0)) (hW : wc_W D dA h u H) (hS : wc_S u) (hV : va_S (CA h) s.heap H locs) (ht : wc_T u 297 = some (.inl 3)) (hE : o_bh u x K Kh = some (rF, uF)) (hM : ∀ (V : Option Nat ⊕ Nat) (u1 : CS), wc_z u ≤ wc_z u1 → x = some (V, u1) → MetX l yX3_both (ws_ yX3_both cX3_both 2 (some (.object "WoodState$Part"))) (rm u1) (va_Pc [.ref (h + 297)] (wc_St D dA h u)) (wc_Qx D dA h ((wc_vr h) V) u1) (wc_z u1 - wc_z u) (4 * (wc_z u1 - wc_z u)) (CA h)) (hrc : ∀ u1, (rm u1).cells = wc_z u1 - wc_z u) (hrs : ∀ u1, (rm u1).slots = 4 * (wc_z u1 - wc_z u)) (hR : ∀ u1, (rm u1).frames + 1 ≤ R.frames ∧ 8 + (2 + 11) + (rm u1).locals ≤ R.locals) (d : decode cc pc = .ok (.invokevirtual 132, 3)) (hsz : ls.size = nL) (hro : (rest.map fun v => v.category).sum ≤ 8) (kk : ∀ (a : Option Nat) (u2 : CS) (H1 : Heap) (locs1 : List Loc), K a u2 = some (rF, uF) → wc_W D dA h u2 H1 → wc_S u2 → va_S (CA h) s.heap H1 locs1 → (z0 ≤ wc_z u2 ∧ wc_z u2 ≤ wc_z uF) → W p l e R s m args below meth c H1 locs1 (wc_z u2 - z0) (4 * (wc_z u2 - z0)) Q (F0 m (pc + 3) ls (wc_rf h a :: rest))) (kh : ∀ (n : Nat) (u2 : CS) (H1 : Heap) (locs1 : List Loc), Kh n u2 = some (rF, uF) → wc_W D dA h u2 H1 → wc_S u2 → va_S (CA h) s.heap H1 locs1 → (z0 ≤ wc_z u2 ∧ wc_z u2 ≤ wc_z uF) → ∃ (hpc : Nat) (cell : Cell), H1[h + n]? = some cell ∧ xh_go p l e R s m args below meth c locs1 (wc_z u2 - z0) (4 * (wc_z u2 - z0)) (F0 m pc ls rest) (h + n) cell c.exceptionTable.toList hpc ∧ W p l e R s m args below meth c H1 locs1 (wc_z u2 - z0) (4 * (wc_z u2 - z0)) Q (F0 m hpc ls [.ref (h + n)])) : W p l e R s m args below meth c H locs (wc_z u - z0) (4 * (wc_z u - z0)) Q (F0 m pc ls (.ref (h + 297) :: rest)) :=
  wz_callH (f := fun r => some (wc_rf h r)) (As := []) (fun _ => rfl) (wc_vrN h) C hZ hRc hRs hE hM (fun u1 => cwV 0 C.1.2.2.2.2 (lw_V q1067 q1069 qs43 q170 q1070) rfl (hrc u1) (hrs u1) (by decide +kernel) (hR u1)) (wc_preV (q := (RX3, TX3, 12)) C.2 hW hS ht rfl _) rfl hsz hro d hV kk kh
theorem cxw_X3_110 {β : Type} {vf : β ⊕ Nat → Option Value ⊕ Nat} (hvf : ∀ n, vf (.inr n) = .inr n) {z0 : Nat} {u uF : CS} {Vf : β ⊕ Nat} {K : Option Nat → CS → Option ((β ⊕ Nat) × CS)} {x : Option ((Option Nat ⊕ Nat) × CS)} {rm : CS → Room} (C : CC p m c cc nL s args D dA RX3) (hlocks : meth.locks = false) (hnh : c.exceptionTable.isEmpty = true) (hZ : z0 ≤ wc_z u ∧ wc_z u ≤ wc_z uF) (hRc : R.cells = wc_z uF - z0) (hRs : R.slots = 4 * (wc_z uF - z0)) (hW : wc_W D dA h u H) (hS : wc_S u) (hV : va_S (CA h) s.heap H locs) (ht : wc_T u 297 = some (.inl 3)) (hE : o_bw u x K = some (Vf, uF)) (hM : ∀ (V : Option Nat ⊕ Nat) (u1 : CS), wc_z u ≤ wc_z u1 → x = some (V, u1) → MetX l yX3_all (ws_ yX3_all cX3_all 2 (some (.object "WoodState$Part"))) (rm u1) (va_Pc [.ref (h + 297)] (wc_St D dA h u)) (wc_Qx D dA h ((wc_vr h) V) u1) (wc_z u1 - wc_z u) (4 * (wc_z u1 - wc_z u)) (CA h)) (hrc : ∀ u1, (rm u1).cells = wc_z u1 - wc_z u) (hrs : ∀ u1, (rm u1).slots = 4 * (wc_z u1 - wc_z u)) (hR : ∀ u1, (rm u1).frames + 1 ≤ R.frames ∧ 8 + (2 + 11) + (rm u1).locals ≤ R.locals) (d : decode cc pc = .ok (.invokevirtual 110, 3)) (hsz : ls.size = nL) (hro : (rest.map fun v => v.category).sum ≤ 8) (kk : ∀ (a : Option Nat) (u2 : CS) (H1 : Heap) (locs1 : List Loc), K a u2 = some (Vf, uF) → wc_W D dA h u2 H1 → wc_S u2 → va_S (CA h) s.heap H1 locs1 → (z0 ≤ wc_z u2 ∧ wc_z u2 ≤ wc_z uF) → W p l e R s m args below meth c H1 locs1 (wc_z u2 - z0) (4 * (wc_z u2 - z0)) (MQX below (wc_Qx D dA h (vf Vf) uF) args s (wc_z uF - z0) (4 * (wc_z uF - z0)) (CA h)) (F0 m (pc + 3) ls (wc_rf h a :: rest))) : W p l e R s m args below meth c H locs (wc_z u - z0) (4 * (wc_z u - z0)) (MQX below (wc_Qx D dA h (vf Vf) uF) args s (wc_z uF - z0) (4 * (wc_z uF - z0)) (CA h)) (F0 m pc ls (.ref (h + 297) :: rest)) :=
  wz_callW (f := fun r => some (wc_rf h r)) (As := []) (fun _ => rfl) (wc_vrN h) hvf C hlocks hnh hZ hRc hRs hE hM (fun u1 => cwV 0 C.1.2.2.2.2 (lw_V q1063 q1065 qs42 q170 q1066) rfl (hrc u1) (hrs u1) (by decide +kernel) (hR u1)) (wc_preV (q := (RX3, TX3, 12)) C.2 hW hS ht rfl _) rfl hsz hro d hV kk
theorem cyw_X3_110 {β : Type} {z0 : Nat} {u uF : CS} {rF : β} {K : Option Nat → CS → Option (β × CS)} {Kh : Nat → CS → Option (β × CS)} {x : Option ((Option Nat ⊕ Nat) × CS)} {rm : CS → Room} (C : CC p m c cc nL s args D dA RX3) (hZ : z0 ≤ wc_z u ∧ wc_z u ≤ wc_z uF) (hRc : R.cells = wc_z uF - z0) (hRs : R.slots = 4 * (wc_z uF - z0)) (hW : wc_W D dA h u H) (hS : wc_S u) (hV : va_S (CA h) s.heap H locs) (ht : wc_T u 297 = some (.inl 3)) (hE : o_bh u x K Kh = some (rF, uF)) (hM : ∀ (V : Option Nat ⊕ Nat) (u1 : CS), wc_z u ≤ wc_z u1 → x = some (V, u1) → MetX l yX3_all (ws_ yX3_all cX3_all 2 (some (.object "WoodState$Part"))) (rm u1) (va_Pc [.ref (h + 297)] (wc_St D dA h u)) (wc_Qx D dA h ((wc_vr h) V) u1) (wc_z u1 - wc_z u) (4 * (wc_z u1 - wc_z u)) (CA h)) (hrc : ∀ u1, (rm u1).cells = wc_z u1 - wc_z u) (hrs : ∀ u1, (rm u1).slots = 4 * (wc_z u1 - wc_z u)) (hR : ∀ u1, (rm u1).frames + 1 ≤ R.frames ∧ 8 + (2 + 11) + (rm u1).locals ≤ R.locals) (d : decode cc pc = .ok (.invokevirtual 110, 3)) (hsz : ls.size = nL) (hro : (rest.map fun v => v.category).sum ≤ 8) (kk : ∀ (a : Option Nat) (u2 : CS) (H1 : Heap) (locs1 : List Loc), K a u2 = some (rF, uF) → wc_W D dA h u2 H1 → wc_S u2 → va_S (CA h) s.heap H1 locs1 → (z0 ≤ wc_z u2 ∧ wc_z u2 ≤ wc_z uF) → W p l e R s m args below meth c H1 locs1 (wc_z u2 - z0) (4 * (wc_z u2 - z0)) Q (F0 m (pc + 3) ls (wc_rf h a :: rest))) (kh : ∀ (n : Nat) (u2 : CS) (H1 : Heap) (locs1 : List Loc), Kh n u2 = some (rF, uF) → wc_W D dA h u2 H1 → wc_S u2 → va_S (CA h) s.heap H1 locs1 → (z0 ≤ wc_z u2 ∧ wc_z u2 ≤ wc_z uF) → ∃ (hpc : Nat) (cell : Cell), H1[h + n]? = some cell ∧ xh_go p l e R s m args below meth c locs1 (wc_z u2 - z0) (4 * (wc_z u2 - z0)) (F0 m pc ls rest) (h + n) cell c.exceptionTable.toList hpc ∧ W p l e R s m args below meth c H1 locs1 (wc_z u2 - z0) (4 * (wc_z u2 - z0)) Q (F0 m hpc ls [.ref (h + n)])) : W p l e R s m args below meth c H locs (wc_z u - z0) (4 * (wc_z u - z0)) Q (F0 m pc ls (.ref (h + 297) :: rest)) :=
  wz_callH (f := fun r => some (wc_rf h r)) (As := []) (fun _ => rfl) (wc_vrN h) C hZ hRc hRs hE hM (fun u1 => cwV 0 C.1.2.2.2.2 (lw_V q1063 q1065 qs42 q170 q1066) rfl (hrc u1) (hrs u1) (by decide +kernel) (hR u1)) (wc_preV (q := (RX3, TX3, 12)) C.2 hW hS ht rfl _) rfl hsz hro d hV kk kh
set_option maxHeartbeats 4000000 in
set_option maxRecDepth 100000 in
theorem kX3_one_open {l : Launch} {D : va_G} {dA : Nat → ClassId} {h N z0 : Nat} {u u1 : CS} {V : Option Nat ⊕ Nat} {d : Nat} {g : Nat → CS → Option ((Option Nat ⊕ Nat) × CS)} (hg : pr_hyp l D dA h d g) (hz0 : wc_z u = z0) (hz1 : wc_z u ≤ wc_z u1) (hE : fX3_one N g u = some (V, u1)) : MetX l yX3_one (ws_ yX3_one cX3_one 2 (some (.object "WoodState$Part"))) (pr_rm (d + 1) (wc_z u1 - z0)) (va_Pc [.ref (h + 297)] (wc_St D dA h u)) (wc_Qx D dA h ((wc_vr h) V) u1) (wc_z u1 - z0) (4 * (wc_z u1 - z0)) (CA h) := by
  refine wz_met (own := RX3) hz0 (by decide) rfl rfl rfl ?_
  intro p e s m args below meth c ls C hr hlocks hnh hW hS hV hl
  have hx := C.1.1
  have hb := C.1.2.1
  have hZ : z0 ≤ wc_z u ∧ wc_z u ≤ wc_z u1 := ⟨by omega, hz1⟩
  have w_134 : ∀ (u : CS) (y0 : Option Nat) (H : Heap) (locs : List Loc) (ls : Array Slot), fX3_one_134 N g u y0 = some (V, u1) → wc_W D dA h u H → wc_S u → va_S (CA h) s.heap H locs → z0 ≤ wc_z u ∧ wc_z u ≤ wc_z u1 → lv_has ls 2 [(0, .ref (h + 297))] → W p l e (pr_rm (d + 1) (wc_z u1 - z0)) s m args below meth c H locs (wc_z u - z0) (4 * (wc_z u - z0)) (MQX below (wc_Qx D dA h ((wc_vr h) V) u1) args s (wc_z u1 - z0) (4 * (wc_z u1 - z0)) (CA h)) (F0 m 134 ls [wc_rf h y0]) := by
    intro u y0 H locs ls hE hW hS hV hZ hl
    unfold fX3_one_134 at hE
    refine z_astore_n (lv' := [(1, wc_rf h y0), (0, .ref (h + 297))]) hx hb dX3_one_134 rfl hl (by decide) rfl (fun ls hl => ?_)
    refine lv_aload_n hx hb dX3_one_135 rfl (lv_at hl 1 rfl) ?_
    refine lv_dup hx hb dX3_one_136 rfl ?_
    refine cg_X3_80_3 C hW (st_297 hS) dX3_one_137 ?_
    refine lv_iconst (v := (1 : Int32)) hx hb dX3_one_140 rfl ?_
    refine lv_isub hx hb dX3_one_141 ?_
    refine cp_X3_80_3 (J := wa_J u) C hW hV (st_297 hS) ⟨hS.uI, rfl⟩ hE dX3_one_142 (fun u22 H locs hE hW hS hV => ?_)
    obtain ⟨hS, hz_⟩ := hS
    rw [← hz_] at hZ ⊢
    refine z_aload_n hx hb dX3_one_145 rfl (lv_at hl 0 rfl) ?_
    cases hE
    exact wx_aret C hr hlocks hW hS hV rfl dX3_one_146
  have w_97 : ∀ (u : CS) (H : Heap) (locs : List Loc) (ls : Array Slot), fX3_one_97 N g u = some (V, u1) → wc_W D dA h u H → wc_S u → va_S (CA h) s.heap H locs → z0 ≤ wc_z u ∧ wc_z u ≤ wc_z u1 → lv_has ls 2 [(0, .ref (h + 297))] → W p l e (pr_rm (d + 1) (wc_z u1 - z0)) s m args below meth c H locs (wc_z u - z0) (4 * (wc_z u - z0)) (MQX below (wc_Qx D dA h ((wc_vr h) V) u1) args s (wc_z u1 - z0) (4 * (wc_z u1 - z0)) (CA h)) (F0 m 97 ls []) := by
    intro u H locs ls hE hW hS hV hZ hl
    unfold fX3_one_97 at hE
    refine lv_aload_n hx hb dX3_one_97 rfl (lv_at hl 0 rfl) ?_
    refine cg_X3_55_3 C hW (st_297 hS) dX3_one_98 ?_
    refine lv_bipush (v := (45 : Int32)) hx hb dX3_one_101 rfl ?_
    refine lv_icmp_ne (tgt := 147) hx hb dX3_one_103 (by decide) (fun c23 => ?_) (fun c23 => ?_)
    · have hE := z_f c23 hE
      refine lv_aload_n hx hb dX3_one_147 rfl (lv_at hl 0 rfl) ?_
      refine cg_X3_55_3 C hW (st_297 hS) dX3_one_148 ?_
      refine lv_bipush (v := (40 : Int32)) hx hb dX3_one_151 rfl ?_
      refine lv_icmp_eq (tgt := 161) hx hb dX3_one_153 (by decide) (fun c24 => ?_) (fun c24 => ?_)
      · have hE := z_t c24 hE
        refine lv_aload_n hx hb dX3_one_161 rfl (lv_at hl 0 rfl) ?_
        refine cxe_X3_98 (vf := (wc_vr h)) (wc_vrN h) C hlocks hnh hZ rfl rfl hW hS hV (st_297 hS) hE (pr_r (Nat.le_of_ble_eq_true rfl) (Nat.le_of_ble_eq_true rfl)) dX3_one_162 hl.1 (Nat.le_of_ble_eq_true rfl) (fun _ u25 H locs hE hW hS hV hZ => ?_)
        refine lv_aload_n hx hb dX3_one_165 rfl (lv_at hl 0 rfl) ?_
        refine cxw_X3_110 (vf := (wc_vr h)) (wc_vrN h) C hlocks hnh hZ rfl rfl hW hS hV (st_297 hS) hE (rm := fun u_ => pr_rm d (wc_z u_ - wc_z u25)) (fun V_ u_ hz_ hc => hg _ _ _ _ _ rfl hz_ hc) (fun _ => rfl) (fun _ => rfl) (fun _ => pr_rr) dX3_one_166 hl.1 (Nat.le_of_ble_eq_true rfl) (fun r26 u27 H locs hE hW hS hV hZ => ?_)
        refine z_astore_n (lv' := [(1, wc_rf h r26), (0, .ref (h + 297))]) hx hb dX3_one_169 rfl hl (by decide) rfl (fun ls hl => ?_)
        refine lv_aload_n hx hb dX3_one_170 rfl (lv_at hl 1 rfl) ?_
        refine cg_X3_55_3 C hW (st_297 hS) dX3_one_171 ?_
        refine lv_bipush (v := (41 : Int32)) hx hb dX3_one_174 rfl ?_
        refine lv_icmp_eq (tgt := 184) hx hb dX3_one_176 (by decide) (fun c28 => ?_) (fun c28 => ?_)
        · have hE := z_t c28 hE
          refine lv_aload_n hx hb dX3_one_184 rfl (lv_at hl 1 rfl) ?_
          refine lv_dup hx hb dX3_one_185 rfl ?_
          refine cg_X3_80_3 C hW (st_297 hS) dX3_one_186 ?_
          refine lv_iconst (v := (1 : Int32)) hx hb dX3_one_189 rfl ?_
          refine lv_isub hx hb dX3_one_190 ?_
          refine cp_X3_80_3 (J := wa_J u27) C hW hV (st_297 hS) ⟨hS.uI, rfl⟩ hE dX3_one_191 (fun u29 H locs hE hW hS hV => ?_)
          obtain ⟨hS, hz_⟩ := hS
          rw [← hz_] at hZ ⊢
          refine lv_aload_n hx hb dX3_one_194 rfl (lv_at hl 1 rfl) ?_
          refine cxe_X3_83 (vf := (wc_vr h)) (wc_vrN h) C hlocks hnh hZ rfl rfl hW hS hV (st_297 hS) hE (pr_r (Nat.le_of_ble_eq_true rfl) (Nat.le_of_ble_eq_true rfl)) dX3_one_195 hl.1 (Nat.le_of_ble_eq_true rfl) (fun _ u30 H locs hE hW hS hV hZ => ?_)
          refine z_aload_n hx hb dX3_one_198 rfl (lv_at hl 0 rfl) ?_
          cases hE
          exact wx_aret C hr hlocks hW hS hV rfl dX3_one_199
        · have hE := z_f c28 hE
          refine lv_aload_n hx hb dX3_one_179 rfl (lv_at hl 1 rfl) ?_
          obtain ⟨r31, u32, hc, hE⟩ := o_bd2_some hE
          refine cc_X3_49 C hW hS hV (st_297 hS) (kX3_fault hc) rfl rfl (pr_r (Nat.le_of_ble_eq_true rfl) (Nat.le_of_ble_eq_true rfl)) (wa_r0 hZ) dX3_one_180 hl.1 (Nat.le_of_ble_eq_true rfl) (fun H locs hW hS hV => ?_)
          obtain ⟨hz_, hE⟩ := o_ze_some hE
          rw [← hz_] at hZ ⊢
          obtain ⟨n33, hp_, hE_⟩ := o_nn_some hE
          clear hE
          subst hp_
          have hE := hE_
          cases hE
          exact wx_throwV (vf := (wc_vr h)) (wc_vrN h) C hlocks hnh hW hS hV rfl dX3_one_183
      · have hE := z_f c24 hE
        refine lv_aload_n hx hb dX3_one_156 rfl (lv_at hl 0 rfl) ?_
        obtain ⟨r34, u35, hc, hE⟩ := o_bd2_some hE
        refine cc_X3_49 C hW hS hV (st_297 hS) (kX3_fault hc) rfl rfl (pr_r (Nat.le_of_ble_eq_true rfl) (Nat.le_of_ble_eq_true rfl)) (wa_r0 hZ) dX3_one_157 hl.1 (Nat.le_of_ble_eq_true rfl) (fun H locs hW hS hV => ?_)
        obtain ⟨hz_, hE⟩ := o_ze_some hE
        rw [← hz_] at hZ ⊢
        obtain ⟨n36, hp_, hE_⟩ := o_nn_some hE
        clear hE
        subst hp_
        have hE := hE_
        cases hE
        exact wx_throwV (vf := (wc_vr h)) (wc_vrN h) C hlocks hnh hW hS hV rfl dX3_one_160
    · have hE := z_t c23 hE
      refine lv_aload_n hx hb dX3_one_106 rfl (lv_at hl 0 rfl) ?_
      refine cxe_X3_98 (vf := (wc_vr h)) (wc_vrN h) C hlocks hnh hZ rfl rfl hW hS hV (st_297 hS) hE (pr_r (Nat.le_of_ble_eq_true rfl) (Nat.le_of_ble_eq_true rfl)) dX3_one_107 hl.1 (Nat.le_of_ble_eq_true rfl) (fun _ u37 H locs hE hW hS hV hZ => ?_)
      refine lv_aload_n hx hb dX3_one_110 rfl (lv_at hl 0 rfl) ?_
      refine cxw_X3_101 (vf := (wc_vr h)) (wc_vrN h) C hlocks hnh hZ rfl rfl hW hS hV (st_297 hS) hE (rm := fun u_ => pr_rm d (wc_z u_ - wc_z u37)) (fun V_ u_ hz_ hc => hg _ _ _ _ _ rfl hz_ hc) (fun _ => rfl) (fun _ => rfl) (fun _ => pr_rr) dX3_one_111 hl.1 (Nat.le_of_ble_eq_true rfl) (fun r38 u39 H locs hE hW hS hV hZ => ?_)
      refine z_astore_n (lv' := [(1, wc_rf h r38), (0, .ref (h + 297))]) hx hb dX3_one_114 rfl hl (by decide) rfl (fun ls hl => ?_)
      refine lv_aload_n hx hb dX3_one_115 rfl (lv_at hl 1 rfl) ?_
      refine cg_X3_86_3 C hW (st_297 hS) dX3_one_116 ?_
      refine lv_if_eq (tgt := 126) hx hb dX3_one_119 (by decide) (fun c40 => ?_) (fun c40 => ?_)
      · have hE := z_t c40 hE
        obtain ⟨hq_, hE⟩ := o_zc_some hE
        have hq_ : wc_z u39 + 1 ≤ wc_z u1 := hq_
        refine wa_newE (ci := 14) (Cn := RX14) (T := TX14) (N := 1) (ty := tyX14) C hW hS hV hZ hq_ rfl rfl (by decide) hE rfl rfl in_X14 tyX14_ok (fun j hj => by rcases (show j = 0 by omega) with rfl <;> rfl) q1126 q1127 q186 dX3_one_126 (fun u41 H hE hW hS hZ hV => ?_)
        refine lv_dup hx hb dX3_one_129 rfl ?_
        refine z_aload_n hx hb dX3_one_130 rfl (lv_at hl 0 rfl) ?_
        obtain ⟨u42, hc, hE⟩ := o_bd_some hE
        refine ci_X3_107 C hW hS hV (kX14_init hc) rfl rfl (pr_r (Nat.le_of_ble_eq_true rfl) (Nat.le_of_ble_eq_true rfl)) (wa_r0 hZ) dX3_one_131 hl.1 (Nat.le_of_ble_eq_true rfl) (fun H locs hW hS hV => ?_)
        obtain ⟨hz_, hE⟩ := o_ze_some hE
        rw [← hz_] at hZ ⊢
        exact w_134 _ _ _ _ _ hE hW hS hV hZ (lv_sub hl [1] rfl)
      · have hE := z_f c40 hE
        refine lv_null hx hb dX3_one_122 ?_
        refine lv_goto (tgt := 134) hx hb dX3_one_123 (by decide) ?_
        exact w_134 _ _ _ _ _ hE hW hS hV hZ (lv_sub hl [1] rfl)
  have w_90 : ∀ (u : CS) (y0 : Option Nat) (H : Heap) (locs : List Loc) (ls : Array Slot), fX3_one_90 N g u y0 = some (V, u1) → wc_W D dA h u H → wc_S u → va_S (CA h) s.heap H locs → z0 ≤ wc_z u ∧ wc_z u ≤ wc_z u1 → lv_has ls 2 [(0, .ref (h + 297))] → W p l e (pr_rm (d + 1) (wc_z u1 - z0)) s m args below meth c H locs (wc_z u - z0) (4 * (wc_z u - z0)) (MQX below (wc_Qx D dA h ((wc_vr h) V) u1) args s (wc_z u1 - z0) (4 * (wc_z u1 - z0)) (CA h)) (F0 m 90 ls [wc_rf h y0]) := by
    intro u y0 H locs ls hE hW hS hV hZ hl
    unfold fX3_one_90 at hE
    refine z_astore_n (lv' := [(1, wc_rf h y0), (0, .ref (h + 297))]) hx hb dX3_one_90 rfl hl (by decide) rfl (fun ls hl => ?_)
    refine lv_aload_n hx hb dX3_one_91 rfl (lv_at hl 1 rfl) ?_
    refine cxe_X3_83 (vf := (wc_vr h)) (wc_vrN h) C hlocks hnh hZ rfl rfl hW hS hV (st_297 hS) hE (pr_r (Nat.le_of_ble_eq_true rfl) (Nat.le_of_ble_eq_true rfl)) dX3_one_92 hl.1 (Nat.le_of_ble_eq_true rfl) (fun _ u43 H locs hE hW hS hV hZ => ?_)
    refine z_aload_n hx hb dX3_one_95 rfl (lv_at hl 0 rfl) ?_
    cases hE
    exact wx_aret C hr hlocks hW hS hV rfl dX3_one_96
  have w_31 : ∀ (u : CS) (y0 : Option Nat) (H : Heap) (locs : List Loc) (ls : Array Slot), fX3_one_31 N g u y0 = some (V, u1) → wc_W D dA h u H → wc_S u → va_S (CA h) s.heap H locs → z0 ≤ wc_z u ∧ wc_z u ≤ wc_z u1 → lv_has ls 2 [(0, .ref (h + 297))] → W p l e (pr_rm (d + 1) (wc_z u1 - z0)) s m args below meth c H locs (wc_z u - z0) (4 * (wc_z u - z0)) (MQX below (wc_Qx D dA h ((wc_vr h) V) u1) args s (wc_z u1 - z0) (4 * (wc_z u1 - z0)) (CA h)) (F0 m 31 ls [wc_rf h y0]) := by
    intro u y0 H locs ls hE hW hS hV hZ hl
    unfold fX3_one_31 at hE
    refine z_astore_n (lv' := [(1, wc_rf h y0), (0, .ref (h + 297))]) hx hb dX3_one_31 rfl hl (by decide) rfl (fun ls hl => ?_)
    refine lv_aload_n hx hb dX3_one_32 rfl (lv_at hl 1 rfl) ?_
    refine cxe_X3_83 (vf := (wc_vr h)) (wc_vrN h) C hlocks hnh hZ rfl rfl hW hS hV (st_297 hS) hE (pr_r (Nat.le_of_ble_eq_true rfl) (Nat.le_of_ble_eq_true rfl)) dX3_one_33 hl.1 (Nat.le_of_ble_eq_true rfl) (fun _ u44 H locs hE hW hS hV hZ => ?_)
    refine z_aload_n hx hb dX3_one_36 rfl (lv_at hl 0 rfl) ?_
    cases hE
    exact wx_aret C hr hlocks hW hS hV rfl dX3_one_37
  unfold fX3_one at hE
  refine lv_aload_n hx hb dX3_one_0 rfl (lv_at hl 0 rfl) ?_
  refine cg_X3_55_3 C hW (st_297 hS) dX3_one_1 ?_
  refine lv_bipush (v := (110 : Int32)) hx hb dX3_one_4 rfl ?_
  refine lv_icmp_ne (tgt := 38) hx hb dX3_one_6 (by decide) (fun c45 => ?_) (fun c45 => ?_)
  · have hE := z_f c45 hE
    refine lv_aload_n hx hb dX3_one_38 rfl (lv_at hl 0 rfl) ?_
    refine cg_X3_55_3 C hW (st_297 hS) dX3_one_39 ?_
    refine lv_bipush (v := (119 : Int32)) hx hb dX3_one_42 rfl ?_
    refine lv_icmp_ne (tgt := 97) hx hb dX3_one_44 (by decide) (fun c46 => ?_) (fun c46 => ?_)
    · have hE := z_f c46 hE
      exact w_97 _ _ _ _ hE hW hS hV hZ (lv_sub hl [0] rfl)
    · have hE := z_t c46 hE
      refine lv_aload_n hx hb dX3_one_47 rfl (lv_at hl 0 rfl) ?_
      refine cg_X3_67_3 C hW (st_297 hS) dX3_one_48 ?_
      refine lv_bipush (v := (8 : Int32)) hx hb dX3_one_51 rfl ?_
      refine lv_icmp_lt (tgt := 97) hx hb dX3_one_53 (by decide) (fun c47 => ?_) (fun c47 => ?_)
      · have hE := z_t c47 hE
        exact w_97 _ _ _ _ hE hW hS hV hZ (lv_sub hl [0] rfl)
      · have hE := z_f c47 hE
        refine lv_aload_n hx hb dX3_one_56 rfl (lv_at hl 0 rfl) ?_
        refine cg_X3_67_3 C hW (st_297 hS) dX3_one_57 ?_
        refine lv_bipush (v := (18 : Int32)) hx hb dX3_one_60 rfl ?_
        refine lv_icmp_ge (tgt := 97) hx hb dX3_one_62 (by decide) (fun c48 => ?_) (fun c48 => ?_)
        · have hE := z_t c48 hE
          exact w_97 _ _ _ _ hE hW hS hV hZ (lv_sub hl [0] rfl)
        · have hE := z_f c48 hE
          refine lv_aload_n hx hb dX3_one_65 rfl (lv_at hl 0 rfl) ?_
          refine cg_X3_86_3 C hW (st_297 hS) dX3_one_66 ?_
          refine lv_if_eq (tgt := 76) hx hb dX3_one_69 (by decide) (fun c49 => ?_) (fun c49 => ?_)
          · have hE := z_t c49 hE
            obtain ⟨hq_, hE⟩ := o_zc_some hE
            have hq_ : wc_z u + 1 ≤ wc_z u1 := hq_
            refine wa_newE (ci := 13) (Cn := RX13) (T := TX13) (N := 1) (ty := tyX13) C hW hS hV hZ hq_ rfl rfl (by decide) hE rfl rfl in_X13 tyX13_ok (fun j hj => by rcases (show j = 0 by omega) with rfl <;> rfl) q1116 q1117 q185 dX3_one_76 (fun u50 H hE hW hS hZ hV => ?_)
            refine lv_dup hx hb dX3_one_79 rfl ?_
            refine lv_aload_n hx hb dX3_one_80 rfl (lv_at hl 0 rfl) ?_
            refine cg_X3_67_3 C hW (st_297 hS) dX3_one_81 ?_
            refine lv_bipush (v := (8 : Int32)) hx hb dX3_one_84 rfl ?_
            refine lv_isub hx hb dX3_one_86 ?_
            obtain ⟨u51, hc, hE⟩ := o_bd_some hE
            refine ci_X3_97 C hW hS hV (kX13_init hc) rfl rfl (pr_r (Nat.le_of_ble_eq_true rfl) (Nat.le_of_ble_eq_true rfl)) (wa_r0 hZ) dX3_one_87 hl.1 (Nat.le_of_ble_eq_true rfl) (fun H locs hW hS hV => ?_)
            obtain ⟨hz_, hE⟩ := o_ze_some hE
            rw [← hz_] at hZ ⊢
            exact w_90 _ _ _ _ _ hE hW hS hV hZ (lv_sub hl [0] rfl)
          · have hE := z_f c49 hE
            refine lv_null hx hb dX3_one_72 ?_
            refine lv_goto (tgt := 90) hx hb dX3_one_73 (by decide) ?_
            exact w_90 _ _ _ _ _ hE hW hS hV hZ (lv_sub hl [0] rfl)
  · have hE := z_t c45 hE
    refine lv_aload_n hx hb dX3_one_9 rfl (lv_at hl 0 rfl) ?_
    refine cg_X3_86_3 C hW (st_297 hS) dX3_one_10 ?_
    refine lv_if_eq (tgt := 20) hx hb dX3_one_13 (by decide) (fun c52 => ?_) (fun c52 => ?_)
    · have hE := z_t c52 hE
      obtain ⟨hq_, hE⟩ := o_zc_some hE
      have hq_ : wc_z u + 1 ≤ wc_z u1 := hq_
      refine wa_newE (ci := 12) (Cn := RX12) (T := TX12) (N := 1) (ty := tyX12) C hW hS hV hZ hq_ rfl rfl (by decide) hE rfl rfl in_X12 tyX12_ok (fun j hj => by rcases (show j = 0 by omega) with rfl <;> rfl) q1106 q1107 q184 dX3_one_20 (fun u53 H hE hW hS hZ hV => ?_)
      refine lv_dup hx hb dX3_one_23 rfl ?_
      refine lv_aload_n hx hb dX3_one_24 rfl (lv_at hl 0 rfl) ?_
      refine cg_X3_73_3 C hW (st_297 hS) dX3_one_25 ?_
      obtain ⟨u54, hc, hE⟩ := o_bd_some hE
      refine ci_X3_92 C hW hS hV (kX12_init hc) rfl rfl (pr_r (Nat.le_of_ble_eq_true rfl) (Nat.le_of_ble_eq_true rfl)) (wa_r0 hZ) dX3_one_28 hl.1 (Nat.le_of_ble_eq_true rfl) (fun H locs hW hS hV => ?_)
      obtain ⟨hz_, hE⟩ := o_ze_some hE
      rw [← hz_] at hZ ⊢
      exact w_31 _ _ _ _ _ hE hW hS hV hZ (lv_sub hl [0] rfl)
    · have hE := z_f c52 hE
      refine lv_null hx hb dX3_one_16 ?_
      refine lv_goto (tgt := 31) hx hb dX3_one_17 (by decide) ?_
      exact w_31 _ _ _ _ _ hE hW hS hV hZ (lv_sub hl [0] rfl)
set_option maxHeartbeats 4000000 in
set_option maxRecDepth 100000 in
theorem kX3_term_open {l : Launch} {D : va_G} {dA : Nat → ClassId} {h N z0 : Nat} {u u1 : CS} {V : Option Nat ⊕ Nat} {d : Nat} {g : Nat → CS → Option ((Option Nat ⊕ Nat) × CS)} (hg : pr_hyp l D dA h d g) (hz0 : wc_z u = z0) (hz1 : wc_z u ≤ wc_z u1) (hE : fX3_term N g u = some (V, u1)) : MetX l yX3_term (ws_ yX3_term cX3_term 3 (some (.object "WoodState$Part"))) (pr_rm (d + 1) (wc_z u1 - z0)) (va_Pc [.ref (h + 297)] (wc_St D dA h u)) (wc_Qx D dA h ((wc_vr h) V) u1) (wc_z u1 - z0) (4 * (wc_z u1 - z0)) (CA h) := by
  refine wz_met (own := RX3) hz0 (by decide) rfl rfl rfl ?_
  intro p e s m args below meth c ls C hr hlocks hnh hW hS hV hl
  have hx := C.1.1
  have hb := C.1.2.1
  have hZ : z0 ≤ wc_z u ∧ wc_z u ≤ wc_z u1 := ⟨by omega, hz1⟩
  have w_32 : ∀ (ag5 : CS → Option Nat → Option ((Option Nat ⊕ Nat) × CS)) (hag5 : (∀ (u : CS) (x1 : Option Nat) (H : Heap) (locs : List Loc) (ls : Array Slot), ag5 u x1 = some (V, u1) → wc_W D dA h u H → wc_S u → va_S (CA h) s.heap H locs → z0 ≤ wc_z u ∧ wc_z u ≤ wc_z u1 → lv_has ls 3 [(0, .ref (h + 297)), (1, wc_rf h x1)] → W p l e (pr_rm (d + 1) (wc_z u1 - z0)) s m args below meth c H locs (wc_z u - z0) (4 * (wc_z u - z0)) (MQX below (wc_Qx D dA h ((wc_vr h) V) u1) args s (wc_z u1 - z0) (4 * (wc_z u1 - z0)) (CA h)) (F0 m 5 ls []))) (u : CS) (x1 : Option Nat) (H : Heap) (locs : List Loc) (ls : Array Slot), fX3_term_32 N g ag5 u x1 = some (V, u1) → wc_W D dA h u H → wc_S u → va_S (CA h) s.heap H locs → z0 ≤ wc_z u ∧ wc_z u ≤ wc_z u1 → lv_has ls 3 [(0, .ref (h + 297)), (1, wc_rf h x1)] → W p l e (pr_rm (d + 1) (wc_z u1 - z0)) s m args below meth c H locs (wc_z u - z0) (4 * (wc_z u - z0)) (MQX below (wc_Qx D dA h ((wc_vr h) V) u1) args s (wc_z u1 - z0) (4 * (wc_z u1 - z0)) (CA h)) (F0 m 32 ls []) := by
    intro ag5 hag5 u x1 H locs ls hE hW hS hV hZ hl
    unfold fX3_term_32 at hE
    refine lv_aload_n hx hb dX3_term_32 rfl (lv_at hl 0 rfl) ?_
    refine cg_X3_55_3 C hW (st_297 hS) dX3_term_33 ?_
    refine z_nmi hE (fun z8 hE => ?_)
    refine lv_istore_n (lv' := [(2, .int z8), (0, .ref (h + 297)), (1, wc_rf h x1)]) hx hb dX3_term_36 rfl hl (by decide) (by cases x1 <;> rfl) (fun ls hl => ?_)
    refine lv_aload_n hx hb dX3_term_37 rfl (lv_at hl 1 rfl) ?_
    refine cxe_X3_83 (vf := (wc_vr h)) (wc_vrN h) C hlocks hnh hZ rfl rfl hW hS hV (st_297 hS) hE (pr_r (Nat.le_of_ble_eq_true rfl) (Nat.le_of_ble_eq_true rfl)) dX3_term_38 hl.1 (Nat.le_of_ble_eq_true rfl) (fun _ u9 H locs hE hW hS hV hZ => ?_)
    refine lv_aload_n hx hb dX3_term_41 rfl (lv_at hl 1 rfl) ?_
    refine lv_iload_n hx hb dX3_term_42 rfl (lv_at hl 0 rfl) ?_
    refine z_aload_n hx hb dX3_term_43 rfl (lv_at hl 2 rfl) ?_
    refine lv_aload_n hx hb dX3_term_44 rfl (lv_at hl 1 rfl) ?_
    refine cxw_X3_101 (vf := (wc_vr h)) (wc_vrN h) C hlocks hnh hZ rfl rfl hW hS hV (st_297 hS) hE (rm := fun u_ => pr_rm d (wc_z u_ - wc_z u9)) (fun V_ u_ hz_ hc => hg _ _ _ _ _ rfl hz_ hc) (fun _ => rfl) (fun _ => rfl) (fun _ => pr_rr) dX3_term_45 hl.1 (by cases x1 <;> exact Nat.le_of_ble_eq_true rfl) (fun r10 u11 H locs hE hW hS hV hZ => ?_)
    obtain ⟨r12, u13, hc, hE⟩ := o_bd2_some hE
    obtain ⟨hz1_, hE⟩ := o_zl_some hE
    obtain ⟨hq_, hE⟩ := o_zc_some hE
    have hq_ : wc_z u13 ≤ wc_z u1 := hq_
    refine ca_X3_113 C hW hS hV (st_297 hS) (kX3_pair rfl hz1_ hc) rfl rfl (pr_r (Nat.le_of_ble_eq_true rfl) (Nat.le_of_ble_eq_true rfl)) (wa_r2 hZ hz1_ hq_) dX3_term_48 hl.1 (Nat.le_of_ble_eq_true rfl) (fun H locs hW hS hV => ?_)
    refine W.recount (wa_c hZ hz1_).1 (wa_c hZ hz1_).2 ?_
    have hZ := wa_z hZ hz1_ hq_
    refine z_astore_n (lv' := [(1, wc_rf h r12), (2, .int z8), (0, .ref (h + 297))]) hx hb dX3_term_51 rfl hl (by decide) rfl (fun ls hl => ?_)
    refine lv_goto (tgt := 5) hx hb dX3_term_52 (by decide) ?_
    exact hag5 _ _ _ _ _ hE hW hS hV hZ (lv_sub hl [2, 0] rfl)
  have w_5 : ∀ (n : Nat) (u : CS) (x1 : Option Nat) (H : Heap) (locs : List Loc) (ls : Array Slot), fX3_term_5 N g n u x1 = some (V, u1) → wc_W D dA h u H → wc_S u → va_S (CA h) s.heap H locs → z0 ≤ wc_z u ∧ wc_z u ≤ wc_z u1 → lv_has ls 3 [(0, .ref (h + 297)), (1, wc_rf h x1)] → W p l e (pr_rm (d + 1) (wc_z u1 - z0)) s m args below meth c H locs (wc_z u - z0) (4 * (wc_z u - z0)) (MQX below (wc_Qx D dA h ((wc_vr h) V) u1) args s (wc_z u1 - z0) (4 * (wc_z u1 - z0)) (CA h)) (F0 m 5 ls []) := by
    intro n
    induction n with
    | zero =>
      intro u x1 H locs ls hE hW hS hV hZ hl
      cases (show (none : Option ((Option Nat ⊕ Nat) × CS)) = some (V, u1) from hE)
    | succ n ih =>
      intro u x1 H locs ls hE hW hS hV hZ hl
      rw [fX3_term_5] at hE
      refine lv_aload_n hx hb dX3_term_5 rfl (lv_at hl 0 rfl) ?_
      refine cg_X3_55_3 C hW (st_297 hS) dX3_term_6 ?_
      refine lv_bipush (v := (42 : Int32)) hx hb dX3_term_9 rfl ?_
      refine lv_icmp_eq (tgt := 32) hx hb dX3_term_11 (by decide) (fun c14 => ?_) (fun c14 => ?_)
      · have hE := z_t c14 hE
        exact w_32 (fX3_term_5 N g n) ih _ _ _ _ _ hE hW hS hV hZ (lv_sub hl [0, 1] rfl)
      · have hE := z_f c14 hE
        refine lv_aload_n hx hb dX3_term_14 rfl (lv_at hl 0 rfl) ?_
        refine cg_X3_55_3 C hW (st_297 hS) dX3_term_15 ?_
        refine lv_bipush (v := (47 : Int32)) hx hb dX3_term_18 rfl ?_
        refine lv_icmp_eq (tgt := 32) hx hb dX3_term_20 (by decide) (fun c15 => ?_) (fun c15 => ?_)
        · have hE := z_t c15 hE
          exact w_32 (fX3_term_5 N g n) ih _ _ _ _ _ hE hW hS hV hZ (lv_sub hl [0, 1] rfl)
        · have hE := z_f c15 hE
          refine lv_aload_n hx hb dX3_term_23 rfl (lv_at hl 0 rfl) ?_
          refine cg_X3_55_3 C hW (st_297 hS) dX3_term_24 ?_
          refine lv_bipush (v := (37 : Int32)) hx hb dX3_term_27 rfl ?_
          refine lv_icmp_ne (tgt := 55) hx hb dX3_term_29 (by decide) (fun c16 => ?_) (fun c16 => ?_)
          · have hE := z_f c16 hE
            refine z_aload_n hx hb dX3_term_55 rfl (lv_at hl 1 rfl) ?_
            cases hE
            exact wx_aret C hr hlocks hW hS hV rfl dX3_term_56
          · have hE := z_t c16 hE
            exact w_32 (fX3_term_5 N g n) ih _ _ _ _ _ hE hW hS hV hZ (lv_sub hl [0, 1] rfl)
  unfold fX3_term at hE
  refine lv_aload_n hx hb dX3_term_0 rfl (lv_at hl 0 rfl) ?_
  refine cxw_X3_101 (vf := (wc_vr h)) (wc_vrN h) C hlocks hnh hZ rfl rfl hW hS hV (st_297 hS) hE (rm := fun u_ => pr_rm d (wc_z u_ - wc_z u)) (fun V_ u_ hz_ hc => hg _ _ _ _ _ rfl hz_ hc) (fun _ => rfl) (fun _ => rfl) (fun _ => pr_rr) dX3_term_1 hl.1 (Nat.le_of_ble_eq_true rfl) (fun r17 u18 H locs hE hW hS hV hZ => ?_)
  refine z_astore_n (lv' := [(1, wc_rf h r17), (0, .ref (h + 297))]) hx hb dX3_term_4 rfl hl (by decide) rfl (fun ls hl => ?_)
  exact w_5 N _ _ _ _ _ hE hW hS hV hZ (lv_sub hl [1, 0] rfl)
set_option maxHeartbeats 4000000 in
set_option maxRecDepth 100000 in
theorem kX3_sum_open {l : Launch} {D : va_G} {dA : Nat → ClassId} {h N z0 : Nat} {u u1 : CS} {V : Option Nat ⊕ Nat} {d : Nat} {g : Nat → CS → Option ((Option Nat ⊕ Nat) × CS)} (hg : pr_hyp l D dA h d g) (hz0 : wc_z u = z0) (hz1 : wc_z u ≤ wc_z u1) (hE : fX3_sum N g u = some (V, u1)) : MetX l yX3_sum (ws_ yX3_sum cX3_sum 3 (some (.object "WoodState$Part"))) (pr_rm (d + 1) (wc_z u1 - z0)) (va_Pc [.ref (h + 297)] (wc_St D dA h u)) (wc_Qx D dA h ((wc_vr h) V) u1) (wc_z u1 - z0) (4 * (wc_z u1 - z0)) (CA h) := by
  refine wz_met (own := RX3) hz0 (by decide) rfl rfl rfl ?_
  intro p e s m args below meth c ls C hr hlocks hnh hW hS hV hl
  have hx := C.1.1
  have hb := C.1.2.1
  have hZ : z0 ≤ wc_z u ∧ wc_z u ≤ wc_z u1 := ⟨by omega, hz1⟩
  have w_23 : ∀ (ag5 : CS → Option Nat → Option ((Option Nat ⊕ Nat) × CS)) (hag5 : (∀ (u : CS) (x1 : Option Nat) (H : Heap) (locs : List Loc) (ls : Array Slot), ag5 u x1 = some (V, u1) → wc_W D dA h u H → wc_S u → va_S (CA h) s.heap H locs → z0 ≤ wc_z u ∧ wc_z u ≤ wc_z u1 → lv_has ls 3 [(0, .ref (h + 297)), (1, wc_rf h x1)] → W p l e (pr_rm (d + 1) (wc_z u1 - z0)) s m args below meth c H locs (wc_z u - z0) (4 * (wc_z u - z0)) (MQX below (wc_Qx D dA h ((wc_vr h) V) u1) args s (wc_z u1 - z0) (4 * (wc_z u1 - z0)) (CA h)) (F0 m 5 ls []))) (u : CS) (x1 : Option Nat) (H : Heap) (locs : List Loc) (ls : Array Slot), fX3_sum_23 N g ag5 u x1 = some (V, u1) → wc_W D dA h u H → wc_S u → va_S (CA h) s.heap H locs → z0 ≤ wc_z u ∧ wc_z u ≤ wc_z u1 → lv_has ls 3 [(0, .ref (h + 297)), (1, wc_rf h x1)] → W p l e (pr_rm (d + 1) (wc_z u1 - z0)) s m args below meth c H locs (wc_z u - z0) (4 * (wc_z u - z0)) (MQX below (wc_Qx D dA h ((wc_vr h) V) u1) args s (wc_z u1 - z0) (4 * (wc_z u1 - z0)) (CA h)) (F0 m 23 ls []) := by
    intro ag5 hag5 u x1 H locs ls hE hW hS hV hZ hl
    unfold fX3_sum_23 at hE
    refine lv_aload_n hx hb dX3_sum_23 rfl (lv_at hl 0 rfl) ?_
    refine cg_X3_55_3 C hW (st_297 hS) dX3_sum_24 ?_
    refine z_nmi hE (fun z8 hE => ?_)
    refine lv_istore_n (lv' := [(2, .int z8), (0, .ref (h + 297)), (1, wc_rf h x1)]) hx hb dX3_sum_27 rfl hl (by decide) (by cases x1 <;> rfl) (fun ls hl => ?_)
    refine lv_aload_n hx hb dX3_sum_28 rfl (lv_at hl 1 rfl) ?_
    refine cxe_X3_83 (vf := (wc_vr h)) (wc_vrN h) C hlocks hnh hZ rfl rfl hW hS hV (st_297 hS) hE (pr_r (Nat.le_of_ble_eq_true rfl) (Nat.le_of_ble_eq_true rfl)) dX3_sum_29 hl.1 (Nat.le_of_ble_eq_true rfl) (fun _ u9 H locs hE hW hS hV hZ => ?_)
    refine lv_aload_n hx hb dX3_sum_32 rfl (lv_at hl 1 rfl) ?_
    refine lv_iload_n hx hb dX3_sum_33 rfl (lv_at hl 0 rfl) ?_
    refine z_aload_n hx hb dX3_sum_34 rfl (lv_at hl 2 rfl) ?_
    refine lv_aload_n hx hb dX3_sum_35 rfl (lv_at hl 1 rfl) ?_
    refine cxw_X3_117 (vf := (wc_vr h)) (wc_vrN h) C hlocks hnh hZ rfl rfl hW hS hV (st_297 hS) hE (rm := fun u_ => pr_rm d (wc_z u_ - wc_z u9)) (fun V_ u_ hz_ hc => hg _ _ _ _ _ rfl hz_ hc) (fun _ => rfl) (fun _ => rfl) (fun _ => pr_rr) dX3_sum_36 hl.1 (by cases x1 <;> exact Nat.le_of_ble_eq_true rfl) (fun r10 u11 H locs hE hW hS hV hZ => ?_)
    obtain ⟨r12, u13, hc, hE⟩ := o_bd2_some hE
    obtain ⟨hz1_, hE⟩ := o_zl_some hE
    obtain ⟨hq_, hE⟩ := o_zc_some hE
    have hq_ : wc_z u13 ≤ wc_z u1 := hq_
    refine ca_X3_113 C hW hS hV (st_297 hS) (kX3_pair rfl hz1_ hc) rfl rfl (pr_r (Nat.le_of_ble_eq_true rfl) (Nat.le_of_ble_eq_true rfl)) (wa_r2 hZ hz1_ hq_) dX3_sum_39 hl.1 (Nat.le_of_ble_eq_true rfl) (fun H locs hW hS hV => ?_)
    refine W.recount (wa_c hZ hz1_).1 (wa_c hZ hz1_).2 ?_
    have hZ := wa_z hZ hz1_ hq_
    refine z_astore_n (lv' := [(1, wc_rf h r12), (2, .int z8), (0, .ref (h + 297))]) hx hb dX3_sum_42 rfl hl (by decide) rfl (fun ls hl => ?_)
    refine lv_goto (tgt := 5) hx hb dX3_sum_43 (by decide) ?_
    exact hag5 _ _ _ _ _ hE hW hS hV hZ (lv_sub hl [2, 0] rfl)
  have w_5 : ∀ (n : Nat) (u : CS) (x1 : Option Nat) (H : Heap) (locs : List Loc) (ls : Array Slot), fX3_sum_5 N g n u x1 = some (V, u1) → wc_W D dA h u H → wc_S u → va_S (CA h) s.heap H locs → z0 ≤ wc_z u ∧ wc_z u ≤ wc_z u1 → lv_has ls 3 [(0, .ref (h + 297)), (1, wc_rf h x1)] → W p l e (pr_rm (d + 1) (wc_z u1 - z0)) s m args below meth c H locs (wc_z u - z0) (4 * (wc_z u - z0)) (MQX below (wc_Qx D dA h ((wc_vr h) V) u1) args s (wc_z u1 - z0) (4 * (wc_z u1 - z0)) (CA h)) (F0 m 5 ls []) := by
    intro n
    induction n with
    | zero =>
      intro u x1 H locs ls hE hW hS hV hZ hl
      cases (show (none : Option ((Option Nat ⊕ Nat) × CS)) = some (V, u1) from hE)
    | succ n ih =>
      intro u x1 H locs ls hE hW hS hV hZ hl
      rw [fX3_sum_5] at hE
      refine lv_aload_n hx hb dX3_sum_5 rfl (lv_at hl 0 rfl) ?_
      refine cg_X3_55_3 C hW (st_297 hS) dX3_sum_6 ?_
      refine lv_bipush (v := (43 : Int32)) hx hb dX3_sum_9 rfl ?_
      refine lv_icmp_eq (tgt := 23) hx hb dX3_sum_11 (by decide) (fun c14 => ?_) (fun c14 => ?_)
      · have hE := z_t c14 hE
        exact w_23 (fX3_sum_5 N g n) ih _ _ _ _ _ hE hW hS hV hZ (lv_sub hl [0, 1] rfl)
      · have hE := z_f c14 hE
        refine lv_aload_n hx hb dX3_sum_14 rfl (lv_at hl 0 rfl) ?_
        refine cg_X3_55_3 C hW (st_297 hS) dX3_sum_15 ?_
        refine lv_bipush (v := (45 : Int32)) hx hb dX3_sum_18 rfl ?_
        refine lv_icmp_ne (tgt := 46) hx hb dX3_sum_20 (by decide) (fun c15 => ?_) (fun c15 => ?_)
        · have hE := z_f c15 hE
          refine z_aload_n hx hb dX3_sum_46 rfl (lv_at hl 1 rfl) ?_
          cases hE
          exact wx_aret C hr hlocks hW hS hV rfl dX3_sum_47
        · have hE := z_t c15 hE
          exact w_23 (fX3_sum_5 N g n) ih _ _ _ _ _ hE hW hS hV hZ (lv_sub hl [0, 1] rfl)
  unfold fX3_sum at hE
  refine lv_aload_n hx hb dX3_sum_0 rfl (lv_at hl 0 rfl) ?_
  refine cxw_X3_117 (vf := (wc_vr h)) (wc_vrN h) C hlocks hnh hZ rfl rfl hW hS hV (st_297 hS) hE (rm := fun u_ => pr_rm d (wc_z u_ - wc_z u)) (fun V_ u_ hz_ hc => hg _ _ _ _ _ rfl hz_ hc) (fun _ => rfl) (fun _ => rfl) (fun _ => pr_rr) dX3_sum_1 hl.1 (Nat.le_of_ble_eq_true rfl) (fun r16 u17 H locs hE hW hS hV hZ => ?_)
  refine z_astore_n (lv' := [(1, wc_rf h r16), (0, .ref (h + 297))]) hx hb dX3_sum_4 rfl hl (by decide) rfl (fun ls hl => ?_)
  exact w_5 N _ _ _ _ _ hE hW hS hV hZ (lv_sub hl [1, 0] rfl)
set_option maxHeartbeats 4000000 in
set_option maxRecDepth 100000 in
theorem kX3_not_open {l : Launch} {D : va_G} {dA : Nat → ClassId} {h N z0 : Nat} {u u1 : CS} {V : Option Nat ⊕ Nat} {d : Nat} {g : Nat → CS → Option ((Option Nat ⊕ Nat) × CS)} (hg : pr_hyp l D dA h d g) (hz0 : wc_z u = z0) (hz1 : wc_z u ≤ wc_z u1) (hE : fX3_not N g u = some (V, u1)) : MetX l yX3_not (ws_ yX3_not cX3_not 3 (some (.object "WoodState$Part"))) (pr_rm (d + 1) (wc_z u1 - z0)) (va_Pc [.ref (h + 297)] (wc_St D dA h u)) (wc_Qx D dA h ((wc_vr h) V) u1) (wc_z u1 - z0) (4 * (wc_z u1 - z0)) (CA h) := by
  refine wz_met (own := RX3) hz0 (by decide) rfl rfl rfl ?_
  intro p e s m args below meth c ls C hr hlocks hnh hW hS hV hl
  have hx := C.1.1
  have hb := C.1.2.1
  have hZ : z0 ≤ wc_z u ∧ wc_z u ≤ wc_z u1 := ⟨by omega, hz1⟩
  have w_102 : ∀ (u : CS) (x1 : Option Nat) (H : Heap) (locs : List Loc) (ls : Array Slot), fX3_not_102 N g u x1 = some (V, u1) → wc_W D dA h u H → wc_S u → va_S (CA h) s.heap H locs → z0 ≤ wc_z u ∧ wc_z u ≤ wc_z u1 → lv_has ls 3 [(1, wc_rf h x1)] → W p l e (pr_rm (d + 1) (wc_z u1 - z0)) s m args below meth c H locs (wc_z u - z0) (4 * (wc_z u - z0)) (MQX below (wc_Qx D dA h ((wc_vr h) V) u1) args s (wc_z u1 - z0) (4 * (wc_z u1 - z0)) (CA h)) (F0 m 102 ls []) := by
    intro u x1 H locs ls hE hW hS hV hZ hl
    unfold fX3_not_102 at hE
    refine z_aload_n hx hb dX3_not_102 rfl (lv_at hl 0 rfl) ?_
    cases hE
    exact wx_aret C hr hlocks hW hS hV rfl dX3_not_103
  have w_82 : ∀ (u : CS) (x1 : Option Nat) (H : Heap) (locs : List Loc) (ls : Array Slot), fX3_not_82 N g u x1 = some (V, u1) → wc_W D dA h u H → wc_S u → va_S (CA h) s.heap H locs → z0 ≤ wc_z u ∧ wc_z u ≤ wc_z u1 → lv_has ls 3 [(0, .ref (h + 297)), (1, wc_rf h x1)] → W p l e (pr_rm (d + 1) (wc_z u1 - z0)) s m args below meth c H locs (wc_z u - z0) (4 * (wc_z u - z0)) (MQX below (wc_Qx D dA h ((wc_vr h) V) u1) args s (wc_z u1 - z0) (4 * (wc_z u1 - z0)) (CA h)) (F0 m 82 ls []) := by
    intro u x1 H locs ls hE hW hS hV hZ hl
    unfold fX3_not_82 at hE
    refine lv_aload_n hx hb dX3_not_82 rfl (lv_at hl 0 rfl) ?_
    refine cg_X3_55_3 C hW (st_297 hS) dX3_not_83 ?_
    refine z_nmi hE (fun z16 hE => ?_)
    refine lv_istore_n (lv' := [(2, .int z16), (0, .ref (h + 297)), (1, wc_rf h x1)]) hx hb dX3_not_86 rfl hl (by decide) (by cases x1 <;> rfl) (fun ls hl => ?_)
    refine lv_aload_n hx hb dX3_not_87 rfl (lv_at hl 1 rfl) ?_
    refine cxe_X3_83 (vf := (wc_vr h)) (wc_vrN h) C hlocks hnh hZ rfl rfl hW hS hV (st_297 hS) hE (pr_r (Nat.le_of_ble_eq_true rfl) (Nat.le_of_ble_eq_true rfl)) dX3_not_88 hl.1 (Nat.le_of_ble_eq_true rfl) (fun _ u17 H locs hE hW hS hV hZ => ?_)
    refine lv_aload_n hx hb dX3_not_91 rfl (lv_at hl 1 rfl) ?_
    refine lv_iload_n hx hb dX3_not_92 rfl (lv_at hl 0 rfl) ?_
    refine z_aload_n hx hb dX3_not_93 rfl (lv_at hl 2 rfl) ?_
    refine lv_aload_n hx hb dX3_not_94 rfl (lv_at hl 1 rfl) ?_
    refine cxw_X3_129 (vf := (wc_vr h)) (wc_vrN h) C hlocks hnh hZ rfl rfl hW hS hV (st_297 hS) hE (rm := fun u_ => pr_rm d (wc_z u_ - wc_z u17)) (fun V_ u_ hz_ hc => hg _ _ _ _ _ rfl hz_ hc) (fun _ => rfl) (fun _ => rfl) (fun _ => pr_rr) dX3_not_95 hl.1 (by cases x1 <;> exact Nat.le_of_ble_eq_true rfl) (fun r18 u19 H locs hE hW hS hV hZ => ?_)
    obtain ⟨r20, u21, hc, hE⟩ := o_bd2_some hE
    obtain ⟨hz1_, hE⟩ := o_zl_some hE
    obtain ⟨hq_, hE⟩ := o_zc_some hE
    have hq_ : wc_z u21 ≤ wc_z u1 := hq_
    refine ca_X3_113 C hW hS hV (st_297 hS) (kX3_pair rfl hz1_ hc) rfl rfl (pr_r (Nat.le_of_ble_eq_true rfl) (Nat.le_of_ble_eq_true rfl)) (wa_r2 hZ hz1_ hq_) dX3_not_98 hl.1 (Nat.le_of_ble_eq_true rfl) (fun H locs hW hS hV => ?_)
    refine W.recount (wa_c hZ hz1_).1 (wa_c hZ hz1_).2 ?_
    have hZ := wa_z hZ hz1_ hq_
    refine z_astore_n (lv' := [(1, wc_rf h r20), (2, .int z16), (0, .ref (h + 297))]) hx hb dX3_not_101 rfl hl (by decide) rfl (fun ls hl => ?_)
    exact w_102 _ _ _ _ _ hE hW hS hV hZ (lv_sub hl [0] rfl)
  have w_37 : ∀ (u : CS) (y0 : Option Nat) (H : Heap) (locs : List Loc) (ls : Array Slot), fX3_not_37 N g u y0 = some (V, u1) → wc_W D dA h u H → wc_S u → va_S (CA h) s.heap H locs → z0 ≤ wc_z u ∧ wc_z u ≤ wc_z u1 → lv_has ls 3 [(0, .ref (h + 297))] → W p l e (pr_rm (d + 1) (wc_z u1 - z0)) s m args below meth c H locs (wc_z u - z0) (4 * (wc_z u - z0)) (MQX below (wc_Qx D dA h ((wc_vr h) V) u1) args s (wc_z u1 - z0) (4 * (wc_z u1 - z0)) (CA h)) (F0 m 37 ls [wc_rf h y0]) := by
    intro u y0 H locs ls hE hW hS hV hZ hl
    unfold fX3_not_37 at hE
    refine z_astore_n (lv' := [(1, wc_rf h y0), (0, .ref (h + 297))]) hx hb dX3_not_37 rfl hl (by decide) rfl (fun ls hl => ?_)
    refine lv_aload_n hx hb dX3_not_38 rfl (lv_at hl 1 rfl) ?_
    refine lv_dup hx hb dX3_not_39 rfl ?_
    refine cg_X3_80_3 C hW (st_297 hS) dX3_not_40 ?_
    refine lv_iconst (v := (1 : Int32)) hx hb dX3_not_43 rfl ?_
    refine lv_isub hx hb dX3_not_44 ?_
    refine cp_X3_80_3 (J := wa_J u) C hW hV (st_297 hS) ⟨hS.uI, rfl⟩ hE dX3_not_45 (fun u22 H locs hE hW hS hV => ?_)
    obtain ⟨hS, hz_⟩ := hS
    rw [← hz_] at hZ ⊢
    refine z_aload_n hx hb dX3_not_48 rfl (lv_at hl 0 rfl) ?_
    cases hE
    exact wx_aret C hr hlocks hW hS hV rfl dX3_not_49
  unfold fX3_not at hE
  refine lv_aload_n hx hb dX3_not_0 rfl (lv_at hl 0 rfl) ?_
  refine lv_bipush (v := (21 : Int32)) hx hb dX3_not_1 rfl ?_
  obtain ⟨r23, u24, hc, hE⟩ := o_bd2_some hE
  refine cc_X3_120 C hW hS hV (st_297 hS) (kX3_isWordNext hc) rfl rfl (pr_r (Nat.le_of_ble_eq_true rfl) (Nat.le_of_ble_eq_true rfl)) (wa_r0 hZ) dX3_not_3 hl.1 (Nat.le_of_ble_eq_true rfl) (fun H locs hW hS hV => ?_)
  obtain ⟨hz_, hE⟩ := o_ze_some hE
  rw [← hz_] at hZ ⊢
  refine lv_if_eq (tgt := 50) hx hb dX3_not_6 (by decide) (fun c25 => ?_) (fun c25 => ?_)
  · have hE := z_t c25 hE
    refine lv_aload_n hx hb dX3_not_50 rfl (lv_at hl 0 rfl) ?_
    refine cxw_X3_129 (vf := (wc_vr h)) (wc_vrN h) C hlocks hnh hZ rfl rfl hW hS hV (st_297 hS) hE (rm := fun u_ => pr_rm d (wc_z u_ - wc_z u24)) (fun V_ u_ hz_ hc => hg _ _ _ _ _ rfl hz_ hc) (fun _ => rfl) (fun _ => rfl) (fun _ => pr_rr) dX3_not_51 hl.1 (Nat.le_of_ble_eq_true rfl) (fun r26 u27 H locs hE hW hS hV hZ => ?_)
    refine z_astore_n (lv' := [(1, wc_rf h r26), (0, .ref (h + 297))]) hx hb dX3_not_54 rfl hl (by decide) rfl (fun ls hl => ?_)
    refine lv_aload_n hx hb dX3_not_55 rfl (lv_at hl 1 rfl) ?_
    refine cg_X3_55_3 C hW (st_297 hS) dX3_not_56 ?_
    refine lv_bipush (v := (61 : Int32)) hx hb dX3_not_59 rfl ?_
    refine lv_icmp_eq (tgt := 82) hx hb dX3_not_61 (by decide) (fun c28 => ?_) (fun c28 => ?_)
    · have hE := z_t c28 hE
      exact w_82 _ _ _ _ _ hE hW hS hV hZ (lv_sub hl [1, 0] rfl)
    · have hE := z_f c28 hE
      refine lv_aload_n hx hb dX3_not_64 rfl (lv_at hl 1 rfl) ?_
      refine cg_X3_55_3 C hW (st_297 hS) dX3_not_65 ?_
      refine lv_bipush (v := (60 : Int32)) hx hb dX3_not_68 rfl ?_
      refine lv_icmp_eq (tgt := 82) hx hb dX3_not_70 (by decide) (fun c29 => ?_) (fun c29 => ?_)
      · have hE := z_t c29 hE
        exact w_82 _ _ _ _ _ hE hW hS hV hZ (lv_sub hl [1, 0] rfl)
      · have hE := z_f c29 hE
        refine lv_aload_n hx hb dX3_not_73 rfl (lv_at hl 1 rfl) ?_
        refine cg_X3_55_3 C hW (st_297 hS) dX3_not_74 ?_
        refine lv_bipush (v := (62 : Int32)) hx hb dX3_not_77 rfl ?_
        refine lv_icmp_ne (tgt := 102) hx hb dX3_not_79 (by decide) (fun c30 => ?_) (fun c30 => ?_)
        · have hE := z_f c30 hE
          exact w_102 _ _ _ _ _ hE hW hS hV hZ (lv_sub hl [0] rfl)
        · have hE := z_t c30 hE
          exact w_82 _ _ _ _ _ hE hW hS hV hZ (lv_sub hl [1, 0] rfl)
  · have hE := z_f c25 hE
    refine lv_aload_n hx hb dX3_not_9 rfl (lv_at hl 0 rfl) ?_
    refine cxe_X3_98 (vf := (wc_vr h)) (wc_vrN h) C hlocks hnh hZ rfl rfl hW hS hV (st_297 hS) hE (pr_r (Nat.le_of_ble_eq_true rfl) (Nat.le_of_ble_eq_true rfl)) dX3_not_10 hl.1 (Nat.le_of_ble_eq_true rfl) (fun _ u31 H locs hE hW hS hV hZ => ?_)
    refine lv_aload_n hx hb dX3_not_13 rfl (lv_at hl 0 rfl) ?_
    refine cxw_X3_123 (vf := (wc_vr h)) (wc_vrN h) C hlocks hnh hZ rfl rfl hW hS hV (st_297 hS) hE (rm := fun u_ => pr_rm d (wc_z u_ - wc_z u31)) (fun V_ u_ hz_ hc => hg _ _ _ _ _ rfl hz_ hc) (fun _ => rfl) (fun _ => rfl) (fun _ => pr_rr) dX3_not_14 hl.1 (Nat.le_of_ble_eq_true rfl) (fun r32 u33 H locs hE hW hS hV hZ => ?_)
    refine z_astore_n (lv' := [(1, wc_rf h r32), (0, .ref (h + 297))]) hx hb dX3_not_17 rfl hl (by decide) rfl (fun ls hl => ?_)
    refine lv_aload_n hx hb dX3_not_18 rfl (lv_at hl 1 rfl) ?_
    refine cg_X3_86_3 C hW (st_297 hS) dX3_not_19 ?_
    refine lv_if_eq (tgt := 29) hx hb dX3_not_22 (by decide) (fun c34 => ?_) (fun c34 => ?_)
    · have hE := z_t c34 hE
      obtain ⟨hq_, hE⟩ := o_zc_some hE
      have hq_ : wc_z u33 + 1 ≤ wc_z u1 := hq_
      refine wa_newE (ci := 11) (Cn := RX11) (T := TX11) (N := 1) (ty := tyX11) C hW hS hV hZ hq_ rfl rfl (by decide) hE rfl rfl in_X11 tyX11_ok (fun j hj => by rcases (show j = 0 by omega) with rfl <;> rfl) q1079 q1080 q183 dX3_not_29 (fun u35 H hE hW hS hZ hV => ?_)
      refine lv_dup hx hb dX3_not_32 rfl ?_
      refine z_aload_n hx hb dX3_not_33 rfl (lv_at hl 0 rfl) ?_
      obtain ⟨u36, hc, hE⟩ := o_bd_some hE
      refine ci_X3_128 C hW hS hV (kX11_init hc) rfl rfl (pr_r (Nat.le_of_ble_eq_true rfl) (Nat.le_of_ble_eq_true rfl)) (wa_r0 hZ) dX3_not_34 hl.1 (Nat.le_of_ble_eq_true rfl) (fun H locs hW hS hV => ?_)
      obtain ⟨hz_, hE⟩ := o_ze_some hE
      rw [← hz_] at hZ ⊢
      exact w_37 _ _ _ _ _ hE hW hS hV hZ (lv_sub hl [1] rfl)
    · have hE := z_f c34 hE
      refine lv_null hx hb dX3_not_25 ?_
      refine lv_goto (tgt := 37) hx hb dX3_not_26 (by decide) ?_
      exact w_37 _ _ _ _ _ hE hW hS hV hZ (lv_sub hl [1] rfl)
set_option maxHeartbeats 4000000 in
set_option maxRecDepth 100000 in
theorem kX3_both_open {l : Launch} {D : va_G} {dA : Nat → ClassId} {h N z0 : Nat} {u u1 : CS} {V : Option Nat ⊕ Nat} {d : Nat} {g : Nat → CS → Option ((Option Nat ⊕ Nat) × CS)} (hg : pr_hyp l D dA h d g) (hz0 : wc_z u = z0) (hz1 : wc_z u ≤ wc_z u1) (hE : fX3_both N g u = some (V, u1)) : MetX l yX3_both (ws_ yX3_both cX3_both 2 (some (.object "WoodState$Part"))) (pr_rm (d + 1) (wc_z u1 - z0)) (va_Pc [.ref (h + 297)] (wc_St D dA h u)) (wc_Qx D dA h ((wc_vr h) V) u1) (wc_z u1 - z0) (4 * (wc_z u1 - z0)) (CA h) := by
  refine wz_met (own := RX3) hz0 (by decide) rfl rfl rfl ?_
  intro p e s m args below meth c ls C hr hlocks hnh hW hS hV hl
  have hx := C.1.1
  have hb := C.1.2.1
  have hZ : z0 ≤ wc_z u ∧ wc_z u ≤ wc_z u1 := ⟨by omega, hz1⟩
  have w_5 : ∀ (n : Nat) (u : CS) (x1 : Option Nat) (H : Heap) (locs : List Loc) (ls : Array Slot), fX3_both_5 N g n u x1 = some (V, u1) → wc_W D dA h u H → wc_S u → va_S (CA h) s.heap H locs → z0 ≤ wc_z u ∧ wc_z u ≤ wc_z u1 → lv_has ls 2 [(0, .ref (h + 297)), (1, wc_rf h x1)] → W p l e (pr_rm (d + 1) (wc_z u1 - z0)) s m args below meth c H locs (wc_z u - z0) (4 * (wc_z u - z0)) (MQX below (wc_Qx D dA h ((wc_vr h) V) u1) args s (wc_z u1 - z0) (4 * (wc_z u1 - z0)) (CA h)) (F0 m 5 ls []) := by
    intro n
    induction n with
    | zero =>
      intro u x1 H locs ls hE hW hS hV hZ hl
      cases (show (none : Option ((Option Nat ⊕ Nat) × CS)) = some (V, u1) from hE)
    | succ n ih =>
      intro u x1 H locs ls hE hW hS hV hZ hl
      rw [fX3_both_5] at hE
      refine lv_aload_n hx hb dX3_both_5 rfl (lv_at hl 0 rfl) ?_
      refine lv_bipush (v := (20 : Int32)) hx hb dX3_both_6 rfl ?_
      obtain ⟨r10, u11, hc, hE⟩ := o_bd2_some hE
      refine cc_X3_120 C hW hS hV (st_297 hS) (kX3_isWordNext hc) rfl rfl (pr_r (Nat.le_of_ble_eq_true rfl) (Nat.le_of_ble_eq_true rfl)) (wa_r0 hZ) dX3_both_8 hl.1 (Nat.le_of_ble_eq_true rfl) (fun H locs hW hS hV => ?_)
      obtain ⟨hz_, hE⟩ := o_ze_some hE
      rw [← hz_] at hZ ⊢
      refine lv_if_eq (tgt := 33) hx hb dX3_both_11 (by decide) (fun c12 => ?_) (fun c12 => ?_)
      · have hE := z_t c12 hE
        refine z_aload_n hx hb dX3_both_33 rfl (lv_at hl 1 rfl) ?_
        cases hE
        exact wx_aret C hr hlocks hW hS hV rfl dX3_both_34
      · have hE := z_f c12 hE
        refine lv_aload_n hx hb dX3_both_14 rfl (lv_at hl 0 rfl) ?_
        refine cxe_X3_83 (vf := (wc_vr h)) (wc_vrN h) C hlocks hnh hZ rfl rfl hW hS hV (st_297 hS) hE (pr_r (Nat.le_of_ble_eq_true rfl) (Nat.le_of_ble_eq_true rfl)) dX3_both_15 hl.1 (Nat.le_of_ble_eq_true rfl) (fun _ u13 H locs hE hW hS hV hZ => ?_)
        refine lv_aload_n hx hb dX3_both_18 rfl (lv_at hl 0 rfl) ?_
        refine lv_bipush (v := (38 : Int32)) hx hb dX3_both_19 rfl ?_
        refine z_aload_n hx hb dX3_both_21 rfl (lv_at hl 1 rfl) ?_
        refine lv_aload_n hx hb dX3_both_22 rfl (lv_at hl 0 rfl) ?_
        refine cxw_X3_123 (vf := (wc_vr h)) (wc_vrN h) C hlocks hnh hZ rfl rfl hW hS hV (st_297 hS) hE (rm := fun u_ => pr_rm d (wc_z u_ - wc_z u13)) (fun V_ u_ hz_ hc => hg _ _ _ _ _ rfl hz_ hc) (fun _ => rfl) (fun _ => rfl) (fun _ => pr_rr) dX3_both_23 hl.1 (by cases x1 <;> exact Nat.le_of_ble_eq_true rfl) (fun r14 u15 H locs hE hW hS hV hZ => ?_)
        obtain ⟨r16, u17, hc, hE⟩ := o_bd2_some hE
        obtain ⟨hz1_, hE⟩ := o_zl_some hE
        obtain ⟨hq_, hE⟩ := o_zc_some hE
        have hq_ : wc_z u17 ≤ wc_z u1 := hq_
        refine ca_X3_113 C hW hS hV (st_297 hS) (kX3_pair rfl hz1_ hc) rfl rfl (pr_r (Nat.le_of_ble_eq_true rfl) (Nat.le_of_ble_eq_true rfl)) (wa_r2 hZ hz1_ hq_) dX3_both_26 hl.1 (Nat.le_of_ble_eq_true rfl) (fun H locs hW hS hV => ?_)
        refine W.recount (wa_c hZ hz1_).1 (wa_c hZ hz1_).2 ?_
        have hZ := wa_z hZ hz1_ hq_
        refine z_astore_n (lv' := [(1, wc_rf h r16), (0, .ref (h + 297))]) hx hb dX3_both_29 rfl hl (by decide) rfl (fun ls hl => ?_)
        refine lv_goto (tgt := 5) hx hb dX3_both_30 (by decide) ?_
        exact ih _ _ _ _ _ hE hW hS hV hZ (lv_sub hl [1, 0] rfl)
  unfold fX3_both at hE
  refine lv_aload_n hx hb dX3_both_0 rfl (lv_at hl 0 rfl) ?_
  refine cxw_X3_123 (vf := (wc_vr h)) (wc_vrN h) C hlocks hnh hZ rfl rfl hW hS hV (st_297 hS) hE (rm := fun u_ => pr_rm d (wc_z u_ - wc_z u)) (fun V_ u_ hz_ hc => hg _ _ _ _ _ rfl hz_ hc) (fun _ => rfl) (fun _ => rfl) (fun _ => pr_rr) dX3_both_1 hl.1 (Nat.le_of_ble_eq_true rfl) (fun r18 u19 H locs hE hW hS hV hZ => ?_)
  refine z_astore_n (lv' := [(1, wc_rf h r18), (0, .ref (h + 297))]) hx hb dX3_both_4 rfl hl (by decide) rfl (fun ls hl => ?_)
  exact w_5 N _ _ _ _ _ hE hW hS hV hZ (lv_sub hl [1, 0] rfl)
set_option maxHeartbeats 4000000 in
set_option maxRecDepth 100000 in
theorem kX3_all_open {l : Launch} {D : va_G} {dA : Nat → ClassId} {h N z0 : Nat} {u u1 : CS} {V : Option Nat ⊕ Nat} {d : Nat} {g : Nat → CS → Option ((Option Nat ⊕ Nat) × CS)} (hg : pr_hyp l D dA h d g) (hz0 : wc_z u = z0) (hz1 : wc_z u ≤ wc_z u1) (hE : fX3_all N g u = some (V, u1)) : MetX l yX3_all (ws_ yX3_all cX3_all 2 (some (.object "WoodState$Part"))) (pr_rm (d + 1) (wc_z u1 - z0)) (va_Pc [.ref (h + 297)] (wc_St D dA h u)) (wc_Qx D dA h ((wc_vr h) V) u1) (wc_z u1 - z0) (4 * (wc_z u1 - z0)) (CA h) := by
  refine wz_met (own := RX3) hz0 (by decide) rfl rfl rfl ?_
  intro p e s m args below meth c ls C hr hlocks hnh hW hS hV hl
  have hx := C.1.1
  have hb := C.1.2.1
  have hZ : z0 ≤ wc_z u ∧ wc_z u ≤ wc_z u1 := ⟨by omega, hz1⟩
  have w_5 : ∀ (n : Nat) (u : CS) (x1 : Option Nat) (H : Heap) (locs : List Loc) (ls : Array Slot), fX3_all_5 N g n u x1 = some (V, u1) → wc_W D dA h u H → wc_S u → va_S (CA h) s.heap H locs → z0 ≤ wc_z u ∧ wc_z u ≤ wc_z u1 → lv_has ls 2 [(0, .ref (h + 297)), (1, wc_rf h x1)] → W p l e (pr_rm (d + 1) (wc_z u1 - z0)) s m args below meth c H locs (wc_z u - z0) (4 * (wc_z u - z0)) (MQX below (wc_Qx D dA h ((wc_vr h) V) u1) args s (wc_z u1 - z0) (4 * (wc_z u1 - z0)) (CA h)) (F0 m 5 ls []) := by
    intro n
    induction n with
    | zero =>
      intro u x1 H locs ls hE hW hS hV hZ hl
      cases (show (none : Option ((Option Nat ⊕ Nat) × CS)) = some (V, u1) from hE)
    | succ n ih =>
      intro u x1 H locs ls hE hW hS hV hZ hl
      rw [fX3_all_5] at hE
      refine lv_aload_n hx hb dX3_all_5 rfl (lv_at hl 0 rfl) ?_
      refine lv_bipush (v := (19 : Int32)) hx hb dX3_all_6 rfl ?_
      obtain ⟨r10, u11, hc, hE⟩ := o_bd2_some hE
      refine cc_X3_120 C hW hS hV (st_297 hS) (kX3_isWordNext hc) rfl rfl (pr_r (Nat.le_of_ble_eq_true rfl) (Nat.le_of_ble_eq_true rfl)) (wa_r0 hZ) dX3_all_8 hl.1 (Nat.le_of_ble_eq_true rfl) (fun H locs hW hS hV => ?_)
      obtain ⟨hz_, hE⟩ := o_ze_some hE
      rw [← hz_] at hZ ⊢
      refine lv_if_eq (tgt := 33) hx hb dX3_all_11 (by decide) (fun c12 => ?_) (fun c12 => ?_)
      · have hE := z_t c12 hE
        refine z_aload_n hx hb dX3_all_33 rfl (lv_at hl 1 rfl) ?_
        cases hE
        exact wx_aret C hr hlocks hW hS hV rfl dX3_all_34
      · have hE := z_f c12 hE
        refine lv_aload_n hx hb dX3_all_14 rfl (lv_at hl 0 rfl) ?_
        refine cxe_X3_83 (vf := (wc_vr h)) (wc_vrN h) C hlocks hnh hZ rfl rfl hW hS hV (st_297 hS) hE (pr_r (Nat.le_of_ble_eq_true rfl) (Nat.le_of_ble_eq_true rfl)) dX3_all_15 hl.1 (Nat.le_of_ble_eq_true rfl) (fun _ u13 H locs hE hW hS hV hZ => ?_)
        refine lv_aload_n hx hb dX3_all_18 rfl (lv_at hl 0 rfl) ?_
        refine lv_bipush (v := (124 : Int32)) hx hb dX3_all_19 rfl ?_
        refine z_aload_n hx hb dX3_all_21 rfl (lv_at hl 1 rfl) ?_
        refine lv_aload_n hx hb dX3_all_22 rfl (lv_at hl 0 rfl) ?_
        refine cxw_X3_132 (vf := (wc_vr h)) (wc_vrN h) C hlocks hnh hZ rfl rfl hW hS hV (st_297 hS) hE (rm := fun u_ => pr_rm d (wc_z u_ - wc_z u13)) (fun V_ u_ hz_ hc => hg _ _ _ _ _ rfl hz_ hc) (fun _ => rfl) (fun _ => rfl) (fun _ => pr_rr) dX3_all_23 hl.1 (by cases x1 <;> exact Nat.le_of_ble_eq_true rfl) (fun r14 u15 H locs hE hW hS hV hZ => ?_)
        obtain ⟨r16, u17, hc, hE⟩ := o_bd2_some hE
        obtain ⟨hz1_, hE⟩ := o_zl_some hE
        obtain ⟨hq_, hE⟩ := o_zc_some hE
        have hq_ : wc_z u17 ≤ wc_z u1 := hq_
        refine ca_X3_113 C hW hS hV (st_297 hS) (kX3_pair rfl hz1_ hc) rfl rfl (pr_r (Nat.le_of_ble_eq_true rfl) (Nat.le_of_ble_eq_true rfl)) (wa_r2 hZ hz1_ hq_) dX3_all_26 hl.1 (Nat.le_of_ble_eq_true rfl) (fun H locs hW hS hV => ?_)
        refine W.recount (wa_c hZ hz1_).1 (wa_c hZ hz1_).2 ?_
        have hZ := wa_z hZ hz1_ hq_
        refine z_astore_n (lv' := [(1, wc_rf h r16), (0, .ref (h + 297))]) hx hb dX3_all_29 rfl hl (by decide) rfl (fun ls hl => ?_)
        refine lv_goto (tgt := 5) hx hb dX3_all_30 (by decide) ?_
        exact ih _ _ _ _ _ hE hW hS hV hZ (lv_sub hl [1, 0] rfl)
  unfold fX3_all at hE
  refine lv_aload_n hx hb dX3_all_0 rfl (lv_at hl 0 rfl) ?_
  refine cxw_X3_132 (vf := (wc_vr h)) (wc_vrN h) C hlocks hnh hZ rfl rfl hW hS hV (st_297 hS) hE (rm := fun u_ => pr_rm d (wc_z u_ - wc_z u)) (fun V_ u_ hz_ hc => hg _ _ _ _ _ rfl hz_ hc) (fun _ => rfl) (fun _ => rfl) (fun _ => pr_rr) dX3_all_1 hl.1 (Nat.le_of_ble_eq_true rfl) (fun r18 u19 H locs hE hW hS hV hZ => ?_)
  refine z_astore_n (lv' := [(1, wc_rf h r18), (0, .ref (h + 297))]) hx hb dX3_all_4 rfl hl (by decide) rfl (fun ls hl => ?_)
  exact w_5 N _ _ _ _ _ hE hW hS hV hZ (lv_sub hl [1, 0] rfl)
set_option maxHeartbeats 1000000 in
theorem pr_all {l : Launch} {D : va_G} {dA : Nat → ClassId} {h N : Nat} : ∀ d : Nat, pr_hyp l D dA h d (rqX N d)
  | 0 => fun w u u1 V z0 _ _ hE => by cases (show (none : Option ((Option Nat ⊕ Nat) × CS)) = some (V, u1) from hE)
  | d + 1 => fun w u u1 V z0 hz0 hz1 hE => match w, hE with
    | 0, hE => kX3_one_open (N := N) (pr_all d) hz0 hz1 hE
    | 1, hE => kX3_term_open (N := N) (pr_all d) hz0 hz1 hE
    | 2, hE => kX3_sum_open (N := N) (pr_all d) hz0 hz1 hE
    | 3, hE => kX3_not_open (N := N) (pr_all d) hz0 hz1 hE
    | 4, hE => kX3_both_open (N := N) (pr_all d) hz0 hz1 hE
    | _ + 5, hE => kX3_all_open (N := N) (pr_all d) hz0 hz1 hE
set_option maxHeartbeats 4000000 in
set_option maxRecDepth 100000 in
theorem kX3_readKey {l : Launch} {D : va_G} {dA : Nat → ClassId} {h N z0 : Nat} {a1 : Nat} {u u1 : CS} {V : Unit ⊕ Nat} (hz0 : wc_z u = z0) (hz1 : wc_z u ≤ wc_z u1) (hE : fX3_readKey N u a1 = some (V, u1)) : MetX l yX3_readKey (ws_ yX3_readKey cX3_readKey 2 none) ({ frames := 85, cells := wc_z u1 - z0, slots := 4 * (wc_z u1 - z0), locals := 2682 }) (va_Pc [.ref (h + 297), .ref (h + a1)] (wc_St D dA h u)) (wc_Qx D dA h (wc_vv V) u1) (wc_z u1 - z0) (4 * (wc_z u1 - z0)) (CA h) := by
  refine wz_met (own := RX3) hz0 (by decide) rfl rfl rfl ?_
  intro p e s m args below meth c ls C hr hlocks hnh hW hS hV hl
  have hx := C.1.1
  have hb := C.1.2.1
  have hZ : z0 ≤ wc_z u ∧ wc_z u ≤ wc_z u1 := ⟨by omega, hz1⟩
  have w_18 : ∀ (u : CS) (H : Heap) (locs : List Loc) (ls : Array Slot), fX3_readKey_18 N u = some (V, u1) → wc_W D dA h u H → wc_S u → va_S (CA h) s.heap H locs → z0 ≤ wc_z u ∧ wc_z u ≤ wc_z u1 → lv_has ls 2 [(0, .ref (h + 297))] → W p l e ({ frames := 85, cells := wc_z u1 - z0, slots := 4 * (wc_z u1 - z0), locals := 2682 }) s m args below meth c H locs (wc_z u - z0) (4 * (wc_z u - z0)) (MQX below (wc_Qx D dA h (wc_vv V) u1) args s (wc_z u1 - z0) (4 * (wc_z u1 - z0)) (CA h)) (F0 m 18 ls []) := by
    intro u H locs ls hE hW hS hV hZ hl
    unfold fX3_readKey_18 at hE
    refine lv_aload_n hx hb dX3_readKey_18 rfl (lv_at hl 0 rfl) ?_
    obtain ⟨r14, u15, hc, hE⟩ := o_bd2_some hE
    refine cc_X3_49 C hW hS hV (st_297 hS) (kX3_fault hc) rfl rfl ⟨Nat.le_of_ble_eq_true rfl, Nat.le_of_ble_eq_true rfl⟩ (wa_r0 hZ) dX3_readKey_19 hl.1 (Nat.le_of_ble_eq_true rfl) (fun H locs hW hS hV => ?_)
    obtain ⟨hz_, hE⟩ := o_ze_some hE
    rw [← hz_] at hZ ⊢
    obtain ⟨n16, hp_, hE_⟩ := o_nn_some hE
    clear hE
    subst hp_
    have hE := hE_
    cases hE
    exact wx_throwV (vf := wc_vv) wc_vvN C hlocks hnh hW hS hV rfl dX3_readKey_22
  have w_64 : ∀ (u : CS) (H : Heap) (locs : List Loc) (ls : Array Slot), fX3_readKey_64 N u = some (V, u1) → wc_W D dA h u H → wc_S u → va_S (CA h) s.heap H locs → z0 ≤ wc_z u ∧ wc_z u ≤ wc_z u1 → lv_has ls 2 [] → W p l e ({ frames := 85, cells := wc_z u1 - z0, slots := 4 * (wc_z u1 - z0), locals := 2682 }) s m args below meth c H locs (wc_z u - z0) (4 * (wc_z u - z0)) (MQX below (wc_Qx D dA h (wc_vv V) u1) args s (wc_z u1 - z0) (4 * (wc_z u1 - z0)) (CA h)) (F0 m 64 ls []) := by
    intro u H locs ls hE hW hS hV hZ hl
    unfold fX3_readKey_64 at hE
    cases hE
    exact wx_vret C hr hlocks hW hS hV rfl dX3_readKey_64
  unfold fX3_readKey at hE
  refine lv_aload_n hx hb dX3_readKey_0 rfl (lv_at hl 0 rfl) ?_
  refine cg_X3_55_3 C hW (st_297 hS) dX3_readKey_1 ?_
  refine lv_bipush (v := (119 : Int32)) hx hb dX3_readKey_4 rfl ?_
  refine lv_icmp_ne (tgt := 18) hx hb dX3_readKey_6 (by decide) (fun c17 => ?_) (fun c17 => ?_)
  · have hE := z_f c17 hE
    exact w_18 _ _ _ _ hE hW hS hV hZ (lv_sub hl [0] rfl)
  · have hE := z_t c17 hE
    refine lv_aload_n hx hb dX3_readKey_9 rfl (lv_at hl 0 rfl) ?_
    refine cg_X3_67_3 C hW (st_297 hS) dX3_readKey_10 ?_
    refine lv_bipush (v := (8 : Int32)) hx hb dX3_readKey_13 rfl ?_
    refine lv_icmp_lt (tgt := 23) hx hb dX3_readKey_15 (by decide) (fun c18 => ?_) (fun c18 => ?_)
    · have hE := z_t c18 hE
      refine lv_aload_n hx hb dX3_readKey_23 rfl (lv_at hl 1 rfl) ?_
      refine lv_aload_n hx hb dX3_readKey_24 rfl (lv_at hl 0 rfl) ?_
      refine cg_X3_67_3 C hW (st_297 hS) dX3_readKey_25 ?_
      obtain ⟨ht, hE⟩ := o_sh_some hE
      refine cp_X3_135_5 (J := wa_J u) C hW hV ht ⟨hS.uI, rfl⟩ hE dX3_readKey_28 (fun u19 H locs hE hW hS hV => ?_)
      obtain ⟨hS, hz_⟩ := hS
      rw [← hz_] at hZ ⊢
      refine lv_aload_n hx hb dX3_readKey_31 rfl (lv_at hl 0 rfl) ?_
      refine cxe_X3_83 (vf := wc_vv) wc_vvN C hlocks hnh hZ rfl rfl hW hS hV (st_297 hS) hE ⟨Nat.le_of_ble_eq_true rfl, Nat.le_of_ble_eq_true rfl⟩ dX3_readKey_32 hl.1 (Nat.le_of_ble_eq_true rfl) (fun _ u20 H locs hE hW hS hV hZ => ?_)
      refine lv_aload_n hx hb dX3_readKey_35 rfl (lv_at hl 1 rfl) ?_
      refine lv_aload_n hx hb dX3_readKey_36 rfl (lv_at hl 0 rfl) ?_
      refine cxw_X3_110 (vf := wc_vv) wc_vvN C hlocks hnh hZ rfl rfl hW hS hV (st_297 hS) hE (rm := fun u_ => pr_rm 80 (wc_z u_ - wc_z u20)) (fun V_ u_ hz_ hc => pr_all 80 _ _ _ _ _ rfl hz_ hc) (fun _ => rfl) (fun _ => rfl) (fun _ => ⟨Nat.le_of_ble_eq_true rfl, Nat.le_of_ble_eq_true rfl⟩) dX3_readKey_37 hl.1 (Nat.le_of_ble_eq_true rfl) (fun r21 u22 H locs hE hW hS hV hZ => ?_)
      obtain ⟨ht, hE⟩ := o_sh_some hE
      refine cp_X3_138_5 (x := r21) (J := wa_J u22) C hW hV ht ⟨(hS.uP (wc_S.noR hS ht (by decide))), rfl⟩ hE dX3_readKey_40 (fun u23 H locs hE hW hS hV => ?_)
      obtain ⟨hS, hz_⟩ := hS
      rw [← hz_] at hZ ⊢
      refine lv_aload_n hx hb dX3_readKey_43 rfl (lv_at hl 0 rfl) ?_
      refine lv_bipush (v := (18 : Int32)) hx hb dX3_readKey_44 rfl ?_
      obtain ⟨r24, u25, hc, hE⟩ := o_bd2_some hE
      refine cc_X3_120 C hW hS hV (st_297 hS) (kX3_isWordNext hc) rfl rfl ⟨Nat.le_of_ble_eq_true rfl, Nat.le_of_ble_eq_true rfl⟩ (wa_r0 hZ) dX3_readKey_46 hl.1 (Nat.le_of_ble_eq_true rfl) (fun H locs hW hS hV => ?_)
      obtain ⟨hz_, hE⟩ := o_ze_some hE
      rw [← hz_] at hZ ⊢
      refine lv_if_eq (tgt := 64) hx hb dX3_readKey_49 (by decide) (fun c26 => ?_) (fun c26 => ?_)
      · have hE := z_t c26 hE
        exact w_64 _ _ _ _ hE hW hS hV hZ (lv_sub hl [] rfl)
      · have hE := z_f c26 hE
        refine lv_aload_n hx hb dX3_readKey_52 rfl (lv_at hl 0 rfl) ?_
        refine cxe_X3_83 (vf := wc_vv) wc_vvN C hlocks hnh hZ rfl rfl hW hS hV (st_297 hS) hE ⟨Nat.le_of_ble_eq_true rfl, Nat.le_of_ble_eq_true rfl⟩ dX3_readKey_53 hl.1 (Nat.le_of_ble_eq_true rfl) (fun _ u27 H locs hE hW hS hV hZ => ?_)
        refine lv_aload_n hx hb dX3_readKey_56 rfl (lv_at hl 1 rfl) ?_
        refine lv_aload_n hx hb dX3_readKey_57 rfl (lv_at hl 0 rfl) ?_
        refine cxw_X3_110 (vf := wc_vv) wc_vvN C hlocks hnh hZ rfl rfl hW hS hV (st_297 hS) hE (rm := fun u_ => pr_rm 80 (wc_z u_ - wc_z u27)) (fun V_ u_ hz_ hc => pr_all 80 _ _ _ _ _ rfl hz_ hc) (fun _ => rfl) (fun _ => rfl) (fun _ => ⟨Nat.le_of_ble_eq_true rfl, Nat.le_of_ble_eq_true rfl⟩) dX3_readKey_58 hl.1 (Nat.le_of_ble_eq_true rfl) (fun r28 u29 H locs hE hW hS hV hZ => ?_)
        obtain ⟨ht, hE⟩ := o_sh_some hE
        refine cp_X3_142_5 (x := r28) (J := wa_J u29) C hW hV ht ⟨(hS.uP (wc_S.noR hS ht (by decide))), rfl⟩ hE dX3_readKey_61 (fun u30 H locs hE hW hS hV => ?_)
        obtain ⟨hS, hz_⟩ := hS
        rw [← hz_] at hZ ⊢
        exact w_64 _ _ _ _ hE hW hS hV hZ (lv_sub hl [] rfl)
    · have hE := z_f c18 hE
      exact w_18 _ _ _ _ hE hW hS hV hZ (lv_sub hl [0] rfl)
theorem cxw_X3_157 {β : Type} {vf : β ⊕ Nat → Option Value ⊕ Nat} (hvf : ∀ n, vf (.inr n) = .inr n) {z0 : Nat} {a1 : Nat} {u uF : CS} {Vf : β ⊕ Nat} {K : Unit → CS → Option ((β ⊕ Nat) × CS)} {x : Option ((Unit ⊕ Nat) × CS)} {rm : CS → Room} (C : CC p m c cc nL s args D dA RX3) (hlocks : meth.locks = false) (hnh : c.exceptionTable.isEmpty = true) (hZ : z0 ≤ wc_z u ∧ wc_z u ≤ wc_z uF) (hRc : R.cells = wc_z uF - z0) (hRs : R.slots = 4 * (wc_z uF - z0)) (hW : wc_W D dA h u H) (hS : wc_S u) (hV : va_S (CA h) s.heap H locs) (ht : wc_T u 297 = some (.inl 3)) (hE : o_bw u x K = some (Vf, uF)) (hM : ∀ (V : Unit ⊕ Nat) (u1 : CS), wc_z u ≤ wc_z u1 → x = some (V, u1) → MetX l yX3_readKey (ws_ yX3_readKey cX3_readKey 2 none) (rm u1) (va_Pc [.ref (h + 297), .ref (h + a1)] (wc_St D dA h u)) (wc_Qx D dA h (wc_vv V) u1) (wc_z u1 - wc_z u) (4 * (wc_z u1 - wc_z u)) (CA h)) (hrc : ∀ u1, (rm u1).cells = wc_z u1 - wc_z u) (hrs : ∀ u1, (rm u1).slots = 4 * (wc_z u1 - wc_z u)) (hR : ∀ u1, (rm u1).frames + 1 ≤ R.frames ∧ 8 + (2 + 11) + (rm u1).locals ≤ R.locals) (d : decode cc pc = .ok (.invokevirtual 157, 3)) (hsz : ls.size = nL) (hro : (rest.map fun v => v.category).sum ≤ 8) (kk : ∀ (a : Unit) (u2 : CS) (H1 : Heap) (locs1 : List Loc), K a u2 = some (Vf, uF) → wc_W D dA h u2 H1 → wc_S u2 → va_S (CA h) s.heap H1 locs1 → (z0 ≤ wc_z u2 ∧ wc_z u2 ≤ wc_z uF) → W p l e R s m args below meth c H1 locs1 (wc_z u2 - z0) (4 * (wc_z u2 - z0)) (MQX below (wc_Qx D dA h (vf Vf) uF) args s (wc_z uF - z0) (4 * (wc_z uF - z0)) (CA h)) (F0 m (pc + 3) ls (rest))) : W p l e R s m args below meth c H locs (wc_z u - z0) (4 * (wc_z u - z0)) (MQX below (wc_Qx D dA h (vf Vf) uF) args s (wc_z uF - z0) (4 * (wc_z uF - z0)) (CA h)) (F0 m pc ls (.ref (h + a1) :: .ref (h + 297) :: rest)) :=
  wz_callW (f := fun _ => none) (As := [.ref (h + a1)]) (fun _ => rfl) wc_vvN hvf C hlocks hnh hZ hRc hRs hE hM (fun u1 => cwV 1 C.1.2.2.2.2 (lw_V q1059 q1061 qs41 q170 q1062) rfl (hrc u1) (hrs u1) (by decide +kernel) (hR u1)) (wc_preV (q := (RX3, TX3, 12)) C.2 hW hS ht rfl _) rfl hsz hro d hV kk
theorem cyw_X3_157 {β : Type} {z0 : Nat} {a1 : Nat} {u uF : CS} {rF : β} {K : Unit → CS → Option (β × CS)} {Kh : Nat → CS → Option (β × CS)} {x : Option ((Unit ⊕ Nat) × CS)} {rm : CS → Room} (C : CC p m c cc nL s args D dA RX3) (hZ : z0 ≤ wc_z u ∧ wc_z u ≤ wc_z uF) (hRc : R.cells = wc_z uF - z0) (hRs : R.slots = 4 * (wc_z uF - z0)) (hW : wc_W D dA h u H) (hS : wc_S u) (hV : va_S (CA h) s.heap H locs) (ht : wc_T u 297 = some (.inl 3)) (hE : o_bh u x K Kh = some (rF, uF)) (hM : ∀ (V : Unit ⊕ Nat) (u1 : CS), wc_z u ≤ wc_z u1 → x = some (V, u1) → MetX l yX3_readKey (ws_ yX3_readKey cX3_readKey 2 none) (rm u1) (va_Pc [.ref (h + 297), .ref (h + a1)] (wc_St D dA h u)) (wc_Qx D dA h (wc_vv V) u1) (wc_z u1 - wc_z u) (4 * (wc_z u1 - wc_z u)) (CA h)) (hrc : ∀ u1, (rm u1).cells = wc_z u1 - wc_z u) (hrs : ∀ u1, (rm u1).slots = 4 * (wc_z u1 - wc_z u)) (hR : ∀ u1, (rm u1).frames + 1 ≤ R.frames ∧ 8 + (2 + 11) + (rm u1).locals ≤ R.locals) (d : decode cc pc = .ok (.invokevirtual 157, 3)) (hsz : ls.size = nL) (hro : (rest.map fun v => v.category).sum ≤ 8) (kk : ∀ (a : Unit) (u2 : CS) (H1 : Heap) (locs1 : List Loc), K a u2 = some (rF, uF) → wc_W D dA h u2 H1 → wc_S u2 → va_S (CA h) s.heap H1 locs1 → (z0 ≤ wc_z u2 ∧ wc_z u2 ≤ wc_z uF) → W p l e R s m args below meth c H1 locs1 (wc_z u2 - z0) (4 * (wc_z u2 - z0)) Q (F0 m (pc + 3) ls (rest))) (kh : ∀ (n : Nat) (u2 : CS) (H1 : Heap) (locs1 : List Loc), Kh n u2 = some (rF, uF) → wc_W D dA h u2 H1 → wc_S u2 → va_S (CA h) s.heap H1 locs1 → (z0 ≤ wc_z u2 ∧ wc_z u2 ≤ wc_z uF) → ∃ (hpc : Nat) (cell : Cell), H1[h + n]? = some cell ∧ xh_go p l e R s m args below meth c locs1 (wc_z u2 - z0) (4 * (wc_z u2 - z0)) (F0 m pc ls rest) (h + n) cell c.exceptionTable.toList hpc ∧ W p l e R s m args below meth c H1 locs1 (wc_z u2 - z0) (4 * (wc_z u2 - z0)) Q (F0 m hpc ls [.ref (h + n)])) : W p l e R s m args below meth c H locs (wc_z u - z0) (4 * (wc_z u - z0)) Q (F0 m pc ls (.ref (h + a1) :: .ref (h + 297) :: rest)) :=
  wz_callH (f := fun _ => none) (As := [.ref (h + a1)]) (fun _ => rfl) wc_vvN C hZ hRc hRs hE hM (fun u1 => cwV 1 C.1.2.2.2.2 (lw_V q1059 q1061 qs41 q170 q1062) rfl (hrc u1) (hrs u1) (by decide +kernel) (hR u1)) (wc_preV (q := (RX3, TX3, 12)) C.2 hW hS ht rfl _) rfl hsz hro d hV kk kh
set_option maxHeartbeats 4000000 in
set_option maxRecDepth 100000 in
theorem kX3_readInto {l : Launch} {D : va_G} {dA : Nat → ClassId} {h N z0 : Nat} {a1 : Nat} {u u1 : CS} {V : Unit ⊕ Nat} (hz0 : wc_z u = z0) (hz1 : wc_z u ≤ wc_z u1) (hE : fX3_readInto N u a1 = some (V, u1)) : MetX l yX3_readInto (ws_ yX3_readInto cX3_readInto 2 none) ({ frames := 86, cells := wc_z u1 - z0, slots := 4 * (wc_z u1 - z0), locals := 2703 }) (va_Pc [.ref (h + 297), .ref (h + a1)] (wc_St D dA h u)) (wc_Qx D dA h (wc_vv V) u1) (wc_z u1 - z0) (4 * (wc_z u1 - z0)) (CA h) := by
  refine wz_met (own := RX3) hz0 (by decide) rfl rfl rfl ?_
  intro p e s m args below meth c ls C hr hlocks hnh hW hS hV hl
  have hx := C.1.1
  have hb := C.1.2.1
  have hZ : z0 ≤ wc_z u ∧ wc_z u ≤ wc_z u1 := ⟨by omega, hz1⟩
  have w_45 : ∀ (u : CS) (H : Heap) (locs : List Loc) (ls : Array Slot), fX3_readInto_45 N u = some (V, u1) → wc_W D dA h u H → wc_S u → va_S (CA h) s.heap H locs → z0 ≤ wc_z u ∧ wc_z u ≤ wc_z u1 → lv_has ls 2 [(0, .ref (h + 297))] → W p l e ({ frames := 86, cells := wc_z u1 - z0, slots := 4 * (wc_z u1 - z0), locals := 2703 }) s m args below meth c H locs (wc_z u - z0) (4 * (wc_z u - z0)) (MQX below (wc_Qx D dA h (wc_vv V) u1) args s (wc_z u1 - z0) (4 * (wc_z u1 - z0)) (CA h)) (F0 m 45 ls []) := by
    intro u H locs ls hE hW hS hV hZ hl
    unfold fX3_readInto_45 at hE
    refine lv_aload_n hx hb dX3_readInto_45 rfl (lv_at hl 0 rfl) ?_
    refine cg_X3_55_3 C hW (st_297 hS) dX3_readInto_46 ?_
    refine lv_if_eq (tgt := 57) hx hb dX3_readInto_49 (by decide) (fun c13 => ?_) (fun c13 => ?_)
    · have hE := z_t c13 hE
      cases hE
      exact wx_vret C hr hlocks hW hS hV rfl dX3_readInto_57
    · have hE := z_f c13 hE
      refine lv_aload_n hx hb dX3_readInto_52 rfl (lv_at hl 0 rfl) ?_
      obtain ⟨r14, u15, hc, hE⟩ := o_bd2_some hE
      refine cc_X3_49 C hW hS hV (st_297 hS) (kX3_fault hc) rfl rfl ⟨Nat.le_of_ble_eq_true rfl, Nat.le_of_ble_eq_true rfl⟩ (wa_r0 hZ) dX3_readInto_53 hl.1 (Nat.le_of_ble_eq_true rfl) (fun H locs hW hS hV => ?_)
      obtain ⟨hz_, hE⟩ := o_ze_some hE
      rw [← hz_] at hZ ⊢
      obtain ⟨n16, hp_, hE_⟩ := o_nn_some hE
      clear hE
      subst hp_
      have hE := hE_
      cases hE
      exact wx_throwV (vf := wc_vv) wc_vvN C hlocks hnh hW hS hV rfl dX3_readInto_56
  unfold fX3_readInto at hE
  refine lv_aload_n hx hb dX3_readInto_0 rfl (lv_at hl 0 rfl) ?_
  refine lv_iconst (v := (0 : Int32)) hx hb dX3_readInto_1 rfl ?_
  refine cp_X3_52_3 (J := wa_J u) C hW hV (st_297 hS) ⟨hS.uI, rfl⟩ hE dX3_readInto_2 (fun u17 H locs hE hW hS hV => ?_)
  obtain ⟨hS, hz_⟩ := hS
  rw [← hz_] at hZ ⊢
  refine lv_aload_n hx hb dX3_readInto_5 rfl (lv_at hl 0 rfl) ?_
  refine lv_iconst (v := (0 : Int32)) hx hb dX3_readInto_6 rfl ?_
  refine cp_X3_80_3 (J := wa_J u17) C hW hV (st_297 hS) ⟨hS.uI, rfl⟩ hE dX3_readInto_7 (fun u18 H locs hE hW hS hV => ?_)
  obtain ⟨hS, hz_⟩ := hS
  rw [← hz_] at hZ ⊢
  refine lv_aload_n hx hb dX3_readInto_10 rfl (lv_at hl 0 rfl) ?_
  refine cxe_X3_83 (vf := wc_vv) wc_vvN C hlocks hnh hZ rfl rfl hW hS hV (st_297 hS) hE ⟨Nat.le_of_ble_eq_true rfl, Nat.le_of_ble_eq_true rfl⟩ dX3_readInto_11 hl.1 (Nat.le_of_ble_eq_true rfl) (fun _ u19 H locs hE hW hS hV hZ => ?_)
  refine lv_aload_n hx hb dX3_readInto_14 rfl (lv_at hl 0 rfl) ?_
  refine lv_bipush (v := (22 : Int32)) hx hb dX3_readInto_15 rfl ?_
  obtain ⟨r20, u21, hc, hE⟩ := o_bd2_some hE
  refine cc_X3_120 C hW hS hV (st_297 hS) (kX3_isWordNext hc) rfl rfl ⟨Nat.le_of_ble_eq_true rfl, Nat.le_of_ble_eq_true rfl⟩ (wa_r0 hZ) dX3_readInto_17 hl.1 (Nat.le_of_ble_eq_true rfl) (fun H locs hW hS hV => ?_)
  obtain ⟨hz_, hE⟩ := o_ze_some hE
  rw [← hz_] at hZ ⊢
  refine lv_if_eq (tgt := 40) hx hb dX3_readInto_20 (by decide) (fun c22 => ?_) (fun c22 => ?_)
  · have hE := z_t c22 hE
    refine lv_aload_n hx hb dX3_readInto_40 rfl (lv_at hl 0 rfl) ?_
    refine lv_aload_n hx hb dX3_readInto_41 rfl (lv_at hl 1 rfl) ?_
    refine cxw_X3_157 (vf := wc_vv) wc_vvN C hlocks hnh hZ rfl rfl hW hS hV (st_297 hS) hE (rm := fun u_ => { frames := 85, cells := wc_z u_ - wc_z u21, slots := 4 * (wc_z u_ - wc_z u21), locals := 2682 }) (fun V_ u_ hz_ hc => kX3_readKey rfl hz_ hc) (fun _ => rfl) (fun _ => rfl) (fun _ => ⟨Nat.le_of_ble_eq_true rfl, Nat.le_of_ble_eq_true rfl⟩) dX3_readInto_42 hl.1 (Nat.le_of_ble_eq_true rfl) (fun _ u23 H locs hE hW hS hV hZ => ?_)
    exact w_45 _ _ _ _ hE hW hS hV hZ (lv_sub hl [0] rfl)
  · have hE := z_f c22 hE
    refine lv_aload_n hx hb dX3_readInto_23 rfl (lv_at hl 1 rfl) ?_
    refine lv_bipush (v := (8 : Int32)) hx hb dX3_readInto_24 rfl ?_
    obtain ⟨ht, hE⟩ := o_sh_some hE
    refine cp_X3_135_5 (J := wa_J u21) C hW hV ht ⟨hS.uI, rfl⟩ hE dX3_readInto_26 (fun u24 H locs hE hW hS hV => ?_)
    obtain ⟨hS, hz_⟩ := hS
    rw [← hz_] at hZ ⊢
    refine lv_aload_n hx hb dX3_readInto_29 rfl (lv_at hl 1 rfl) ?_
    refine lv_aload_n hx hb dX3_readInto_30 rfl (lv_at hl 0 rfl) ?_
    refine cxe_X3_150 (vf := wc_vv) wc_vvN C hlocks hnh hZ rfl rfl hW hS hV (st_297 hS) hE ⟨Nat.le_of_ble_eq_true rfl, Nat.le_of_ble_eq_true rfl⟩ dX3_readInto_31 hl.1 (Nat.le_of_ble_eq_true rfl) (fun r25 u26 H locs hE hW hS hV hZ => ?_)
    obtain ⟨ht, hE⟩ := o_sh_some hE
    refine cp_X3_154_5 (J := wa_J u26) C hW hV ht ⟨hS.uI, rfl⟩ hE dX3_readInto_34 (fun u27 H locs hE hW hS hV => ?_)
    obtain ⟨hS, hz_⟩ := hS
    rw [← hz_] at hZ ⊢
    refine lv_goto (tgt := 45) hx hb dX3_readInto_37 (by decide) ?_
    exact w_45 _ _ _ _ hE hW hS hV hZ (lv_sub hl [0] rfl)
theorem cxw_X3_161 {β : Type} {vf : β ⊕ Nat → Option Value ⊕ Nat} (hvf : ∀ n, vf (.inr n) = .inr n) {z0 : Nat} {a1 : Nat} {u uF : CS} {Vf : β ⊕ Nat} {K : Unit → CS → Option ((β ⊕ Nat) × CS)} {x : Option ((Unit ⊕ Nat) × CS)} {rm : CS → Room} (C : CC p m c cc nL s args D dA RX3) (hlocks : meth.locks = false) (hnh : c.exceptionTable.isEmpty = true) (hZ : z0 ≤ wc_z u ∧ wc_z u ≤ wc_z uF) (hRc : R.cells = wc_z uF - z0) (hRs : R.slots = 4 * (wc_z uF - z0)) (hW : wc_W D dA h u H) (hS : wc_S u) (hV : va_S (CA h) s.heap H locs) (ht : wc_T u 297 = some (.inl 3)) (hE : o_bw u x K = some (Vf, uF)) (hM : ∀ (V : Unit ⊕ Nat) (u1 : CS), wc_z u ≤ wc_z u1 → x = some (V, u1) → MetX l yX3_readInto (ws_ yX3_readInto cX3_readInto 2 none) (rm u1) (va_Pc [.ref (h + 297), .ref (h + a1)] (wc_St D dA h u)) (wc_Qx D dA h (wc_vv V) u1) (wc_z u1 - wc_z u) (4 * (wc_z u1 - wc_z u)) (CA h)) (hrc : ∀ u1, (rm u1).cells = wc_z u1 - wc_z u) (hrs : ∀ u1, (rm u1).slots = 4 * (wc_z u1 - wc_z u)) (hR : ∀ u1, (rm u1).frames + 1 ≤ R.frames ∧ 8 + (2 + 11) + (rm u1).locals ≤ R.locals) (d : decode cc pc = .ok (.invokevirtual 161, 3)) (hsz : ls.size = nL) (hro : (rest.map fun v => v.category).sum ≤ 8) (kk : ∀ (a : Unit) (u2 : CS) (H1 : Heap) (locs1 : List Loc), K a u2 = some (Vf, uF) → wc_W D dA h u2 H1 → wc_S u2 → va_S (CA h) s.heap H1 locs1 → (z0 ≤ wc_z u2 ∧ wc_z u2 ≤ wc_z uF) → W p l e R s m args below meth c H1 locs1 (wc_z u2 - z0) (4 * (wc_z u2 - z0)) (MQX below (wc_Qx D dA h (vf Vf) uF) args s (wc_z uF - z0) (4 * (wc_z uF - z0)) (CA h)) (F0 m (pc + 3) ls (rest))) : W p l e R s m args below meth c H locs (wc_z u - z0) (4 * (wc_z u - z0)) (MQX below (wc_Qx D dA h (vf Vf) uF) args s (wc_z uF - z0) (4 * (wc_z uF - z0)) (CA h)) (F0 m pc ls (.ref (h + a1) :: .ref (h + 297) :: rest)) :=
  wz_callW (f := fun _ => none) (As := [.ref (h + a1)]) (fun _ => rfl) wc_vvN hvf C hlocks hnh hZ hRc hRs hE hM (fun u1 => cwV 1 C.1.2.2.2.2 (lw_V q1019 q1021 qs31 q170 q1022) rfl (hrc u1) (hrs u1) (by decide +kernel) (hR u1)) (wc_preV (q := (RX3, TX3, 12)) C.2 hW hS ht rfl _) rfl hsz hro d hV kk
theorem cyw_X3_161 {β : Type} {z0 : Nat} {a1 : Nat} {u uF : CS} {rF : β} {K : Unit → CS → Option (β × CS)} {Kh : Nat → CS → Option (β × CS)} {x : Option ((Unit ⊕ Nat) × CS)} {rm : CS → Room} (C : CC p m c cc nL s args D dA RX3) (hZ : z0 ≤ wc_z u ∧ wc_z u ≤ wc_z uF) (hRc : R.cells = wc_z uF - z0) (hRs : R.slots = 4 * (wc_z uF - z0)) (hW : wc_W D dA h u H) (hS : wc_S u) (hV : va_S (CA h) s.heap H locs) (ht : wc_T u 297 = some (.inl 3)) (hE : o_bh u x K Kh = some (rF, uF)) (hM : ∀ (V : Unit ⊕ Nat) (u1 : CS), wc_z u ≤ wc_z u1 → x = some (V, u1) → MetX l yX3_readInto (ws_ yX3_readInto cX3_readInto 2 none) (rm u1) (va_Pc [.ref (h + 297), .ref (h + a1)] (wc_St D dA h u)) (wc_Qx D dA h (wc_vv V) u1) (wc_z u1 - wc_z u) (4 * (wc_z u1 - wc_z u)) (CA h)) (hrc : ∀ u1, (rm u1).cells = wc_z u1 - wc_z u) (hrs : ∀ u1, (rm u1).slots = 4 * (wc_z u1 - wc_z u)) (hR : ∀ u1, (rm u1).frames + 1 ≤ R.frames ∧ 8 + (2 + 11) + (rm u1).locals ≤ R.locals) (d : decode cc pc = .ok (.invokevirtual 161, 3)) (hsz : ls.size = nL) (hro : (rest.map fun v => v.category).sum ≤ 8) (kk : ∀ (a : Unit) (u2 : CS) (H1 : Heap) (locs1 : List Loc), K a u2 = some (rF, uF) → wc_W D dA h u2 H1 → wc_S u2 → va_S (CA h) s.heap H1 locs1 → (z0 ≤ wc_z u2 ∧ wc_z u2 ≤ wc_z uF) → W p l e R s m args below meth c H1 locs1 (wc_z u2 - z0) (4 * (wc_z u2 - z0)) Q (F0 m (pc + 3) ls (rest))) (kh : ∀ (n : Nat) (u2 : CS) (H1 : Heap) (locs1 : List Loc), Kh n u2 = some (rF, uF) → wc_W D dA h u2 H1 → wc_S u2 → va_S (CA h) s.heap H1 locs1 → (z0 ≤ wc_z u2 ∧ wc_z u2 ≤ wc_z uF) → ∃ (hpc : Nat) (cell : Cell), H1[h + n]? = some cell ∧ xh_go p l e R s m args below meth c locs1 (wc_z u2 - z0) (4 * (wc_z u2 - z0)) (F0 m pc ls rest) (h + n) cell c.exceptionTable.toList hpc ∧ W p l e R s m args below meth c H1 locs1 (wc_z u2 - z0) (4 * (wc_z u2 - z0)) Q (F0 m hpc ls [.ref (h + n)])) : W p l e R s m args below meth c H locs (wc_z u - z0) (4 * (wc_z u - z0)) Q (F0 m pc ls (.ref (h + a1) :: .ref (h + 297) :: rest)) :=
  wz_callH (f := fun _ => none) (As := [.ref (h + a1)]) (fun _ => rfl) wc_vvN C hZ hRc hRs hE hM (fun u1 => cwV 1 C.1.2.2.2.2 (lw_V q1019 q1021 qs31 q170 q1022) rfl (hrc u1) (hrs u1) (by decide +kernel) (hR u1)) (wc_preV (q := (RX3, TX3, 12)) C.2 hW hS ht rfl _) rfl hsz hro d hV kk kh
set_option maxHeartbeats 4000000 in
set_option maxRecDepth 100000 in
theorem kX3_read {l : Launch} {D : va_G} {dA : Nat → ClassId} {h N z0 : Nat} {u u1 : CS} {V : Option Nat ⊕ Nat} (hz0 : wc_z u = z0) (hz1 : wc_z u ≤ wc_z u1) (hE : fX3_read N u = some (V, u1)) : MetX l yX3_read (ws_ yX3_read cX3_read 2 (some (.object "WoodState$Line"))) ({ frames := 87, cells := wc_z u1 - z0, slots := 4 * (wc_z u1 - z0), locals := 2724 }) (va_Pc [.ref (h + 297)] (wc_St D dA h u)) (wc_Qx D dA h ((wc_vr h) V) u1) (wc_z u1 - z0) (4 * (wc_z u1 - z0)) (CA h) := by
  refine wz_met (own := RX3) hz0 (by decide) rfl rfl rfl ?_
  intro p e s m args below meth c ls C hr hlocks hnh hW hS hV hl
  have hx := C.1.1
  have hb := C.1.2.1
  have hZ : z0 ≤ wc_z u ∧ wc_z u ≤ wc_z u1 := ⟨by omega, hz1⟩
  unfold fX3_read at hE
  refine lv_aload_n hx hb dX3_read_0 rfl (lv_at hl 0 rfl) ?_
  refine lv_iconst (v := (1 : Int32)) hx hb dX3_read_1 rfl ?_
  refine cp_X3_86_3 (J := wa_J u) C hW hV (st_297 hS) ⟨hS.uI, rfl⟩ (Or.inr rfl) hE dX3_read_2 (fun u6 H locs hE hW hS hV => ?_)
  obtain ⟨hS, hz_⟩ := hS
  rw [← hz_] at hZ ⊢
  refine lv_aload_n hx hb dX3_read_5 rfl (lv_at hl 0 rfl) ?_
  refine lv_aload_n hx hb dX3_read_6 rfl (lv_at hl 0 rfl) ?_
  refine cgs_X3_31_3 C hW (st_297 hS) (sp_297_first hS) dX3_read_7 ?_
  refine cxw_X3_161 (vf := (wc_vr h)) (wc_vrN h) C hlocks hnh hZ rfl rfl hW hS hV (st_297 hS) hE (rm := fun u_ => { frames := 86, cells := wc_z u_ - wc_z u6, slots := 4 * (wc_z u_ - wc_z u6), locals := 2703 }) (fun V_ u_ hz_ hc => kX3_readInto rfl hz_ hc) (fun _ => rfl) (fun _ => rfl) (fun _ => ⟨Nat.le_of_ble_eq_true rfl, Nat.le_of_ble_eq_true rfl⟩) dX3_read_10 hl.1 (Nat.le_of_ble_eq_true rfl) (fun _ u7 H locs hE hW hS hV hZ => ?_)
  refine lv_aload_n hx hb dX3_read_13 rfl (lv_at hl 0 rfl) ?_
  refine lv_iconst (v := (0 : Int32)) hx hb dX3_read_14 rfl ?_
  refine cp_X3_86_3 (J := wa_J u7) C hW hV (st_297 hS) ⟨hS.uI, rfl⟩ (Or.inl rfl) hE dX3_read_15 (fun u8 H locs hE hW hS hV => ?_)
  obtain ⟨hS, hz_⟩ := hS
  rw [← hz_] at hZ ⊢
  obtain ⟨hq_, hE⟩ := o_zc_some hE
  have hq_ : wc_z u8 + 1 ≤ wc_z u1 := hq_
  refine wa_newE (ci := 5) (Cn := RX5) (T := TX5) (N := 4) (ty := tyX5) C hW hS hV hZ hq_ rfl rfl (by decide) hE rfl rfl in_X5 tyX5_ok (fun j hj => by rcases (show j = 0 ∨ j = 1 ∨ j = 2 ∨ j = 3 by omega) with rfl | rfl | rfl | rfl <;> rfl) q510 q511 q175 dX3_read_18 (fun u9 H hE hW hS hZ hV => ?_)
  refine lv_dup hx hb dX3_read_21 rfl ?_
  obtain ⟨u10, hc, hE⟩ := o_bd_some hE
  refine ci_X3_30 C hW hS hV (kX5_init hc) rfl rfl ⟨Nat.le_of_ble_eq_true rfl, Nat.le_of_ble_eq_true rfl⟩ (wa_r0 hZ) dX3_read_22 hl.1 (Nat.le_of_ble_eq_true rfl) (fun H locs hW hS hV => ?_)
  obtain ⟨hz_, hE⟩ := o_ze_some hE
  rw [← hz_] at hZ ⊢
  refine lv_astore_n (lv' := [(1, .ref (h + (wc_z u8))), (0, .ref (h + 297))]) hx hb dX3_read_25 rfl hl (by decide) rfl (fun ls hl => ?_)
  refine lv_aload_n hx hb dX3_read_26 rfl (lv_at hl 1 rfl) ?_
  refine lv_aload_n hx hb dX3_read_27 rfl (lv_at hl 0 rfl) ?_
  refine cxw_X3_161 (vf := (wc_vr h)) (wc_vrN h) C hlocks hnh hZ rfl rfl hW hS hV (st_297 hS) hE (rm := fun u_ => { frames := 86, cells := wc_z u_ - wc_z u10, slots := 4 * (wc_z u_ - wc_z u10), locals := 2703 }) (fun V_ u_ hz_ hc => kX3_readInto rfl hz_ hc) (fun _ => rfl) (fun _ => rfl) (fun _ => ⟨Nat.le_of_ble_eq_true rfl, Nat.le_of_ble_eq_true rfl⟩) dX3_read_28 hl.1 (Nat.le_of_ble_eq_true rfl) (fun _ u11 H locs hE hW hS hV hZ => ?_)
  refine lv_aload_n hx hb dX3_read_31 rfl (lv_at hl 0 rfl) ?_
  cases hE
  exact wx_aret (x := (some (wc_z u8))) C hr hlocks hW hS hV rfl dX3_read_32
theorem cxw_X0_337 {β : Type} {vf : β ⊕ Nat → Option Value ⊕ Nat} (hvf : ∀ n, vf (.inr n) = .inr n) {z0 : Nat} {u uF : CS} {Vf : β ⊕ Nat} {K : Option Nat → CS → Option ((β ⊕ Nat) × CS)} {x : Option ((Option Nat ⊕ Nat) × CS)} {rm : CS → Room} (C : CC p m c cc nL s args D dA RX0) (hlocks : meth.locks = false) (hnh : c.exceptionTable.isEmpty = true) (hZ : z0 ≤ wc_z u ∧ wc_z u ≤ wc_z uF) (hRc : R.cells = wc_z uF - z0) (hRs : R.slots = 4 * (wc_z uF - z0)) (hW : wc_W D dA h u H) (hS : wc_S u) (hV : va_S (CA h) s.heap H locs) (ht : wc_T u 297 = some (.inl 3)) (hE : o_bw u x K = some (Vf, uF)) (hM : ∀ (V : Option Nat ⊕ Nat) (u1 : CS), wc_z u ≤ wc_z u1 → x = some (V, u1) → MetX l yX3_read (ws_ yX3_read cX3_read 2 (some (.object "WoodState$Line"))) (rm u1) (va_Pc [.ref (h + 297)] (wc_St D dA h u)) (wc_Qx D dA h ((wc_vr h) V) u1) (wc_z u1 - wc_z u) (4 * (wc_z u1 - wc_z u)) (CA h)) (hrc : ∀ u1, (rm u1).cells = wc_z u1 - wc_z u) (hrs : ∀ u1, (rm u1).slots = 4 * (wc_z u1 - wc_z u)) (hR : ∀ u1, (rm u1).frames + 1 ≤ R.frames ∧ 8 + (2 + 11) + (rm u1).locals ≤ R.locals) (d : decode cc pc = .ok (.invokevirtual 337, 3)) (hsz : ls.size = nL) (hro : (rest.map fun v => v.category).sum ≤ 8) (kk : ∀ (a : Option Nat) (u2 : CS) (H1 : Heap) (locs1 : List Loc), K a u2 = some (Vf, uF) → wc_W D dA h u2 H1 → wc_S u2 → va_S (CA h) s.heap H1 locs1 → (z0 ≤ wc_z u2 ∧ wc_z u2 ≤ wc_z uF) → W p l e R s m args below meth c H1 locs1 (wc_z u2 - z0) (4 * (wc_z u2 - z0)) (MQX below (wc_Qx D dA h (vf Vf) uF) args s (wc_z uF - z0) (4 * (wc_z uF - z0)) (CA h)) (F0 m (pc + 3) ls (wc_rf h a :: rest))) : W p l e R s m args below meth c H locs (wc_z u - z0) (4 * (wc_z u - z0)) (MQX below (wc_Qx D dA h (vf Vf) uF) args s (wc_z uF - z0) (4 * (wc_z uF - z0)) (CA h)) (F0 m pc ls (.ref (h + 297) :: rest)) :=
  wz_callW (f := fun r => some (wc_rf h r)) (As := []) (fun _ => rfl) (wc_vrN h) hvf C hlocks hnh hZ hRc hRs hE hM (fun u1 => cwV 0 C.1.2.2.2.2 (lw_V q1015 q1016 q1017 q170 q1018) rfl (hrc u1) (hrs u1) (by decide +kernel) (hR u1)) (wc_preV (q := (RX3, TX3, 12)) C.2 hW hS ht rfl _) rfl hsz hro d hV kk
theorem cyw_X0_337 {β : Type} {z0 : Nat} {u uF : CS} {rF : β} {K : Option Nat → CS → Option (β × CS)} {Kh : Nat → CS → Option (β × CS)} {x : Option ((Option Nat ⊕ Nat) × CS)} {rm : CS → Room} (C : CC p m c cc nL s args D dA RX0) (hZ : z0 ≤ wc_z u ∧ wc_z u ≤ wc_z uF) (hRc : R.cells = wc_z uF - z0) (hRs : R.slots = 4 * (wc_z uF - z0)) (hW : wc_W D dA h u H) (hS : wc_S u) (hV : va_S (CA h) s.heap H locs) (ht : wc_T u 297 = some (.inl 3)) (hE : o_bh u x K Kh = some (rF, uF)) (hM : ∀ (V : Option Nat ⊕ Nat) (u1 : CS), wc_z u ≤ wc_z u1 → x = some (V, u1) → MetX l yX3_read (ws_ yX3_read cX3_read 2 (some (.object "WoodState$Line"))) (rm u1) (va_Pc [.ref (h + 297)] (wc_St D dA h u)) (wc_Qx D dA h ((wc_vr h) V) u1) (wc_z u1 - wc_z u) (4 * (wc_z u1 - wc_z u)) (CA h)) (hrc : ∀ u1, (rm u1).cells = wc_z u1 - wc_z u) (hrs : ∀ u1, (rm u1).slots = 4 * (wc_z u1 - wc_z u)) (hR : ∀ u1, (rm u1).frames + 1 ≤ R.frames ∧ 8 + (2 + 11) + (rm u1).locals ≤ R.locals) (d : decode cc pc = .ok (.invokevirtual 337, 3)) (hsz : ls.size = nL) (hro : (rest.map fun v => v.category).sum ≤ 8) (kk : ∀ (a : Option Nat) (u2 : CS) (H1 : Heap) (locs1 : List Loc), K a u2 = some (rF, uF) → wc_W D dA h u2 H1 → wc_S u2 → va_S (CA h) s.heap H1 locs1 → (z0 ≤ wc_z u2 ∧ wc_z u2 ≤ wc_z uF) → W p l e R s m args below meth c H1 locs1 (wc_z u2 - z0) (4 * (wc_z u2 - z0)) Q (F0 m (pc + 3) ls (wc_rf h a :: rest))) (kh : ∀ (n : Nat) (u2 : CS) (H1 : Heap) (locs1 : List Loc), Kh n u2 = some (rF, uF) → wc_W D dA h u2 H1 → wc_S u2 → va_S (CA h) s.heap H1 locs1 → (z0 ≤ wc_z u2 ∧ wc_z u2 ≤ wc_z uF) → ∃ (hpc : Nat) (cell : Cell), H1[h + n]? = some cell ∧ xh_go p l e R s m args below meth c locs1 (wc_z u2 - z0) (4 * (wc_z u2 - z0)) (F0 m pc ls rest) (h + n) cell c.exceptionTable.toList hpc ∧ W p l e R s m args below meth c H1 locs1 (wc_z u2 - z0) (4 * (wc_z u2 - z0)) Q (F0 m hpc ls [.ref (h + n)])) : W p l e R s m args below meth c H locs (wc_z u - z0) (4 * (wc_z u - z0)) Q (F0 m pc ls (.ref (h + 297) :: rest)) :=
  wz_callH (f := fun r => some (wc_rf h r)) (As := []) (fun _ => rfl) (wc_vrN h) C hZ hRc hRs hE hM (fun u1 => cwV 0 C.1.2.2.2.2 (lw_V q1015 q1016 q1017 q170 q1018) rfl (hrc u1) (hrs u1) (by decide +kernel) (hR u1)) (wc_preV (q := (RX3, TX3, 12)) C.2 hW hS ht rfl _) rfl hsz hro d hV kk kh
set_option maxHeartbeats 4000000 in
set_option maxRecDepth 100000 in
theorem kX0_lineTold {l : Launch} {D : va_G} {dA : Nat → ClassId} {h N z0 : Nat} {u u1 : CS} {V : Int32 ⊕ Nat} (hz0 : wc_z u = z0) (hz1 : wc_z u ≤ wc_z u1) (hE : fX0_lineTold N u = some (V, u1)) : MetX l yX0_lineTold (ws_ yX0_lineTold cX0_lineTold 2 (some .int)) ({ frames := 88, cells := wc_z u1 - z0, slots := 4 * (wc_z u1 - z0), locals := 2745 }) (va_Pc [.ref (h + 0)] (wc_St D dA h u)) (wc_Qx D dA h (wc_vi V) u1) (wc_z u1 - z0) (4 * (wc_z u1 - z0)) (CA h) := by
  refine wz_met (own := RX0) hz0 (by decide) rfl rfl rfl ?_
  intro p e s m args below meth c ls C hr hlocks hnh hW hS hV hl
  have hx := C.1.1
  have hb := C.1.2.1
  have hZ : z0 ≤ wc_z u ∧ wc_z u ≤ wc_z u1 := ⟨by omega, hz1⟩
  have w_88 : ∀ (u : CS) (x1 : Nat) (H : Heap) (locs : List Loc) (ls : Array Slot), fX0_lineTold_88 N u x1 = some (V, u1) → wc_W D dA h u H → wc_S u → va_S (CA h) s.heap H locs → z0 ≤ wc_z u ∧ wc_z u ≤ wc_z u1 → lv_has ls 2 [(0, .ref (h + 0)), (1, .ref (h + x1))] → W p l e ({ frames := 88, cells := wc_z u1 - z0, slots := 4 * (wc_z u1 - z0), locals := 2745 }) s m args below meth c H locs (wc_z u - z0) (4 * (wc_z u - z0)) (MQX below (wc_Qx D dA h (wc_vi V) u1) args s (wc_z u1 - z0) (4 * (wc_z u1 - z0)) (CA h)) (F0 m 88 ls []) := by
    intro u x1 H locs ls hE hW hS hV hZ hl
    unfold fX0_lineTold_88 at hE
    refine lv_aload_n hx hb dX0_lineTold_88 rfl (lv_at hl 0 rfl) ?_
    refine cgs_X0_19_0 C hW (st_0 hS) (sp_0_now hS) dX0_lineTold_89 ?_
    refine cgs_X0_328_1 C hW (st_F hS wc_F3) (sp_F_line hS wc_F3) dX0_lineTold_92 ?_
    refine lv_aload_n hx hb dX0_lineTold_95 rfl (lv_at hl 0 rfl) ?_
    refine cgs_X0_19_0 C hW (st_0 hS) (sp_0_now hS) dX0_lineTold_96 ?_
    refine cg_X0_322_1 C hW (st_F hS wc_F3) dX0_lineTold_99 ?_
    refine lv_aload_n hx hb dX0_lineTold_102 rfl (lv_at hl 1 rfl) ?_
    obtain ⟨ht, hE⟩ := o_sh_some hE
    refine wc_stq7 (J := wa_J u) C hW hV (st_F_line hS wc_F3) ht ⟨(hS.uQ (wc_sqL wc_F3 _)), rfl⟩ hE dX0_lineTold_103 (fun u10 H locs hE hW hS hV => ?_)
    obtain ⟨hS, hz_⟩ := hS
    rw [← hz_] at hZ ⊢
    refine lv_aload_n hx hb dX0_lineTold_104 rfl (lv_at hl 0 rfl) ?_
    refine cgs_X0_19_0 C hW (st_0 hS) (sp_0_now hS) dX0_lineTold_105 ?_
    refine cgs_X0_345_1 C hW (st_F hS wc_F3) (sp_F_cameIn hS wc_F3) dX0_lineTold_108 ?_
    refine lv_aload_n hx hb dX0_lineTold_111 rfl (lv_at hl 0 rfl) ?_
    refine cgs_X0_19_0 C hW (st_0 hS) (sp_0_now hS) dX0_lineTold_112 ?_
    refine cg_X0_322_1 C hW (st_F hS wc_F3) dX0_lineTold_115 ?_
    refine lv_aload_n hx hb dX0_lineTold_118 rfl (lv_at hl 0 rfl) ?_
    refine cgs_X0_19_0 C hW (st_0 hS) (sp_0_now hS) dX0_lineTold_119 ?_
    refine cg_X0_344_1 C hW (st_F hS wc_F3) dX0_lineTold_122 ?_
    refine wc_sti (J := wa_J u10) C hW hV (st_F_cameIn hS wc_F3) ⟨hS.uA, rfl⟩ hE dX0_lineTold_125 (fun u11 H locs hE hW hS hV => ?_)
    obtain ⟨hS, hz_⟩ := hS
    rw [← hz_] at hZ ⊢
    refine lv_aload_n hx hb dX0_lineTold_126 rfl (lv_at hl 0 rfl) ?_
    refine cgs_X0_19_0 C hW (st_0 hS) (sp_0_now hS) dX0_lineTold_127 ?_
    refine cgs_X0_325_1 C hW (st_F hS wc_F3) (sp_F_struckIn hS wc_F3) dX0_lineTold_130 ?_
    refine lv_aload_n hx hb dX0_lineTold_133 rfl (lv_at hl 0 rfl) ?_
    refine cgs_X0_19_0 C hW (st_0 hS) (sp_0_now hS) dX0_lineTold_134 ?_
    refine cg_X0_322_1 C hW (st_F hS wc_F3) dX0_lineTold_137 ?_
    refine lv_iconst (v := (-1 : Int32)) hx hb dX0_lineTold_140 rfl ?_
    refine wc_sti (J := wa_J u11) C hW hV (st_F_struckIn hS wc_F3) ⟨hS.uA, rfl⟩ hE dX0_lineTold_141 (fun u12 H locs hE hW hS hV => ?_)
    obtain ⟨hS, hz_⟩ := hS
    rw [← hz_] at hZ ⊢
    refine lv_aload_n hx hb dX0_lineTold_142 rfl (lv_at hl 0 rfl) ?_
    refine cgs_X0_19_0 C hW (st_0 hS) (sp_0_now hS) dX0_lineTold_143 ?_
    refine lv_dup hx hb dX0_lineTold_146 rfl ?_
    refine cg_X0_322_1 C hW (st_F hS wc_F3) dX0_lineTold_147 ?_
    refine lv_iconst (v := (1 : Int32)) hx hb dX0_lineTold_150 rfl ?_
    refine lv_iadd hx hb dX0_lineTold_151 ?_
    refine cp_X0_322_1 (J := wa_J u12) C hW hV (st_F hS wc_F3) ⟨hS.uI, rfl⟩ hE dX0_lineTold_152 (fun u13 H locs hE hW hS hV => ?_)
    obtain ⟨hS, hz_⟩ := hS
    rw [← hz_] at hZ ⊢
    refine lv_aload_n hx hb dX0_lineTold_155 rfl (lv_at hl 0 rfl) ?_
    refine cgs_X0_68_0 C hW (st_0 hS) (sp_0_reader hS) dX0_lineTold_156 ?_
    refine lv_iconst (v := (0 : Int32)) hx hb dX0_lineTold_159 rfl ?_
    refine cp_X0_315_3 (J := wa_J u13) C hW hV (st_297 hS) ⟨hS.uI, rfl⟩ hE dX0_lineTold_160 (fun u14 H locs hE hW hS hV => ?_)
    obtain ⟨hS, hz_⟩ := hS
    rw [← hz_] at hZ ⊢
    refine lv_aload_n hx hb dX0_lineTold_163 rfl (lv_at hl 0 rfl) ?_
    refine cgs_X0_19_0 C hW (st_0 hS) (sp_0_now hS) dX0_lineTold_164 ?_
    refine cg_X0_322_1 C hW (st_F hS wc_F3) dX0_lineTold_167 ?_
    refine lv_iconst (v := (1 : Int32)) hx hb dX0_lineTold_170 rfl ?_
    refine lv_isub hx hb dX0_lineTold_171 ?_
    cases hE
    exact wx_iret C hr hlocks hW hS hV rfl dX0_lineTold_172
  have w_56 : ∀ (u : CS) (x1 : Nat) (y1 : Int32) (H : Heap) (locs : List Loc) (ls : Array Slot), fX0_lineTold_56 N u x1 y1 = some (V, u1) → wc_W D dA h u H → wc_S u → va_S (CA h) s.heap H locs → z0 ≤ wc_z u ∧ wc_z u ≤ wc_z u1 → lv_has ls 2 [(0, .ref (h + 0)), (1, .ref (h + x1))] → W p l e ({ frames := 88, cells := wc_z u1 - z0, slots := 4 * (wc_z u1 - z0), locals := 2745 }) s m args below meth c H locs (wc_z u - z0) (4 * (wc_z u - z0)) (MQX below (wc_Qx D dA h (wc_vi V) u1) args s (wc_z u1 - z0) (4 * (wc_z u1 - z0)) (CA h)) (F0 m 56 ls [.int y1, .ref (h + 0)]) := by
    intro u x1 y1 H locs ls hE hW hS hV hZ hl
    unfold fX0_lineTold_56 at hE
    refine lv_bipush (v := (-7 : Int32)) hx hb dX0_lineTold_56 rfl ?_
    refine cxe_X0_276 (vf := wc_vi) wc_viN C hlocks hnh hZ rfl rfl hW hS hV (st_0 hS) hE ⟨Nat.le_of_ble_eq_true rfl, Nat.le_of_ble_eq_true rfl⟩ dX0_lineTold_58 hl.1 (Nat.le_of_ble_eq_true rfl) (fun _ u15 H locs hE hW hS hV hZ => ?_)
    refine lv_aload_n hx hb dX0_lineTold_61 rfl (lv_at hl 1 rfl) ?_
    obtain ⟨ht, hE⟩ := o_sh_some hE
    refine cg_X0_332_5 C hW ht dX0_lineTold_62 ?_
    refine lv_iconst (v := (-1 : Int32)) hx hb dX0_lineTold_65 rfl ?_
    refine lv_icmp_eq (tgt := 88) hx hb dX0_lineTold_66 (by decide) (fun c16 => ?_) (fun c16 => ?_)
    · have hE := z_t c16 hE
      exact w_88 _ _ _ _ _ hE hW hS hV hZ (lv_sub hl [0, 1] rfl)
    · have hE := z_f c16 hE
      refine lv_aload_n hx hb dX0_lineTold_69 rfl (lv_at hl 0 rfl) ?_
      refine cgs_X0_19_0 C hW (st_0 hS) (sp_0_now hS) dX0_lineTold_70 ?_
      refine cgs_X0_325_1 C hW (st_F hS wc_F3) (sp_F_struckIn hS wc_F3) dX0_lineTold_73 ?_
      refine lv_aload_n hx hb dX0_lineTold_76 rfl (lv_at hl 1 rfl) ?_
      obtain ⟨ht, hE⟩ := o_sh_some hE
      refine cg_X0_332_5 C hW ht dX0_lineTold_77 ?_
      refine lv_aload_n hx hb dX0_lineTold_80 rfl (lv_at hl 0 rfl) ?_
      refine cgs_X0_19_0 C hW (st_0 hS) (sp_0_now hS) dX0_lineTold_81 ?_
      refine cg_X0_344_1 C hW (st_F hS wc_F3) dX0_lineTold_84 ?_
      refine wc_sti (J := wa_J u15) C hW hV (st_F_struckIn hS wc_F3) ⟨hS.uA, rfl⟩ hE dX0_lineTold_87 (fun u17 H locs hE hW hS hV => ?_)
      obtain ⟨hS, hz_⟩ := hS
      rw [← hz_] at hZ ⊢
      exact w_88 _ _ _ _ _ hE hW hS hV hZ (lv_sub hl [0, 1] rfl)
  have w_51 : ∀ (u : CS) (x1 : Nat) (H : Heap) (locs : List Loc) (ls : Array Slot), fX0_lineTold_51 N u x1 = some (V, u1) → wc_W D dA h u H → wc_S u → va_S (CA h) s.heap H locs → z0 ≤ wc_z u ∧ wc_z u ≤ wc_z u1 → lv_has ls 2 [(0, .ref (h + 0)), (1, .ref (h + x1))] → W p l e ({ frames := 88, cells := wc_z u1 - z0, slots := 4 * (wc_z u1 - z0), locals := 2745 }) s m args below meth c H locs (wc_z u - z0) (4 * (wc_z u - z0)) (MQX below (wc_Qx D dA h (wc_vi V) u1) args s (wc_z u1 - z0) (4 * (wc_z u1 - z0)) (CA h)) (F0 m 51 ls [.ref (h + 0)]) := by
    intro u x1 H locs ls hE hW hS hV hZ hl
    unfold fX0_lineTold_51 at hE
    refine lv_iconst (v := (1 : Int32)) hx hb dX0_lineTold_51 rfl ?_
    refine lv_goto (tgt := 56) hx hb dX0_lineTold_52 (by decide) ?_
    exact w_56 _ _ _ _ _ _ hE hW hS hV hZ (lv_sub hl [0, 1] rfl)
  have w_18 : ∀ (u : CS) (y1 : Int32) (H : Heap) (locs : List Loc) (ls : Array Slot), fX0_lineTold_18 N u y1 = some (V, u1) → wc_W D dA h u H → wc_S u → va_S (CA h) s.heap H locs → z0 ≤ wc_z u ∧ wc_z u ≤ wc_z u1 → lv_has ls 2 [(0, .ref (h + 0))] → W p l e ({ frames := 88, cells := wc_z u1 - z0, slots := 4 * (wc_z u1 - z0), locals := 2745 }) s m args below meth c H locs (wc_z u - z0) (4 * (wc_z u - z0)) (MQX below (wc_Qx D dA h (wc_vi V) u1) args s (wc_z u1 - z0) (4 * (wc_z u1 - z0)) (CA h)) (F0 m 18 ls [.int y1, .ref (h + 0)]) := by
    intro u y1 H locs ls hE hW hS hV hZ hl
    unfold fX0_lineTold_18 at hE
    refine lv_bipush (v := (-8 : Int32)) hx hb dX0_lineTold_18 rfl ?_
    refine cxe_X0_276 (vf := wc_vi) wc_viN C hlocks hnh hZ rfl rfl hW hS hV (st_0 hS) hE ⟨Nat.le_of_ble_eq_true rfl, Nat.le_of_ble_eq_true rfl⟩ dX0_lineTold_20 hl.1 (Nat.le_of_ble_eq_true rfl) (fun _ u18 H locs hE hW hS hV hZ => ?_)
    refine lv_aload_n hx hb dX0_lineTold_23 rfl (lv_at hl 0 rfl) ?_
    refine cgs_X0_68_0 C hW (st_0 hS) (sp_0_reader hS) dX0_lineTold_24 ?_
    refine cxw_X0_337 (vf := wc_vi) wc_viN C hlocks hnh hZ rfl rfl hW hS hV (st_297 hS) hE (rm := fun u_ => { frames := 87, cells := wc_z u_ - wc_z u18, slots := 4 * (wc_z u_ - wc_z u18), locals := 2724 }) (fun V_ u_ hz_ hc => kX3_read rfl hz_ hc) (fun _ => rfl) (fun _ => rfl) (fun _ => ⟨Nat.le_of_ble_eq_true rfl, Nat.le_of_ble_eq_true rfl⟩) dX0_lineTold_27 hl.1 (Nat.le_of_ble_eq_true rfl) (fun r19 u20 H locs hE hW hS hV hZ => ?_)
    refine z_astore_n (lv' := [(1, wc_rf h r19), (0, .ref (h + 0))]) hx hb dX0_lineTold_30 rfl hl (by decide) rfl (fun ls hl => ?_)
    refine lv_aload_n hx hb dX0_lineTold_31 rfl (lv_at hl 1 rfl) ?_
    refine z_aload_n hx hb dX0_lineTold_32 rfl (lv_at hl 0 rfl) ?_
    obtain ⟨n21, hp_, hE_⟩ := o_nn_some hE
    clear hE
    subst hp_
    have hE := hE_
    obtain ⟨ht, hE⟩ := o_sh_some hE
    refine cg_X0_332_5 C hW ht dX0_lineTold_33 ?_
    refine lv_iconst (v := (-1 : Int32)) hx hb dX0_lineTold_36 rfl ?_
    refine lv_icmp_eq (tgt := 51) hx hb dX0_lineTold_37 (by decide) (fun c22 => ?_) (fun c22 => ?_)
    · have hE := z_t c22 hE
      exact w_51 _ _ _ _ _ hE hW hS hV hZ (lv_sub hl [1, 0] rfl)
    · have hE := z_f c22 hE
      refine lv_aload_n hx hb dX0_lineTold_40 rfl (lv_at hl 1 rfl) ?_
      refine lv_aload_n hx hb dX0_lineTold_41 rfl (lv_at hl 0 rfl) ?_
      obtain ⟨ht, hE⟩ := o_sh_some hE
      refine cg_X0_332_5 C hW ht dX0_lineTold_42 ?_
      obtain ⟨r23, u24, hc, hE⟩ := o_bd2_some hE
      refine cc_X0_341 C hW hS hV (st_0 hS) (kX0_mayStrike hc) rfl rfl ⟨Nat.le_of_ble_eq_true rfl, Nat.le_of_ble_eq_true rfl⟩ (wa_r0 hZ) dX0_lineTold_45 hl.1 (Nat.le_of_ble_eq_true rfl) (fun H locs hW hS hV => ?_)
      obtain ⟨hz_, hE⟩ := o_ze_some hE
      rw [← hz_] at hZ ⊢
      refine lv_if_eq (tgt := 55) hx hb dX0_lineTold_48 (by decide) (fun c25 => ?_) (fun c25 => ?_)
      · have hE := z_t c25 hE
        refine lv_iconst (v := (0 : Int32)) hx hb dX0_lineTold_55 rfl ?_
        exact w_56 _ _ _ _ _ _ hE hW hS hV hZ (lv_sub hl [1, 0] rfl)
      · have hE := z_f c25 hE
        exact w_51 _ _ _ _ _ hE hW hS hV hZ (lv_sub hl [1, 0] rfl)
  unfold fX0_lineTold at hE
  refine lv_aload_n hx hb dX0_lineTold_0 rfl (lv_at hl 0 rfl) ?_
  refine lv_aload_n hx hb dX0_lineTold_1 rfl (lv_at hl 0 rfl) ?_
  refine cgs_X0_19_0 C hW (st_0 hS) (sp_0_now hS) dX0_lineTold_2 ?_
  refine cg_X0_322_1 C hW (st_F hS wc_F3) dX0_lineTold_5 ?_
  refine lv_bipush (v := (16 : Int32)) hx hb dX0_lineTold_8 rfl ?_
  refine lv_icmp_ge (tgt := 17) hx hb dX0_lineTold_10 (by decide) (fun c26 => ?_) (fun c26 => ?_)
  · have hE := z_t c26 hE
    refine lv_iconst (v := (0 : Int32)) hx hb dX0_lineTold_17 rfl ?_
    exact w_18 _ _ _ _ _ hE hW hS hV hZ (lv_sub hl [0] rfl)
  · have hE := z_f c26 hE
    refine lv_iconst (v := (1 : Int32)) hx hb dX0_lineTold_13 rfl ?_
    refine lv_goto (tgt := 18) hx hb dX0_lineTold_14 (by decide) ?_
    exact w_18 _ _ _ _ _ hE hW hS hV hZ (lv_sub hl [0] rfl)
theorem cxw_X0_348 {β : Type} {vf : β ⊕ Nat → Option Value ⊕ Nat} (hvf : ∀ n, vf (.inr n) = .inr n) {z0 : Nat} {u uF : CS} {Vf : β ⊕ Nat} {K : Int32 → CS → Option ((β ⊕ Nat) × CS)} {x : Option ((Int32 ⊕ Nat) × CS)} {rm : CS → Room} (C : CC p m c cc nL s args D dA RX0) (hlocks : meth.locks = false) (hnh : c.exceptionTable.isEmpty = true) (hZ : z0 ≤ wc_z u ∧ wc_z u ≤ wc_z uF) (hRc : R.cells = wc_z uF - z0) (hRs : R.slots = 4 * (wc_z uF - z0)) (hW : wc_W D dA h u H) (hS : wc_S u) (hV : va_S (CA h) s.heap H locs) (ht : wc_T u 0 = some (.inl 0)) (hE : o_bw u x K = some (Vf, uF)) (hM : ∀ (V : Int32 ⊕ Nat) (u1 : CS), wc_z u ≤ wc_z u1 → x = some (V, u1) → MetX l yX0_lineTold (ws_ yX0_lineTold cX0_lineTold 2 (some .int)) (rm u1) (va_Pc [.ref (h + 0)] (wc_St D dA h u)) (wc_Qx D dA h (wc_vi V) u1) (wc_z u1 - wc_z u) (4 * (wc_z u1 - wc_z u)) (CA h)) (hrc : ∀ u1, (rm u1).cells = wc_z u1 - wc_z u) (hrs : ∀ u1, (rm u1).slots = 4 * (wc_z u1 - wc_z u)) (hR : ∀ u1, (rm u1).frames + 1 ≤ R.frames ∧ 8 + (2 + 11) + (rm u1).locals ≤ R.locals) (d : decode cc pc = .ok (.invokevirtual 348, 3)) (hsz : ls.size = nL) (hro : (rest.map fun v => v.category).sum ≤ 8) (kk : ∀ (a : Int32) (u2 : CS) (H1 : Heap) (locs1 : List Loc), K a u2 = some (Vf, uF) → wc_W D dA h u2 H1 → wc_S u2 → va_S (CA h) s.heap H1 locs1 → (z0 ≤ wc_z u2 ∧ wc_z u2 ≤ wc_z uF) → W p l e R s m args below meth c H1 locs1 (wc_z u2 - z0) (4 * (wc_z u2 - z0)) (MQX below (wc_Qx D dA h (vf Vf) uF) args s (wc_z uF - z0) (4 * (wc_z uF - z0)) (CA h)) (F0 m (pc + 3) ls (.int a :: rest))) : W p l e R s m args below meth c H locs (wc_z u - z0) (4 * (wc_z u - z0)) (MQX below (wc_Qx D dA h (vf Vf) uF) args s (wc_z uF - z0) (4 * (wc_z uF - z0)) (CA h)) (F0 m pc ls (.ref (h + 0) :: rest)) :=
  wz_callW (f := fun r => some (.int r)) (As := []) (fun _ => rfl) wc_viN hvf C hlocks hnh hZ hRc hRs hE hM (fun u1 => cwV 0 C.1.2.2.2.2 (lw_V q1011 q1013 qs30 q166 q1014) rfl (hrc u1) (hrs u1) (by decide +kernel) (hR u1)) (wc_preV (q := (RX0, TX0, 27)) C.2 hW hS ht rfl _) rfl hsz hro d hV kk
theorem cyw_X0_348 {β : Type} {z0 : Nat} {u uF : CS} {rF : β} {K : Int32 → CS → Option (β × CS)} {Kh : Nat → CS → Option (β × CS)} {x : Option ((Int32 ⊕ Nat) × CS)} {rm : CS → Room} (C : CC p m c cc nL s args D dA RX0) (hZ : z0 ≤ wc_z u ∧ wc_z u ≤ wc_z uF) (hRc : R.cells = wc_z uF - z0) (hRs : R.slots = 4 * (wc_z uF - z0)) (hW : wc_W D dA h u H) (hS : wc_S u) (hV : va_S (CA h) s.heap H locs) (ht : wc_T u 0 = some (.inl 0)) (hE : o_bh u x K Kh = some (rF, uF)) (hM : ∀ (V : Int32 ⊕ Nat) (u1 : CS), wc_z u ≤ wc_z u1 → x = some (V, u1) → MetX l yX0_lineTold (ws_ yX0_lineTold cX0_lineTold 2 (some .int)) (rm u1) (va_Pc [.ref (h + 0)] (wc_St D dA h u)) (wc_Qx D dA h (wc_vi V) u1) (wc_z u1 - wc_z u) (4 * (wc_z u1 - wc_z u)) (CA h)) (hrc : ∀ u1, (rm u1).cells = wc_z u1 - wc_z u) (hrs : ∀ u1, (rm u1).slots = 4 * (wc_z u1 - wc_z u)) (hR : ∀ u1, (rm u1).frames + 1 ≤ R.frames ∧ 8 + (2 + 11) + (rm u1).locals ≤ R.locals) (d : decode cc pc = .ok (.invokevirtual 348, 3)) (hsz : ls.size = nL) (hro : (rest.map fun v => v.category).sum ≤ 8) (kk : ∀ (a : Int32) (u2 : CS) (H1 : Heap) (locs1 : List Loc), K a u2 = some (rF, uF) → wc_W D dA h u2 H1 → wc_S u2 → va_S (CA h) s.heap H1 locs1 → (z0 ≤ wc_z u2 ∧ wc_z u2 ≤ wc_z uF) → W p l e R s m args below meth c H1 locs1 (wc_z u2 - z0) (4 * (wc_z u2 - z0)) Q (F0 m (pc + 3) ls (.int a :: rest))) (kh : ∀ (n : Nat) (u2 : CS) (H1 : Heap) (locs1 : List Loc), Kh n u2 = some (rF, uF) → wc_W D dA h u2 H1 → wc_S u2 → va_S (CA h) s.heap H1 locs1 → (z0 ≤ wc_z u2 ∧ wc_z u2 ≤ wc_z uF) → ∃ (hpc : Nat) (cell : Cell), H1[h + n]? = some cell ∧ xh_go p l e R s m args below meth c locs1 (wc_z u2 - z0) (4 * (wc_z u2 - z0)) (F0 m pc ls rest) (h + n) cell c.exceptionTable.toList hpc ∧ W p l e R s m args below meth c H1 locs1 (wc_z u2 - z0) (4 * (wc_z u2 - z0)) Q (F0 m hpc ls [.ref (h + n)])) : W p l e R s m args below meth c H locs (wc_z u - z0) (4 * (wc_z u - z0)) Q (F0 m pc ls (.ref (h + 0) :: rest)) :=
  wz_callH (f := fun r => some (.int r)) (As := []) (fun _ => rfl) wc_viN C hZ hRc hRs hE hM (fun u1 => cwV 0 C.1.2.2.2.2 (lw_V q1011 q1013 qs30 q166 q1014) rfl (hrc u1) (hrs u1) (by decide +kernel) (hR u1)) (wc_preV (q := (RX0, TX0, 27)) C.2 hW hS ht rfl _) rfl hsz hro d hV kk kh
set_option maxHeartbeats 4000000 in
set_option maxRecDepth 100000 in
theorem kX0_line {l : Launch} {D : va_G} {dA : Nat → ClassId} {h N z0 : Nat} {u u1 : CS} {r : Int32} (hz0 : wc_z u = z0) (hz1 : wc_z u ≤ wc_z u1) (hE : fX0_line N u = some (r, u1)) : Met l yX0_line (wsW_ yX0_line cX0_line 2 (some .int) [(0, 4, 5, 56), (0, 4, 15, 351)]) ({ frames := 89, cells := wc_z u1 - z0, slots := 4 * (wc_z u1 - z0), locals := 2766 }) (va_Pc [.ref (h + 0)] (wc_St D dA h u)) (wc_Qr D dA h (some (.int r)) u1) (wc_z u1 - z0) (4 * (wc_z u1 - z0)) (CA h) := by
  refine wa_metW (own := RX0) hz0 (by decide) rfl rfl rfl ?_
  intro p e s m args below meth c ls C hr hlocks htb hW hS hV hl
  have hx := C.1.1
  have hb := C.1.2.1
  have hZ : z0 ≤ wc_z u ∧ wc_z u ≤ wc_z u1 := ⟨by omega, hz1⟩
  unfold fX0_line at hE
  refine lv_aload_n hx hb dX0_line_0 rfl (lv_at hl 0 rfl) ?_
  refine cyw_X0_348 C hZ rfl rfl hW hS hV (st_0 hS) hE (rm := fun u_ => { frames := 88, cells := wc_z u_ - wc_z u, slots := 4 * (wc_z u_ - wc_z u), locals := 2745 }) (fun V_ u_ hz_ hc => kX0_lineTold rfl hz_ hc) (fun _ => rfl) (fun _ => rfl) (fun _ => ⟨Nat.le_of_ble_eq_true rfl, Nat.le_of_ble_eq_true rfl⟩) dX0_line_1 hl.1 (Nat.le_of_ble_eq_true rfl) (fun r5 u6 H locs hE hW hS hV hZ => ?_) (fun n7 u8 H locs hE hW hS hV hZ => ?_)
  · skip
    obtain ⟨rfl, rfl⟩ := z_ret hE
    exact wc_iret C hr hlocks hW hS hV rfl dX0_line_4
  · skip
    by_cases ct : wc_T u8 n7 = some (.inl 6)
    · have hE := z_t ct hE
      obtain ⟨cell_, hcell_, hgo_⟩ := xh_first (pc := 1) (ls := ls) (rest := []) (ci := 6) (nm := RX6) (T := TX6) (N := 7) C htb ⟨by decide, by decide⟩ (by decide) q201 rfl hW ct
      refine ⟨_, cell_, hcell_, hgo_, ?_⟩
      refine lv_astore_n (lv' := [(1, .ref (h + n7)), (0, .ref (h + 0))]) hx hb dX0_line_5 rfl hl (by decide) rfl (fun ls hl => ?_)
      refine lv_aload_n hx hb dX0_line_6 rfl (lv_at hl 1 rfl) ?_
      refine lv_aload_n hx hb dX0_line_7 rfl (lv_at hl 0 rfl) ?_
      obtain ⟨ht, hE⟩ := o_sh_some hE
      refine cg_X0_288_6 C hW ht dX0_line_8 ?_
      obtain ⟨r9, u10, hc, hE⟩ := o_bd2_some hE
      refine cc_X0_118 C hW hS hV (st_0 hS) (kX0_refuse hc) rfl rfl ⟨Nat.le_of_ble_eq_true rfl, Nat.le_of_ble_eq_true rfl⟩ (wa_r0 hZ) dX0_line_11 hl.1 (Nat.le_of_ble_eq_true rfl) (fun H locs hW hS hV => ?_)
      obtain ⟨hz_, hE⟩ := o_ze_some hE
      rw [← hz_] at hZ ⊢
      obtain ⟨rfl, rfl⟩ := z_ret hE
      exact wc_iret C hr hlocks hW hS hV rfl dX0_line_14
    have hE := z_f ct hE
    by_cases ct : wc_T u8 n7 = some (.inl 4)
    · have hE := z_t ct hE
      obtain ⟨cell_, hcell_, hgo_⟩ := xh_two (pc := 1) (ls := ls) (rest := []) (ci := 4) (nm := RX4) (T := TX4) (N := 7) C htb ⟨by decide, by decide⟩ (by decide) (by decide) q201 q1010 rfl (by decide +kernel) hW ct
      refine ⟨_, cell_, hcell_, hgo_, ?_⟩
      refine lv_astore_n (lv' := [(1, .ref (h + n7)), (0, .ref (h + 0))]) hx hb dX0_line_15 rfl hl (by decide) rfl (fun ls hl => ?_)
      refine lv_bipush (v := (-10 : Int32)) hx hb dX0_line_16 rfl ?_
      refine lv_aload_n hx hb dX0_line_18 rfl (lv_at hl 0 rfl) ?_
      obtain ⟨ht, hE⟩ := o_sh_some hE
      refine cg_X0_353_4 C hW ht dX0_line_19 ?_
      refine lv_isub hx hb dX0_line_22 ?_
      obtain ⟨rfl, rfl⟩ := z_ret hE
      exact wc_iret C hr hlocks hW hS hV rfl dX0_line_23
    have hE := z_f ct hE
    cases hE
end CG400
