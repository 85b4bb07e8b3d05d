section CG101
variable {p : Program} {l : Launch} {e : Env} {R : Room} {s : State} {m : MethodId} {args : Array Value} {below : List Frame} {meth : Method} {c : Code} {H : Heap} {locs : List Loc} {cells slots : Nat} {Q : State → Prop} {cc : ByteArray} {nL pc : Nat} {ls : Array Slot} {rest : List Value} {D : va_G} {dA : Nat → ClassId} {h : Nat} {H0 : Heap}
set_option maxHeartbeats 4000000 in
set_option maxRecDepth 100000 in
theorem kX0_judgeTold {l : Launch} {D : va_G} {dA : Nat → ClassId} {h N : Nat} {a1 : Int32} {a2 : Int32} {u u1 : CS} {V : Int32 ⊕ Nat} (hE : fX0_judgeTold N u a1 a2 = some (V, u1)) : MetX l yX0_judgeTold (ws_ yX0_judgeTold cX0_judgeTold 3 (some .int)) ({ frames := 208, cells := 0, slots := 0, locals := 6595 }) (va_Pc [.ref (h + 0), .int a1, .int a2] (wc_St D dA h u)) (wc_Qx D dA h (wc_vi V) u1) 0 0 (CA h) := by
  refine wc_metX (own := RX0) (by decide) rfl rfl rfl ?_
  intro p e s m args below meth c ls C hr hlocks hnh hW hS hV hl
  have hx := C.1.1
  have hb := C.1.2.1
  have w_21 : ∀ (u : CS) (y0 : Int32) (H : Heap) (locs : List Loc) (ls : Array Slot), fX0_judgeTold_21 N u y0 = some (V, u1) → wc_W D dA h u H → wc_S u → va_S (CA h) s.heap H locs → lv_has ls 3 [] → W p l e ({ frames := 208, cells := 0, slots := 0, locals := 6595 }) s m args below meth c H locs 0 0 (MQX below (wc_Qx D dA h (wc_vi V) u1) args s 0 0 (CA h)) (F0 m 21 ls [.int y0]) := by
    intro u y0 H locs ls hE hW hS hV hl
    unfold fX0_judgeTold_21 at hE
    exact wx_iret C hr hlocks hW hS hV hE dX0_judgeTold_21
  have w_20 : ∀ (u : CS) (H : Heap) (locs : List Loc) (ls : Array Slot), fX0_judgeTold_20 N u = some (V, u1) → wc_W D dA h u H → wc_S u → va_S (CA h) s.heap H locs → lv_has ls 3 [] → W p l e ({ frames := 208, cells := 0, slots := 0, locals := 6595 }) s m args below meth c H locs 0 0 (MQX below (wc_Qx D dA h (wc_vi V) u1) args s 0 0 (CA h)) (F0 m 20 ls []) := by
    intro u H locs ls hE hW hS hV hl
    unfold fX0_judgeTold_20 at hE
    refine lv_iconst (v := (0 : Int32)) hx hb dX0_judgeTold_20 rfl ?_
    exact w_21 _ _ _ _ _ hE hW hS hV (lv_sub hl [] rfl)
  unfold fX0_judgeTold at hE
  refine lv_aload_n hx hb dX0_judgeTold_0 rfl (lv_at hl 0 rfl) ?_
  refine lv_iload_n hx hb dX0_judgeTold_1 rfl (lv_at hl 1 rfl) ?_
  refine lv_iload_n hx hb dX0_judgeTold_2 rfl (lv_at hl 2 rfl) ?_
  refine cx_X0_553 (vf := wc_vi) wc_viN C hlocks hnh hW hS hV (st_0 hS) hE ⟨Nat.le_of_ble_eq_true rfl, Nat.le_of_ble_eq_true rfl⟩ ⟨Nat.le_refl 0, Nat.le_refl 0⟩ dX0_judgeTold_3 hl.1 (Nat.le_of_ble_eq_true rfl) (fun r5 u6 H locs hE hW hS hV => ?_)
  refine lv_if_eq (tgt := 20) hx hb dX0_judgeTold_6 (by decide) (fun c7 => ?_) (fun c7 => ?_)
  · have hE := z_t c7 hE
    exact w_20 _ _ _ _ hE hW hS hV (lv_sub hl [] rfl)
  · have hE := z_f c7 hE
    refine lv_aload_n hx hb dX0_judgeTold_9 rfl (lv_at hl 0 rfl) ?_
    obtain ⟨r8, u9, hc, hE⟩ := o_bd2_some hE
    refine cc_X0_486 C hW hS hV (st_0 hS) (kX0_isAllowed hc) rfl rfl ⟨Nat.le_of_ble_eq_true rfl, Nat.le_of_ble_eq_true rfl⟩ ⟨Nat.le_refl 0, Nat.le_refl 0⟩ dX0_judgeTold_10 hl.1 (Nat.le_of_ble_eq_true rfl) (fun H locs hW hS hV => ?_)
    refine lv_if_eq (tgt := 20) hx hb dX0_judgeTold_13 (by decide) (fun c10 => ?_) (fun c10 => ?_)
    · have hE := z_t c10 hE
      exact w_20 _ _ _ _ hE hW hS hV (lv_sub hl [] rfl)
    · have hE := z_f c10 hE
      refine lv_iconst (v := (1 : Int32)) hx hb dX0_judgeTold_16 rfl ?_
      refine lv_goto (tgt := 21) hx hb dX0_judgeTold_17 (by decide) ?_
      exact w_21 _ _ _ _ _ hE hW hS hV (lv_sub hl [] rfl)
theorem cx_X0_556 {β : Type} {vf : β ⊕ Nat → Option Value ⊕ Nat} (hvf : ∀ n, vf (.inr n) = .inr n) {N : Nat} {a1 : Int32} {a2 : Int32} {u uF : CS} {Vf : β ⊕ Nat} {K : Int32 → CS → Option ((β ⊕ Nat) × CS)} (C : CC p m c cc nL s args D dA RX0) (hlocks : meth.locks = false) (hnh : c.exceptionTable.isEmpty = true) (hW : wc_W D dA h u H) (hS : wc_S u) (hV : va_S (CA h) s.heap H locs) (ht : wc_T u 0 = some (.inl 0)) (hE : o_bx (fX0_judgeTold N u a1 a2) K = some (Vf, uF)) (hR : 208 + 1 ≤ R.frames ∧ 8 + (3 + 11) + 6595 ≤ R.locals) (hf : cells + 0 ≤ R.cells ∧ slots + 0 ≤ R.slots) (d : decode cc pc = .ok (.invokevirtual 556, 3)) (hsz : ls.size = nL) (hro : (rest.map fun v => v.category).sum ≤ 8) (kk : ∀ (a : Int32) (u2 : CS) (H1 : Heap) (locs1 : List Loc), K a u2 = some (Vf, uF) → wc_W D dA h u2 H1 → wc_S u2 → va_S (CA h) s.heap H1 locs1 → W p l e R s m args below meth c H1 locs1 cells slots (MQX below (wc_Qx D dA h (vf Vf) uF) args s cells slots (CA h)) (F0 m (pc + 3) ls (.int a :: rest))) : W p l e R s m args below meth c H locs cells slots (MQX below (wc_Qx D dA h (vf Vf) uF) args s cells slots (CA h)) (F0 m pc ls (.int a2 :: .int a1 :: .ref (h + 0) :: rest)) :=
  wx_callX (f := fun r => some (.int r)) (As := [.int a1, .int a2]) (fun _ => rfl) wc_viN hvf C hlocks hnh hE (fun V u1 hc => kX0_judgeTold hc) (cwV 2 C.1.2.2.2.2 (lw_V q1482 q1484 qs92 q166 q1485) rfl rfl rfl (by decide +kernel) hR) (wc_preV (q := (RX0, TX0, 27)) C.2 hW hS ht rfl _) rfl hsz hro d hf hV kk
theorem cy_X0_556 {ρ : Type} {r0 : ρ} {N : Nat} {a1 : Int32} {a2 : Int32} {u : CS} {K : Int32 → CS → Option ρ} {Kh : Nat → CS → Option ρ} (C : CC p m c cc nL s args D dA RX0) (hW : wc_W D dA h u H) (hS : wc_S u) (hV : va_S (CA h) s.heap H locs) (ht : wc_T u 0 = some (.inl 0)) (hE : o_by (fX0_judgeTold N u a1 a2) K Kh = some r0) (hR : 208 + 1 ≤ R.frames ∧ 8 + (3 + 11) + 6595 ≤ R.locals) (hf : cells + 0 ≤ R.cells ∧ slots + 0 ≤ R.slots) (d : decode cc pc = .ok (.invokevirtual 556, 3)) (hsz : ls.size = nL) (hro : (rest.map fun v => v.category).sum ≤ 8) (kk : ∀ (a : Int32) (u2 : CS) (H1 : Heap) (locs1 : List Loc), K a u2 = some r0 → wc_W D dA h u2 H1 → wc_S u2 → va_S (CA h) s.heap H1 locs1 → W p l e R s m args below meth c H1 locs1 cells slots Q (F0 m (pc + 3) ls (.int a :: rest))) (kh : ∀ (n : Nat) (u2 : CS) (H1 : Heap) (locs1 : List Loc), Kh n u2 = some r0 → wc_W D dA h u2 H1 → wc_S u2 → va_S (CA h) s.heap H1 locs1 → ∃ (hpc : Nat) (cell : Cell), H1[h + n]? = some cell ∧ xh_go p l e R s m args below meth c locs1 cells slots (F0 m pc ls rest) (h + n) cell c.exceptionTable.toList hpc ∧ W p l e R s m args below meth c H1 locs1 cells slots Q (F0 m hpc ls [.ref (h + n)])) : W p l e R s m args below meth c H locs cells slots Q (F0 m pc ls (.int a2 :: .int a1 :: .ref (h + 0) :: rest)) :=
  wx_callH (f := fun r => some (.int r)) (As := [.int a1, .int a2]) (fun _ => rfl) wc_viN C hE (fun V u1 hc => kX0_judgeTold hc) (cwV 2 C.1.2.2.2.2 (lw_V q1482 q1484 qs92 q166 q1485) rfl rfl rfl (by decide +kernel) hR) (wc_preV (q := (RX0, TX0, 27)) C.2 hW hS ht rfl _) rfl hsz hro d hf hV kk kh
set_option maxHeartbeats 4000000 in
set_option maxRecDepth 100000 in
theorem kX0_judge {l : Launch} {D : va_G} {dA : Nat → ClassId} {h N : Nat} {a1 : Int32} {a2 : Int32} {u u1 : CS} {r : Int32} (hE : fX0_judge N u a1 a2 = some (r, u1)) : Met l yX0_judge (wsW_ yX0_judge cX0_judge 4 (some .int) [(0, 6, 7, 56)]) ({ frames := 209, cells := 0, slots := 0, locals := 6617 }) (va_Pc [.ref (h + 0), .int a1, .int a2] (wc_St D dA h u)) (wc_Qr D dA h (some (.int r)) u1) 0 0 (CA h) := by
  refine wc_metW (own := RX0) (by decide) rfl rfl rfl ?_
  intro p e s m args below meth c ls C hr hlocks htb hW hS hV hl
  have hx := C.1.1
  have hb := C.1.2.1
  unfold fX0_judge at hE
  refine lv_aload_n hx hb dX0_judge_0 rfl (lv_at hl 0 rfl) ?_
  refine lv_iload_n hx hb dX0_judge_1 rfl (lv_at hl 1 rfl) ?_
  refine lv_iload_n hx hb dX0_judge_2 rfl (lv_at hl 2 rfl) ?_
  refine cy_X0_556 C hW hS hV (st_0 hS) hE ⟨Nat.le_of_ble_eq_true rfl, Nat.le_of_ble_eq_true rfl⟩ ⟨Nat.le_refl 0, Nat.le_refl 0⟩ dX0_judge_3 hl.1 (Nat.le_of_ble_eq_true rfl) (fun r5 u6 H locs hE hW hS hV => ?_) (fun n7 u8 H locs hE hW hS hV => ?_)
  · skip
    exact wc_iret C hr hlocks hW hS hV hE dX0_judge_6
  · skip
    by_cases ct : wc_T u8 n7 = some (.inl 6)
    · have hE := z_t ct hE
      obtain ⟨cell_, hcell_, hgo_⟩ := xh_one (pc := 3) (ls := ls) (rest := []) (ci := 6) (nm := RX6) (T := TX6) (N := 7) C htb ⟨by decide, by decide⟩ (by decide) q201 rfl hW ct
      refine ⟨_, cell_, hcell_, hgo_, ?_⟩
      refine lv_astore_n (lv' := [(3, .ref (h + n7)), (0, .ref (h + 0)), (1, .int a1), (2, .int a2)]) hx hb dX0_judge_7 rfl hl (by decide) rfl (fun ls hl => ?_)
      refine lv_aload_n hx hb dX0_judge_8 rfl (lv_at hl 1 rfl) ?_
      refine lv_aload_n hx hb dX0_judge_9 rfl (lv_at hl 0 rfl) ?_
      obtain ⟨ht, hE⟩ := o_sh_some hE
      refine cg_X0_288_6 C hW ht dX0_judge_10 ?_
      obtain ⟨r9, u10, hc, hE⟩ := o_bd2_some hE
      refine cc_X0_118 C hW hS hV (st_0 hS) (kX0_refuse hc) rfl rfl ⟨Nat.le_of_ble_eq_true rfl, Nat.le_of_ble_eq_true rfl⟩ ⟨Nat.le_refl 0, Nat.le_refl 0⟩ dX0_judge_13 hl.1 (Nat.le_of_ble_eq_true rfl) (fun H locs hW hS hV => ?_)
      exact wc_iret C hr hlocks hW hS hV hE dX0_judge_16
    have hE := z_f ct hE
    cases hE
set_option maxHeartbeats 4000000 in
set_option maxRecDepth 100000 in
theorem kX0_worthTold {l : Launch} {D : va_G} {dA : Nat → ClassId} {h N : Nat} {a1 : Int32} {a2 : Int32} {a3 : Int32} {u u1 : CS} {V : Int64 ⊕ Nat} (hE : fX0_worthTold N u a1 a2 a3 = some (V, u1)) : MetX l yX0_worthTold (ws_ yX0_worthTold cX0_worthTold 4 (some .long)) ({ frames := 208, cells := 0, slots := 0, locals := 6595 }) (va_Pc [.ref (h + 0), .int a1, .int a2, .int a3] (wc_St D dA h u)) (wc_Qx D dA h (wc_vl V) u1) 0 0 (CA h) := by
  refine wc_metX (own := RX0) (by decide) rfl rfl rfl ?_
  intro p e s m args below meth c ls C hr hlocks hnh hW hS hV hl
  have hx := C.1.1
  have hb := C.1.2.1
  have w_27 : ∀ (u : CS) (y0 : Int64) (H : Heap) (locs : List Loc) (ls : Array Slot), fX0_worthTold_27 N u y0 = some (V, u1) → wc_W D dA h u H → wc_S u → va_S (CA h) s.heap H locs → lv_has ls 4 [] → W p l e ({ frames := 208, cells := 0, slots := 0, locals := 6595 }) s m args below meth c H locs 0 0 (MQX below (wc_Qx D dA h (wc_vl V) u1) args s 0 0 (CA h)) (F0 m 27 ls [.long y0]) := by
    intro u y0 H locs ls hE hW hS hV hl
    unfold fX0_worthTold_27 at hE
    exact wx_lret C hr hlocks hW hS hV hE dX0_worthTold_27
  unfold fX0_worthTold at hE
  refine lv_aload_n hx hb dX0_worthTold_0 rfl (lv_at hl 0 rfl) ?_
  refine lv_aload_n hx hb dX0_worthTold_1 rfl (lv_at hl 0 rfl) ?_
  refine lv_iload_n hx hb dX0_worthTold_2 rfl (lv_at hl 1 rfl) ?_
  refine lv_iload_n hx hb dX0_worthTold_3 rfl (lv_at hl 2 rfl) ?_
  refine cx_X0_553 (vf := wc_vl) wc_vlN C hlocks hnh hW hS hV (st_0 hS) hE ⟨Nat.le_of_ble_eq_true rfl, Nat.le_of_ble_eq_true rfl⟩ ⟨Nat.le_refl 0, Nat.le_refl 0⟩ dX0_worthTold_4 hl.1 (Nat.le_of_ble_eq_true rfl) (fun r8 u9 H locs hE hW hS hV => ?_)
  refine lv_bipush (v := (-7 : Int32)) hx hb dX0_worthTold_7 rfl ?_
  refine cx_X0_276 (vf := wc_vl) wc_vlN C hlocks hnh hW hS hV (st_0 hS) hE ⟨Nat.le_of_ble_eq_true rfl, Nat.le_of_ble_eq_true rfl⟩ ⟨Nat.le_refl 0, Nat.le_refl 0⟩ dX0_worthTold_9 hl.1 (Nat.le_of_ble_eq_true rfl) (fun _ u10 H locs hE hW hS hV => ?_)
  refine lv_iload_n hx hb dX0_worthTold_12 rfl (lv_at hl 3 rfl) ?_
  refine lv_if_eq (tgt := 23) hx hb dX0_worthTold_13 (by decide) (fun c11 => ?_) (fun c11 => ?_)
  · have hE := z_t c11 hE
    refine lv_aload_n hx hb dX0_worthTold_23 rfl (lv_at hl 0 rfl) ?_
    obtain ⟨r12, u13, hc, hE⟩ := o_bd2_some hE
    refine cc_X0_490 C hW hS hV (st_0 hS) (kX0_leastOf hc) rfl rfl ⟨Nat.le_of_ble_eq_true rfl, Nat.le_of_ble_eq_true rfl⟩ ⟨Nat.le_refl 0, Nat.le_refl 0⟩ dX0_worthTold_24 hl.1 (Nat.le_of_ble_eq_true rfl) (fun H locs hW hS hV => ?_)
    exact w_27 _ _ _ _ _ hE hW hS hV (lv_sub hl [] rfl)
  · have hE := z_f c11 hE
    refine lv_aload_n hx hb dX0_worthTold_16 rfl (lv_at hl 0 rfl) ?_
    obtain ⟨r14, u15, hc, hE⟩ := o_bd2_some hE
    refine cc_X0_494 C hW hS hV (st_0 hS) (kX0_allOf hc) rfl rfl ⟨Nat.le_of_ble_eq_true rfl, Nat.le_of_ble_eq_true rfl⟩ ⟨Nat.le_refl 0, Nat.le_refl 0⟩ dX0_worthTold_17 hl.1 (Nat.le_of_ble_eq_true rfl) (fun H locs hW hS hV => ?_)
    refine lv_goto (tgt := 27) hx hb dX0_worthTold_20 (by decide) ?_
    exact w_27 _ _ _ _ _ hE hW hS hV (lv_sub hl [] rfl)
theorem cx_X0_559 {β : Type} {vf : β ⊕ Nat → Option Value ⊕ Nat} (hvf : ∀ n, vf (.inr n) = .inr n) {N : Nat} {a1 : Int32} {a2 : Int32} {a3 : Int32} {u uF : CS} {Vf : β ⊕ Nat} {K : Int64 → CS → Option ((β ⊕ Nat) × CS)} (C : CC p m c cc nL s args D dA RX0) (hlocks : meth.locks = false) (hnh : c.exceptionTable.isEmpty = true) (hW : wc_W D dA h u H) (hS : wc_S u) (hV : va_S (CA h) s.heap H locs) (ht : wc_T u 0 = some (.inl 0)) (hE : o_bx (fX0_worthTold N u a1 a2 a3) K = some (Vf, uF)) (hR : 208 + 1 ≤ R.frames ∧ 8 + (4 + 11) + 6595 ≤ R.locals) (hf : cells + 0 ≤ R.cells ∧ slots + 0 ≤ R.slots) (d : decode cc pc = .ok (.invokevirtual 559, 3)) (hsz : ls.size = nL) (hro : (rest.map fun v => v.category).sum ≤ 8) (kk : ∀ (a : Int64) (u2 : CS) (H1 : Heap) (locs1 : List Loc), K a u2 = some (Vf, uF) → wc_W D dA h u2 H1 → wc_S u2 → va_S (CA h) s.heap H1 locs1 → W p l e R s m args below meth c H1 locs1 cells slots (MQX below (wc_Qx D dA h (vf Vf) uF) args s cells slots (CA h)) (F0 m (pc + 3) ls (.long a :: rest))) : W p l e R s m args below meth c H locs cells slots (MQX below (wc_Qx D dA h (vf Vf) uF) args s cells slots (CA h)) (F0 m pc ls (.int a3 :: .int a2 :: .int a1 :: .ref (h + 0) :: rest)) :=
  wx_callX (f := fun r => some (.long r)) (As := [.int a1, .int a2, .int a3]) (fun _ => rfl) wc_vlN hvf C hlocks hnh hE (fun V u1 hc => kX0_worthTold hc) (cwV 3 C.1.2.2.2.2 (lw_V q1494 q1496 qs94 q166 q1497) rfl rfl rfl (by decide +kernel) hR) (wc_preV (q := (RX0, TX0, 27)) C.2 hW hS ht rfl _) rfl hsz hro d hf hV kk
theorem cy_X0_559 {ρ : Type} {r0 : ρ} {N : Nat} {a1 : Int32} {a2 : Int32} {a3 : Int32} {u : CS} {K : Int64 → CS → Option ρ} {Kh : Nat → CS → Option ρ} (C : CC p m c cc nL s args D dA RX0) (hW : wc_W D dA h u H) (hS : wc_S u) (hV : va_S (CA h) s.heap H locs) (ht : wc_T u 0 = some (.inl 0)) (hE : o_by (fX0_worthTold N u a1 a2 a3) K Kh = some r0) (hR : 208 + 1 ≤ R.frames ∧ 8 + (4 + 11) + 6595 ≤ R.locals) (hf : cells + 0 ≤ R.cells ∧ slots + 0 ≤ R.slots) (d : decode cc pc = .ok (.invokevirtual 559, 3)) (hsz : ls.size = nL) (hro : (rest.map fun v => v.category).sum ≤ 8) (kk : ∀ (a : Int64) (u2 : CS) (H1 : Heap) (locs1 : List Loc), K a u2 = some r0 → wc_W D dA h u2 H1 → wc_S u2 → va_S (CA h) s.heap H1 locs1 → W p l e R s m args below meth c H1 locs1 cells slots Q (F0 m (pc + 3) ls (.long a :: rest))) (kh : ∀ (n : Nat) (u2 : CS) (H1 : Heap) (locs1 : List Loc), Kh n u2 = some r0 → wc_W D dA h u2 H1 → wc_S u2 → va_S (CA h) s.heap H1 locs1 → ∃ (hpc : Nat) (cell : Cell), H1[h + n]? = some cell ∧ xh_go p l e R s m args below meth c locs1 cells slots (F0 m pc ls rest) (h + n) cell c.exceptionTable.toList hpc ∧ W p l e R s m args below meth c H1 locs1 cells slots Q (F0 m hpc ls [.ref (h + n)])) : W p l e R s m args below meth c H locs cells slots Q (F0 m pc ls (.int a3 :: .int a2 :: .int a1 :: .ref (h + 0) :: rest)) :=
  wx_callH (f := fun r => some (.long r)) (As := [.int a1, .int a2, .int a3]) (fun _ => rfl) wc_vlN C hE (fun V u1 hc => kX0_worthTold hc) (cwV 3 C.1.2.2.2.2 (lw_V q1494 q1496 qs94 q166 q1497) rfl rfl rfl (by decide +kernel) hR) (wc_preV (q := (RX0, TX0, 27)) C.2 hW hS ht rfl _) rfl hsz hro d hf hV kk kh
set_option maxHeartbeats 4000000 in
set_option maxRecDepth 100000 in
theorem kX0_worth {l : Launch} {D : va_G} {dA : Nat → ClassId} {h N : Nat} {a1 : Int32} {a2 : Int32} {a3 : Int32} {u u1 : CS} {r : Int64} (hE : fX0_worth N u a1 a2 a3 = some (r, u1)) : Met l yX0_worth (wsW_ yX0_worth cX0_worth 5 (some .long) [(0, 7, 8, 56)]) ({ frames := 209, cells := 0, slots := 0, locals := 6618 }) (va_Pc [.ref (h + 0), .int a1, .int a2, .int a3] (wc_St D dA h u)) (wc_Qr D dA h (some (.long r)) u1) 0 0 (CA h) := by
  refine wc_metW (own := RX0) (by decide) rfl rfl rfl ?_
  intro p e s m args below meth c ls C hr hlocks htb hW hS hV hl
  have hx := C.1.1
  have hb := C.1.2.1
  unfold fX0_worth at hE
  refine lv_aload_n hx hb dX0_worth_0 rfl (lv_at hl 0 rfl) ?_
  refine lv_iload_n hx hb dX0_worth_1 rfl (lv_at hl 1 rfl) ?_
  refine lv_iload_n hx hb dX0_worth_2 rfl (lv_at hl 2 rfl) ?_
  refine lv_iload_n hx hb dX0_worth_3 rfl (lv_at hl 3 rfl) ?_
  refine cy_X0_559 C hW hS hV (st_0 hS) hE ⟨Nat.le_of_ble_eq_true rfl, Nat.le_of_ble_eq_true rfl⟩ ⟨Nat.le_refl 0, Nat.le_refl 0⟩ dX0_worth_4 hl.1 (Nat.le_of_ble_eq_true rfl) (fun r5 u6 H locs hE hW hS hV => ?_) (fun n7 u8 H locs hE hW hS hV => ?_)
  · skip
    exact wc_lret C hr hlocks hW hS hV hE dX0_worth_7
  · skip
    by_cases ct : wc_T u8 n7 = some (.inl 6)
    · have hE := z_t ct hE
      obtain ⟨cell_, hcell_, hgo_⟩ := xh_one (pc := 4) (ls := ls) (rest := []) (ci := 6) (nm := RX6) (T := TX6) (N := 7) C htb ⟨by decide, by decide⟩ (by decide) q201 rfl hW ct
      refine ⟨_, cell_, hcell_, hgo_, ?_⟩
      refine lv_astore (lv' := [(4, .ref (h + n7)), (0, .ref (h + 0)), (1, .int a1), (2, .int a2), (3, .int a3)]) hx hb dX0_worth_8 hl (by decide) rfl (fun ls hl => ?_)
      refine lv_aload_n hx hb dX0_worth_10 rfl (lv_at hl 1 rfl) ?_
      refine lv_aload hx hb dX0_worth_11 (lv_at hl 0 rfl) ?_
      obtain ⟨ht, hE⟩ := o_sh_some hE
      refine cg_X0_288_6 C hW ht dX0_worth_13 ?_
      obtain ⟨r9, u10, hc, hE⟩ := o_bd2_some hE
      refine cc_X0_312 C hW hS hV (st_0 hS) (kX0_refuseAsNought hc) rfl rfl ⟨Nat.le_of_ble_eq_true rfl, Nat.le_of_ble_eq_true rfl⟩ ⟨Nat.le_refl 0, Nat.le_refl 0⟩ dX0_worth_16 hl.1 (Nat.le_of_ble_eq_true rfl) (fun H locs hW hS hV => ?_)
      refine lv_i2l hx hb dX0_worth_19 rfl ?_
      exact wc_lret C hr hlocks hW hS hV hE dX0_worth_20
    have hE := z_f ct hE
    cases hE
end CG101
