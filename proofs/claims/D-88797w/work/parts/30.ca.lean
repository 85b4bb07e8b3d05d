section CG100
variable {p : Program} {l : Launch} {e : Env} {R : Room} {s : State} {m : MethodId} {args : Array Value} {below : List Frame} {meth : Method} {c : Code} {H : Heap} {locs : List Loc} {cells slots : Nat} {Q : State → Prop} {cc : ByteArray} {nL pc : Nat} {ls : Array Slot} {rest : List Value} {D : va_G} {dA : Nat → ClassId} {h : Nat} {H0 : Heap}
set_option maxHeartbeats 4000000 in
set_option maxRecDepth 100000 in
theorem kX0_need {l : Launch} {D : va_G} {dA : Nat → ClassId} {h N : Nat} {a1 : Int32} {a2 : Int32} {u u1 : CS} {V : Unit ⊕ Nat} (hE : fX0_need N u a1 a2 = some (V, u1)) : MetX l yX0_need (ws_ yX0_need cX0_need 3 none) ({ frames := 0, cells := 0, slots := 0, locals := 0 }) (va_Pc [.ref (h + 0), .int a1, .int a2] (wc_St D dA h u)) (wc_Qx D dA h (wc_vv V) u1) 0 0 (CA h) := by
  refine wc_metX (own := RX0) (by decide) rfl rfl rfl ?_
  intro p e s m args below meth c ls C hr hlocks hnh hW hS hV hl
  have hx := C.1.1
  have hb := C.1.2.1
  unfold fX0_need at hE
  refine lv_iload_n hx hb dX0_need_0 rfl (lv_at hl 1 rfl) ?_
  refine lv_if_ne (tgt := 12) hx hb dX0_need_1 (by decide) (fun c1 => ?_) (fun c1 => ?_)
  · have hE := z_f c1 hE
    exact wx_vret C hr hlocks hW hS hV hE dX0_need_12
  · have hE := z_t c1 hE
    refine lv_aload_n hx hb dX0_need_4 rfl (lv_at hl 0 rfl) ?_
    refine cgs_X0_7_0 C hW (st_0 hS) (sp_0_refusals hS) dX0_need_5 ?_
    refine lv_iload_n hx hb dX0_need_8 rfl (lv_at hl 2 rfl) ?_
    refine lv_ineg hx hb dX0_need_9 ?_
    refine wc_ldq5 C hW (st_0_refusals hS) hE dX0_need_10 (fun hE => ?_)
    refine z_nmp hE (fun p2 hE => ?_)
    obtain ⟨n3, hp_, hE_⟩ := o_nn_some hE
    clear hE
    subst hp_
    have hE := hE_
    exact wx_throwV (vf := wc_vv) wc_vvN C hlocks hnh hW hS hV hE dX0_need_11
theorem cx_X0_276 {β : Type} {vf : β ⊕ Nat → Option Value ⊕ Nat} (hvf : ∀ n, vf (.inr n) = .inr n) {N : Nat} {a1 : Int32} {a2 : Int32} {u uF : CS} {Vf : β ⊕ Nat} {K : Unit → CS → Option ((β ⊕ Nat) × CS)} (C : CC p m c cc nL s args D dA RX0) (hlocks : meth.locks = false) (hnh : c.exceptionTable.isEmpty = true) (hW : wc_W D dA h u H) (hS : wc_S u) (hV : va_S (CA h) s.heap H locs) (ht : wc_T u 0 = some (.inl 0)) (hE : o_bx (fX0_need N u a1 a2) K = some (Vf, uF)) (hR : 0 + 1 ≤ R.frames ∧ 8 + (3 + 11) + 0 ≤ R.locals) (hf : cells + 0 ≤ R.cells ∧ slots + 0 ≤ R.slots) (d : decode cc pc = .ok (.invokevirtual 276, 3)) (hsz : ls.size = nL) (hro : (rest.map fun v => v.category).sum ≤ 8) (kk : ∀ (a : Unit) (u2 : CS) (H1 : Heap) (locs1 : List Loc), K a u2 = some (Vf, uF) → wc_W D dA h u2 H1 → wc_S u2 → va_S (CA h) s.heap H1 locs1 → W p l e R s m args below meth c H1 locs1 cells slots (MQX below (wc_Qx D dA h (vf Vf) uF) args s cells slots (CA h)) (F0 m (pc + 3) ls (rest))) : W p l e R s m args below meth c H locs cells slots (MQX below (wc_Qx D dA h (vf Vf) uF) args s cells slots (CA h)) (F0 m pc ls (.int a2 :: .int a1 :: .ref (h + 0) :: rest)) :=
  wx_callX (f := fun _ => none) (As := [.int a1, .int a2]) (fun _ => rfl) wc_vvN hvf C hlocks hnh hE (fun V u1 hc => kX0_need hc) (cwV 2 C.1.2.2.2.2 (lw_V q879 q881 qs22 q166 q882) rfl rfl rfl (by decide +kernel) hR) (wc_preV (q := (RX0, TX0, 27)) C.2 hW hS ht rfl _) rfl hsz hro d hf hV kk
theorem cy_X0_276 {ρ : Type} {r0 : ρ} {N : Nat} {a1 : Int32} {a2 : Int32} {u : CS} {K : Unit → CS → Option ρ} {Kh : Nat → CS → Option ρ} (C : CC p m c cc nL s args D dA RX0) (hW : wc_W D dA h u H) (hS : wc_S u) (hV : va_S (CA h) s.heap H locs) (ht : wc_T u 0 = some (.inl 0)) (hE : o_by (fX0_need N u a1 a2) K Kh = some r0) (hR : 0 + 1 ≤ R.frames ∧ 8 + (3 + 11) + 0 ≤ R.locals) (hf : cells + 0 ≤ R.cells ∧ slots + 0 ≤ R.slots) (d : decode cc pc = .ok (.invokevirtual 276, 3)) (hsz : ls.size = nL) (hro : (rest.map fun v => v.category).sum ≤ 8) (kk : ∀ (a : Unit) (u2 : CS) (H1 : Heap) (locs1 : List Loc), K a u2 = some r0 → wc_W D dA h u2 H1 → wc_S u2 → va_S (CA h) s.heap H1 locs1 → W p l e R s m args below meth c H1 locs1 cells slots Q (F0 m (pc + 3) ls (rest))) (kh : ∀ (n : Nat) (u2 : CS) (H1 : Heap) (locs1 : List Loc), Kh n u2 = some r0 → wc_W D dA h u2 H1 → wc_S u2 → va_S (CA h) s.heap H1 locs1 → ∃ (hpc : Nat) (cell : Cell), H1[h + n]? = some cell ∧ xh_go p l e R s m args below meth c locs1 cells slots (F0 m pc ls rest) (h + n) cell c.exceptionTable.toList hpc ∧ W p l e R s m args below meth c H1 locs1 cells slots Q (F0 m hpc ls [.ref (h + n)])) : W p l e R s m args below meth c H locs cells slots Q (F0 m pc ls (.int a2 :: .int a1 :: .ref (h + 0) :: rest)) :=
  wx_callH (f := fun _ => none) (As := [.int a1, .int a2]) (fun _ => rfl) wc_vvN C hE (fun V u1 hc => kX0_need hc) (cwV 2 C.1.2.2.2.2 (lw_V q879 q881 qs22 q166 q882) rfl rfl rfl (by decide +kernel) hR) (wc_preV (q := (RX0, TX0, 27)) C.2 hW hS ht rfl _) rfl hsz hro d hf hV kk kh
set_option maxHeartbeats 4000000 in
set_option maxRecDepth 100000 in
theorem kX0_sold {l : Launch} {D : va_G} {dA : Nat → ClassId} {h N : Nat} {a1 : Int32} {a2 : Int32} {u u1 : CS} {V : Int32 ⊕ Nat} (hE : fX0_sold N u a1 a2 = some (V, u1)) : MetX l yX0_sold (ws_ yX0_sold cX0_sold 5 (some .int)) ({ frames := 3, cells := 0, slots := 0, locals := 65 }) (va_Pc [.ref (h + 0), .int a1, .int a2] (wc_St D dA h u)) (wc_Qx D dA h (wc_vi V) u1) 0 0 (CA h) := by
  refine wc_metX (own := RX0) (by decide) rfl rfl rfl ?_
  intro p e s m args below meth c ls C hr hlocks hnh hW hS hV hl
  have hx := C.1.1
  have hb := C.1.2.1
  have w_85 : ∀ (u : CS) (x1 : Int32) (x2 : Int32) (x3 : Nat) (x4 : Int32) (y1 : Int32) (H : Heap) (locs : List Loc) (ls : Array Slot), fX0_sold_85 N u x1 x2 x3 x4 y1 = some (V, u1) → wc_W D dA h u H → wc_S u → va_S (CA h) s.heap H locs → lv_has ls 5 [(0, .ref (h + 0)), (1, .int x1), (2, .int x2), (3, .ref (h + x3)), (4, .int x4)] → W p l e ({ frames := 3, cells := 0, slots := 0, locals := 65 }) s m args below meth c H locs 0 0 (MQX below (wc_Qx D dA h (wc_vi V) u1) args s 0 0 (CA h)) (F0 m 85 ls [.int y1, .ref (h + 0)]) := by
    intro u x1 x2 x3 x4 y1 H locs ls hE hW hS hV hl
    unfold fX0_sold_85 at hE
    refine lv_bipush (v := (-7 : Int32)) hx hb dX0_sold_85 rfl ?_
    refine cx_X0_276 (vf := wc_vi) wc_viN C hlocks hnh hW hS hV (st_0 hS) hE ⟨Nat.le_of_ble_eq_true rfl, Nat.le_of_ble_eq_true rfl⟩ ⟨Nat.le_refl 0, Nat.le_refl 0⟩ dX0_sold_87 hl.1 (Nat.le_of_ble_eq_true rfl) (fun _ u17 H locs hE hW hS hV => ?_)
    refine lv_aload_n hx hb dX0_sold_90 rfl (lv_at hl 0 rfl) ?_
    refine cgs_X0_19_0 C hW (st_0 hS) (sp_0_now hS) dX0_sold_91 ?_
    refine cgs_X0_272_1 C hW (st_F hS wc_F3) (sp_F_books hS wc_F3) dX0_sold_94 ?_
    refine lv_bipush (v := (7 : Int32)) hx hb dX0_sold_97 rfl ?_
    refine lv_dup2_11 hx hb dX0_sold_99 rfl rfl ?_
    refine wc_ldl C hW (st_F_books hS wc_F3) hE dX0_sold_100 (fun hE => ?_)
    refine z_nml hE (fun v18 hE => ?_)
    refine lv_aload_n hx hb dX0_sold_101 rfl (lv_at hl 3 rfl) ?_
    obtain ⟨ht, hE⟩ := o_lt_some hE
    refine cg_X0_257_l C hW ht dX0_sold_102 ?_
    refine lv_i2l hx hb dX0_sold_105 rfl ?_
    refine lv_iload_n hx hb dX0_sold_106 rfl (lv_at hl 2 rfl) ?_
    refine lv_iload hx hb dX0_sold_107 (lv_at hl 4 rfl) ?_
    refine lv_bipush (v := (10 : Int32)) hx hb dX0_sold_109 rfl ?_
    refine lv_idiv hx hb dX0_sold_111 (by decide) ?_
    refine lv_isub hx hb dX0_sold_112 ?_
    refine lv_i2l hx hb dX0_sold_113 rfl ?_
    refine lv_lmul hx hb dX0_sold_114 ?_
    refine lv_ldc2 (v := (100 : Int64)) hx hb C.1.2.2.2.1 (C.1.2.2.2.2 _ q689) dX0_sold_115 ?_
    refine lv_ldiv hx hb dX0_sold_118 (by decide) ?_
    refine lv_ladd hx hb dX0_sold_119 ?_
    refine wc_stl (J := wc_S) C hW hV (st_F_books hS wc_F3) hS.uB hE dX0_sold_120 (fun u19 H locs hE hW hS hV => ?_)
    refine lv_aload_n hx hb dX0_sold_121 rfl (lv_at hl 0 rfl) ?_
    refine lv_iload_n hx hb dX0_sold_122 rfl (lv_at hl 1 rfl) ?_
    obtain ⟨r20, u21, hc, hE⟩ := o_bd2_some hE
    refine cc_X0_282 C hW hS hV (st_0 hS) (kX0_end hc) rfl rfl ⟨Nat.le_of_ble_eq_true rfl, Nat.le_of_ble_eq_true rfl⟩ ⟨Nat.le_refl 0, Nat.le_refl 0⟩ dX0_sold_123 hl.1 (Nat.le_of_ble_eq_true rfl) (fun H locs hW hS hV => ?_)
    exact wx_iret C hr hlocks hW hS hV hE dX0_sold_126
  have w_84 : ∀ (u : CS) (x1 : Int32) (x2 : Int32) (x3 : Nat) (x4 : Int32) (H : Heap) (locs : List Loc) (ls : Array Slot), fX0_sold_84 N u x1 x2 x3 x4 = some (V, u1) → wc_W D dA h u H → wc_S u → va_S (CA h) s.heap H locs → lv_has ls 5 [(0, .ref (h + 0)), (1, .int x1), (2, .int x2), (3, .ref (h + x3)), (4, .int x4)] → W p l e ({ frames := 3, cells := 0, slots := 0, locals := 65 }) s m args below meth c H locs 0 0 (MQX below (wc_Qx D dA h (wc_vi V) u1) args s 0 0 (CA h)) (F0 m 84 ls [.ref (h + 0)]) := by
    intro u x1 x2 x3 x4 H locs ls hE hW hS hV hl
    unfold fX0_sold_84 at hE
    refine lv_iconst (v := (0 : Int32)) hx hb dX0_sold_84 rfl ?_
    exact w_85 _ _ _ _ _ _ _ _ _ hE hW hS hV (lv_sub hl [0, 1, 2, 3, 4] rfl)
  have w_33 : ∀ (u : CS) (x1 : Int32) (x2 : Int32) (x3 : Nat) (y1 : Int32) (H : Heap) (locs : List Loc) (ls : Array Slot), fX0_sold_33 N u x1 x2 x3 y1 = some (V, u1) → wc_W D dA h u H → wc_S u → va_S (CA h) s.heap H locs → lv_has ls 5 [(0, .ref (h + 0)), (1, .int x1), (2, .int x2), (3, .ref (h + x3))] → W p l e ({ frames := 3, cells := 0, slots := 0, locals := 65 }) s m args below meth c H locs 0 0 (MQX below (wc_Qx D dA h (wc_vi V) u1) args s 0 0 (CA h)) (F0 m 33 ls [.int y1, .ref (h + 0)]) := by
    intro u x1 x2 x3 y1 H locs ls hE hW hS hV hl
    unfold fX0_sold_33 at hE
    refine lv_bipush (v := (-5 : Int32)) hx hb dX0_sold_33 rfl ?_
    refine cx_X0_276 (vf := wc_vi) wc_viN C hlocks hnh hW hS hV (st_0 hS) hE ⟨Nat.le_of_ble_eq_true rfl, Nat.le_of_ble_eq_true rfl⟩ ⟨Nat.le_refl 0, Nat.le_refl 0⟩ dX0_sold_35 hl.1 (Nat.le_of_ble_eq_true rfl) (fun _ u22 H locs hE hW hS hV => ?_)
    refine lv_aload_n hx hb dX0_sold_38 rfl (lv_at hl 0 rfl) ?_
    refine cgs_X0_19_0 C hW (st_0 hS) (sp_0_now hS) dX0_sold_39 ?_
    refine cgs_X0_210_1 C hW (st_F hS wc_F3) (sp_F_hauls hS wc_F3) dX0_sold_42 ?_
    refine lv_aload_n hx hb dX0_sold_45 rfl (lv_at hl 0 rfl) ?_
    refine cgs_X0_19_0 C hW (st_0 hS) (sp_0_now hS) dX0_sold_46 ?_
    refine cgs_X0_124_1 C hW (st_F hS wc_F3) (sp_F_blocks hS wc_F3) dX0_sold_49 ?_
    refine lv_aload_n hx hb dX0_sold_52 rfl (lv_at hl 3 rfl) ?_
    obtain ⟨ht, hE⟩ := o_lt_some hE
    refine cg_X0_260_l C hW ht dX0_sold_53 ?_
    refine wc_ldi C hW (st_F_blocks hS wc_F3) hE dX0_sold_56 (fun hE => ?_)
    refine z_nmi hE (fun v23 hE => ?_)
    refine wc_ldi C hW (st_F_hauls hS wc_F3) hE dX0_sold_57 (fun hE => ?_)
    refine z_nmi hE (fun v24 hE => ?_)
    refine lv_istore (lv' := [(4, .int v24), (0, .ref (h + 0)), (1, .int x1), (2, .int x2), (3, .ref (h + x3))]) hx hb dX0_sold_58 hl (by decide) rfl (fun ls hl => ?_)
    refine lv_aload_n hx hb dX0_sold_60 rfl (lv_at hl 1 rfl) ?_
    refine lv_iload_n hx hb dX0_sold_61 rfl (lv_at hl 3 rfl) ?_
    refine lv_i2l hx hb dX0_sold_62 rfl ?_
    refine lv_lconst (v := (0 : Int64)) hx hb dX0_sold_63 rfl ?_
    refine lv_ldc2 (v := (9999 : Int64)) hx hb C.1.2.2.2.1 (C.1.2.2.2.2 _ q883) dX0_sold_64 ?_
    obtain ⟨r25, hc, hE⟩ := o_bd_some hE
    refine sc_X0_31 C.1 (kX0_isIn hc) rfl rfl ⟨Nat.le_of_ble_eq_true rfl, Nat.le_of_ble_eq_true rfl⟩ ⟨Nat.le_refl 0, Nat.le_refl 0⟩ dX0_sold_67 hl.1 (Nat.le_of_ble_eq_true rfl) ?_
    refine lv_if_eq (tgt := 84) hx hb dX0_sold_70 (by decide) (fun c26 => ?_) (fun c26 => ?_)
    · have hE := z_t c26 hE
      exact w_84 _ _ _ _ _ _ _ _ hE hW hS hV (lv_sub hl [1, 2, 3, 4, 0] rfl)
    · have hE := z_f c26 hE
      refine lv_iload hx hb dX0_sold_73 (lv_at hl 0 rfl) ?_
      refine lv_ldc (v := (100000000 : Int32)) hx hb C.1.2.2.2.1 (C.1.2.2.2.2 _ q801) dX0_sold_75 ?_
      refine lv_icmp_ge (tgt := 84) hx hb dX0_sold_77 (by decide) (fun c27 => ?_) (fun c27 => ?_)
      · have hE := z_t c27 hE
        exact w_84 _ _ _ _ _ _ _ _ hE hW hS hV (lv_sub hl [1, 2, 3, 4, 0] rfl)
      · have hE := z_f c27 hE
        refine lv_iconst (v := (1 : Int32)) hx hb dX0_sold_80 rfl ?_
        refine lv_goto (tgt := 85) hx hb dX0_sold_81 (by decide) ?_
        exact w_85 _ _ _ _ _ _ _ _ _ hE hW hS hV (lv_sub hl [1, 2, 3, 4, 0] rfl)
  unfold fX0_sold at hE
  refine lv_aload_n hx hb dX0_sold_0 rfl (lv_at hl 0 rfl) ?_
  refine lv_aload_n hx hb dX0_sold_1 rfl (lv_at hl 0 rfl) ?_
  refine lv_iload_n hx hb dX0_sold_2 rfl (lv_at hl 1 rfl) ?_
  obtain ⟨r28, u29, hc, hE⟩ := o_bd2_some hE
  refine cc_X0_244 C hW hS hV (st_0 hS) (kX0_isParcel hc) rfl rfl ⟨Nat.le_of_ble_eq_true rfl, Nat.le_of_ble_eq_true rfl⟩ ⟨Nat.le_refl 0, Nat.le_refl 0⟩ dX0_sold_3 hl.1 (Nat.le_of_ble_eq_true rfl) (fun H locs hW hS hV => ?_)
  refine lv_bipush (v := (-3 : Int32)) hx hb dX0_sold_6 rfl ?_
  refine cx_X0_276 (vf := wc_vi) wc_viN C hlocks hnh hW hS hV (st_0 hS) hE ⟨Nat.le_of_ble_eq_true rfl, Nat.le_of_ble_eq_true rfl⟩ ⟨Nat.le_refl 0, Nat.le_refl 0⟩ dX0_sold_8 hl.1 (Nat.le_of_ble_eq_true rfl) (fun _ u30 H locs hE hW hS hV => ?_)
  refine lv_aload_n hx hb dX0_sold_11 rfl (lv_at hl 0 rfl) ?_
  refine cgs_X0_19_0 C hW (st_0 hS) (sp_0_now hS) dX0_sold_12 ?_
  refine lv_iload_n hx hb dX0_sold_15 rfl (lv_at hl 1 rfl) ?_
  obtain ⟨r31, u32, hc, hE⟩ := o_bd2_some hE
  refine cc_X0_247 C hW hS hV (st_F hS wc_F3) (kX1_at wc_F3 hc) rfl rfl ⟨Nat.le_of_ble_eq_true rfl, Nat.le_of_ble_eq_true rfl⟩ ⟨Nat.le_refl 0, Nat.le_refl 0⟩ dX0_sold_16 hl.1 (Nat.le_of_ble_eq_true rfl) (fun H locs hW hS hV => ?_)
  refine z_astore_n (lv' := [(3, wc_rf h r31), (0, .ref (h + 0)), (1, .int a1), (2, .int a2)]) hx hb dX0_sold_19 rfl hl (by decide) rfl (fun ls hl => ?_)
  refine lv_aload_n hx hb dX0_sold_20 rfl (lv_at hl 1 rfl) ?_
  refine z_aload_n hx hb dX0_sold_21 rfl (lv_at hl 0 rfl) ?_
  obtain ⟨n33, hp_, hE_⟩ := o_nn_some hE
  clear hE
  subst hp_
  have hE := hE_
  obtain ⟨r35, u34, hc, hE⟩ := o_bd2_some hE
  refine cl_X0_251 C hW hS hV hc ⟨Nat.le_of_ble_eq_true rfl, Nat.le_of_ble_eq_true rfl⟩ ⟨Nat.le_refl 0, Nat.le_refl 0⟩ dX0_sold_22 hl.1 (Nat.le_of_ble_eq_true rfl) (fun H locs hW hS hV => ?_)
  refine lv_if_ne (tgt := 32) hx hb dX0_sold_25 (by decide) (fun c36 => ?_) (fun c36 => ?_)
  · have hE := z_f c36 hE
    refine lv_iconst (v := (0 : Int32)) hx hb dX0_sold_32 rfl ?_
    exact w_33 _ _ _ _ _ _ _ _ hE hW hS hV (lv_sub hl [1, 2, 3, 0] rfl)
  · have hE := z_t c36 hE
    refine lv_iconst (v := (1 : Int32)) hx hb dX0_sold_28 rfl ?_
    refine lv_goto (tgt := 33) hx hb dX0_sold_29 (by decide) ?_
    exact w_33 _ _ _ _ _ _ _ _ hE hW hS hV (lv_sub hl [1, 2, 3, 0] rfl)
theorem cx_X0_285 {β : Type} {vf : β ⊕ Nat → Option Value ⊕ Nat} (hvf : ∀ n, vf (.inr n) = .inr n) {N : Nat} {a1 : Int32} {a2 : Int32} {u uF : CS} {Vf : β ⊕ Nat} {K : Int32 → CS → Option ((β ⊕ Nat) × CS)} (C : CC p m c cc nL s args D dA RX0) (hlocks : meth.locks = false) (hnh : c.exceptionTable.isEmpty = true) (hW : wc_W D dA h u H) (hS : wc_S u) (hV : va_S (CA h) s.heap H locs) (ht : wc_T u 0 = some (.inl 0)) (hE : o_bx (fX0_sold N u a1 a2) K = some (Vf, uF)) (hR : 3 + 1 ≤ R.frames ∧ 8 + (5 + 11) + 65 ≤ R.locals) (hf : cells + 0 ≤ R.cells ∧ slots + 0 ≤ R.slots) (d : decode cc pc = .ok (.invokevirtual 285, 3)) (hsz : ls.size = nL) (hro : (rest.map fun v => v.category).sum ≤ 8) (kk : ∀ (a : Int32) (u2 : CS) (H1 : Heap) (locs1 : List Loc), K a u2 = some (Vf, uF) → wc_W D dA h u2 H1 → wc_S u2 → va_S (CA h) s.heap H1 locs1 → W p l e R s m args below meth c H1 locs1 cells slots (MQX below (wc_Qx D dA h (vf Vf) uF) args s cells slots (CA h)) (F0 m (pc + 3) ls (.int a :: rest))) : W p l e R s m args below meth c H locs cells slots (MQX below (wc_Qx D dA h (vf Vf) uF) args s cells slots (CA h)) (F0 m pc ls (.int a2 :: .int a1 :: .ref (h + 0) :: rest)) :=
  wx_callX (f := fun r => some (.int r)) (As := [.int a1, .int a2]) (fun _ => rfl) wc_viN hvf C hlocks hnh hE (fun V u1 hc => kX0_sold hc) (cwV 2 C.1.2.2.2.2 (lw_V q875 q877 qs21 q166 q878) rfl rfl rfl (by decide +kernel) hR) (wc_preV (q := (RX0, TX0, 27)) C.2 hW hS ht rfl _) rfl hsz hro d hf hV kk
theorem cy_X0_285 {ρ : Type} {r0 : ρ} {N : Nat} {a1 : Int32} {a2 : Int32} {u : CS} {K : Int32 → CS → Option ρ} {Kh : Nat → CS → Option ρ} (C : CC p m c cc nL s args D dA RX0) (hW : wc_W D dA h u H) (hS : wc_S u) (hV : va_S (CA h) s.heap H locs) (ht : wc_T u 0 = some (.inl 0)) (hE : o_by (fX0_sold N u a1 a2) K Kh = some r0) (hR : 3 + 1 ≤ R.frames ∧ 8 + (5 + 11) + 65 ≤ R.locals) (hf : cells + 0 ≤ R.cells ∧ slots + 0 ≤ R.slots) (d : decode cc pc = .ok (.invokevirtual 285, 3)) (hsz : ls.size = nL) (hro : (rest.map fun v => v.category).sum ≤ 8) (kk : ∀ (a : Int32) (u2 : CS) (H1 : Heap) (locs1 : List Loc), K a u2 = some r0 → wc_W D dA h u2 H1 → wc_S u2 → va_S (CA h) s.heap H1 locs1 → W p l e R s m args below meth c H1 locs1 cells slots Q (F0 m (pc + 3) ls (.int a :: rest))) (kh : ∀ (n : Nat) (u2 : CS) (H1 : Heap) (locs1 : List Loc), Kh n u2 = some r0 → wc_W D dA h u2 H1 → wc_S u2 → va_S (CA h) s.heap H1 locs1 → ∃ (hpc : Nat) (cell : Cell), H1[h + n]? = some cell ∧ xh_go p l e R s m args below meth c locs1 cells slots (F0 m pc ls rest) (h + n) cell c.exceptionTable.toList hpc ∧ W p l e R s m args below meth c H1 locs1 cells slots Q (F0 m hpc ls [.ref (h + n)])) : W p l e R s m args below meth c H locs cells slots Q (F0 m pc ls (.int a2 :: .int a1 :: .ref (h + 0) :: rest)) :=
  wx_callH (f := fun r => some (.int r)) (As := [.int a1, .int a2]) (fun _ => rfl) wc_viN C hE (fun V u1 hc => kX0_sold hc) (cwV 2 C.1.2.2.2.2 (lw_V q875 q877 qs21 q166 q878) rfl rfl rfl (by decide +kernel) hR) (wc_preV (q := (RX0, TX0, 27)) C.2 hW hS ht rfl _) rfl hsz hro d hf hV kk kh
set_option maxHeartbeats 4000000 in
set_option maxRecDepth 100000 in
theorem kX0_sell {l : Launch} {D : va_G} {dA : Nat → ClassId} {h N : Nat} {a1 : Int32} {a2 : Int32} {u u1 : CS} {r : Int32} (hE : fX0_sell N u a1 a2 = some (r, u1)) : Met l yX0_sell (wsW_ yX0_sell cX0_sell 4 (some .int) [(0, 6, 7, 56)]) ({ frames := 4, cells := 0, slots := 0, locals := 89 }) (va_Pc [.ref (h + 0), .int a1, .int a2] (wc_St D dA h u)) (wc_Qr D dA h (some (.int r)) u1) 0 0 (CA h) := by
  refine wc_metW (own := RX0) (by decide) rfl rfl rfl ?_
  intro p e s m args below meth c ls C hr hlocks htb hW hS hV hl
  have hx := C.1.1
  have hb := C.1.2.1
  unfold fX0_sell at hE
  refine lv_aload_n hx hb dX0_sell_0 rfl (lv_at hl 0 rfl) ?_
  refine lv_iload_n hx hb dX0_sell_1 rfl (lv_at hl 1 rfl) ?_
  refine lv_iload_n hx hb dX0_sell_2 rfl (lv_at hl 2 rfl) ?_
  refine cy_X0_285 C hW hS hV (st_0 hS) hE ⟨Nat.le_of_ble_eq_true rfl, Nat.le_of_ble_eq_true rfl⟩ ⟨Nat.le_refl 0, Nat.le_refl 0⟩ dX0_sell_3 hl.1 (Nat.le_of_ble_eq_true rfl) (fun r5 u6 H locs hE hW hS hV => ?_) (fun n7 u8 H locs hE hW hS hV => ?_)
  · skip
    exact wc_iret C hr hlocks hW hS hV hE dX0_sell_6
  · skip
    by_cases ct : wc_T u8 n7 = some (.inl 6)
    · have hE := z_t ct hE
      obtain ⟨cell_, hcell_, hgo_⟩ := xh_one (pc := 3) (ls := ls) (rest := []) (ci := 6) (nm := RX6) (T := TX6) (N := 7) C htb ⟨by decide, by decide⟩ (by decide) q201 rfl hW ct
      refine ⟨_, cell_, hcell_, hgo_, ?_⟩
      refine lv_astore_n (lv' := [(3, .ref (h + n7)), (0, .ref (h + 0)), (1, .int a1), (2, .int a2)]) hx hb dX0_sell_7 rfl hl (by decide) rfl (fun ls hl => ?_)
      refine lv_aload_n hx hb dX0_sell_8 rfl (lv_at hl 1 rfl) ?_
      refine lv_aload_n hx hb dX0_sell_9 rfl (lv_at hl 0 rfl) ?_
      obtain ⟨ht, hE⟩ := o_sh_some hE
      refine cg_X0_288_6 C hW ht dX0_sell_10 ?_
      obtain ⟨r9, u10, hc, hE⟩ := o_bd2_some hE
      refine cc_X0_118 C hW hS hV (st_0 hS) (kX0_refuse hc) rfl rfl ⟨Nat.le_of_ble_eq_true rfl, Nat.le_of_ble_eq_true rfl⟩ ⟨Nat.le_refl 0, Nat.le_refl 0⟩ dX0_sell_13 hl.1 (Nat.le_of_ble_eq_true rfl) (fun H locs hW hS hV => ?_)
      exact wc_iret C hr hlocks hW hS hV hE dX0_sell_16
    have hE := z_f ct hE
    cases hE
set_option maxHeartbeats 4000000 in
set_option maxRecDepth 100000 in
theorem kX3_wordOf {l : Launch} {D : va_G} {dA : Nat → ClassId} {h N : Nat} {a1 : Int32} {u u1 : CS} {V : Int32 ⊕ Nat} (hE : fX3_wordOf N u a1 = some (V, u1)) : MetX l yX3_wordOf (ws_ yX3_wordOf cX3_wordOf 3 (some .int)) ({ frames := 1, cells := 0, slots := 0, locals := 24 }) (va_Pc [.ref (h + 297), .int a1] (wc_St D dA h u)) (wc_Qx D dA h (wc_vi V) u1) 0 0 (CA h) := by
  refine wc_metX (own := RX3) (by decide) rfl rfl rfl ?_
  intro p e s m args below meth c ls C hr hlocks hnh hW hS hV hl
  have hx := C.1.1
  have hb := C.1.2.1
  have w_2 : ∀ (n : Nat) (u : CS) (x1 : Int32) (x2 : Int32) (H : Heap) (locs : List Loc) (ls : Array Slot), fX3_wordOf_2 N n u x1 x2 = some (V, u1) → wc_W D dA h u H → wc_S u → va_S (CA h) s.heap H locs → lv_has ls 3 [(0, .ref (h + 297)), (1, .int x1), (2, .int x2)] → W p l e ({ frames := 1, cells := 0, slots := 0, locals := 24 }) s m args below meth c H locs 0 0 (MQX below (wc_Qx D dA h (wc_vi V) u1) args s 0 0 (CA h)) (F0 m 2 ls []) := by
    intro n
    induction n with
    | zero =>
      intro u x1 x2 H locs ls hE hW hS hV hl
      cases (show (none : Option ((Int32 ⊕ Nat) × CS)) = some (V, u1) from hE)
    | succ n ih =>
      intro u x1 x2 H locs ls hE hW hS hV hl
      rw [fX3_wordOf_2] at hE
      refine lv_iload_n hx hb dX3_wordOf_2 rfl (lv_at hl 2 rfl) ?_
      refine lv_aload_n hx hb dX3_wordOf_3 rfl (lv_at hl 0 rfl) ?_
      refine cgs_X3_24_3 C hW (st_297 hS) (sp_297_words hS) dX3_wordOf_4 ?_
      refine wc_alen (v := (23 : Int32)) C hW (st_297_words hS) rfl rfl dX3_wordOf_7 ?_
      refine lv_icmp_ge (tgt := 33) hx hb dX3_wordOf_8 (by decide) (fun c7 => ?_) (fun c7 => ?_)
      · have hE := z_t c7 hE
        refine lv_aload_n hx hb dX3_wordOf_33 rfl (lv_at hl 0 rfl) ?_
        obtain ⟨r8, u9, hc, hE⟩ := o_bd2_some hE
        refine cc_X3_49 C hW hS hV (st_297 hS) (kX3_fault hc) rfl rfl ⟨Nat.le_of_ble_eq_true rfl, Nat.le_of_ble_eq_true rfl⟩ ⟨Nat.le_refl 0, Nat.le_refl 0⟩ dX3_wordOf_34 hl.1 (Nat.le_of_ble_eq_true rfl) (fun H locs hW hS hV => ?_)
        obtain ⟨n10, hp_, hE_⟩ := o_nn_some hE
        clear hE
        subst hp_
        have hE := hE_
        exact wx_throwV (vf := wc_vi) wc_viN C hlocks hnh hW hS hV hE dX3_wordOf_37
      · have hE := z_f c7 hE
        refine lv_aload_n hx hb dX3_wordOf_11 rfl (lv_at hl 0 rfl) ?_
        refine lv_aload_n hx hb dX3_wordOf_12 rfl (lv_at hl 0 rfl) ?_
        refine cgs_X3_24_3 C hW (st_297 hS) (sp_297_words hS) dX3_wordOf_13 ?_
        refine lv_iload_n hx hb dX3_wordOf_16 rfl (lv_at hl 2 rfl) ?_
        refine wc_ldq8 C hW (st_297_words hS) hE dX3_wordOf_17 (fun hE => ?_)
        refine z_nmp hE (fun p11 hE => ?_)
        refine lv_iload_n hx hb dX3_wordOf_18 rfl (lv_at hl 1 rfl) ?_
        obtain ⟨n12, hp_, hE_⟩ := o_nn_some hE
        clear hE
        subst hp_
        have hE := hE_
        obtain ⟨r13, u14, hc, hE⟩ := o_bd2_some hE
        refine cc_X3_45 C hW hS hV (st_297 hS) (kX3_isWord hc) rfl rfl ⟨Nat.le_of_ble_eq_true rfl, Nat.le_of_ble_eq_true rfl⟩ ⟨Nat.le_refl 0, Nat.le_refl 0⟩ dX3_wordOf_19 hl.1 (Nat.le_of_ble_eq_true rfl) (fun H locs hW hS hV => ?_)
        refine lv_if_eq (tgt := 27) hx hb dX3_wordOf_22 (by decide) (fun c15 => ?_) (fun c15 => ?_)
        · have hE := z_t c15 hE
          refine z_iinc (v := (x2 + (1 : Int32))) (lw := (fun y_ => [(2, .int y_), (0, .ref (h + 297)), (1, .int x1)])) hx hb dX3_wordOf_27 hl hE (k := 2) rfl rfl (by decide) (fun _ => rfl) (fun z16 ls hE hl => ?_)
          refine lv_goto (tgt := 2) hx hb dX3_wordOf_30 (by decide) ?_
          exact ih _ _ _ _ _ _ hE hW hS hV (lv_sub hl [1, 2, 0] rfl)
        · have hE := z_f c15 hE
          refine lv_iload_n hx hb dX3_wordOf_25 rfl (lv_at hl 2 rfl) ?_
          exact wx_iret C hr hlocks hW hS hV hE dX3_wordOf_26
  unfold fX3_wordOf at hE
  refine lv_iconst (v := (0 : Int32)) hx hb dX3_wordOf_0 rfl ?_
  refine lv_istore_n (lv' := [(2, .int (0 : Int32)), (0, .ref (h + 297)), (1, .int a1)]) hx hb dX3_wordOf_1 rfl hl (by decide) rfl (fun ls hl => ?_)
  exact w_2 N _ _ _ _ _ _ hE hW hS hV (lv_sub hl [1, 2, 0] rfl)
theorem cx_X3_63 {β : Type} {vf : β ⊕ Nat → Option Value ⊕ Nat} (hvf : ∀ n, vf (.inr n) = .inr n) {N : Nat} {a1 : Int32} {u uF : CS} {Vf : β ⊕ Nat} {K : Int32 → CS → Option ((β ⊕ Nat) × CS)} (C : CC p m c cc nL s args D dA RX3) (hlocks : meth.locks = false) (hnh : c.exceptionTable.isEmpty = true) (hW : wc_W D dA h u H) (hS : wc_S u) (hV : va_S (CA h) s.heap H locs) (ht : wc_T u 297 = some (.inl 3)) (hE : o_bx (fX3_wordOf N u a1) K = some (Vf, uF)) (hR : 1 + 1 ≤ R.frames ∧ 8 + (3 + 11) + 24 ≤ R.locals) (hf : cells + 0 ≤ R.cells ∧ slots + 0 ≤ R.slots) (d : decode cc pc = .ok (.invokevirtual 63, 3)) (hsz : ls.size = nL) (hro : (rest.map fun v => v.category).sum ≤ 8) (kk : ∀ (a : Int32) (u2 : CS) (H1 : Heap) (locs1 : List Loc), K a u2 = some (Vf, uF) → wc_W D dA h u2 H1 → wc_S u2 → va_S (CA h) s.heap H1 locs1 → W p l e R s m args below meth c H1 locs1 cells slots (MQX below (wc_Qx D dA h (vf Vf) uF) args s cells slots (CA h)) (F0 m (pc + 3) ls (.int a :: rest))) : W p l e R s m args below meth c H locs cells slots (MQX below (wc_Qx D dA h (vf Vf) uF) args s cells slots (CA h)) (F0 m pc ls (.int a1 :: .ref (h + 297) :: rest)) :=
  wx_callX (f := fun r => some (.int r)) (As := [.int a1]) (fun _ => rfl) wc_viN hvf C hlocks hnh hE (fun V u1 hc => kX3_wordOf hc) (cwV 1 C.1.2.2.2.2 (lw_V q1031 q1033 qs34 q170 q1034) rfl rfl rfl (by decide +kernel) hR) (wc_preV (q := (RX3, TX3, 12)) C.2 hW hS ht rfl _) rfl hsz hro d hf hV kk
theorem cy_X3_63 {ρ : Type} {r0 : ρ} {N : Nat} {a1 : Int32} {u : CS} {K : Int32 → CS → Option ρ} {Kh : Nat → CS → Option ρ} (C : CC p m c cc nL s args D dA RX3) (hW : wc_W D dA h u H) (hS : wc_S u) (hV : va_S (CA h) s.heap H locs) (ht : wc_T u 297 = some (.inl 3)) (hE : o_by (fX3_wordOf N u a1) K Kh = some r0) (hR : 1 + 1 ≤ R.frames ∧ 8 + (3 + 11) + 24 ≤ R.locals) (hf : cells + 0 ≤ R.cells ∧ slots + 0 ≤ R.slots) (d : decode cc pc = .ok (.invokevirtual 63, 3)) (hsz : ls.size = nL) (hro : (rest.map fun v => v.category).sum ≤ 8) (kk : ∀ (a : Int32) (u2 : CS) (H1 : Heap) (locs1 : List Loc), K a u2 = some r0 → wc_W D dA h u2 H1 → wc_S u2 → va_S (CA h) s.heap H1 locs1 → W p l e R s m args below meth c H1 locs1 cells slots Q (F0 m (pc + 3) ls (.int a :: rest))) (kh : ∀ (n : Nat) (u2 : CS) (H1 : Heap) (locs1 : List Loc), Kh n u2 = some r0 → wc_W D dA h u2 H1 → wc_S u2 → va_S (CA h) s.heap H1 locs1 → ∃ (hpc : Nat) (cell : Cell), H1[h + n]? = some cell ∧ xh_go p l e R s m args below meth c locs1 cells slots (F0 m pc ls rest) (h + n) cell c.exceptionTable.toList hpc ∧ W p l e R s m args below meth c H1 locs1 cells slots Q (F0 m hpc ls [.ref (h + n)])) : W p l e R s m args below meth c H locs cells slots Q (F0 m pc ls (.int a1 :: .ref (h + 297) :: rest)) :=
  wx_callH (f := fun r => some (.int r)) (As := [.int a1]) (fun _ => rfl) wc_viN C hE (fun V u1 hc => kX3_wordOf hc) (cwV 1 C.1.2.2.2.2 (lw_V q1031 q1033 qs34 q170 q1034) rfl rfl rfl (by decide +kernel) hR) (wc_preV (q := (RX3, TX3, 12)) C.2 hW hS ht rfl _) rfl hsz hro d hf hV kk kh
set_option maxHeartbeats 4000000 in
set_option maxRecDepth 100000 in
theorem kX3_signAt {l : Launch} {D : va_G} {dA : Nat → ClassId} {h N : Nat} {u u1 : CS} {V : Int32 ⊕ Nat} (hE : fX3_signAt N u = some (V, u1)) : MetX l yX3_signAt (ws_ yX3_signAt cX3_signAt 3 (some .char)) ({ frames := 1, cells := 0, slots := 0, locals := 20 }) (va_Pc [.ref (h + 297)] (wc_St D dA h u)) (wc_Qx D dA h (wc_vi V) u1) 0 0 (CA h) := by
  refine wc_metX (own := RX3) (by decide) rfl rfl rfl ?_
  intro p e s m args below meth c ls C hr hlocks hnh hW hS hV hl
  have hx := C.1.1
  have hb := C.1.2.1
  have w_80 : ∀ (u : CS) (x1 : Int32) (y0 : Int32) (H : Heap) (locs : List Loc) (ls : Array Slot), fX3_signAt_80 N u x1 y0 = some (V, u1) → wc_W D dA h u H → wc_S u → va_S (CA h) s.heap H locs → lv_has ls 3 [(0, .ref (h + 297)), (1, .int x1)] → W p l e ({ frames := 1, cells := 0, slots := 0, locals := 20 }) s m args below meth c H locs 0 0 (MQX below (wc_Qx D dA h (wc_vi V) u1) args s 0 0 (CA h)) (F0 m 80 ls [.int y0]) := by
    intro u x1 y0 H locs ls hE hW hS hV hl
    unfold fX3_signAt_80 at hE
    refine lv_istore_n (lv' := [(2, .int y0), (0, .ref (h + 297)), (1, .int x1)]) hx hb dX3_signAt_80 rfl hl (by decide) rfl (fun ls hl => ?_)
    refine lv_iload_n hx hb dX3_signAt_81 rfl (lv_at hl 0 rfl) ?_
    refine lv_if_ne (tgt := 90) hx hb dX3_signAt_82 (by decide) (fun c4 => ?_) (fun c4 => ?_)
    · have hE := z_f c4 hE
      refine lv_iload_n hx hb dX3_signAt_90 rfl (lv_at hl 2 rfl) ?_
      obtain ⟨hb1, hE⟩ := o_ch_some hE
      exact wx_cret C hr hlocks hW hS hV hb1.1 hE dX3_signAt_91
    · have hE := z_t c4 hE
      refine lv_aload_n hx hb dX3_signAt_85 rfl (lv_at hl 1 rfl) ?_
      obtain ⟨r5, u6, hc, hE⟩ := o_bd2_some hE
      refine cc_X3_49 C hW hS hV (st_297 hS) (kX3_fault hc) rfl rfl ⟨Nat.le_of_ble_eq_true rfl, Nat.le_of_ble_eq_true rfl⟩ ⟨Nat.le_refl 0, Nat.le_refl 0⟩ dX3_signAt_86 hl.1 (Nat.le_of_ble_eq_true rfl) (fun H locs hW hS hV => ?_)
      obtain ⟨n7, hp_, hE_⟩ := o_nn_some hE
      clear hE
      subst hp_
      have hE := hE_
      exact wx_throwV (vf := wc_vi) wc_viN C hlocks hnh hW hS hV hE dX3_signAt_89
  have w_75 : ∀ (u : CS) (x1 : Int32) (H : Heap) (locs : List Loc) (ls : Array Slot), fX3_signAt_75 N u x1 = some (V, u1) → wc_W D dA h u H → wc_S u → va_S (CA h) s.heap H locs → lv_has ls 3 [(0, .ref (h + 297)), (1, .int x1)] → W p l e ({ frames := 1, cells := 0, slots := 0, locals := 20 }) s m args below meth c H locs 0 0 (MQX below (wc_Qx D dA h (wc_vi V) u1) args s 0 0 (CA h)) (F0 m 75 ls []) := by
    intro u x1 H locs ls hE hW hS hV hl
    unfold fX3_signAt_75 at hE
    refine lv_iconst (v := (1 : Int32)) hx hb dX3_signAt_75 rfl ?_
    refine lv_goto (tgt := 80) hx hb dX3_signAt_76 (by decide) ?_
    exact w_80 _ _ _ _ _ _ hE hW hS hV (lv_sub hl [0, 1] rfl)
  unfold fX3_signAt at hE
  refine lv_aload_n hx hb dX3_signAt_0 rfl (lv_at hl 0 rfl) ?_
  refine cgs_X3_9_3 C hW (st_297 hS) (sp_297_tape hS) dX3_signAt_1 ?_
  refine lv_aload_n hx hb dX3_signAt_4 rfl (lv_at hl 0 rfl) ?_
  refine cg_X3_52_3 C hW (st_297 hS) dX3_signAt_5 ?_
  refine wc_ldb C hW (st_297_tape hS) hE dX3_signAt_8 (fun hE => ?_)
  refine z_nmi hE (fun v8 hE => ?_)
  refine lv_sipush (v := (255 : Int32)) hx hb dX3_signAt_9 rfl ?_
  refine lv_iand hx hb dX3_signAt_12 ?_
  refine lv_i2c hx hb dX3_signAt_13 rfl ?_
  refine z_nmi hE (fun z9 hE => ?_)
  refine lv_istore_n (lv' := [(1, .int z9), (0, .ref (h + 297))]) hx hb dX3_signAt_14 rfl hl (by decide) rfl (fun ls hl => ?_)
  refine lv_iload_n hx hb dX3_signAt_15 rfl (lv_at hl 0 rfl) ?_
  refine lv_bipush (v := (40 : Int32)) hx hb dX3_signAt_16 rfl ?_
  refine lv_icmp_eq (tgt := 75) hx hb dX3_signAt_18 (by decide) (fun c10 => ?_) (fun c10 => ?_)
  · have hE := z_t c10 hE
    exact w_75 _ _ _ _ _ hE hW hS hV (lv_sub hl [1, 0] rfl)
  · have hE := z_f c10 hE
    refine lv_iload_n hx hb dX3_signAt_21 rfl (lv_at hl 0 rfl) ?_
    refine lv_bipush (v := (41 : Int32)) hx hb dX3_signAt_22 rfl ?_
    refine lv_icmp_eq (tgt := 75) hx hb dX3_signAt_24 (by decide) (fun c11 => ?_) (fun c11 => ?_)
    · have hE := z_t c11 hE
      exact w_75 _ _ _ _ _ hE hW hS hV (lv_sub hl [1, 0] rfl)
    · have hE := z_f c11 hE
      refine lv_iload_n hx hb dX3_signAt_27 rfl (lv_at hl 0 rfl) ?_
      refine lv_bipush (v := (43 : Int32)) hx hb dX3_signAt_28 rfl ?_
      refine lv_icmp_eq (tgt := 75) hx hb dX3_signAt_30 (by decide) (fun c12 => ?_) (fun c12 => ?_)
      · have hE := z_t c12 hE
        exact w_75 _ _ _ _ _ hE hW hS hV (lv_sub hl [1, 0] rfl)
      · have hE := z_f c12 hE
        refine lv_iload_n hx hb dX3_signAt_33 rfl (lv_at hl 0 rfl) ?_
        refine lv_bipush (v := (45 : Int32)) hx hb dX3_signAt_34 rfl ?_
        refine lv_icmp_eq (tgt := 75) hx hb dX3_signAt_36 (by decide) (fun c13 => ?_) (fun c13 => ?_)
        · have hE := z_t c13 hE
          exact w_75 _ _ _ _ _ hE hW hS hV (lv_sub hl [1, 0] rfl)
        · have hE := z_f c13 hE
          refine lv_iload_n hx hb dX3_signAt_39 rfl (lv_at hl 0 rfl) ?_
          refine lv_bipush (v := (42 : Int32)) hx hb dX3_signAt_40 rfl ?_
          refine lv_icmp_eq (tgt := 75) hx hb dX3_signAt_42 (by decide) (fun c14 => ?_) (fun c14 => ?_)
          · have hE := z_t c14 hE
            exact w_75 _ _ _ _ _ hE hW hS hV (lv_sub hl [1, 0] rfl)
          · have hE := z_f c14 hE
            refine lv_iload_n hx hb dX3_signAt_45 rfl (lv_at hl 0 rfl) ?_
            refine lv_bipush (v := (47 : Int32)) hx hb dX3_signAt_46 rfl ?_
            refine lv_icmp_eq (tgt := 75) hx hb dX3_signAt_48 (by decide) (fun c15 => ?_) (fun c15 => ?_)
            · have hE := z_t c15 hE
              exact w_75 _ _ _ _ _ hE hW hS hV (lv_sub hl [1, 0] rfl)
            · have hE := z_f c15 hE
              refine lv_iload_n hx hb dX3_signAt_51 rfl (lv_at hl 0 rfl) ?_
              refine lv_bipush (v := (37 : Int32)) hx hb dX3_signAt_52 rfl ?_
              refine lv_icmp_eq (tgt := 75) hx hb dX3_signAt_54 (by decide) (fun c16 => ?_) (fun c16 => ?_)
              · have hE := z_t c16 hE
                exact w_75 _ _ _ _ _ hE hW hS hV (lv_sub hl [1, 0] rfl)
              · have hE := z_f c16 hE
                refine lv_iload_n hx hb dX3_signAt_57 rfl (lv_at hl 0 rfl) ?_
                refine lv_bipush (v := (61 : Int32)) hx hb dX3_signAt_58 rfl ?_
                refine lv_icmp_eq (tgt := 75) hx hb dX3_signAt_60 (by decide) (fun c17 => ?_) (fun c17 => ?_)
                · have hE := z_t c17 hE
                  exact w_75 _ _ _ _ _ hE hW hS hV (lv_sub hl [1, 0] rfl)
                · have hE := z_f c17 hE
                  refine lv_iload_n hx hb dX3_signAt_63 rfl (lv_at hl 0 rfl) ?_
                  refine lv_bipush (v := (60 : Int32)) hx hb dX3_signAt_64 rfl ?_
                  refine lv_icmp_eq (tgt := 75) hx hb dX3_signAt_66 (by decide) (fun c18 => ?_) (fun c18 => ?_)
                  · have hE := z_t c18 hE
                    exact w_75 _ _ _ _ _ hE hW hS hV (lv_sub hl [1, 0] rfl)
                  · have hE := z_f c18 hE
                    refine lv_iload_n hx hb dX3_signAt_69 rfl (lv_at hl 0 rfl) ?_
                    refine lv_bipush (v := (62 : Int32)) hx hb dX3_signAt_70 rfl ?_
                    refine lv_icmp_ne (tgt := 79) hx hb dX3_signAt_72 (by decide) (fun c19 => ?_) (fun c19 => ?_)
                    · have hE := z_f c19 hE
                      refine lv_iconst (v := (0 : Int32)) hx hb dX3_signAt_79 rfl ?_
                      exact w_80 _ _ _ _ _ _ hE hW hS hV (lv_sub hl [1, 0] rfl)
                    · have hE := z_t c19 hE
                      exact w_75 _ _ _ _ _ hE hW hS hV (lv_sub hl [1, 0] rfl)
theorem cx_X3_76 {β : Type} {vf : β ⊕ Nat → Option Value ⊕ Nat} (hvf : ∀ n, vf (.inr n) = .inr n) {N : Nat} {u uF : CS} {Vf : β ⊕ Nat} {K : Int32 → CS → Option ((β ⊕ Nat) × CS)} (C : CC p m c cc nL s args D dA RX3) (hlocks : meth.locks = false) (hnh : c.exceptionTable.isEmpty = true) (hW : wc_W D dA h u H) (hS : wc_S u) (hV : va_S (CA h) s.heap H locs) (ht : wc_T u 297 = some (.inl 3)) (hE : o_bx (fX3_signAt N u) K = some (Vf, uF)) (hR : 1 + 1 ≤ R.frames ∧ 8 + (3 + 11) + 20 ≤ R.locals) (hf : cells + 0 ≤ R.cells ∧ slots + 0 ≤ R.slots) (d : decode cc pc = .ok (.invokevirtual 76, 3)) (hsz : ls.size = nL) (hro : (rest.map fun v => v.category).sum ≤ 8) (kk : ∀ (a : Int32) (u2 : CS) (H1 : Heap) (locs1 : List Loc), K a u2 = some (Vf, uF) → wc_W D dA h u2 H1 → wc_S u2 → va_S (CA h) s.heap H1 locs1 → W p l e R s m args below meth c H1 locs1 cells slots (MQX below (wc_Qx D dA h (vf Vf) uF) args s cells slots (CA h)) (F0 m (pc + 3) ls (.int a :: rest))) : W p l e R s m args below meth c H locs cells slots (MQX below (wc_Qx D dA h (vf Vf) uF) args s cells slots (CA h)) (F0 m pc ls (.ref (h + 297) :: rest)) :=
  wx_callX (f := fun r => some (.int r)) (As := []) (fun _ => rfl) wc_viN hvf C hlocks hnh hE (fun V u1 hc => kX3_signAt hc) (cwV 0 C.1.2.2.2.2 (lw_V q1047 q1049 qs38 q170 q1050) rfl rfl rfl (by decide +kernel) hR) (wc_preV (q := (RX3, TX3, 12)) C.2 hW hS ht rfl _) rfl hsz hro d hf hV kk
theorem cy_X3_76 {ρ : Type} {r0 : ρ} {N : Nat} {u : CS} {K : Int32 → CS → Option ρ} {Kh : Nat → CS → Option ρ} (C : CC p m c cc nL s args D dA RX3) (hW : wc_W D dA h u H) (hS : wc_S u) (hV : va_S (CA h) s.heap H locs) (ht : wc_T u 297 = some (.inl 3)) (hE : o_by (fX3_signAt N u) K Kh = some r0) (hR : 1 + 1 ≤ R.frames ∧ 8 + (3 + 11) + 20 ≤ R.locals) (hf : cells + 0 ≤ R.cells ∧ slots + 0 ≤ R.slots) (d : decode cc pc = .ok (.invokevirtual 76, 3)) (hsz : ls.size = nL) (hro : (rest.map fun v => v.category).sum ≤ 8) (kk : ∀ (a : Int32) (u2 : CS) (H1 : Heap) (locs1 : List Loc), K a u2 = some r0 → wc_W D dA h u2 H1 → wc_S u2 → va_S (CA h) s.heap H1 locs1 → W p l e R s m args below meth c H1 locs1 cells slots Q (F0 m (pc + 3) ls (.int a :: rest))) (kh : ∀ (n : Nat) (u2 : CS) (H1 : Heap) (locs1 : List Loc), Kh n u2 = some r0 → wc_W D dA h u2 H1 → wc_S u2 → va_S (CA h) s.heap H1 locs1 → ∃ (hpc : Nat) (cell : Cell), H1[h + n]? = some cell ∧ xh_go p l e R s m args below meth c locs1 cells slots (F0 m pc ls rest) (h + n) cell c.exceptionTable.toList hpc ∧ W p l e R s m args below meth c H1 locs1 cells slots Q (F0 m hpc ls [.ref (h + n)])) : W p l e R s m args below meth c H locs cells slots Q (F0 m pc ls (.ref (h + 297) :: rest)) :=
  wx_callH (f := fun r => some (.int r)) (As := []) (fun _ => rfl) wc_viN C hE (fun V u1 hc => kX3_signAt hc) (cwV 0 C.1.2.2.2.2 (lw_V q1047 q1049 qs38 q170 q1050) rfl rfl rfl (by decide +kernel) hR) (wc_preV (q := (RX3, TX3, 12)) C.2 hW hS ht rfl _) rfl hsz hro d hf hV kk kh
set_option maxHeartbeats 4000000 in
set_option maxRecDepth 100000 in
theorem kX3_next {l : Launch} {D : va_G} {dA : Nat → ClassId} {h N : Nat} {u u1 : CS} {V : Unit ⊕ Nat} (hE : fX3_next N u = some (V, u1)) : MetX l yX3_next (ws_ yX3_next cX3_next 1 none) ({ frames := 2, cells := 0, slots := 0, locals := 46 }) (va_Pc [.ref (h + 297)] (wc_St D dA h u)) (wc_Qx D dA h (wc_vv V) u1) 0 0 (CA h) := by
  refine wc_metX (own := RX3) (by decide) rfl rfl rfl ?_
  intro p e s m args below meth c ls C hr hlocks hnh hW hS hV hl
  have hx := C.1.1
  have hb := C.1.2.1
  have w_254 : ∀ (u : CS) (H : Heap) (locs : List Loc) (ls : Array Slot), fX3_next_254 N u = some (V, u1) → wc_W D dA h u H → wc_S u → va_S (CA h) s.heap H locs → lv_has ls 1 [] → W p l e ({ frames := 2, cells := 0, slots := 0, locals := 46 }) s m args below meth c H locs 0 0 (MQX below (wc_Qx D dA h (wc_vv V) u1) args s 0 0 (CA h)) (F0 m 254 ls []) := by
    intro u H locs ls hE hW hS hV hl
    unfold fX3_next_254 at hE
    exact wx_vret C hr hlocks hW hS hV hE dX3_next_254
  have w_195 : ∀ (ag142 : CS → Option ((Unit ⊕ Nat) × CS)) (hag142 : (∀ (u : CS) (H : Heap) (locs : List Loc) (ls : Array Slot), ag142 u = some (V, u1) → wc_W D dA h u H → wc_S u → va_S (CA h) s.heap H locs → lv_has ls 1 [(0, .ref (h + 297))] → W p l e ({ frames := 2, cells := 0, slots := 0, locals := 46 }) s m args below meth c H locs 0 0 (MQX below (wc_Qx D dA h (wc_vv V) u1) args s 0 0 (CA h)) (F0 m 142 ls []))) (u : CS) (y1 : Int32) (H : Heap) (locs : List Loc) (ls : Array Slot), fX3_next_195 N ag142 u y1 = some (V, u1) → wc_W D dA h u H → wc_S u → va_S (CA h) s.heap H locs → lv_has ls 1 [(0, .ref (h + 297))] → W p l e ({ frames := 2, cells := 0, slots := 0, locals := 46 }) s m args below meth c H locs 0 0 (MQX below (wc_Qx D dA h (wc_vv V) u1) args s 0 0 (CA h)) (F0 m 195 ls [.int y1, .ref (h + 297)]) := by
    intro ag142 hag142 u y1 H locs ls hE hW hS hV hl
    unfold fX3_next_195 at hE
    refine cp_X3_73_3 (J := wc_S) C hW hV (st_297 hS) hS.uI hE dX3_next_195 (fun u29 H locs hE hW hS hV => ?_)
    refine lv_aload_n hx hb dX3_next_198 rfl (lv_at hl 0 rfl) ?_
    refine lv_dup hx hb dX3_next_199 rfl ?_
    refine cg_X3_52_3 C hW (st_297 hS) dX3_next_200 ?_
    refine lv_iconst (v := (1 : Int32)) hx hb dX3_next_203 rfl ?_
    refine lv_iadd hx hb dX3_next_204 ?_
    refine cp_X3_52_3 (J := wc_S) C hW hV (st_297 hS) hS.uI hE dX3_next_205 (fun u30 H locs hE hW hS hV => ?_)
    refine lv_goto (tgt := 142) hx hb dX3_next_208 (by decide) ?_
    exact hag142 _ _ _ _ hE hW hS hV (lv_sub hl [0] rfl)
  have w_142 : ∀ (n : Nat) (u : CS) (H : Heap) (locs : List Loc) (ls : Array Slot), fX3_next_142 N n u = some (V, u1) → wc_W D dA h u H → wc_S u → va_S (CA h) s.heap H locs → lv_has ls 1 [(0, .ref (h + 297))] → W p l e ({ frames := 2, cells := 0, slots := 0, locals := 46 }) s m args below meth c H locs 0 0 (MQX below (wc_Qx D dA h (wc_vv V) u1) args s 0 0 (CA h)) (F0 m 142 ls []) := by
    intro n
    induction n with
    | zero =>
      intro u H locs ls hE hW hS hV hl
      cases (show (none : Option ((Unit ⊕ Nat) × CS)) = some (V, u1) from hE)
    | succ n ih =>
      intro u H locs ls hE hW hS hV hl
      rw [fX3_next_142] at hE
      refine lv_aload_n hx hb dX3_next_142 rfl (lv_at hl 0 rfl) ?_
      refine lv_aload_n hx hb dX3_next_143 rfl (lv_at hl 0 rfl) ?_
      refine cg_X3_52_3 C hW (st_297 hS) dX3_next_144 ?_
      obtain ⟨r31, u32, hc, hE⟩ := o_bd2_some hE
      refine cc_X3_70 C hW hS hV (st_297 hS) (kX3_isDigit hc) rfl rfl ⟨Nat.le_of_ble_eq_true rfl, Nat.le_of_ble_eq_true rfl⟩ ⟨Nat.le_refl 0, Nat.le_refl 0⟩ dX3_next_147 hl.1 (Nat.le_of_ble_eq_true rfl) (fun H locs hW hS hV => ?_)
      refine lv_if_eq (tgt := 211) hx hb dX3_next_150 (by decide) (fun c33 => ?_) (fun c33 => ?_)
      · have hE := z_t c33 hE
        refine lv_aload_n hx hb dX3_next_211 rfl (lv_at hl 0 rfl) ?_
        refine lv_bipush (v := (110 : Int32)) hx hb dX3_next_212 rfl ?_
        obtain ⟨hb1, hE⟩ := o_ch_some hE
        refine cp_X3_55_3 (J := wc_S) C hW hV (st_297 hS) hS.uI hb1 hE dX3_next_214 (fun u34 H locs hE hW hS hV => ?_)
        refine lv_aload_n hx hb dX3_next_217 rfl (lv_at hl 0 rfl) ?_
        refine cg_X3_52_3 C hW (st_297 hS) dX3_next_218 ?_
        refine lv_aload_n hx hb dX3_next_221 rfl (lv_at hl 0 rfl) ?_
        refine cg_X3_35_3 C hW (st_297 hS) dX3_next_222 ?_
        refine lv_isub hx hb dX3_next_225 ?_
        refine lv_bipush (v := (6 : Int32)) hx hb dX3_next_226 rfl ?_
        refine lv_icmp_le (tgt := 254) hx hb dX3_next_228 (by decide) (fun c35 => ?_) (fun c35 => ?_)
        · have hE := z_t c35 hE
          exact w_254 _ _ _ _ hE hW hS hV (lv_sub hl [] rfl)
        · have hE := z_f c35 hE
          refine lv_aload_n hx hb dX3_next_231 rfl (lv_at hl 0 rfl) ?_
          obtain ⟨r36, u37, hc, hE⟩ := o_bd2_some hE
          refine cc_X3_49 C hW hS hV (st_297 hS) (kX3_fault hc) rfl rfl ⟨Nat.le_of_ble_eq_true rfl, Nat.le_of_ble_eq_true rfl⟩ ⟨Nat.le_refl 0, Nat.le_refl 0⟩ dX3_next_232 hl.1 (Nat.le_of_ble_eq_true rfl) (fun H locs hW hS hV => ?_)
          obtain ⟨n38, hp_, hE_⟩ := o_nn_some hE
          clear hE
          subst hp_
          have hE := hE_
          exact wx_throwV (vf := wc_vv) wc_vvN C hlocks hnh hW hS hV hE dX3_next_235
      · have hE := z_f c33 hE
        refine lv_aload_n hx hb dX3_next_153 rfl (lv_at hl 0 rfl) ?_
        refine lv_aload_n hx hb dX3_next_154 rfl (lv_at hl 0 rfl) ?_
        refine cg_X3_52_3 C hW (st_297 hS) dX3_next_155 ?_
        refine lv_aload_n hx hb dX3_next_158 rfl (lv_at hl 0 rfl) ?_
        refine cg_X3_35_3 C hW (st_297 hS) dX3_next_159 ?_
        refine lv_isub hx hb dX3_next_162 ?_
        refine lv_bipush (v := (6 : Int32)) hx hb dX3_next_163 rfl ?_
        refine lv_icmp_ge (tgt := 191) hx hb dX3_next_165 (by decide) (fun c39 => ?_) (fun c39 => ?_)
        · have hE := z_t c39 hE
          refine lv_aload_n hx hb dX3_next_191 rfl (lv_at hl 0 rfl) ?_
          refine cg_X3_73_3 C hW (st_297 hS) dX3_next_192 ?_
          exact w_195 (fX3_next_142 N n) ih _ _ _ _ _ hE hW hS hV (lv_sub hl [0] rfl)
        · have hE := z_f c39 hE
          refine lv_bipush (v := (10 : Int32)) hx hb dX3_next_168 rfl ?_
          refine lv_aload_n hx hb dX3_next_170 rfl (lv_at hl 0 rfl) ?_
          refine cg_X3_73_3 C hW (st_297 hS) dX3_next_171 ?_
          refine lv_imul hx hb dX3_next_174 ?_
          refine lv_aload_n hx hb dX3_next_175 rfl (lv_at hl 0 rfl) ?_
          refine cgs_X3_9_3 C hW (st_297 hS) (sp_297_tape hS) dX3_next_176 ?_
          refine lv_aload_n hx hb dX3_next_179 rfl (lv_at hl 0 rfl) ?_
          refine cg_X3_52_3 C hW (st_297 hS) dX3_next_180 ?_
          refine wc_ldb C hW (st_297_tape hS) hE dX3_next_183 (fun hE => ?_)
          refine z_nmi hE (fun v40 hE => ?_)
          refine lv_iadd hx hb dX3_next_184 ?_
          refine lv_bipush (v := (48 : Int32)) hx hb dX3_next_185 rfl ?_
          refine lv_isub hx hb dX3_next_187 ?_
          refine lv_goto (tgt := 195) hx hb dX3_next_188 (by decide) ?_
          exact w_195 (fX3_next_142 N n) ih _ _ _ _ _ hE hW hS hV (lv_sub hl [0] rfl)
  have w_76 : ∀ (n : Nat) (u : CS) (H : Heap) (locs : List Loc) (ls : Array Slot), fX3_next_76 N n u = some (V, u1) → wc_W D dA h u H → wc_S u → va_S (CA h) s.heap H locs → lv_has ls 1 [(0, .ref (h + 297))] → W p l e ({ frames := 2, cells := 0, slots := 0, locals := 46 }) s m args below meth c H locs 0 0 (MQX below (wc_Qx D dA h (wc_vv V) u1) args s 0 0 (CA h)) (F0 m 76 ls []) := by
    intro n
    induction n with
    | zero =>
      intro u H locs ls hE hW hS hV hl
      cases (show (none : Option ((Unit ⊕ Nat) × CS)) = some (V, u1) from hE)
    | succ n ih =>
      intro u H locs ls hE hW hS hV hl
      rw [fX3_next_76] at hE
      refine lv_aload_n hx hb dX3_next_76 rfl (lv_at hl 0 rfl) ?_
      refine lv_aload_n hx hb dX3_next_77 rfl (lv_at hl 0 rfl) ?_
      refine cg_X3_52_3 C hW (st_297 hS) dX3_next_78 ?_
      obtain ⟨r41, u42, hc, hE⟩ := o_bd2_some hE
      refine cc_X3_59 C hW hS hV (st_297 hS) (kX3_isLetter hc) rfl rfl ⟨Nat.le_of_ble_eq_true rfl, Nat.le_of_ble_eq_true rfl⟩ ⟨Nat.le_refl 0, Nat.le_refl 0⟩ dX3_next_81 hl.1 (Nat.le_of_ble_eq_true rfl) (fun H locs hW hS hV => ?_)
      refine lv_if_eq (tgt := 100) hx hb dX3_next_84 (by decide) (fun c43 => ?_) (fun c43 => ?_)
      · have hE := z_t c43 hE
        refine lv_aload_n hx hb dX3_next_100 rfl (lv_at hl 0 rfl) ?_
        refine lv_bipush (v := (119 : Int32)) hx hb dX3_next_101 rfl ?_
        obtain ⟨hb1, hE⟩ := o_ch_some hE
        refine cp_X3_55_3 (J := wc_S) C hW hV (st_297 hS) hS.uI hb1 hE dX3_next_103 (fun u44 H locs hE hW hS hV => ?_)
        refine lv_aload_n hx hb dX3_next_106 rfl (lv_at hl 0 rfl) ?_
        refine lv_aload_n hx hb dX3_next_107 rfl (lv_at hl 0 rfl) ?_
        refine lv_aload_n hx hb dX3_next_108 rfl (lv_at hl 0 rfl) ?_
        refine cg_X3_52_3 C hW (st_297 hS) dX3_next_109 ?_
        refine lv_aload_n hx hb dX3_next_112 rfl (lv_at hl 0 rfl) ?_
        refine cg_X3_35_3 C hW (st_297 hS) dX3_next_113 ?_
        refine lv_isub hx hb dX3_next_116 ?_
        refine cx_X3_63 (vf := wc_vv) wc_vvN C hlocks hnh hW hS hV (st_297 hS) hE ⟨Nat.le_of_ble_eq_true rfl, Nat.le_of_ble_eq_true rfl⟩ ⟨Nat.le_refl 0, Nat.le_refl 0⟩ dX3_next_117 hl.1 (Nat.le_of_ble_eq_true rfl) (fun r45 u46 H locs hE hW hS hV => ?_)
        refine cp_X3_67_3 (J := wc_S) C hW hV (st_297 hS) hS.uI hE dX3_next_120 (fun u47 H locs hE hW hS hV => ?_)
        refine lv_goto (tgt := 254) hx hb dX3_next_123 (by decide) ?_
        exact w_254 _ _ _ _ hE hW hS hV (lv_sub hl [] rfl)
      · have hE := z_f c43 hE
        refine lv_aload_n hx hb dX3_next_87 rfl (lv_at hl 0 rfl) ?_
        refine lv_dup hx hb dX3_next_88 rfl ?_
        refine cg_X3_52_3 C hW (st_297 hS) dX3_next_89 ?_
        refine lv_iconst (v := (1 : Int32)) hx hb dX3_next_92 rfl ?_
        refine lv_iadd hx hb dX3_next_93 ?_
        refine cp_X3_52_3 (J := wc_S) C hW hV (st_297 hS) hS.uI hE dX3_next_94 (fun u48 H locs hE hW hS hV => ?_)
        refine lv_goto (tgt := 76) hx hb dX3_next_97 (by decide) ?_
        exact ih _ _ _ _ hE hW hS hV (lv_sub hl [0] rfl)
  have w_38 : ∀ (u : CS) (H : Heap) (locs : List Loc) (ls : Array Slot), fX3_next_38 N u = some (V, u1) → wc_W D dA h u H → wc_S u → va_S (CA h) s.heap H locs → lv_has ls 1 [(0, .ref (h + 297))] → W p l e ({ frames := 2, cells := 0, slots := 0, locals := 46 }) s m args below meth c H locs 0 0 (MQX below (wc_Qx D dA h (wc_vv V) u1) args s 0 0 (CA h)) (F0 m 38 ls []) := by
    intro u H locs ls hE hW hS hV hl
    unfold fX3_next_38 at hE
    refine lv_aload_n hx hb dX3_next_38 rfl (lv_at hl 0 rfl) ?_
    refine lv_aload_n hx hb dX3_next_39 rfl (lv_at hl 0 rfl) ?_
    refine cg_X3_52_3 C hW (st_297 hS) dX3_next_40 ?_
    refine cp_X3_35_3 (J := wc_S) C hW hV (st_297 hS) hS.uI hE dX3_next_43 (fun u49 H locs hE hW hS hV => ?_)
    refine lv_aload_n hx hb dX3_next_46 rfl (lv_at hl 0 rfl) ?_
    refine cg_X3_52_3 C hW (st_297 hS) dX3_next_47 ?_
    refine lv_aload_n hx hb dX3_next_50 rfl (lv_at hl 0 rfl) ?_
    refine cg_X3_42_3 C hW (st_297 hS) dX3_next_51 ?_
    refine lv_icmp_ne (tgt := 65) hx hb dX3_next_54 (by decide) (fun c50 => ?_) (fun c50 => ?_)
    · have hE := z_f c50 hE
      refine lv_aload_n hx hb dX3_next_65 rfl (lv_at hl 0 rfl) ?_
      refine lv_aload_n hx hb dX3_next_66 rfl (lv_at hl 0 rfl) ?_
      refine cg_X3_52_3 C hW (st_297 hS) dX3_next_67 ?_
      obtain ⟨r51, u52, hc, hE⟩ := o_bd2_some hE
      refine cc_X3_59 C hW hS hV (st_297 hS) (kX3_isLetter hc) rfl rfl ⟨Nat.le_of_ble_eq_true rfl, Nat.le_of_ble_eq_true rfl⟩ ⟨Nat.le_refl 0, Nat.le_refl 0⟩ dX3_next_70 hl.1 (Nat.le_of_ble_eq_true rfl) (fun H locs hW hS hV => ?_)
      refine lv_if_eq (tgt := 126) hx hb dX3_next_73 (by decide) (fun c53 => ?_) (fun c53 => ?_)
      · have hE := z_t c53 hE
        refine lv_aload_n hx hb dX3_next_126 rfl (lv_at hl 0 rfl) ?_
        refine lv_aload_n hx hb dX3_next_127 rfl (lv_at hl 0 rfl) ?_
        refine cg_X3_52_3 C hW (st_297 hS) dX3_next_128 ?_
        obtain ⟨r54, u55, hc, hE⟩ := o_bd2_some hE
        refine cc_X3_70 C hW hS hV (st_297 hS) (kX3_isDigit hc) rfl rfl ⟨Nat.le_of_ble_eq_true rfl, Nat.le_of_ble_eq_true rfl⟩ ⟨Nat.le_refl 0, Nat.le_refl 0⟩ dX3_next_131 hl.1 (Nat.le_of_ble_eq_true rfl) (fun H locs hW hS hV => ?_)
        refine lv_if_eq (tgt := 236) hx hb dX3_next_134 (by decide) (fun c56 => ?_) (fun c56 => ?_)
        · have hE := z_t c56 hE
          refine lv_aload_n hx hb dX3_next_236 rfl (lv_at hl 0 rfl) ?_
          refine lv_aload_n hx hb dX3_next_237 rfl (lv_at hl 0 rfl) ?_
          refine cx_X3_76 (vf := wc_vv) wc_vvN C hlocks hnh hW hS hV (st_297 hS) hE ⟨Nat.le_of_ble_eq_true rfl, Nat.le_of_ble_eq_true rfl⟩ ⟨Nat.le_refl 0, Nat.le_refl 0⟩ dX3_next_238 hl.1 (Nat.le_of_ble_eq_true rfl) (fun r57 u58 H locs hE hW hS hV => ?_)
          obtain ⟨hb1, hE⟩ := o_ch_some hE
          refine cp_X3_55_3 (J := wc_S) C hW hV (st_297 hS) hS.uI hb1 hE dX3_next_241 (fun u59 H locs hE hW hS hV => ?_)
          refine lv_aload_n hx hb dX3_next_244 rfl (lv_at hl 0 rfl) ?_
          refine lv_dup hx hb dX3_next_245 rfl ?_
          refine cg_X3_52_3 C hW (st_297 hS) dX3_next_246 ?_
          refine lv_iconst (v := (1 : Int32)) hx hb dX3_next_249 rfl ?_
          refine lv_iadd hx hb dX3_next_250 ?_
          refine cp_X3_52_3 (J := wc_S) C hW hV (st_297 hS) hS.uI hE dX3_next_251 (fun u60 H locs hE hW hS hV => ?_)
          exact w_254 _ _ _ _ hE hW hS hV (lv_sub hl [] rfl)
        · have hE := z_f c56 hE
          refine lv_aload_n hx hb dX3_next_137 rfl (lv_at hl 0 rfl) ?_
          refine lv_iconst (v := (0 : Int32)) hx hb dX3_next_138 rfl ?_
          refine cp_X3_73_3 (J := wc_S) C hW hV (st_297 hS) hS.uI hE dX3_next_139 (fun u61 H locs hE hW hS hV => ?_)
          exact w_142 N _ _ _ _ hE hW hS hV (lv_sub hl [0] rfl)
      · have hE := z_f c53 hE
        exact w_76 N _ _ _ _ hE hW hS hV (lv_sub hl [0] rfl)
    · have hE := z_t c50 hE
      refine lv_aload_n hx hb dX3_next_57 rfl (lv_at hl 0 rfl) ?_
      refine lv_iconst (v := (0 : Int32)) hx hb dX3_next_58 rfl ?_
      obtain ⟨hb1, hE⟩ := o_ch_some hE
      refine cp_X3_55_3 (J := wc_S) C hW hV (st_297 hS) hS.uI hb1 hE dX3_next_59 (fun u62 H locs hE hW hS hV => ?_)
      refine lv_goto (tgt := 254) hx hb dX3_next_62 (by decide) ?_
      exact w_254 _ _ _ _ hE hW hS hV (lv_sub hl [] rfl)
  have w_0 : ∀ (n : Nat) (u : CS) (H : Heap) (locs : List Loc) (ls : Array Slot), fX3_next_0 N n u = some (V, u1) → wc_W D dA h u H → wc_S u → va_S (CA h) s.heap H locs → lv_has ls 1 [(0, .ref (h + 297))] → W p l e ({ frames := 2, cells := 0, slots := 0, locals := 46 }) s m args below meth c H locs 0 0 (MQX below (wc_Qx D dA h (wc_vv V) u1) args s 0 0 (CA h)) (F0 m 0 ls []) := by
    intro n
    induction n with
    | zero =>
      intro u H locs ls hE hW hS hV hl
      cases (show (none : Option ((Unit ⊕ Nat) × CS)) = some (V, u1) from hE)
    | succ n ih =>
      intro u H locs ls hE hW hS hV hl
      rw [fX3_next_0] at hE
      refine lv_aload_n hx hb dX3_next_0 rfl (lv_at hl 0 rfl) ?_
      refine cg_X3_52_3 C hW (st_297 hS) dX3_next_1 ?_
      refine lv_aload_n hx hb dX3_next_4 rfl (lv_at hl 0 rfl) ?_
      refine cg_X3_42_3 C hW (st_297 hS) dX3_next_5 ?_
      refine lv_icmp_ge (tgt := 38) hx hb dX3_next_8 (by decide) (fun c63 => ?_) (fun c63 => ?_)
      · have hE := z_t c63 hE
        exact w_38 _ _ _ _ hE hW hS hV (lv_sub hl [0] rfl)
      · have hE := z_f c63 hE
        refine lv_aload_n hx hb dX3_next_11 rfl (lv_at hl 0 rfl) ?_
        refine cgs_X3_9_3 C hW (st_297 hS) (sp_297_tape hS) dX3_next_12 ?_
        refine lv_aload_n hx hb dX3_next_15 rfl (lv_at hl 0 rfl) ?_
        refine cg_X3_52_3 C hW (st_297 hS) dX3_next_16 ?_
        refine wc_ldb C hW (st_297_tape hS) hE dX3_next_19 (fun hE => ?_)
        refine z_nmi hE (fun v64 hE => ?_)
        refine lv_bipush (v := (32 : Int32)) hx hb dX3_next_20 rfl ?_
        refine lv_icmp_ne (tgt := 38) hx hb dX3_next_22 (by decide) (fun c65 => ?_) (fun c65 => ?_)
        · have hE := z_f c65 hE
          exact w_38 _ _ _ _ hE hW hS hV (lv_sub hl [0] rfl)
        · have hE := z_t c65 hE
          refine lv_aload_n hx hb dX3_next_25 rfl (lv_at hl 0 rfl) ?_
          refine lv_dup hx hb dX3_next_26 rfl ?_
          refine cg_X3_52_3 C hW (st_297 hS) dX3_next_27 ?_
          refine lv_iconst (v := (1 : Int32)) hx hb dX3_next_30 rfl ?_
          refine lv_iadd hx hb dX3_next_31 ?_
          refine cp_X3_52_3 (J := wc_S) C hW hV (st_297 hS) hS.uI hE dX3_next_32 (fun u66 H locs hE hW hS hV => ?_)
          refine lv_goto (tgt := 0) hx hb dX3_next_35 (by decide) ?_
          exact ih _ _ _ _ hE hW hS hV (lv_sub hl [0] rfl)
  unfold fX3_next at hE
  exact w_0 N _ _ _ _ hE hW hS hV (lv_sub hl [0] rfl)
theorem cx_X3_83 {β : Type} {vf : β ⊕ Nat → Option Value ⊕ Nat} (hvf : ∀ n, vf (.inr n) = .inr n) {N : Nat} {u uF : CS} {Vf : β ⊕ Nat} {K : Unit → CS → Option ((β ⊕ Nat) × CS)} (C : CC p m c cc nL s args D dA RX3) (hlocks : meth.locks = false) (hnh : c.exceptionTable.isEmpty = true) (hW : wc_W D dA h u H) (hS : wc_S u) (hV : va_S (CA h) s.heap H locs) (ht : wc_T u 297 = some (.inl 3)) (hE : o_bx (fX3_next N u) K = some (Vf, uF)) (hR : 2 + 1 ≤ R.frames ∧ 8 + (1 + 11) + 46 ≤ R.locals) (hf : cells + 0 ≤ R.cells ∧ slots + 0 ≤ R.slots) (d : decode cc pc = .ok (.invokevirtual 83, 3)) (hsz : ls.size = nL) (hro : (rest.map fun v => v.category).sum ≤ 8) (kk : ∀ (a : Unit) (u2 : CS) (H1 : Heap) (locs1 : List Loc), K a u2 = some (Vf, uF) → wc_W D dA h u2 H1 → wc_S u2 → va_S (CA h) s.heap H1 locs1 → W p l e R s m args below meth c H1 locs1 cells slots (MQX below (wc_Qx D dA h (vf Vf) uF) args s cells slots (CA h)) (F0 m (pc + 3) ls (rest))) : W p l e R s m args below meth c H locs cells slots (MQX below (wc_Qx D dA h (vf Vf) uF) args s cells slots (CA h)) (F0 m pc ls (.ref (h + 297) :: rest)) :=
  wx_callX (f := fun _ => none) (As := []) (fun _ => rfl) wc_vvN hvf C hlocks hnh hE (fun V u1 hc => kX3_next hc) (cwV 0 C.1.2.2.2.2 (lw_V q1023 q1025 qs32 q170 q1026) rfl rfl rfl (by decide +kernel) hR) (wc_preV (q := (RX3, TX3, 12)) C.2 hW hS ht rfl _) rfl hsz hro d hf hV kk
theorem cy_X3_83 {ρ : Type} {r0 : ρ} {N : Nat} {u : CS} {K : Unit → CS → Option ρ} {Kh : Nat → CS → Option ρ} (C : CC p m c cc nL s args D dA RX3) (hW : wc_W D dA h u H) (hS : wc_S u) (hV : va_S (CA h) s.heap H locs) (ht : wc_T u 297 = some (.inl 3)) (hE : o_by (fX3_next N u) K Kh = some r0) (hR : 2 + 1 ≤ R.frames ∧ 8 + (1 + 11) + 46 ≤ R.locals) (hf : cells + 0 ≤ R.cells ∧ slots + 0 ≤ R.slots) (d : decode cc pc = .ok (.invokevirtual 83, 3)) (hsz : ls.size = nL) (hro : (rest.map fun v => v.category).sum ≤ 8) (kk : ∀ (a : Unit) (u2 : CS) (H1 : Heap) (locs1 : List Loc), K a u2 = some r0 → wc_W D dA h u2 H1 → wc_S u2 → va_S (CA h) s.heap H1 locs1 → W p l e R s m args below meth c H1 locs1 cells slots Q (F0 m (pc + 3) ls (rest))) (kh : ∀ (n : Nat) (u2 : CS) (H1 : Heap) (locs1 : List Loc), Kh n u2 = some r0 → wc_W D dA h u2 H1 → wc_S u2 → va_S (CA h) s.heap H1 locs1 → ∃ (hpc : Nat) (cell : Cell), H1[h + n]? = some cell ∧ xh_go p l e R s m args below meth c locs1 cells slots (F0 m pc ls rest) (h + n) cell c.exceptionTable.toList hpc ∧ W p l e R s m args below meth c H1 locs1 cells slots Q (F0 m hpc ls [.ref (h + n)])) : W p l e R s m args below meth c H locs cells slots Q (F0 m pc ls (.ref (h + 297) :: rest)) :=
  wx_callH (f := fun _ => none) (As := []) (fun _ => rfl) wc_vvN C hE (fun V u1 hc => kX3_next hc) (cwV 0 C.1.2.2.2.2 (lw_V q1023 q1025 qs32 q170 q1026) rfl rfl rfl (by decide +kernel) hR) (wc_preV (q := (RX3, TX3, 12)) C.2 hW hS ht rfl _) rfl hsz hro d hf hV kk kh
set_option maxHeartbeats 4000000 in
set_option maxRecDepth 100000 in
theorem kX3_struck {l : Launch} {D : va_G} {dA : Nat → ClassId} {h N : Nat} {u u1 : CS} {V : Int32 ⊕ Nat} (hE : fX3_struck N u = some (V, u1)) : MetX l yX3_struck (ws_ yX3_struck cX3_struck 2 (some .int)) ({ frames := 3, cells := 0, slots := 0, locals := 66 }) (va_Pc [.ref (h + 297)] (wc_St D dA h u)) (wc_Qx D dA h (wc_vi V) u1) 0 0 (CA h) := by
  refine wc_metX (own := RX3) (by decide) rfl rfl rfl ?_
  intro p e s m args below meth c ls C hr hlocks hnh hW hS hV hl
  have hx := C.1.1
  have hb := C.1.2.1
  unfold fX3_struck at hE
  refine lv_aload_n hx hb dX3_struck_0 rfl (lv_at hl 0 rfl) ?_
  refine cx_X3_83 (vf := wc_vi) wc_viN C hlocks hnh hW hS hV (st_297 hS) hE ⟨Nat.le_of_ble_eq_true rfl, Nat.le_of_ble_eq_true rfl⟩ ⟨Nat.le_refl 0, Nat.le_refl 0⟩ dX3_struck_1 hl.1 (Nat.le_of_ble_eq_true rfl) (fun _ u5 H locs hE hW hS hV => ?_)
  refine lv_aload_n hx hb dX3_struck_4 rfl (lv_at hl 0 rfl) ?_
  refine cg_X3_55_3 C hW (st_297 hS) dX3_struck_5 ?_
  refine lv_bipush (v := (110 : Int32)) hx hb dX3_struck_8 rfl ?_
  refine lv_icmp_eq (tgt := 18) hx hb dX3_struck_10 (by decide) (fun c6 => ?_) (fun c6 => ?_)
  · have hE := z_t c6 hE
    refine lv_aload_n hx hb dX3_struck_18 rfl (lv_at hl 0 rfl) ?_
    refine cg_X3_73_3 C hW (st_297 hS) dX3_struck_19 ?_
    refine z_nmi hE (fun z7 hE => ?_)
    refine lv_istore_n (lv' := [(1, .int z7), (0, .ref (h + 297))]) hx hb dX3_struck_22 rfl hl (by decide) rfl (fun ls hl => ?_)
    refine lv_aload_n hx hb dX3_struck_23 rfl (lv_at hl 1 rfl) ?_
    refine cx_X3_83 (vf := wc_vi) wc_viN C hlocks hnh hW hS hV (st_297 hS) hE ⟨Nat.le_of_ble_eq_true rfl, Nat.le_of_ble_eq_true rfl⟩ ⟨Nat.le_refl 0, Nat.le_refl 0⟩ dX3_struck_24 hl.1 (Nat.le_of_ble_eq_true rfl) (fun _ u8 H locs hE hW hS hV => ?_)
    refine lv_iload_n hx hb dX3_struck_27 rfl (lv_at hl 0 rfl) ?_
    exact wx_iret C hr hlocks hW hS hV hE dX3_struck_28
  · have hE := z_f c6 hE
    refine lv_aload_n hx hb dX3_struck_13 rfl (lv_at hl 0 rfl) ?_
    obtain ⟨r9, u10, hc, hE⟩ := o_bd2_some hE
    refine cc_X3_49 C hW hS hV (st_297 hS) (kX3_fault hc) rfl rfl ⟨Nat.le_of_ble_eq_true rfl, Nat.le_of_ble_eq_true rfl⟩ ⟨Nat.le_refl 0, Nat.le_refl 0⟩ dX3_struck_14 hl.1 (Nat.le_of_ble_eq_true rfl) (fun H locs hW hS hV => ?_)
    obtain ⟨n11, hp_, hE_⟩ := o_nn_some hE
    clear hE
    subst hp_
    have hE := hE_
    exact wx_throwV (vf := wc_vi) wc_viN C hlocks hnh hW hS hV hE dX3_struck_17
theorem cx_X3_150 {β : Type} {vf : β ⊕ Nat → Option Value ⊕ Nat} (hvf : ∀ n, vf (.inr n) = .inr n) {N : Nat} {u uF : CS} {Vf : β ⊕ Nat} {K : Int32 → CS → Option ((β ⊕ Nat) × CS)} (C : CC p m c cc nL s args D dA RX3) (hlocks : meth.locks = false) (hnh : c.exceptionTable.isEmpty = true) (hW : wc_W D dA h u H) (hS : wc_S u) (hV : va_S (CA h) s.heap H locs) (ht : wc_T u 297 = some (.inl 3)) (hE : o_bx (fX3_struck N u) K = some (Vf, uF)) (hR : 3 + 1 ≤ R.frames ∧ 8 + (2 + 11) + 66 ≤ R.locals) (hf : cells + 0 ≤ R.cells ∧ slots + 0 ≤ R.slots) (d : decode cc pc = .ok (.invokevirtual 150, 3)) (hsz : ls.size = nL) (hro : (rest.map fun v => v.category).sum ≤ 8) (kk : ∀ (a : Int32) (u2 : CS) (H1 : Heap) (locs1 : List Loc), K a u2 = some (Vf, uF) → wc_W D dA h u2 H1 → wc_S u2 → va_S (CA h) s.heap H1 locs1 → W p l e R s m args below meth c H1 locs1 cells slots (MQX below (wc_Qx D dA h (vf Vf) uF) args s cells slots (CA h)) (F0 m (pc + 3) ls (.int a :: rest))) : W p l e R s m args below meth c H locs cells slots (MQX below (wc_Qx D dA h (vf Vf) uF) args s cells slots (CA h)) (F0 m pc ls (.ref (h + 297) :: rest)) :=
  wx_callX (f := fun r => some (.int r)) (As := []) (fun _ => rfl) wc_viN hvf C hlocks hnh hE (fun V u1 hc => kX3_struck hc) (cwV 0 C.1.2.2.2.2 (lw_V q1055 q1057 qs40 q170 q1058) rfl rfl rfl (by decide +kernel) hR) (wc_preV (q := (RX3, TX3, 12)) C.2 hW hS ht rfl _) rfl hsz hro d hf hV kk
theorem cy_X3_150 {ρ : Type} {r0 : ρ} {N : Nat} {u : CS} {K : Int32 → CS → Option ρ} {Kh : Nat → CS → Option ρ} (C : CC p m c cc nL s args D dA RX3) (hW : wc_W D dA h u H) (hS : wc_S u) (hV : va_S (CA h) s.heap H locs) (ht : wc_T u 297 = some (.inl 3)) (hE : o_by (fX3_struck N u) K Kh = some r0) (hR : 3 + 1 ≤ R.frames ∧ 8 + (2 + 11) + 66 ≤ R.locals) (hf : cells + 0 ≤ R.cells ∧ slots + 0 ≤ R.slots) (d : decode cc pc = .ok (.invokevirtual 150, 3)) (hsz : ls.size = nL) (hro : (rest.map fun v => v.category).sum ≤ 8) (kk : ∀ (a : Int32) (u2 : CS) (H1 : Heap) (locs1 : List Loc), K a u2 = some r0 → wc_W D dA h u2 H1 → wc_S u2 → va_S (CA h) s.heap H1 locs1 → W p l e R s m args below meth c H1 locs1 cells slots Q (F0 m (pc + 3) ls (.int a :: rest))) (kh : ∀ (n : Nat) (u2 : CS) (H1 : Heap) (locs1 : List Loc), Kh n u2 = some r0 → wc_W D dA h u2 H1 → wc_S u2 → va_S (CA h) s.heap H1 locs1 → ∃ (hpc : Nat) (cell : Cell), H1[h + n]? = some cell ∧ xh_go p l e R s m args below meth c locs1 cells slots (F0 m pc ls rest) (h + n) cell c.exceptionTable.toList hpc ∧ W p l e R s m args below meth c H1 locs1 cells slots Q (F0 m hpc ls [.ref (h + n)])) : W p l e R s m args below meth c H locs cells slots Q (F0 m pc ls (.ref (h + 297) :: rest)) :=
  wx_callH (f := fun r => some (.int r)) (As := []) (fun _ => rfl) wc_viN C hE (fun V u1 hc => kX3_struck hc) (cwV 0 C.1.2.2.2.2 (lw_V q1055 q1057 qs40 q170 q1058) rfl rfl rfl (by decide +kernel) hR) (wc_preV (q := (RX3, TX3, 12)) C.2 hW hS ht rfl _) rfl hsz hro d hf hV kk kh
set_option maxHeartbeats 4000000 in
set_option maxRecDepth 100000 in
theorem kX3_openOne {l : Launch} {D : va_G} {dA : Nat → ClassId} {h N : Nat} {u u1 : CS} {V : Unit ⊕ Nat} (hE : fX3_openOne N u = some (V, u1)) : MetX l yX3_openOne (ws_ yX3_openOne cX3_openOne 1 none) ({ frames := 3, cells := 0, slots := 0, locals := 66 }) (va_Pc [.ref (h + 297)] (wc_St D dA h u)) (wc_Qx D dA h (wc_vv V) u1) 0 0 (CA h) := by
  refine wc_metX (own := RX3) (by decide) rfl rfl rfl ?_
  intro p e s m args below meth c ls C hr hlocks hnh hW hS hV hl
  have hx := C.1.1
  have hb := C.1.2.1
  unfold fX3_openOne at hE
  refine lv_aload_n hx hb dX3_openOne_0 rfl (lv_at hl 0 rfl) ?_
  refine cg_X3_80_3 C hW (st_297 hS) dX3_openOne_1 ?_
  refine lv_bipush (v := (6 : Int32)) hx hb dX3_openOne_4 rfl ?_
  refine lv_icmp_ne (tgt := 14) hx hb dX3_openOne_6 (by decide) (fun c5 => ?_) (fun c5 => ?_)
  · have hE := z_f c5 hE
    refine lv_aload_n hx hb dX3_openOne_14 rfl (lv_at hl 0 rfl) ?_
    refine lv_dup hx hb dX3_openOne_15 rfl ?_
    refine cg_X3_80_3 C hW (st_297 hS) dX3_openOne_16 ?_
    refine lv_iconst (v := (1 : Int32)) hx hb dX3_openOne_19 rfl ?_
    refine lv_iadd hx hb dX3_openOne_20 ?_
    refine cp_X3_80_3 (J := wc_S) C hW hV (st_297 hS) hS.uI hE dX3_openOne_21 (fun u6 H locs hE hW hS hV => ?_)
    refine lv_aload_n hx hb dX3_openOne_24 rfl (lv_at hl 0 rfl) ?_
    refine cx_X3_83 (vf := wc_vv) wc_vvN C hlocks hnh hW hS hV (st_297 hS) hE ⟨Nat.le_of_ble_eq_true rfl, Nat.le_of_ble_eq_true rfl⟩ ⟨Nat.le_refl 0, Nat.le_refl 0⟩ dX3_openOne_25 hl.1 (Nat.le_of_ble_eq_true rfl) (fun _ u7 H locs hE hW hS hV => ?_)
    exact wx_vret C hr hlocks hW hS hV hE dX3_openOne_28
  · have hE := z_t c5 hE
    refine lv_aload_n hx hb dX3_openOne_9 rfl (lv_at hl 0 rfl) ?_
    obtain ⟨r8, u9, hc, hE⟩ := o_bd2_some hE
    refine cc_X3_49 C hW hS hV (st_297 hS) (kX3_fault hc) rfl rfl ⟨Nat.le_of_ble_eq_true rfl, Nat.le_of_ble_eq_true rfl⟩ ⟨Nat.le_refl 0, Nat.le_refl 0⟩ dX3_openOne_10 hl.1 (Nat.le_of_ble_eq_true rfl) (fun H locs hW hS hV => ?_)
    obtain ⟨n10, hp_, hE_⟩ := o_nn_some hE
    clear hE
    subst hp_
    have hE := hE_
    exact wx_throwV (vf := wc_vv) wc_vvN C hlocks hnh hW hS hV hE dX3_openOne_13
theorem cx_X3_98 {β : Type} {vf : β ⊕ Nat → Option Value ⊕ Nat} (hvf : ∀ n, vf (.inr n) = .inr n) {N : Nat} {u uF : CS} {Vf : β ⊕ Nat} {K : Unit → CS → Option ((β ⊕ Nat) × CS)} (C : CC p m c cc nL s args D dA RX3) (hlocks : meth.locks = false) (hnh : c.exceptionTable.isEmpty = true) (hW : wc_W D dA h u H) (hS : wc_S u) (hV : va_S (CA h) s.heap H locs) (ht : wc_T u 297 = some (.inl 3)) (hE : o_bx (fX3_openOne N u) K = some (Vf, uF)) (hR : 3 + 1 ≤ R.frames ∧ 8 + (1 + 11) + 66 ≤ R.locals) (hf : cells + 0 ≤ R.cells ∧ slots + 0 ≤ R.slots) (d : decode cc pc = .ok (.invokevirtual 98, 3)) (hsz : ls.size = nL) (hro : (rest.map fun v => v.category).sum ≤ 8) (kk : ∀ (a : Unit) (u2 : CS) (H1 : Heap) (locs1 : List Loc), K a u2 = some (Vf, uF) → wc_W D dA h u2 H1 → wc_S u2 → va_S (CA h) s.heap H1 locs1 → W p l e R s m args below meth c H1 locs1 cells slots (MQX below (wc_Qx D dA h (vf Vf) uF) args s cells slots (CA h)) (F0 m (pc + 3) ls (rest))) : W p l e R s m args below meth c H locs cells slots (MQX below (wc_Qx D dA h (vf Vf) uF) args s cells slots (CA h)) (F0 m pc ls (.ref (h + 297) :: rest)) :=
  wx_callX (f := fun _ => none) (As := []) (fun _ => rfl) wc_vvN hvf C hlocks hnh hE (fun V u1 hc => kX3_openOne hc) (cwV 0 C.1.2.2.2.2 (lw_V q1075 q1077 qs45 q170 q1078) rfl rfl rfl (by decide +kernel) hR) (wc_preV (q := (RX3, TX3, 12)) C.2 hW hS ht rfl _) rfl hsz hro d hf hV kk
theorem cy_X3_98 {ρ : Type} {r0 : ρ} {N : Nat} {u : CS} {K : Unit → CS → Option ρ} {Kh : Nat → CS → Option ρ} (C : CC p m c cc nL s args D dA RX3) (hW : wc_W D dA h u H) (hS : wc_S u) (hV : va_S (CA h) s.heap H locs) (ht : wc_T u 297 = some (.inl 3)) (hE : o_by (fX3_openOne N u) K Kh = some r0) (hR : 3 + 1 ≤ R.frames ∧ 8 + (1 + 11) + 66 ≤ R.locals) (hf : cells + 0 ≤ R.cells ∧ slots + 0 ≤ R.slots) (d : decode cc pc = .ok (.invokevirtual 98, 3)) (hsz : ls.size = nL) (hro : (rest.map fun v => v.category).sum ≤ 8) (kk : ∀ (a : Unit) (u2 : CS) (H1 : Heap) (locs1 : List Loc), K a u2 = some r0 → wc_W D dA h u2 H1 → wc_S u2 → va_S (CA h) s.heap H1 locs1 → W p l e R s m args below meth c H1 locs1 cells slots Q (F0 m (pc + 3) ls (rest))) (kh : ∀ (n : Nat) (u2 : CS) (H1 : Heap) (locs1 : List Loc), Kh n u2 = some r0 → wc_W D dA h u2 H1 → wc_S u2 → va_S (CA h) s.heap H1 locs1 → ∃ (hpc : Nat) (cell : Cell), H1[h + n]? = some cell ∧ xh_go p l e R s m args below meth c locs1 cells slots (F0 m pc ls rest) (h + n) cell c.exceptionTable.toList hpc ∧ W p l e R s m args below meth c H1 locs1 cells slots Q (F0 m hpc ls [.ref (h + n)])) : W p l e R s m args below meth c H locs cells slots Q (F0 m pc ls (.ref (h + 297) :: rest)) :=
  wx_callH (f := fun _ => none) (As := []) (fun _ => rfl) wc_vvN C hE (fun V u1 hc => kX3_openOne hc) (cwV 0 C.1.2.2.2.2 (lw_V q1075 q1077 qs45 q170 q1078) rfl rfl rfl (by decide +kernel) hR) (wc_preV (q := (RX3, TX3, 12)) C.2 hW hS ht rfl _) rfl hsz hro d hf hV kk kh
set_option maxHeartbeats 4000000 in
set_option maxRecDepth 100000 in
theorem kX0_needOrder {l : Launch} {D : va_G} {dA : Nat → ClassId} {h N : Nat} {a1 : Int32} {a2 : Int32} {a3 : Int32} {u u1 : CS} {V : Unit ⊕ Nat} (hE : fX0_needOrder N u a1 a2 a3 = some (V, u1)) : MetX l yX0_needOrder (ws_ yX0_needOrder cX0_needOrder 4 none) ({ frames := 1, cells := 0, slots := 0, locals := 25 }) (va_Pc [.ref (h + 0), .int a1, .int a2, .int a3] (wc_St D dA h u)) (wc_Qx D dA h (wc_vv V) u1) 0 0 (CA h) := by
  refine wc_metX (own := RX0) (by decide) rfl rfl rfl ?_
  intro p e s m args below meth c ls C hr hlocks hnh hW hS hV hl
  have hx := C.1.1
  have hb := C.1.2.1
  have w_52 : ∀ (u : CS) (y1 : Int64) (y2 : Int64) (y3 : Int64) (H : Heap) (locs : List Loc) (ls : Array Slot), fX0_needOrder_52 N u y1 y2 y3 = some (V, u1) → wc_W D dA h u H → wc_S u → va_S (CA h) s.heap H locs → lv_has ls 4 [] → W p l e ({ frames := 1, cells := 0, slots := 0, locals := 25 }) s m args below meth c H locs 0 0 (MQX below (wc_Qx D dA h (wc_vv V) u1) args s 0 0 (CA h)) (F0 m 52 ls [.long y3, .long y2, .long y1, .ref (h + 0)]) := by
    intro u y1 y2 y3 H locs ls hE hW hS hV hl
    unfold fX0_needOrder_52 at hE
    obtain ⟨r8, hc, hE⟩ := o_bd_some hE
    refine sc_X0_31 C.1 (kX0_isIn hc) rfl rfl ⟨Nat.le_of_ble_eq_true rfl, Nat.le_of_ble_eq_true rfl⟩ ⟨Nat.le_refl 0, Nat.le_refl 0⟩ dX0_needOrder_52 hl.1 (Nat.le_of_ble_eq_true rfl) ?_
    refine lv_bipush (v := (-7 : Int32)) hx hb dX0_needOrder_55 rfl ?_
    refine cx_X0_276 (vf := wc_vv) wc_vvN C hlocks hnh hW hS hV (st_0 hS) hE ⟨Nat.le_of_ble_eq_true rfl, Nat.le_of_ble_eq_true rfl⟩ ⟨Nat.le_refl 0, Nat.le_refl 0⟩ dX0_needOrder_57 hl.1 (Nat.le_of_ble_eq_true rfl) (fun _ u9 H locs hE hW hS hV => ?_)
    exact wx_vret C hr hlocks hW hS hV hE dX0_needOrder_60
  unfold fX0_needOrder at hE
  refine lv_aload_n hx hb dX0_needOrder_0 rfl (lv_at hl 0 rfl) ?_
  refine lv_aload_n hx hb dX0_needOrder_1 rfl (lv_at hl 0 rfl) ?_
  refine lv_iload_n hx hb dX0_needOrder_2 rfl (lv_at hl 1 rfl) ?_
  obtain ⟨r10, u11, hc, hE⟩ := o_bd2_some hE
  refine cc_X0_148 C hW hS hV (st_0 hS) (kX0_isStand hc) rfl rfl ⟨Nat.le_of_ble_eq_true rfl, Nat.le_of_ble_eq_true rfl⟩ ⟨Nat.le_refl 0, Nat.le_refl 0⟩ dX0_needOrder_3 hl.1 (Nat.le_of_ble_eq_true rfl) (fun H locs hW hS hV => ?_)
  refine lv_bipush (v := (-3 : Int32)) hx hb dX0_needOrder_6 rfl ?_
  refine cx_X0_276 (vf := wc_vv) wc_vvN C hlocks hnh hW hS hV (st_0 hS) hE ⟨Nat.le_of_ble_eq_true rfl, Nat.le_of_ble_eq_true rfl⟩ ⟨Nat.le_refl 0, Nat.le_refl 0⟩ dX0_needOrder_8 hl.1 (Nat.le_of_ble_eq_true rfl) (fun _ u12 H locs hE hW hS hV => ?_)
  refine lv_aload_n hx hb dX0_needOrder_11 rfl (lv_at hl 0 rfl) ?_
  refine lv_iload_n hx hb dX0_needOrder_12 rfl (lv_at hl 2 rfl) ?_
  refine lv_i2l hx hb dX0_needOrder_13 rfl ?_
  refine lv_lconst (v := (0 : Int64)) hx hb dX0_needOrder_14 rfl ?_
  refine lv_ldc2 (v := (2 : Int64)) hx hb C.1.2.2.2.1 (C.1.2.2.2.2 _ q1189) dX0_needOrder_15 ?_
  obtain ⟨r13, hc, hE⟩ := o_bd_some hE
  refine sc_X0_31 C.1 (kX0_isIn hc) rfl rfl ⟨Nat.le_of_ble_eq_true rfl, Nat.le_of_ble_eq_true rfl⟩ ⟨Nat.le_refl 0, Nat.le_refl 0⟩ dX0_needOrder_18 hl.1 (Nat.le_of_ble_eq_true rfl) ?_
  refine lv_bipush (v := (-5 : Int32)) hx hb dX0_needOrder_21 rfl ?_
  refine cx_X0_276 (vf := wc_vv) wc_vvN C hlocks hnh hW hS hV (st_0 hS) hE ⟨Nat.le_of_ble_eq_true rfl, Nat.le_of_ble_eq_true rfl⟩ ⟨Nat.le_refl 0, Nat.le_refl 0⟩ dX0_needOrder_23 hl.1 (Nat.le_of_ble_eq_true rfl) (fun _ u14 H locs hE hW hS hV => ?_)
  refine lv_aload_n hx hb dX0_needOrder_26 rfl (lv_at hl 0 rfl) ?_
  refine lv_iload_n hx hb dX0_needOrder_27 rfl (lv_at hl 3 rfl) ?_
  refine lv_i2l hx hb dX0_needOrder_28 rfl ?_
  refine lv_lconst (v := (0 : Int64)) hx hb dX0_needOrder_29 rfl ?_
  refine lv_iload_n hx hb dX0_needOrder_30 rfl (lv_at hl 2 rfl) ?_
  refine lv_if_ne (tgt := 38) hx hb dX0_needOrder_31 (by decide) (fun c15 => ?_) (fun c15 => ?_)
  · have hE := z_f c15 hE
    refine lv_iload_n hx hb dX0_needOrder_38 rfl (lv_at hl 2 rfl) ?_
    refine lv_iconst (v := (1 : Int32)) hx hb dX0_needOrder_39 rfl ?_
    refine lv_icmp_ne (tgt := 49) hx hb dX0_needOrder_40 (by decide) (fun c16 => ?_) (fun c16 => ?_)
    · have hE := z_f c16 hE
      refine lv_ldc2 (v := (3 : Int64)) hx hb C.1.2.2.2.1 (C.1.2.2.2.2 _ q784) dX0_needOrder_49 ?_
      exact w_52 _ _ _ _ _ _ _ hE hW hS hV (lv_sub hl [] rfl)
    · have hE := z_t c16 hE
      refine lv_ldc2 (v := (100 : Int64)) hx hb C.1.2.2.2.1 (C.1.2.2.2.2 _ q689) dX0_needOrder_43 ?_
      refine lv_goto (tgt := 52) hx hb dX0_needOrder_46 (by decide) ?_
      exact w_52 _ _ _ _ _ _ _ hE hW hS hV (lv_sub hl [] rfl)
  · have hE := z_t c15 hE
    refine lv_lconst (v := (0 : Int64)) hx hb dX0_needOrder_34 rfl ?_
    refine lv_goto (tgt := 52) hx hb dX0_needOrder_35 (by decide) ?_
    exact w_52 _ _ _ _ _ _ _ hE hW hS hV (lv_sub hl [] rfl)
theorem cx_X0_372 {β : Type} {vf : β ⊕ Nat → Option Value ⊕ Nat} (hvf : ∀ n, vf (.inr n) = .inr n) {N : Nat} {a1 : Int32} {a2 : Int32} {a3 : Int32} {u uF : CS} {Vf : β ⊕ Nat} {K : Unit → CS → Option ((β ⊕ Nat) × CS)} (C : CC p m c cc nL s args D dA RX0) (hlocks : meth.locks = false) (hnh : c.exceptionTable.isEmpty = true) (hW : wc_W D dA h u H) (hS : wc_S u) (hV : va_S (CA h) s.heap H locs) (ht : wc_T u 0 = some (.inl 0)) (hE : o_bx (fX0_needOrder N u a1 a2 a3) K = some (Vf, uF)) (hR : 1 + 1 ≤ R.frames ∧ 8 + (4 + 11) + 25 ≤ R.locals) (hf : cells + 0 ≤ R.cells ∧ slots + 0 ≤ R.slots) (d : decode cc pc = .ok (.invokevirtual 372, 3)) (hsz : ls.size = nL) (hro : (rest.map fun v => v.category).sum ≤ 8) (kk : ∀ (a : Unit) (u2 : CS) (H1 : Heap) (locs1 : List Loc), K a u2 = some (Vf, uF) → wc_W D dA h u2 H1 → wc_S u2 → va_S (CA h) s.heap H1 locs1 → W p l e R s m args below meth c H1 locs1 cells slots (MQX below (wc_Qx D dA h (vf Vf) uF) args s cells slots (CA h)) (F0 m (pc + 3) ls (rest))) : W p l e R s m args below meth c H locs cells slots (MQX below (wc_Qx D dA h (vf Vf) uF) args s cells slots (CA h)) (F0 m pc ls (.int a3 :: .int a2 :: .int a1 :: .ref (h + 0) :: rest)) :=
  wx_callX (f := fun _ => none) (As := [.int a1, .int a2, .int a3]) (fun _ => rfl) wc_vvN hvf C hlocks hnh hE (fun V u1 hc => kX0_needOrder hc) (cwV 3 C.1.2.2.2.2 (lw_V q1185 q1187 qs53 q166 q1188) rfl rfl rfl (by decide +kernel) hR) (wc_preV (q := (RX0, TX0, 27)) C.2 hW hS ht rfl _) rfl hsz hro d hf hV kk
theorem cy_X0_372 {ρ : Type} {r0 : ρ} {N : Nat} {a1 : Int32} {a2 : Int32} {a3 : Int32} {u : CS} {K : Unit → CS → Option ρ} {Kh : Nat → CS → Option ρ} (C : CC p m c cc nL s args D dA RX0) (hW : wc_W D dA h u H) (hS : wc_S u) (hV : va_S (CA h) s.heap H locs) (ht : wc_T u 0 = some (.inl 0)) (hE : o_by (fX0_needOrder N u a1 a2 a3) K Kh = some r0) (hR : 1 + 1 ≤ R.frames ∧ 8 + (4 + 11) + 25 ≤ R.locals) (hf : cells + 0 ≤ R.cells ∧ slots + 0 ≤ R.slots) (d : decode cc pc = .ok (.invokevirtual 372, 3)) (hsz : ls.size = nL) (hro : (rest.map fun v => v.category).sum ≤ 8) (kk : ∀ (a : Unit) (u2 : CS) (H1 : Heap) (locs1 : List Loc), K a u2 = some r0 → wc_W D dA h u2 H1 → wc_S u2 → va_S (CA h) s.heap H1 locs1 → W p l e R s m args below meth c H1 locs1 cells slots Q (F0 m (pc + 3) ls (rest))) (kh : ∀ (n : Nat) (u2 : CS) (H1 : Heap) (locs1 : List Loc), Kh n u2 = some r0 → wc_W D dA h u2 H1 → wc_S u2 → va_S (CA h) s.heap H1 locs1 → ∃ (hpc : Nat) (cell : Cell), H1[h + n]? = some cell ∧ xh_go p l e R s m args below meth c locs1 cells slots (F0 m pc ls rest) (h + n) cell c.exceptionTable.toList hpc ∧ W p l e R s m args below meth c H1 locs1 cells slots Q (F0 m hpc ls [.ref (h + n)])) : W p l e R s m args below meth c H locs cells slots Q (F0 m pc ls (.int a3 :: .int a2 :: .int a1 :: .ref (h + 0) :: rest)) :=
  wx_callH (f := fun _ => none) (As := [.int a1, .int a2, .int a3]) (fun _ => rfl) wc_vvN C hE (fun V u1 hc => kX0_needOrder hc) (cwV 3 C.1.2.2.2.2 (lw_V q1185 q1187 qs53 q166 q1188) rfl rfl rfl (by decide +kernel) hR) (wc_preV (q := (RX0, TX0, 27)) C.2 hW hS ht rfl _) rfl hsz hro d hf hV kk kh
set_option maxHeartbeats 4000000 in
set_option maxRecDepth 100000 in
theorem kX0_mayTold {l : Launch} {D : va_G} {dA : Nat → ClassId} {h N : Nat} {a1 : Int32} {a2 : Int32} {a3 : Int32} {u u1 : CS} {V : Int32 ⊕ Nat} (hE : fX0_mayTold N u a1 a2 a3 = some (V, u1)) : MetX l yX0_mayTold (ws_ yX0_mayTold cX0_mayTold 4 (some .int)) ({ frames := 208, cells := 0, slots := 0, locals := 6593 }) (va_Pc [.ref (h + 0), .int a1, .int a2, .int a3] (wc_St D dA h u)) (wc_Qx D dA h (wc_vi V) u1) 0 0 (CA h) := by
  refine wc_metX (own := RX0) (by decide) rfl rfl rfl ?_
  intro p e s m args below meth c ls C hr hlocks hnh hW hS hV hl
  have hx := C.1.1
  have hb := C.1.2.1
  unfold fX0_mayTold at hE
  refine lv_aload_n hx hb dX0_mayTold_0 rfl (lv_at hl 0 rfl) ?_
  refine lv_iload_n hx hb dX0_mayTold_1 rfl (lv_at hl 1 rfl) ?_
  refine lv_iload_n hx hb dX0_mayTold_2 rfl (lv_at hl 2 rfl) ?_
  refine lv_iload_n hx hb dX0_mayTold_3 rfl (lv_at hl 3 rfl) ?_
  refine cx_X0_372 (vf := wc_vi) wc_viN C hlocks hnh hW hS hV (st_0 hS) hE ⟨Nat.le_of_ble_eq_true rfl, Nat.le_of_ble_eq_true rfl⟩ ⟨Nat.le_refl 0, Nat.le_refl 0⟩ dX0_mayTold_4 hl.1 (Nat.le_of_ble_eq_true rfl) (fun _ u4 H locs hE hW hS hV => ?_)
  refine lv_aload_n hx hb dX0_mayTold_7 rfl (lv_at hl 0 rfl) ?_
  refine cgs_X0_19_0 C hW (st_0 hS) (sp_0_now hS) dX0_mayTold_8 ?_
  refine lv_iload_n hx hb dX0_mayTold_11 rfl (lv_at hl 1 rfl) ?_
  refine lv_iload_n hx hb dX0_mayTold_12 rfl (lv_at hl 2 rfl) ?_
  refine lv_iload_n hx hb dX0_mayTold_13 rfl (lv_at hl 3 rfl) ?_
  obtain ⟨r5, u6, hc, hE⟩ := o_bd2_some hE
  refine cc_X0_376 C hW hS hV (st_F hS wc_F3) (kX1_whyNot wc_F3 hc) rfl rfl ⟨Nat.le_of_ble_eq_true rfl, Nat.le_of_ble_eq_true rfl⟩ ⟨Nat.le_refl 0, Nat.le_refl 0⟩ dX0_mayTold_14 hl.1 (Nat.le_of_ble_eq_true rfl) (fun H locs hW hS hV => ?_)
  exact wx_iret C hr hlocks hW hS hV hE dX0_mayTold_17
theorem cx_X0_379 {β : Type} {vf : β ⊕ Nat → Option Value ⊕ Nat} (hvf : ∀ n, vf (.inr n) = .inr n) {N : Nat} {a1 : Int32} {a2 : Int32} {a3 : Int32} {u uF : CS} {Vf : β ⊕ Nat} {K : Int32 → CS → Option ((β ⊕ Nat) × CS)} (C : CC p m c cc nL s args D dA RX0) (hlocks : meth.locks = false) (hnh : c.exceptionTable.isEmpty = true) (hW : wc_W D dA h u H) (hS : wc_S u) (hV : va_S (CA h) s.heap H locs) (ht : wc_T u 0 = some (.inl 0)) (hE : o_bx (fX0_mayTold N u a1 a2 a3) K = some (Vf, uF)) (hR : 208 + 1 ≤ R.frames ∧ 8 + (4 + 11) + 6593 ≤ R.locals) (hf : cells + 0 ≤ R.cells ∧ slots + 0 ≤ R.slots) (d : decode cc pc = .ok (.invokevirtual 379, 3)) (hsz : ls.size = nL) (hro : (rest.map fun v => v.category).sum ≤ 8) (kk : ∀ (a : Int32) (u2 : CS) (H1 : Heap) (locs1 : List Loc), K a u2 = some (Vf, uF) → wc_W D dA h u2 H1 → wc_S u2 → va_S (CA h) s.heap H1 locs1 → W p l e R s m args below meth c H1 locs1 cells slots (MQX below (wc_Qx D dA h (vf Vf) uF) args s cells slots (CA h)) (F0 m (pc + 3) ls (.int a :: rest))) : W p l e R s m args below meth c H locs cells slots (MQX below (wc_Qx D dA h (vf Vf) uF) args s cells slots (CA h)) (F0 m pc ls (.int a3 :: .int a2 :: .int a1 :: .ref (h + 0) :: rest)) :=
  wx_callX (f := fun r => some (.int r)) (As := [.int a1, .int a2, .int a3]) (fun _ => rfl) wc_viN hvf C hlocks hnh hE (fun V u1 hc => kX0_mayTold hc) (cwV 3 C.1.2.2.2.2 (lw_V q1181 q1183 qs52 q166 q1184) rfl rfl rfl (by decide +kernel) hR) (wc_preV (q := (RX0, TX0, 27)) C.2 hW hS ht rfl _) rfl hsz hro d hf hV kk
theorem cy_X0_379 {ρ : Type} {r0 : ρ} {N : Nat} {a1 : Int32} {a2 : Int32} {a3 : Int32} {u : CS} {K : Int32 → CS → Option ρ} {Kh : Nat → CS → Option ρ} (C : CC p m c cc nL s args D dA RX0) (hW : wc_W D dA h u H) (hS : wc_S u) (hV : va_S (CA h) s.heap H locs) (ht : wc_T u 0 = some (.inl 0)) (hE : o_by (fX0_mayTold N u a1 a2 a3) K Kh = some r0) (hR : 208 + 1 ≤ R.frames ∧ 8 + (4 + 11) + 6593 ≤ R.locals) (hf : cells + 0 ≤ R.cells ∧ slots + 0 ≤ R.slots) (d : decode cc pc = .ok (.invokevirtual 379, 3)) (hsz : ls.size = nL) (hro : (rest.map fun v => v.category).sum ≤ 8) (kk : ∀ (a : Int32) (u2 : CS) (H1 : Heap) (locs1 : List Loc), K a u2 = some r0 → wc_W D dA h u2 H1 → wc_S u2 → va_S (CA h) s.heap H1 locs1 → W p l e R s m args below meth c H1 locs1 cells slots Q (F0 m (pc + 3) ls (.int a :: rest))) (kh : ∀ (n : Nat) (u2 : CS) (H1 : Heap) (locs1 : List Loc), Kh n u2 = some r0 → wc_W D dA h u2 H1 → wc_S u2 → va_S (CA h) s.heap H1 locs1 → ∃ (hpc : Nat) (cell : Cell), H1[h + n]? = some cell ∧ xh_go p l e R s m args below meth c locs1 cells slots (F0 m pc ls rest) (h + n) cell c.exceptionTable.toList hpc ∧ W p l e R s m args below meth c H1 locs1 cells slots Q (F0 m hpc ls [.ref (h + n)])) : W p l e R s m args below meth c H locs cells slots Q (F0 m pc ls (.int a3 :: .int a2 :: .int a1 :: .ref (h + 0) :: rest)) :=
  wx_callH (f := fun r => some (.int r)) (As := [.int a1, .int a2, .int a3]) (fun _ => rfl) wc_viN C hE (fun V u1 hc => kX0_mayTold hc) (cwV 3 C.1.2.2.2.2 (lw_V q1181 q1183 qs52 q166 q1184) rfl rfl rfl (by decide +kernel) hR) (wc_preV (q := (RX0, TX0, 27)) C.2 hW hS ht rfl _) rfl hsz hro d hf hV kk kh
set_option maxHeartbeats 4000000 in
set_option maxRecDepth 100000 in
theorem kX0_may {l : Launch} {D : va_G} {dA : Nat → ClassId} {h N : Nat} {a1 : Int32} {a2 : Int32} {a3 : Int32} {u u1 : CS} {r : Int32} (hE : fX0_may N u a1 a2 a3 = some (r, u1)) : Met l yX0_may (wsW_ yX0_may cX0_may 5 (some .int) [(0, 7, 8, 56)]) ({ frames := 209, cells := 0, slots := 0, locals := 6616 }) (va_Pc [.ref (h + 0), .int a1, .int a2, .int a3] (wc_St D dA h u)) (wc_Qr D dA h (some (.int r)) u1) 0 0 (CA h) := by
  refine wc_metW (own := RX0) (by decide) rfl rfl rfl ?_
  intro p e s m args below meth c ls C hr hlocks htb hW hS hV hl
  have hx := C.1.1
  have hb := C.1.2.1
  unfold fX0_may at hE
  refine lv_aload_n hx hb dX0_may_0 rfl (lv_at hl 0 rfl) ?_
  refine lv_iload_n hx hb dX0_may_1 rfl (lv_at hl 1 rfl) ?_
  refine lv_iload_n hx hb dX0_may_2 rfl (lv_at hl 2 rfl) ?_
  refine lv_iload_n hx hb dX0_may_3 rfl (lv_at hl 3 rfl) ?_
  refine cy_X0_379 C hW hS hV (st_0 hS) hE ⟨Nat.le_of_ble_eq_true rfl, Nat.le_of_ble_eq_true rfl⟩ ⟨Nat.le_refl 0, Nat.le_refl 0⟩ dX0_may_4 hl.1 (Nat.le_of_ble_eq_true rfl) (fun r5 u6 H locs hE hW hS hV => ?_) (fun n7 u8 H locs hE hW hS hV => ?_)
  · skip
    exact wc_iret C hr hlocks hW hS hV hE dX0_may_7
  · skip
    by_cases ct : wc_T u8 n7 = some (.inl 6)
    · have hE := z_t ct hE
      obtain ⟨cell_, hcell_, hgo_⟩ := xh_one (pc := 4) (ls := ls) (rest := []) (ci := 6) (nm := RX6) (T := TX6) (N := 7) C htb ⟨by decide, by decide⟩ (by decide) q201 rfl hW ct
      refine ⟨_, cell_, hcell_, hgo_, ?_⟩
      refine lv_astore (lv' := [(4, .ref (h + n7)), (0, .ref (h + 0)), (1, .int a1), (2, .int a2), (3, .int a3)]) hx hb dX0_may_8 hl (by decide) rfl (fun ls hl => ?_)
      refine lv_aload_n hx hb dX0_may_10 rfl (lv_at hl 1 rfl) ?_
      refine lv_aload hx hb dX0_may_11 (lv_at hl 0 rfl) ?_
      obtain ⟨ht, hE⟩ := o_sh_some hE
      refine cg_X0_288_6 C hW ht dX0_may_13 ?_
      obtain ⟨r9, u10, hc, hE⟩ := o_bd2_some hE
      refine cc_X0_118 C hW hS hV (st_0 hS) (kX0_refuse hc) rfl rfl ⟨Nat.le_of_ble_eq_true rfl, Nat.le_of_ble_eq_true rfl⟩ ⟨Nat.le_refl 0, Nat.le_refl 0⟩ dX0_may_16 hl.1 (Nat.le_of_ble_eq_true rfl) (fun H locs hW hS hV => ?_)
      exact wc_iret C hr hlocks hW hS hV hE dX0_may_19
    have hE := z_f ct hE
    cases hE
set_option maxHeartbeats 4000000 in
set_option maxRecDepth 100000 in
theorem kX0_orderTold {l : Launch} {D : va_G} {dA : Nat → ClassId} {h N : Nat} {a1 : Int32} {a2 : Int32} {a3 : Int32} {u u1 : CS} {V : Int32 ⊕ Nat} (hE : fX0_orderTold N u a1 a2 a3 = some (V, u1)) : MetX l yX0_orderTold (ws_ yX0_orderTold cX0_orderTold 4 (some .int)) ({ frames := 208, cells := 0, slots := 0, locals := 6593 }) (va_Pc [.ref (h + 0), .int a1, .int a2, .int a3] (wc_St D dA h u)) (wc_Qx D dA h (wc_vi V) u1) 0 0 (CA h) := by
  refine wc_metX (own := RX0) (by decide) rfl rfl rfl ?_
  intro p e s m args below meth c ls C hr hlocks hnh hW hS hV hl
  have hx := C.1.1
  have hb := C.1.2.1
  have w_61 : ∀ (u : CS) (x1 : Int32) (x2 : Int32) (x3 : Int32) (y1 : Int32) (H : Heap) (locs : List Loc) (ls : Array Slot), fX0_orderTold_61 N u x1 x2 x3 y1 = some (V, u1) → wc_W D dA h u H → wc_S u → va_S (CA h) s.heap H locs → lv_has ls 4 [(0, .ref (h + 0)), (1, .int x1), (2, .int x2), (3, .int x3)] → W p l e ({ frames := 208, cells := 0, slots := 0, locals := 6593 }) s m args below meth c H locs 0 0 (MQX below (wc_Qx D dA h (wc_vi V) u1) args s 0 0 (CA h)) (F0 m 61 ls [.int y1, .ref (h + 0)]) := by
    intro u x1 x2 x3 y1 H locs ls hE hW hS hV hl
    unfold fX0_orderTold_61 at hE
    refine lv_bipush (v := (-8 : Int32)) hx hb dX0_orderTold_61 rfl ?_
    refine cx_X0_276 (vf := wc_vi) wc_viN C hlocks hnh hW hS hV (st_0 hS) hE ⟨Nat.le_of_ble_eq_true rfl, Nat.le_of_ble_eq_true rfl⟩ ⟨Nat.le_refl 0, Nat.le_refl 0⟩ dX0_orderTold_63 hl.1 (Nat.le_of_ble_eq_true rfl) (fun _ u9 H locs hE hW hS hV => ?_)
    refine lv_aload_n hx hb dX0_orderTold_66 rfl (lv_at hl 0 rfl) ?_
    refine cgs_X0_19_0 C hW (st_0 hS) (sp_0_now hS) dX0_orderTold_67 ?_
    refine cgs_X0_388_1 C hW (st_F hS wc_F3) (sp_F_orderStand hS wc_F3) dX0_orderTold_70 ?_
    refine lv_aload_n hx hb dX0_orderTold_73 rfl (lv_at hl 0 rfl) ?_
    refine cgs_X0_19_0 C hW (st_0 hS) (sp_0_now hS) dX0_orderTold_74 ?_
    refine cg_X0_385_1 C hW (st_F hS wc_F3) dX0_orderTold_77 ?_
    refine lv_iload_n hx hb dX0_orderTold_80 rfl (lv_at hl 1 rfl) ?_
    refine wc_sti (J := wc_S) C hW hV (st_F_orderStand hS wc_F3) hS.uA hE dX0_orderTold_81 (fun u10 H locs hE hW hS hV => ?_)
    refine lv_aload_n hx hb dX0_orderTold_82 rfl (lv_at hl 0 rfl) ?_
    refine cgs_X0_19_0 C hW (st_0 hS) (sp_0_now hS) dX0_orderTold_83 ?_
    refine cgs_X0_391_1 C hW (st_F hS wc_F3) (sp_F_orderSort hS wc_F3) dX0_orderTold_86 ?_
    refine lv_aload_n hx hb dX0_orderTold_89 rfl (lv_at hl 0 rfl) ?_
    refine cgs_X0_19_0 C hW (st_0 hS) (sp_0_now hS) dX0_orderTold_90 ?_
    refine cg_X0_385_1 C hW (st_F hS wc_F3) dX0_orderTold_93 ?_
    refine lv_iload_n hx hb dX0_orderTold_96 rfl (lv_at hl 2 rfl) ?_
    refine wc_sti (J := wc_S) C hW hV (st_F_orderSort hS wc_F3) hS.uA hE dX0_orderTold_97 (fun u11 H locs hE hW hS hV => ?_)
    refine lv_aload_n hx hb dX0_orderTold_98 rfl (lv_at hl 0 rfl) ?_
    refine cgs_X0_19_0 C hW (st_0 hS) (sp_0_now hS) dX0_orderTold_99 ?_
    refine cgs_X0_394_1 C hW (st_F hS wc_F3) (sp_F_orderTold hS wc_F3) dX0_orderTold_102 ?_
    refine lv_aload_n hx hb dX0_orderTold_105 rfl (lv_at hl 0 rfl) ?_
    refine cgs_X0_19_0 C hW (st_0 hS) (sp_0_now hS) dX0_orderTold_106 ?_
    refine cg_X0_385_1 C hW (st_F hS wc_F3) dX0_orderTold_109 ?_
    refine lv_iload_n hx hb dX0_orderTold_112 rfl (lv_at hl 3 rfl) ?_
    refine wc_sti (J := wc_S) C hW hV (st_F_orderTold hS wc_F3) hS.uA hE dX0_orderTold_113 (fun u12 H locs hE hW hS hV => ?_)
    refine lv_aload_n hx hb dX0_orderTold_114 rfl (lv_at hl 0 rfl) ?_
    refine cgs_X0_19_0 C hW (st_0 hS) (sp_0_now hS) dX0_orderTold_115 ?_
    refine lv_dup hx hb dX0_orderTold_118 rfl ?_
    refine cg_X0_385_1 C hW (st_F hS wc_F3) dX0_orderTold_119 ?_
    refine lv_iconst (v := (1 : Int32)) hx hb dX0_orderTold_122 rfl ?_
    refine lv_iadd hx hb dX0_orderTold_123 ?_
    refine cp_X0_385_1 (J := wc_S) C hW hV (st_F hS wc_F3) hS.uI hE dX0_orderTold_124 (fun u13 H locs hE hW hS hV => ?_)
    refine lv_aload_n hx hb dX0_orderTold_127 rfl (lv_at hl 0 rfl) ?_
    refine cgs_X0_19_0 C hW (st_0 hS) (sp_0_now hS) dX0_orderTold_128 ?_
    refine cg_X0_385_1 C hW (st_F hS wc_F3) dX0_orderTold_131 ?_
    exact wx_iret C hr hlocks hW hS hV hE dX0_orderTold_134
  have w_38 : ∀ (u : CS) (x1 : Int32) (x2 : Int32) (x3 : Int32) (y1 : Int32) (H : Heap) (locs : List Loc) (ls : Array Slot), fX0_orderTold_38 N u x1 x2 x3 y1 = some (V, u1) → wc_W D dA h u H → wc_S u → va_S (CA h) s.heap H locs → lv_has ls 4 [(0, .ref (h + 0)), (1, .int x1), (2, .int x2), (3, .int x3)] → W p l e ({ frames := 208, cells := 0, slots := 0, locals := 6593 }) s m args below meth c H locs 0 0 (MQX below (wc_Qx D dA h (wc_vi V) u1) args s 0 0 (CA h)) (F0 m 38 ls [.int y1, .ref (h + 0)]) := by
    intro u x1 x2 x3 y1 H locs ls hE hW hS hV hl
    unfold fX0_orderTold_38 at hE
    refine lv_bipush (v := (-7 : Int32)) hx hb dX0_orderTold_38 rfl ?_
    refine cx_X0_276 (vf := wc_vi) wc_viN C hlocks hnh hW hS hV (st_0 hS) hE ⟨Nat.le_of_ble_eq_true rfl, Nat.le_of_ble_eq_true rfl⟩ ⟨Nat.le_refl 0, Nat.le_refl 0⟩ dX0_orderTold_40 hl.1 (Nat.le_of_ble_eq_true rfl) (fun _ u14 H locs hE hW hS hV => ?_)
    refine lv_aload_n hx hb dX0_orderTold_43 rfl (lv_at hl 0 rfl) ?_
    refine lv_aload_n hx hb dX0_orderTold_44 rfl (lv_at hl 0 rfl) ?_
    refine cgs_X0_19_0 C hW (st_0 hS) (sp_0_now hS) dX0_orderTold_45 ?_
    refine cg_X0_385_1 C hW (st_F hS wc_F3) dX0_orderTold_48 ?_
    refine lv_bipush (v := (30 : Int32)) hx hb dX0_orderTold_51 rfl ?_
    refine lv_icmp_ge (tgt := 60) hx hb dX0_orderTold_53 (by decide) (fun c15 => ?_) (fun c15 => ?_)
    · have hE := z_t c15 hE
      refine lv_iconst (v := (0 : Int32)) hx hb dX0_orderTold_60 rfl ?_
      exact w_61 _ _ _ _ _ _ _ _ hE hW hS hV (lv_sub hl [0, 1, 2, 3] rfl)
    · have hE := z_f c15 hE
      refine lv_iconst (v := (1 : Int32)) hx hb dX0_orderTold_56 rfl ?_
      refine lv_goto (tgt := 61) hx hb dX0_orderTold_57 (by decide) ?_
      exact w_61 _ _ _ _ _ _ _ _ hE hW hS hV (lv_sub hl [0, 1, 2, 3] rfl)
  have w_37 : ∀ (u : CS) (x1 : Int32) (x2 : Int32) (x3 : Int32) (H : Heap) (locs : List Loc) (ls : Array Slot), fX0_orderTold_37 N u x1 x2 x3 = some (V, u1) → wc_W D dA h u H → wc_S u → va_S (CA h) s.heap H locs → lv_has ls 4 [(0, .ref (h + 0)), (1, .int x1), (2, .int x2), (3, .int x3)] → W p l e ({ frames := 208, cells := 0, slots := 0, locals := 6593 }) s m args below meth c H locs 0 0 (MQX below (wc_Qx D dA h (wc_vi V) u1) args s 0 0 (CA h)) (F0 m 37 ls [.ref (h + 0)]) := by
    intro u x1 x2 x3 H locs ls hE hW hS hV hl
    unfold fX0_orderTold_37 at hE
    refine lv_iconst (v := (0 : Int32)) hx hb dX0_orderTold_37 rfl ?_
    exact w_38 _ _ _ _ _ _ _ _ hE hW hS hV (lv_sub hl [0, 1, 2, 3] rfl)
  unfold fX0_orderTold at hE
  refine lv_aload_n hx hb dX0_orderTold_0 rfl (lv_at hl 0 rfl) ?_
  refine lv_iload_n hx hb dX0_orderTold_1 rfl (lv_at hl 1 rfl) ?_
  refine lv_iload_n hx hb dX0_orderTold_2 rfl (lv_at hl 2 rfl) ?_
  refine lv_iload_n hx hb dX0_orderTold_3 rfl (lv_at hl 3 rfl) ?_
  refine cx_X0_372 (vf := wc_vi) wc_viN C hlocks hnh hW hS hV (st_0 hS) hE ⟨Nat.le_of_ble_eq_true rfl, Nat.le_of_ble_eq_true rfl⟩ ⟨Nat.le_refl 0, Nat.le_refl 0⟩ dX0_orderTold_4 hl.1 (Nat.le_of_ble_eq_true rfl) (fun _ u16 H locs hE hW hS hV => ?_)
  refine lv_aload_n hx hb dX0_orderTold_7 rfl (lv_at hl 0 rfl) ?_
  refine lv_aload_n hx hb dX0_orderTold_8 rfl (lv_at hl 0 rfl) ?_
  refine cgs_X0_19_0 C hW (st_0 hS) (sp_0_now hS) dX0_orderTold_9 ?_
  refine lv_iload_n hx hb dX0_orderTold_12 rfl (lv_at hl 1 rfl) ?_
  refine lv_iload_n hx hb dX0_orderTold_13 rfl (lv_at hl 2 rfl) ?_
  refine lv_iload_n hx hb dX0_orderTold_14 rfl (lv_at hl 3 rfl) ?_
  obtain ⟨r17, u18, hc, hE⟩ := o_bd2_some hE
  refine cc_X0_376 C hW hS hV (st_F hS wc_F3) (kX1_whyNot wc_F3 hc) rfl rfl ⟨Nat.le_of_ble_eq_true rfl, Nat.le_of_ble_eq_true rfl⟩ ⟨Nat.le_refl 0, Nat.le_refl 0⟩ dX0_orderTold_15 hl.1 (Nat.le_of_ble_eq_true rfl) (fun H locs hW hS hV => ?_)
  refine lv_if_ne (tgt := 37) hx hb dX0_orderTold_18 (by decide) (fun c19 => ?_) (fun c19 => ?_)
  · have hE := z_f c19 hE
    exact w_37 _ _ _ _ _ _ _ hE hW hS hV (lv_sub hl [0, 1, 2, 3] rfl)
  · have hE := z_t c19 hE
    refine lv_aload_n hx hb dX0_orderTold_21 rfl (lv_at hl 0 rfl) ?_
    refine cgs_X0_19_0 C hW (st_0 hS) (sp_0_now hS) dX0_orderTold_22 ?_
    refine lv_iload_n hx hb dX0_orderTold_25 rfl (lv_at hl 1 rfl) ?_
    refine lv_iload_n hx hb dX0_orderTold_26 rfl (lv_at hl 2 rfl) ?_
    obtain ⟨r20, u21, hc, hE⟩ := o_bd2_some hE
    refine cc_X0_382 C hW hS hV (st_F hS wc_F3) (kX1_isOrdered wc_F3 hc) rfl rfl ⟨Nat.le_of_ble_eq_true rfl, Nat.le_of_ble_eq_true rfl⟩ ⟨Nat.le_refl 0, Nat.le_refl 0⟩ dX0_orderTold_27 hl.1 (Nat.le_of_ble_eq_true rfl) (fun H locs hW hS hV => ?_)
    refine lv_if_ne (tgt := 37) hx hb dX0_orderTold_30 (by decide) (fun c22 => ?_) (fun c22 => ?_)
    · have hE := z_f c22 hE
      exact w_37 _ _ _ _ _ _ _ hE hW hS hV (lv_sub hl [0, 1, 2, 3] rfl)
    · have hE := z_t c22 hE
      refine lv_iconst (v := (1 : Int32)) hx hb dX0_orderTold_33 rfl ?_
      refine lv_goto (tgt := 38) hx hb dX0_orderTold_34 (by decide) ?_
      exact w_38 _ _ _ _ _ _ _ _ hE hW hS hV (lv_sub hl [0, 1, 2, 3] rfl)
theorem cx_X0_397 {β : Type} {vf : β ⊕ Nat → Option Value ⊕ Nat} (hvf : ∀ n, vf (.inr n) = .inr n) {N : Nat} {a1 : Int32} {a2 : Int32} {a3 : Int32} {u uF : CS} {Vf : β ⊕ Nat} {K : Int32 → CS → Option ((β ⊕ Nat) × CS)} (C : CC p m c cc nL s args D dA RX0) (hlocks : meth.locks = false) (hnh : c.exceptionTable.isEmpty = true) (hW : wc_W D dA h u H) (hS : wc_S u) (hV : va_S (CA h) s.heap H locs) (ht : wc_T u 0 = some (.inl 0)) (hE : o_bx (fX0_orderTold N u a1 a2 a3) K = some (Vf, uF)) (hR : 208 + 1 ≤ R.frames ∧ 8 + (4 + 11) + 6593 ≤ R.locals) (hf : cells + 0 ≤ R.cells ∧ slots + 0 ≤ R.slots) (d : decode cc pc = .ok (.invokevirtual 397, 3)) (hsz : ls.size = nL) (hro : (rest.map fun v => v.category).sum ≤ 8) (kk : ∀ (a : Int32) (u2 : CS) (H1 : Heap) (locs1 : List Loc), K a u2 = some (Vf, uF) → wc_W D dA h u2 H1 → wc_S u2 → va_S (CA h) s.heap H1 locs1 → W p l e R s m args below meth c H1 locs1 cells slots (MQX below (wc_Qx D dA h (vf Vf) uF) args s cells slots (CA h)) (F0 m (pc + 3) ls (.int a :: rest))) : W p l e R s m args below meth c H locs cells slots (MQX below (wc_Qx D dA h (vf Vf) uF) args s cells slots (CA h)) (F0 m pc ls (.int a3 :: .int a2 :: .int a1 :: .ref (h + 0) :: rest)) :=
  wx_callX (f := fun r => some (.int r)) (As := [.int a1, .int a2, .int a3]) (fun _ => rfl) wc_viN hvf C hlocks hnh hE (fun V u1 hc => kX0_orderTold hc) (cwV 3 C.1.2.2.2.2 (lw_V q1226 q1228 qs62 q166 q1229) rfl rfl rfl (by decide +kernel) hR) (wc_preV (q := (RX0, TX0, 27)) C.2 hW hS ht rfl _) rfl hsz hro d hf hV kk
theorem cy_X0_397 {ρ : Type} {r0 : ρ} {N : Nat} {a1 : Int32} {a2 : Int32} {a3 : Int32} {u : CS} {K : Int32 → CS → Option ρ} {Kh : Nat → CS → Option ρ} (C : CC p m c cc nL s args D dA RX0) (hW : wc_W D dA h u H) (hS : wc_S u) (hV : va_S (CA h) s.heap H locs) (ht : wc_T u 0 = some (.inl 0)) (hE : o_by (fX0_orderTold N u a1 a2 a3) K Kh = some r0) (hR : 208 + 1 ≤ R.frames ∧ 8 + (4 + 11) + 6593 ≤ R.locals) (hf : cells + 0 ≤ R.cells ∧ slots + 0 ≤ R.slots) (d : decode cc pc = .ok (.invokevirtual 397, 3)) (hsz : ls.size = nL) (hro : (rest.map fun v => v.category).sum ≤ 8) (kk : ∀ (a : Int32) (u2 : CS) (H1 : Heap) (locs1 : List Loc), K a u2 = some r0 → wc_W D dA h u2 H1 → wc_S u2 → va_S (CA h) s.heap H1 locs1 → W p l e R s m args below meth c H1 locs1 cells slots Q (F0 m (pc + 3) ls (.int a :: rest))) (kh : ∀ (n : Nat) (u2 : CS) (H1 : Heap) (locs1 : List Loc), Kh n u2 = some r0 → wc_W D dA h u2 H1 → wc_S u2 → va_S (CA h) s.heap H1 locs1 → ∃ (hpc : Nat) (cell : Cell), H1[h + n]? = some cell ∧ xh_go p l e R s m args below meth c locs1 cells slots (F0 m pc ls rest) (h + n) cell c.exceptionTable.toList hpc ∧ W p l e R s m args below meth c H1 locs1 cells slots Q (F0 m hpc ls [.ref (h + n)])) : W p l e R s m args below meth c H locs cells slots Q (F0 m pc ls (.int a3 :: .int a2 :: .int a1 :: .ref (h + 0) :: rest)) :=
  wx_callH (f := fun r => some (.int r)) (As := [.int a1, .int a2, .int a3]) (fun _ => rfl) wc_viN C hE (fun V u1 hc => kX0_orderTold hc) (cwV 3 C.1.2.2.2.2 (lw_V q1226 q1228 qs62 q166 q1229) rfl rfl rfl (by decide +kernel) hR) (wc_preV (q := (RX0, TX0, 27)) C.2 hW hS ht rfl _) rfl hsz hro d hf hV kk kh
set_option maxHeartbeats 4000000 in
set_option maxRecDepth 100000 in
theorem kX0_order {l : Launch} {D : va_G} {dA : Nat → ClassId} {h N : Nat} {a1 : Int32} {a2 : Int32} {a3 : Int32} {u u1 : CS} {r : Int32} (hE : fX0_order N u a1 a2 a3 = some (r, u1)) : Met l yX0_order (wsW_ yX0_order cX0_order 5 (some .int) [(0, 7, 8, 56)]) ({ frames := 209, cells := 0, slots := 0, locals := 6616 }) (va_Pc [.ref (h + 0), .int a1, .int a2, .int a3] (wc_St D dA h u)) (wc_Qr D dA h (some (.int r)) u1) 0 0 (CA h) := by
  refine wc_metW (own := RX0) (by decide) rfl rfl rfl ?_
  intro p e s m args below meth c ls C hr hlocks htb hW hS hV hl
  have hx := C.1.1
  have hb := C.1.2.1
  unfold fX0_order at hE
  refine lv_aload_n hx hb dX0_order_0 rfl (lv_at hl 0 rfl) ?_
  refine lv_iload_n hx hb dX0_order_1 rfl (lv_at hl 1 rfl) ?_
  refine lv_iload_n hx hb dX0_order_2 rfl (lv_at hl 2 rfl) ?_
  refine lv_iload_n hx hb dX0_order_3 rfl (lv_at hl 3 rfl) ?_
  refine cy_X0_397 C hW hS hV (st_0 hS) hE ⟨Nat.le_of_ble_eq_true rfl, Nat.le_of_ble_eq_true rfl⟩ ⟨Nat.le_refl 0, Nat.le_refl 0⟩ dX0_order_4 hl.1 (Nat.le_of_ble_eq_true rfl) (fun r5 u6 H locs hE hW hS hV => ?_) (fun n7 u8 H locs hE hW hS hV => ?_)
  · skip
    exact wc_iret C hr hlocks hW hS hV hE dX0_order_7
  · skip
    by_cases ct : wc_T u8 n7 = some (.inl 6)
    · have hE := z_t ct hE
      obtain ⟨cell_, hcell_, hgo_⟩ := xh_one (pc := 4) (ls := ls) (rest := []) (ci := 6) (nm := RX6) (T := TX6) (N := 7) C htb ⟨by decide, by decide⟩ (by decide) q201 rfl hW ct
      refine ⟨_, cell_, hcell_, hgo_, ?_⟩
      refine lv_astore (lv' := [(4, .ref (h + n7)), (0, .ref (h + 0)), (1, .int a1), (2, .int a2), (3, .int a3)]) hx hb dX0_order_8 hl (by decide) rfl (fun ls hl => ?_)
      refine lv_aload_n hx hb dX0_order_10 rfl (lv_at hl 1 rfl) ?_
      refine lv_aload hx hb dX0_order_11 (lv_at hl 0 rfl) ?_
      obtain ⟨ht, hE⟩ := o_sh_some hE
      refine cg_X0_288_6 C hW ht dX0_order_13 ?_
      obtain ⟨r9, u10, hc, hE⟩ := o_bd2_some hE
      refine cc_X0_118 C hW hS hV (st_0 hS) (kX0_refuse hc) rfl rfl ⟨Nat.le_of_ble_eq_true rfl, Nat.le_of_ble_eq_true rfl⟩ ⟨Nat.le_refl 0, Nat.le_refl 0⟩ dX0_order_16 hl.1 (Nat.le_of_ble_eq_true rfl) (fun H locs hW hS hV => ?_)
      exact wc_iret C hr hlocks hW hS hV hE dX0_order_19
    have hE := z_f ct hE
    cases hE
set_option maxHeartbeats 4000000 in
set_option maxRecDepth 100000 in
theorem kX0_needSet {l : Launch} {D : va_G} {dA : Nat → ClassId} {h N : Nat} {a1 : Int32} {a2 : Int32} {u u1 : CS} {V : Unit ⊕ Nat} (hE : fX0_needSet N u a1 a2 = some (V, u1)) : MetX l yX0_needSet (ws_ yX0_needSet cX0_needSet 3 none) ({ frames := 1, cells := 0, slots := 0, locals := 25 }) (va_Pc [.ref (h + 0), .int a1, .int a2] (wc_St D dA h u)) (wc_Qx D dA h (wc_vv V) u1) 0 0 (CA h) := by
  refine wc_metX (own := RX0) (by decide) rfl rfl rfl ?_
  intro p e s m args below meth c ls C hr hlocks hnh hW hS hV hl
  have hx := C.1.1
  have hb := C.1.2.1
  have w_56 : ∀ (u : CS) (y1 : Int32) (H : Heap) (locs : List Loc) (ls : Array Slot), fX0_needSet_56 N u y1 = some (V, u1) → wc_W D dA h u H → wc_S u → va_S (CA h) s.heap H locs → lv_has ls 3 [] → W p l e ({ frames := 1, cells := 0, slots := 0, locals := 25 }) s m args below meth c H locs 0 0 (MQX below (wc_Qx D dA h (wc_vv V) u1) args s 0 0 (CA h)) (F0 m 56 ls [.int y1, .ref (h + 0)]) := by
    intro u y1 H locs ls hE hW hS hV hl
    unfold fX0_needSet_56 at hE
    refine lv_bipush (v := (-7 : Int32)) hx hb dX0_needSet_56 rfl ?_
    refine cx_X0_276 (vf := wc_vv) wc_vvN C hlocks hnh hW hS hV (st_0 hS) hE ⟨Nat.le_of_ble_eq_true rfl, Nat.le_of_ble_eq_true rfl⟩ ⟨Nat.le_refl 0, Nat.le_refl 0⟩ dX0_needSet_58 hl.1 (Nat.le_of_ble_eq_true rfl) (fun _ u7 H locs hE hW hS hV => ?_)
    exact wx_vret C hr hlocks hW hS hV hE dX0_needSet_61
  have w_55 : ∀ (u : CS) (H : Heap) (locs : List Loc) (ls : Array Slot), fX0_needSet_55 N u = some (V, u1) → wc_W D dA h u H → wc_S u → va_S (CA h) s.heap H locs → lv_has ls 3 [] → W p l e ({ frames := 1, cells := 0, slots := 0, locals := 25 }) s m args below meth c H locs 0 0 (MQX below (wc_Qx D dA h (wc_vv V) u1) args s 0 0 (CA h)) (F0 m 55 ls [.ref (h + 0)]) := by
    intro u H locs ls hE hW hS hV hl
    unfold fX0_needSet_55 at hE
    refine lv_iconst (v := (0 : Int32)) hx hb dX0_needSet_55 rfl ?_
    exact w_56 _ _ _ _ _ hE hW hS hV (lv_sub hl [] rfl)
  unfold fX0_needSet at hE
  refine lv_aload_n hx hb dX0_needSet_0 rfl (lv_at hl 0 rfl) ?_
  refine lv_iload_n hx hb dX0_needSet_1 rfl (lv_at hl 1 rfl) ?_
  refine lv_i2l hx hb dX0_needSet_2 rfl ?_
  refine lv_lconst (v := (0 : Int64)) hx hb dX0_needSet_3 rfl ?_
  refine lv_lconst (v := (1 : Int64)) hx hb dX0_needSet_4 rfl ?_
  refine lv_aload_n hx hb dX0_needSet_5 rfl (lv_at hl 0 rfl) ?_
  refine cgs_X0_19_0 C hW (st_0 hS) (sp_0_now hS) dX0_needSet_6 ?_
  refine cg_X0_23_1 C hW (st_F hS wc_F3) dX0_needSet_9 ?_
  refine lv_lshl hx hb dX0_needSet_12 rfl ?_
  refine lv_lconst (v := (1 : Int64)) hx hb dX0_needSet_13 rfl ?_
  refine lv_lsub hx hb dX0_needSet_14 ?_
  obtain ⟨r8, hc, hE⟩ := o_bd_some hE
  refine sc_X0_31 C.1 (kX0_isIn hc) rfl rfl ⟨Nat.le_of_ble_eq_true rfl, Nat.le_of_ble_eq_true rfl⟩ ⟨Nat.le_refl 0, Nat.le_refl 0⟩ dX0_needSet_15 hl.1 (Nat.le_of_ble_eq_true rfl) ?_
  refine lv_bipush (v := (-3 : Int32)) hx hb dX0_needSet_18 rfl ?_
  refine cx_X0_276 (vf := wc_vv) wc_vvN C hlocks hnh hW hS hV (st_0 hS) hE ⟨Nat.le_of_ble_eq_true rfl, Nat.le_of_ble_eq_true rfl⟩ ⟨Nat.le_refl 0, Nat.le_refl 0⟩ dX0_needSet_20 hl.1 (Nat.le_of_ble_eq_true rfl) (fun _ u9 H locs hE hW hS hV => ?_)
  refine lv_aload_n hx hb dX0_needSet_23 rfl (lv_at hl 0 rfl) ?_
  refine lv_iload_n hx hb dX0_needSet_24 rfl (lv_at hl 1 rfl) ?_
  obtain ⟨r10, hc, hE⟩ := o_bd_some hE
  refine sc_X0_445 C.1 (kJ7_bitCount hc) rfl rfl ⟨Nat.le_of_ble_eq_true rfl, Nat.le_of_ble_eq_true rfl⟩ ⟨Nat.le_refl 0, Nat.le_refl 0⟩ dX0_needSet_25 hl.1 (Nat.le_of_ble_eq_true rfl) ?_
  refine lv_i2l hx hb dX0_needSet_28 rfl ?_
  refine lv_lconst (v := (1 : Int64)) hx hb dX0_needSet_29 rfl ?_
  refine lv_ldc2 (v := (7 : Int64)) hx hb C.1.2.2.2.1 (C.1.2.2.2.2 _ q993) dX0_needSet_30 ?_
  obtain ⟨r11, hc, hE⟩ := o_bd_some hE
  refine sc_X0_31 C.1 (kX0_isIn hc) rfl rfl ⟨Nat.le_of_ble_eq_true rfl, Nat.le_of_ble_eq_true rfl⟩ ⟨Nat.le_refl 0, Nat.le_refl 0⟩ dX0_needSet_33 hl.1 (Nat.le_of_ble_eq_true rfl) ?_
  refine lv_if_eq (tgt := 55) hx hb dX0_needSet_36 (by decide) (fun c12 => ?_) (fun c12 => ?_)
  · have hE := z_t c12 hE
    exact w_55 _ _ _ _ hE hW hS hV (lv_sub hl [] rfl)
  · have hE := z_f c12 hE
    refine lv_iload_n hx hb dX0_needSet_39 rfl (lv_at hl 2 rfl) ?_
    refine lv_i2l hx hb dX0_needSet_40 rfl ?_
    refine lv_lconst (v := (1 : Int64)) hx hb dX0_needSet_41 rfl ?_
    refine lv_ldc2 (v := (4 : Int64)) hx hb C.1.2.2.2.1 (C.1.2.2.2.2 _ q785) dX0_needSet_42 ?_
    obtain ⟨r13, hc, hE⟩ := o_bd_some hE
    refine sc_X0_31 C.1 (kX0_isIn hc) rfl rfl ⟨Nat.le_of_ble_eq_true rfl, Nat.le_of_ble_eq_true rfl⟩ ⟨Nat.le_refl 0, Nat.le_refl 0⟩ dX0_needSet_45 hl.1 (Nat.le_of_ble_eq_true rfl) ?_
    refine lv_if_eq (tgt := 55) hx hb dX0_needSet_48 (by decide) (fun c14 => ?_) (fun c14 => ?_)
    · have hE := z_t c14 hE
      exact w_55 _ _ _ _ hE hW hS hV (lv_sub hl [] rfl)
    · have hE := z_f c14 hE
      refine lv_iconst (v := (1 : Int32)) hx hb dX0_needSet_51 rfl ?_
      refine lv_goto (tgt := 56) hx hb dX0_needSet_52 (by decide) ?_
      exact w_56 _ _ _ _ _ hE hW hS hV (lv_sub hl [] rfl)
theorem cx_X0_533 {β : Type} {vf : β ⊕ Nat → Option Value ⊕ Nat} (hvf : ∀ n, vf (.inr n) = .inr n) {N : Nat} {a1 : Int32} {a2 : Int32} {u uF : CS} {Vf : β ⊕ Nat} {K : Unit → CS → Option ((β ⊕ Nat) × CS)} (C : CC p m c cc nL s args D dA RX0) (hlocks : meth.locks = false) (hnh : c.exceptionTable.isEmpty = true) (hW : wc_W D dA h u H) (hS : wc_S u) (hV : va_S (CA h) s.heap H locs) (ht : wc_T u 0 = some (.inl 0)) (hE : o_bx (fX0_needSet N u a1 a2) K = some (Vf, uF)) (hR : 1 + 1 ≤ R.frames ∧ 8 + (3 + 11) + 25 ≤ R.locals) (hf : cells + 0 ≤ R.cells ∧ slots + 0 ≤ R.slots) (d : decode cc pc = .ok (.invokevirtual 533, 3)) (hsz : ls.size = nL) (hro : (rest.map fun v => v.category).sum ≤ 8) (kk : ∀ (a : Unit) (u2 : CS) (H1 : Heap) (locs1 : List Loc), K a u2 = some (Vf, uF) → wc_W D dA h u2 H1 → wc_S u2 → va_S (CA h) s.heap H1 locs1 → W p l e R s m args below meth c H1 locs1 cells slots (MQX below (wc_Qx D dA h (vf Vf) uF) args s cells slots (CA h)) (F0 m (pc + 3) ls (rest))) : W p l e R s m args below meth c H locs cells slots (MQX below (wc_Qx D dA h (vf Vf) uF) args s cells slots (CA h)) (F0 m pc ls (.int a2 :: .int a1 :: .ref (h + 0) :: rest)) :=
  wx_callX (f := fun _ => none) (As := [.int a1, .int a2]) (fun _ => rfl) wc_vvN hvf C hlocks hnh hE (fun V u1 hc => kX0_needSet hc) (cwV 2 C.1.2.2.2.2 (lw_V q1398 q1400 qs77 q166 q1401) rfl rfl rfl (by decide +kernel) hR) (wc_preV (q := (RX0, TX0, 27)) C.2 hW hS ht rfl _) rfl hsz hro d hf hV kk
theorem cy_X0_533 {ρ : Type} {r0 : ρ} {N : Nat} {a1 : Int32} {a2 : Int32} {u : CS} {K : Unit → CS → Option ρ} {Kh : Nat → CS → Option ρ} (C : CC p m c cc nL s args D dA RX0) (hW : wc_W D dA h u H) (hS : wc_S u) (hV : va_S (CA h) s.heap H locs) (ht : wc_T u 0 = some (.inl 0)) (hE : o_by (fX0_needSet N u a1 a2) K Kh = some r0) (hR : 1 + 1 ≤ R.frames ∧ 8 + (3 + 11) + 25 ≤ R.locals) (hf : cells + 0 ≤ R.cells ∧ slots + 0 ≤ R.slots) (d : decode cc pc = .ok (.invokevirtual 533, 3)) (hsz : ls.size = nL) (hro : (rest.map fun v => v.category).sum ≤ 8) (kk : ∀ (a : Unit) (u2 : CS) (H1 : Heap) (locs1 : List Loc), K a u2 = some r0 → wc_W D dA h u2 H1 → wc_S u2 → va_S (CA h) s.heap H1 locs1 → W p l e R s m args below meth c H1 locs1 cells slots Q (F0 m (pc + 3) ls (rest))) (kh : ∀ (n : Nat) (u2 : CS) (H1 : Heap) (locs1 : List Loc), Kh n u2 = some r0 → wc_W D dA h u2 H1 → wc_S u2 → va_S (CA h) s.heap H1 locs1 → ∃ (hpc : Nat) (cell : Cell), H1[h + n]? = some cell ∧ xh_go p l e R s m args below meth c locs1 cells slots (F0 m pc ls rest) (h + n) cell c.exceptionTable.toList hpc ∧ W p l e R s m args below meth c H1 locs1 cells slots Q (F0 m hpc ls [.ref (h + n)])) : W p l e R s m args below meth c H locs cells slots Q (F0 m pc ls (.int a2 :: .int a1 :: .ref (h + 0) :: rest)) :=
  wx_callH (f := fun _ => none) (As := [.int a1, .int a2]) (fun _ => rfl) wc_vvN C hE (fun V u1 hc => kX0_needSet hc) (cwV 2 C.1.2.2.2.2 (lw_V q1398 q1400 qs77 q166 q1401) rfl rfl rfl (by decide +kernel) hR) (wc_preV (q := (RX0, TX0, 27)) C.2 hW hS ht rfl _) rfl hsz hro d hf hV kk kh
set_option maxHeartbeats 4000000 in
set_option maxRecDepth 100000 in
theorem kX0_planTold {l : Launch} {D : va_G} {dA : Nat → ClassId} {h N : Nat} {a1 : Int32} {a2 : Int32} {u u1 : CS} {V : Int64 ⊕ Nat} (hE : fX0_planTold N u a1 a2 = some (V, u1)) : MetX l yX0_planTold (ws_ yX0_planTold cX0_planTold 3 (some .long)) ({ frames := 208, cells := 0, slots := 0, locals := 6595 }) (va_Pc [.ref (h + 0), .int a1, .int a2] (wc_St D dA h u)) (wc_Qx D dA h (wc_vl V) u1) 0 0 (CA h) := by
  refine wc_metX (own := RX0) (by decide) rfl rfl rfl ?_
  intro p e s m args below meth c ls C hr hlocks hnh hW hS hV hl
  have hx := C.1.1
  have hb := C.1.2.1
  unfold fX0_planTold at hE
  refine lv_aload_n hx hb dX0_planTold_0 rfl (lv_at hl 0 rfl) ?_
  refine lv_iload_n hx hb dX0_planTold_1 rfl (lv_at hl 1 rfl) ?_
  refine lv_iload_n hx hb dX0_planTold_2 rfl (lv_at hl 2 rfl) ?_
  refine cx_X0_533 (vf := wc_vl) wc_vlN C hlocks hnh hW hS hV (st_0 hS) hE ⟨Nat.le_of_ble_eq_true rfl, Nat.le_of_ble_eq_true rfl⟩ ⟨Nat.le_refl 0, Nat.le_refl 0⟩ dX0_planTold_3 hl.1 (Nat.le_of_ble_eq_true rfl) (fun _ u4 H locs hE hW hS hV => ?_)
  refine lv_aload_n hx hb dX0_planTold_6 rfl (lv_at hl 0 rfl) ?_
  refine lv_iload_n hx hb dX0_planTold_7 rfl (lv_at hl 1 rfl) ?_
  refine lv_iload_n hx hb dX0_planTold_8 rfl (lv_at hl 2 rfl) ?_
  refine lv_ldc2 (v := (-1 : Int64)) hx hb C.1.2.2.2.1 (C.1.2.2.2.2 _ q1408) dX0_planTold_9 ?_
  obtain ⟨u5, hc, hE⟩ := o_bd_some hE
  refine cc_X0_538 C hW hS hV (st_0 hS) (kX0_search hc) rfl rfl ⟨Nat.le_of_ble_eq_true rfl, Nat.le_of_ble_eq_true rfl⟩ ⟨Nat.le_refl 0, Nat.le_refl 0⟩ dX0_planTold_12 hl.1 (Nat.le_of_ble_eq_true rfl) (fun H locs hW hS hV => ?_)
  refine lv_aload_n hx hb dX0_planTold_15 rfl (lv_at hl 0 rfl) ?_
  refine lv_iload_n hx hb dX0_planTold_16 rfl (lv_at hl 1 rfl) ?_
  obtain ⟨u6, hc, hE⟩ := o_bd_some hE
  refine cc_X0_542 C hW hS hV (st_0 hS) (kX0_keep hc) rfl rfl ⟨Nat.le_of_ble_eq_true rfl, Nat.le_of_ble_eq_true rfl⟩ ⟨Nat.le_refl 0, Nat.le_refl 0⟩ dX0_planTold_17 hl.1 (Nat.le_of_ble_eq_true rfl) (fun H locs hW hS hV => ?_)
  refine lv_aload_n hx hb dX0_planTold_20 rfl (lv_at hl 0 rfl) ?_
  refine cg_X0_504_0 C hW (st_0 hS) dX0_planTold_21 ?_
  exact wx_lret C hr hlocks hW hS hV hE dX0_planTold_24
theorem cx_X0_545 {β : Type} {vf : β ⊕ Nat → Option Value ⊕ Nat} (hvf : ∀ n, vf (.inr n) = .inr n) {N : Nat} {a1 : Int32} {a2 : Int32} {u uF : CS} {Vf : β ⊕ Nat} {K : Int64 → CS → Option ((β ⊕ Nat) × CS)} (C : CC p m c cc nL s args D dA RX0) (hlocks : meth.locks = false) (hnh : c.exceptionTable.isEmpty = true) (hW : wc_W D dA h u H) (hS : wc_S u) (hV : va_S (CA h) s.heap H locs) (ht : wc_T u 0 = some (.inl 0)) (hE : o_bx (fX0_planTold N u a1 a2) K = some (Vf, uF)) (hR : 208 + 1 ≤ R.frames ∧ 8 + (3 + 11) + 6595 ≤ R.locals) (hf : cells + 0 ≤ R.cells ∧ slots + 0 ≤ R.slots) (d : decode cc pc = .ok (.invokevirtual 545, 3)) (hsz : ls.size = nL) (hro : (rest.map fun v => v.category).sum ≤ 8) (kk : ∀ (a : Int64) (u2 : CS) (H1 : Heap) (locs1 : List Loc), K a u2 = some (Vf, uF) → wc_W D dA h u2 H1 → wc_S u2 → va_S (CA h) s.heap H1 locs1 → W p l e R s m args below meth c H1 locs1 cells slots (MQX below (wc_Qx D dA h (vf Vf) uF) args s cells slots (CA h)) (F0 m (pc + 3) ls (.long a :: rest))) : W p l e R s m args below meth c H locs cells slots (MQX below (wc_Qx D dA h (vf Vf) uF) args s cells slots (CA h)) (F0 m pc ls (.int a2 :: .int a1 :: .ref (h + 0) :: rest)) :=
  wx_callX (f := fun r => some (.long r)) (As := [.int a1, .int a2]) (fun _ => rfl) wc_vlN hvf C hlocks hnh hE (fun V u1 hc => kX0_planTold hc) (cwV 2 C.1.2.2.2.2 (lw_V q1394 q1396 qs76 q166 q1397) rfl rfl rfl (by decide +kernel) hR) (wc_preV (q := (RX0, TX0, 27)) C.2 hW hS ht rfl _) rfl hsz hro d hf hV kk
theorem cy_X0_545 {ρ : Type} {r0 : ρ} {N : Nat} {a1 : Int32} {a2 : Int32} {u : CS} {K : Int64 → CS → Option ρ} {Kh : Nat → CS → Option ρ} (C : CC p m c cc nL s args D dA RX0) (hW : wc_W D dA h u H) (hS : wc_S u) (hV : va_S (CA h) s.heap H locs) (ht : wc_T u 0 = some (.inl 0)) (hE : o_by (fX0_planTold N u a1 a2) K Kh = some r0) (hR : 208 + 1 ≤ R.frames ∧ 8 + (3 + 11) + 6595 ≤ R.locals) (hf : cells + 0 ≤ R.cells ∧ slots + 0 ≤ R.slots) (d : decode cc pc = .ok (.invokevirtual 545, 3)) (hsz : ls.size = nL) (hro : (rest.map fun v => v.category).sum ≤ 8) (kk : ∀ (a : Int64) (u2 : CS) (H1 : Heap) (locs1 : List Loc), K a u2 = some r0 → wc_W D dA h u2 H1 → wc_S u2 → va_S (CA h) s.heap H1 locs1 → W p l e R s m args below meth c H1 locs1 cells slots Q (F0 m (pc + 3) ls (.long a :: rest))) (kh : ∀ (n : Nat) (u2 : CS) (H1 : Heap) (locs1 : List Loc), Kh n u2 = some r0 → wc_W D dA h u2 H1 → wc_S u2 → va_S (CA h) s.heap H1 locs1 → ∃ (hpc : Nat) (cell : Cell), H1[h + n]? = some cell ∧ xh_go p l e R s m args below meth c locs1 cells slots (F0 m pc ls rest) (h + n) cell c.exceptionTable.toList hpc ∧ W p l e R s m args below meth c H1 locs1 cells slots Q (F0 m hpc ls [.ref (h + n)])) : W p l e R s m args below meth c H locs cells slots Q (F0 m pc ls (.int a2 :: .int a1 :: .ref (h + 0) :: rest)) :=
  wx_callH (f := fun r => some (.long r)) (As := [.int a1, .int a2]) (fun _ => rfl) wc_vlN C hE (fun V u1 hc => kX0_planTold hc) (cwV 2 C.1.2.2.2.2 (lw_V q1394 q1396 qs76 q166 q1397) rfl rfl rfl (by decide +kernel) hR) (wc_preV (q := (RX0, TX0, 27)) C.2 hW hS ht rfl _) rfl hsz hro d hf hV kk kh
set_option maxHeartbeats 4000000 in
set_option maxRecDepth 100000 in
theorem kX0_plan {l : Launch} {D : va_G} {dA : Nat → ClassId} {h N : Nat} {a1 : Int32} {a2 : Int32} {u u1 : CS} {r : Int64} (hE : fX0_plan N u a1 a2 = some (r, u1)) : Met l yX0_plan (wsW_ yX0_plan cX0_plan 4 (some .long) [(0, 6, 7, 56)]) ({ frames := 209, cells := 0, slots := 0, locals := 6617 }) (va_Pc [.ref (h + 0), .int a1, .int a2] (wc_St D dA h u)) (wc_Qr D dA h (some (.long r)) u1) 0 0 (CA h) := by
  refine wc_metW (own := RX0) (by decide) rfl rfl rfl ?_
  intro p e s m args below meth c ls C hr hlocks htb hW hS hV hl
  have hx := C.1.1
  have hb := C.1.2.1
  unfold fX0_plan at hE
  refine lv_aload_n hx hb dX0_plan_0 rfl (lv_at hl 0 rfl) ?_
  refine lv_iload_n hx hb dX0_plan_1 rfl (lv_at hl 1 rfl) ?_
  refine lv_iload_n hx hb dX0_plan_2 rfl (lv_at hl 2 rfl) ?_
  refine cy_X0_545 C hW hS hV (st_0 hS) hE ⟨Nat.le_of_ble_eq_true rfl, Nat.le_of_ble_eq_true rfl⟩ ⟨Nat.le_refl 0, Nat.le_refl 0⟩ dX0_plan_3 hl.1 (Nat.le_of_ble_eq_true rfl) (fun r5 u6 H locs hE hW hS hV => ?_) (fun n7 u8 H locs hE hW hS hV => ?_)
  · skip
    exact wc_lret C hr hlocks hW hS hV hE dX0_plan_6
  · skip
    by_cases ct : wc_T u8 n7 = some (.inl 6)
    · have hE := z_t ct hE
      obtain ⟨cell_, hcell_, hgo_⟩ := xh_one (pc := 3) (ls := ls) (rest := []) (ci := 6) (nm := RX6) (T := TX6) (N := 7) C htb ⟨by decide, by decide⟩ (by decide) q201 rfl hW ct
      refine ⟨_, cell_, hcell_, hgo_, ?_⟩
      refine lv_astore_n (lv' := [(3, .ref (h + n7)), (0, .ref (h + 0)), (1, .int a1), (2, .int a2)]) hx hb dX0_plan_7 rfl hl (by decide) rfl (fun ls hl => ?_)
      refine lv_aload_n hx hb dX0_plan_8 rfl (lv_at hl 1 rfl) ?_
      refine lv_aload_n hx hb dX0_plan_9 rfl (lv_at hl 0 rfl) ?_
      obtain ⟨ht, hE⟩ := o_sh_some hE
      refine cg_X0_288_6 C hW ht dX0_plan_10 ?_
      obtain ⟨r9, u10, hc, hE⟩ := o_bd2_some hE
      refine cc_X0_118 C hW hS hV (st_0 hS) (kX0_refuse hc) rfl rfl ⟨Nat.le_of_ble_eq_true rfl, Nat.le_of_ble_eq_true rfl⟩ ⟨Nat.le_refl 0, Nat.le_refl 0⟩ dX0_plan_13 hl.1 (Nat.le_of_ble_eq_true rfl) (fun H locs hW hS hV => ?_)
      refine lv_i2l hx hb dX0_plan_16 rfl ?_
      exact wc_lret C hr hlocks hW hS hV hE dX0_plan_17
    have hE := z_f ct hE
    cases hE
set_option maxHeartbeats 4000000 in
set_option maxRecDepth 100000 in
theorem kX0_anewTold {l : Launch} {D : va_G} {dA : Nat → ClassId} {h N : Nat} {a1 : Int32} {a2 : Int32} {a3 : Int64} {u u1 : CS} {V : Int32 ⊕ Nat} (hE : fX0_anewTold N u a1 a2 a3 = some (V, u1)) : MetX l yX0_anewTold (ws_ yX0_anewTold cX0_anewTold 5 (some .int)) ({ frames := 208, cells := 0, slots := 0, locals := 6595 }) (va_Pc [.ref (h + 0), .int a1, .int a2, .long a3] (wc_St D dA h u)) (wc_Qx D dA h (wc_vi V) u1) 0 0 (CA h) := by
  refine wc_metX (own := RX0) (by decide) rfl rfl rfl ?_
  intro p e s m args below meth c ls C hr hlocks hnh hW hS hV hl
  have hx := C.1.1
  have hb := C.1.2.1
  have w_59 : ∀ (u : CS) (x1 : Int32) (x2 : Int32) (x3 : Int64) (y1 : Int32) (H : Heap) (locs : List Loc) (ls : Array Slot), fX0_anewTold_59 N u x1 x2 x3 y1 = some (V, u1) → wc_W D dA h u H → wc_S u → va_S (CA h) s.heap H locs → lv_has ls 5 [(0, .ref (h + 0)), (1, .int x1), (2, .int x2), (3, .long x3)] → W p l e ({ frames := 208, cells := 0, slots := 0, locals := 6595 }) s m args below meth c H locs 0 0 (MQX below (wc_Qx D dA h (wc_vi V) u1) args s 0 0 (CA h)) (F0 m 59 ls [.int y1, .ref (h + 0)]) := by
    intro u x1 x2 x3 y1 H locs ls hE hW hS hV hl
    unfold fX0_anewTold_59 at hE
    refine lv_bipush (v := (-7 : Int32)) hx hb dX0_anewTold_59 rfl ?_
    refine cx_X0_276 (vf := wc_vi) wc_viN C hlocks hnh hW hS hV (st_0 hS) hE ⟨Nat.le_of_ble_eq_true rfl, Nat.le_of_ble_eq_true rfl⟩ ⟨Nat.le_refl 0, Nat.le_refl 0⟩ dX0_anewTold_61 hl.1 (Nat.le_of_ble_eq_true rfl) (fun _ u9 H locs hE hW hS hV => ?_)
    refine lv_aload_n hx hb dX0_anewTold_64 rfl (lv_at hl 0 rfl) ?_
    refine lv_iload_n hx hb dX0_anewTold_65 rfl (lv_at hl 1 rfl) ?_
    refine lv_iload_n hx hb dX0_anewTold_66 rfl (lv_at hl 2 rfl) ?_
    refine lv_lload_n hx hb dX0_anewTold_67 rfl (lv_at hl 3 rfl) ?_
    obtain ⟨u10, hc, hE⟩ := o_bd_some hE
    refine cc_X0_538 C hW hS hV (st_0 hS) (kX0_search hc) rfl rfl ⟨Nat.le_of_ble_eq_true rfl, Nat.le_of_ble_eq_true rfl⟩ ⟨Nat.le_refl 0, Nat.le_refl 0⟩ dX0_anewTold_68 hl.1 (Nat.le_of_ble_eq_true rfl) (fun H locs hW hS hV => ?_)
    refine lv_aload_n hx hb dX0_anewTold_71 rfl (lv_at hl 0 rfl) ?_
    refine lv_aload_n hx hb dX0_anewTold_72 rfl (lv_at hl 0 rfl) ?_
    refine cg_X0_513_0 C hW (st_0 hS) dX0_anewTold_73 ?_
    refine lv_bipush (v := (-7 : Int32)) hx hb dX0_anewTold_76 rfl ?_
    refine cx_X0_276 (vf := wc_vi) wc_viN C hlocks hnh hW hS hV (st_0 hS) hE ⟨Nat.le_of_ble_eq_true rfl, Nat.le_of_ble_eq_true rfl⟩ ⟨Nat.le_refl 0, Nat.le_refl 0⟩ dX0_anewTold_78 hl.1 (Nat.le_of_ble_eq_true rfl) (fun _ u11 H locs hE hW hS hV => ?_)
    refine lv_aload_n hx hb dX0_anewTold_81 rfl (lv_at hl 0 rfl) ?_
    refine lv_iload_n hx hb dX0_anewTold_82 rfl (lv_at hl 1 rfl) ?_
    obtain ⟨u12, hc, hE⟩ := o_bd_some hE
    refine cc_X0_542 C hW hS hV (st_0 hS) (kX0_keep hc) rfl rfl ⟨Nat.le_of_ble_eq_true rfl, Nat.le_of_ble_eq_true rfl⟩ ⟨Nat.le_refl 0, Nat.le_refl 0⟩ dX0_anewTold_83 hl.1 (Nat.le_of_ble_eq_true rfl) (fun H locs hW hS hV => ?_)
    refine lv_aload_n hx hb dX0_anewTold_86 rfl (lv_at hl 0 rfl) ?_
    refine cg_X0_510_0 C hW (st_0 hS) dX0_anewTold_87 ?_
    exact wx_iret C hr hlocks hW hS hV hE dX0_anewTold_90
  have w_36 : ∀ (u : CS) (x1 : Int32) (x2 : Int32) (x3 : Int64) (y1 : Int32) (H : Heap) (locs : List Loc) (ls : Array Slot), fX0_anewTold_36 N u x1 x2 x3 y1 = some (V, u1) → wc_W D dA h u H → wc_S u → va_S (CA h) s.heap H locs → lv_has ls 5 [(0, .ref (h + 0)), (1, .int x1), (2, .int x2), (3, .long x3)] → W p l e ({ frames := 208, cells := 0, slots := 0, locals := 6595 }) s m args below meth c H locs 0 0 (MQX below (wc_Qx D dA h (wc_vi V) u1) args s 0 0 (CA h)) (F0 m 36 ls [.int y1, .ref (h + 0)]) := by
    intro u x1 x2 x3 y1 H locs ls hE hW hS hV hl
    unfold fX0_anewTold_36 at hE
    refine lv_bipush (v := (-2 : Int32)) hx hb dX0_anewTold_36 rfl ?_
    refine cx_X0_276 (vf := wc_vi) wc_viN C hlocks hnh hW hS hV (st_0 hS) hE ⟨Nat.le_of_ble_eq_true rfl, Nat.le_of_ble_eq_true rfl⟩ ⟨Nat.le_refl 0, Nat.le_refl 0⟩ dX0_anewTold_38 hl.1 (Nat.le_of_ble_eq_true rfl) (fun _ u13 H locs hE hW hS hV => ?_)
    refine lv_aload_n hx hb dX0_anewTold_41 rfl (lv_at hl 0 rfl) ?_
    refine lv_iload_n hx hb dX0_anewTold_42 rfl (lv_at hl 1 rfl) ?_
    refine lv_iload_n hx hb dX0_anewTold_43 rfl (lv_at hl 2 rfl) ?_
    refine cx_X0_533 (vf := wc_vi) wc_viN C hlocks hnh hW hS hV (st_0 hS) hE ⟨Nat.le_of_ble_eq_true rfl, Nat.le_of_ble_eq_true rfl⟩ ⟨Nat.le_refl 0, Nat.le_refl 0⟩ dX0_anewTold_44 hl.1 (Nat.le_of_ble_eq_true rfl) (fun _ u14 H locs hE hW hS hV => ?_)
    refine lv_aload_n hx hb dX0_anewTold_47 rfl (lv_at hl 0 rfl) ?_
    refine lv_lload_n hx hb dX0_anewTold_48 rfl (lv_at hl 3 rfl) ?_
    refine lv_lconst (v := (0 : Int64)) hx hb dX0_anewTold_49 rfl ?_
    refine W.lcmp hx hb dX0_anewTold_50 ?_
    refine lv_if_lt (tgt := 58) hx hb dX0_anewTold_51 (by decide) (fun c15 => ?_) (fun c15 => ?_)
    · have hE := z_t c15 hE
      refine lv_iconst (v := (0 : Int32)) hx hb dX0_anewTold_58 rfl ?_
      exact w_59 _ _ _ _ _ _ _ _ hE hW hS hV (lv_sub hl [0, 1, 2, 3] rfl)
    · have hE := z_f c15 hE
      refine lv_iconst (v := (1 : Int32)) hx hb dX0_anewTold_54 rfl ?_
      refine lv_goto (tgt := 59) hx hb dX0_anewTold_55 (by decide) ?_
      exact w_59 _ _ _ _ _ _ _ _ hE hW hS hV (lv_sub hl [0, 1, 2, 3] rfl)
  unfold fX0_anewTold at hE
  refine lv_aload_n hx hb dX0_anewTold_0 rfl (lv_at hl 0 rfl) ?_
  refine lv_iload_n hx hb dX0_anewTold_1 rfl (lv_at hl 1 rfl) ?_
  refine lv_i2l hx hb dX0_anewTold_2 rfl ?_
  refine lv_lconst (v := (0 : Int64)) hx hb dX0_anewTold_3 rfl ?_
  refine lv_lconst (v := (1 : Int64)) hx hb dX0_anewTold_4 rfl ?_
  refine lv_aload_n hx hb dX0_anewTold_5 rfl (lv_at hl 0 rfl) ?_
  refine cgs_X0_19_0 C hW (st_0 hS) (sp_0_now hS) dX0_anewTold_6 ?_
  refine cg_X0_23_1 C hW (st_F hS wc_F3) dX0_anewTold_9 ?_
  refine lv_lshl hx hb dX0_anewTold_12 rfl ?_
  refine lv_lconst (v := (1 : Int64)) hx hb dX0_anewTold_13 rfl ?_
  refine lv_lsub hx hb dX0_anewTold_14 ?_
  obtain ⟨r16, hc, hE⟩ := o_bd_some hE
  refine sc_X0_31 C.1 (kX0_isIn hc) rfl rfl ⟨Nat.le_of_ble_eq_true rfl, Nat.le_of_ble_eq_true rfl⟩ ⟨Nat.le_refl 0, Nat.le_refl 0⟩ dX0_anewTold_15 hl.1 (Nat.le_of_ble_eq_true rfl) ?_
  refine lv_bipush (v := (-3 : Int32)) hx hb dX0_anewTold_18 rfl ?_
  refine cx_X0_276 (vf := wc_vi) wc_viN C hlocks hnh hW hS hV (st_0 hS) hE ⟨Nat.le_of_ble_eq_true rfl, Nat.le_of_ble_eq_true rfl⟩ ⟨Nat.le_refl 0, Nat.le_refl 0⟩ dX0_anewTold_20 hl.1 (Nat.le_of_ble_eq_true rfl) (fun _ u17 H locs hE hW hS hV => ?_)
  refine lv_aload_n hx hb dX0_anewTold_23 rfl (lv_at hl 0 rfl) ?_
  refine lv_aload_n hx hb dX0_anewTold_24 rfl (lv_at hl 0 rfl) ?_
  refine cg_X0_483_0 C hW (st_0 hS) dX0_anewTold_25 ?_
  refine lv_if_eq (tgt := 35) hx hb dX0_anewTold_28 (by decide) (fun c18 => ?_) (fun c18 => ?_)
  · have hE := z_t c18 hE
    refine lv_iconst (v := (0 : Int32)) hx hb dX0_anewTold_35 rfl ?_
    exact w_36 _ _ _ _ _ _ _ _ hE hW hS hV (lv_sub hl [0, 1, 2, 3] rfl)
  · have hE := z_f c18 hE
    refine lv_iconst (v := (1 : Int32)) hx hb dX0_anewTold_31 rfl ?_
    refine lv_goto (tgt := 36) hx hb dX0_anewTold_32 (by decide) ?_
    exact w_36 _ _ _ _ _ _ _ _ hE hW hS hV (lv_sub hl [0, 1, 2, 3] rfl)
theorem cx_X0_549 {β : Type} {vf : β ⊕ Nat → Option Value ⊕ Nat} (hvf : ∀ n, vf (.inr n) = .inr n) {N : Nat} {a1 : Int32} {a2 : Int32} {a3 : Int64} {u uF : CS} {Vf : β ⊕ Nat} {K : Int32 → CS → Option ((β ⊕ Nat) × CS)} (C : CC p m c cc nL s args D dA RX0) (hlocks : meth.locks = false) (hnh : c.exceptionTable.isEmpty = true) (hW : wc_W D dA h u H) (hS : wc_S u) (hV : va_S (CA h) s.heap H locs) (ht : wc_T u 0 = some (.inl 0)) (hE : o_bx (fX0_anewTold N u a1 a2 a3) K = some (Vf, uF)) (hR : 208 + 1 ≤ R.frames ∧ 8 + (5 + 11) + 6595 ≤ R.locals) (hf : cells + 0 ≤ R.cells ∧ slots + 0 ≤ R.slots) (d : decode cc pc = .ok (.invokevirtual 549, 3)) (hsz : ls.size = nL) (hro : (rest.map fun v => v.category).sum ≤ 8) (kk : ∀ (a : Int32) (u2 : CS) (H1 : Heap) (locs1 : List Loc), K a u2 = some (Vf, uF) → wc_W D dA h u2 H1 → wc_S u2 → va_S (CA h) s.heap H1 locs1 → W p l e R s m args below meth c H1 locs1 cells slots (MQX below (wc_Qx D dA h (vf Vf) uF) args s cells slots (CA h)) (F0 m (pc + 3) ls (.int a :: rest))) : W p l e R s m args below meth c H locs cells slots (MQX below (wc_Qx D dA h (vf Vf) uF) args s cells slots (CA h)) (F0 m pc ls (.long a3 :: .int a2 :: .int a1 :: .ref (h + 0) :: rest)) :=
  wx_callX (f := fun r => some (.int r)) (As := [.int a1, .int a2, .long a3]) (fun _ => rfl) wc_viN hvf C hlocks hnh hE (fun V u1 hc => kX0_anewTold hc) (cwV 3 C.1.2.2.2.2 (lw_V q1470 q1472 qs91 q166 q1473) rfl rfl rfl (by decide +kernel) hR) (wc_preV (q := (RX0, TX0, 27)) C.2 hW hS ht rfl _) rfl hsz hro d hf hV kk
theorem cy_X0_549 {ρ : Type} {r0 : ρ} {N : Nat} {a1 : Int32} {a2 : Int32} {a3 : Int64} {u : CS} {K : Int32 → CS → Option ρ} {Kh : Nat → CS → Option ρ} (C : CC p m c cc nL s args D dA RX0) (hW : wc_W D dA h u H) (hS : wc_S u) (hV : va_S (CA h) s.heap H locs) (ht : wc_T u 0 = some (.inl 0)) (hE : o_by (fX0_anewTold N u a1 a2 a3) K Kh = some r0) (hR : 208 + 1 ≤ R.frames ∧ 8 + (5 + 11) + 6595 ≤ R.locals) (hf : cells + 0 ≤ R.cells ∧ slots + 0 ≤ R.slots) (d : decode cc pc = .ok (.invokevirtual 549, 3)) (hsz : ls.size = nL) (hro : (rest.map fun v => v.category).sum ≤ 8) (kk : ∀ (a : Int32) (u2 : CS) (H1 : Heap) (locs1 : List Loc), K a u2 = some r0 → wc_W D dA h u2 H1 → wc_S u2 → va_S (CA h) s.heap H1 locs1 → W p l e R s m args below meth c H1 locs1 cells slots Q (F0 m (pc + 3) ls (.int a :: rest))) (kh : ∀ (n : Nat) (u2 : CS) (H1 : Heap) (locs1 : List Loc), Kh n u2 = some r0 → wc_W D dA h u2 H1 → wc_S u2 → va_S (CA h) s.heap H1 locs1 → ∃ (hpc : Nat) (cell : Cell), H1[h + n]? = some cell ∧ xh_go p l e R s m args below meth c locs1 cells slots (F0 m pc ls rest) (h + n) cell c.exceptionTable.toList hpc ∧ W p l e R s m args below meth c H1 locs1 cells slots Q (F0 m hpc ls [.ref (h + n)])) : W p l e R s m args below meth c H locs cells slots Q (F0 m pc ls (.long a3 :: .int a2 :: .int a1 :: .ref (h + 0) :: rest)) :=
  wx_callH (f := fun r => some (.int r)) (As := [.int a1, .int a2, .long a3]) (fun _ => rfl) wc_viN C hE (fun V u1 hc => kX0_anewTold hc) (cwV 3 C.1.2.2.2.2 (lw_V q1470 q1472 qs91 q166 q1473) rfl rfl rfl (by decide +kernel) hR) (wc_preV (q := (RX0, TX0, 27)) C.2 hW hS ht rfl _) rfl hsz hro d hf hV kk kh
set_option maxHeartbeats 4000000 in
set_option maxRecDepth 100000 in
theorem kX0_anew {l : Launch} {D : va_G} {dA : Nat → ClassId} {h N : Nat} {a1 : Int32} {a2 : Int32} {a3 : Int64} {u u1 : CS} {r : Int32} (hE : fX0_anew N u a1 a2 a3 = some (r, u1)) : Met l yX0_anew (wsW_ yX0_anew cX0_anew 6 (some .int) [(0, 7, 8, 56)]) ({ frames := 209, cells := 0, slots := 0, locals := 6619 }) (va_Pc [.ref (h + 0), .int a1, .int a2, .long a3] (wc_St D dA h u)) (wc_Qr D dA h (some (.int r)) u1) 0 0 (CA h) := by
  refine wc_metW (own := RX0) (by decide) rfl rfl rfl ?_
  intro p e s m args below meth c ls C hr hlocks htb hW hS hV hl
  have hx := C.1.1
  have hb := C.1.2.1
  unfold fX0_anew at hE
  refine lv_aload_n hx hb dX0_anew_0 rfl (lv_at hl 0 rfl) ?_
  refine lv_iload_n hx hb dX0_anew_1 rfl (lv_at hl 1 rfl) ?_
  refine lv_iload_n hx hb dX0_anew_2 rfl (lv_at hl 2 rfl) ?_
  refine lv_lload_n hx hb dX0_anew_3 rfl (lv_at hl 3 rfl) ?_
  refine cy_X0_549 C hW hS hV (st_0 hS) hE ⟨Nat.le_of_ble_eq_true rfl, Nat.le_of_ble_eq_true rfl⟩ ⟨Nat.le_refl 0, Nat.le_refl 0⟩ dX0_anew_4 hl.1 (Nat.le_of_ble_eq_true rfl) (fun r5 u6 H locs hE hW hS hV => ?_) (fun n7 u8 H locs hE hW hS hV => ?_)
  · skip
    exact wc_iret C hr hlocks hW hS hV hE dX0_anew_7
  · skip
    by_cases ct : wc_T u8 n7 = some (.inl 6)
    · have hE := z_t ct hE
      obtain ⟨cell_, hcell_, hgo_⟩ := xh_one (pc := 4) (ls := ls) (rest := []) (ci := 6) (nm := RX6) (T := TX6) (N := 7) C htb ⟨by decide, by decide⟩ (by decide) q201 rfl hW ct
      refine ⟨_, cell_, hcell_, hgo_, ?_⟩
      refine lv_astore (lv' := [(5, .ref (h + n7)), (0, .ref (h + 0)), (1, .int a1), (2, .int a2), (3, .long a3)]) hx hb dX0_anew_8 hl (by decide) rfl (fun ls hl => ?_)
      refine lv_aload_n hx hb dX0_anew_10 rfl (lv_at hl 1 rfl) ?_
      refine lv_aload hx hb dX0_anew_11 (lv_at hl 0 rfl) ?_
      obtain ⟨ht, hE⟩ := o_sh_some hE
      refine cg_X0_288_6 C hW ht dX0_anew_13 ?_
      obtain ⟨r9, u10, hc, hE⟩ := o_bd2_some hE
      refine cc_X0_118 C hW hS hV (st_0 hS) (kX0_refuse hc) rfl rfl ⟨Nat.le_of_ble_eq_true rfl, Nat.le_of_ble_eq_true rfl⟩ ⟨Nat.le_refl 0, Nat.le_refl 0⟩ dX0_anew_16 hl.1 (Nat.le_of_ble_eq_true rfl) (fun H locs hW hS hV => ?_)
      exact wc_iret C hr hlocks hW hS hV hE dX0_anew_19
    have hE := z_f ct hE
    cases hE
set_option maxHeartbeats 4000000 in
set_option maxRecDepth 100000 in
theorem kX0_takeRow {l : Launch} {D : va_G} {dA : Nat → ClassId} {h N : Nat} {a1 : Int32} {a2 : Int32} {u u1 : CS} {V : Int32 ⊕ Nat} (hE : fX0_takeRow N u a1 a2 = some (V, u1)) : MetX l yX0_takeRow (ws_ yX0_takeRow cX0_takeRow 5 (some .boolean)) ({ frames := 207, cells := 0, slots := 0, locals := 6571 }) (va_Pc [.ref (h + 0), .int a1, .int a2] (wc_St D dA h u)) (wc_Qx D dA h (wc_vi V) u1) 0 0 (CA h) := by
  refine wc_metX (own := RX0) (by decide) rfl rfl rfl ?_
  intro p e s m args below meth c ls C hr hlocks hnh hW hS hV hl
  have hx := C.1.1
  have hb := C.1.2.1
  have w_96 : ∀ (ag58 : CS → Int32 → Int32 → Option ((Int32 ⊕ Nat) × CS)) (hag58 : (∀ (u : CS) (x3 : Int32) (x4 : Int32) (H : Heap) (locs : List Loc) (ls : Array Slot), ag58 u x3 x4 = some (V, u1) → wc_W D dA h u H → wc_S u → va_S (CA h) s.heap H locs → lv_has ls 5 [(0, .ref (h + 0)), (3, .int x3), (4, .int x4)] → W p l e ({ frames := 207, cells := 0, slots := 0, locals := 6571 }) s m args below meth c H locs 0 0 (MQX below (wc_Qx D dA h (wc_vi V) u1) args s 0 0 (CA h)) (F0 m 58 ls []))) (u : CS) (x4 : Int32) (y0 : Int32) (H : Heap) (locs : List Loc) (ls : Array Slot), fX0_takeRow_96 N ag58 u x4 y0 = some (V, u1) → wc_W D dA h u H → wc_S u → va_S (CA h) s.heap H locs → lv_has ls 5 [(0, .ref (h + 0)), (4, .int x4)] → W p l e ({ frames := 207, cells := 0, slots := 0, locals := 6571 }) s m args below meth c H locs 0 0 (MQX below (wc_Qx D dA h (wc_vi V) u1) args s 0 0 (CA h)) (F0 m 96 ls [.int y0]) := by
    intro ag58 hag58 u x4 y0 H locs ls hE hW hS hV hl
    unfold fX0_takeRow_96 at hE
    refine lv_istore_n (lv' := [(3, .int y0), (0, .ref (h + 0)), (4, .int x4)]) hx hb dX0_takeRow_96 rfl hl (by decide) rfl (fun ls hl => ?_)
    refine lv_aload_n hx hb dX0_takeRow_97 rfl (lv_at hl 1 rfl) ?_
    refine cgs_X0_88_0 C hW (st_0 hS) (sp_0_choice hS) dX0_takeRow_98 ?_
    refine lv_iload hx hb dX0_takeRow_101 (lv_at hl 2 rfl) ?_
    refine lv_aload_n hx hb dX0_takeRow_103 rfl (lv_at hl 1 rfl) ?_
    refine cg_X0_413_0 C hW (st_0 hS) dX0_takeRow_104 ?_
    refine z_nmp hE (fun p20 hE => ?_)
    refine lv_iload hx hb dX0_takeRow_107 (lv_at hl 2 rfl) ?_
    obtain ⟨n21, hp_, hE_⟩ := o_nn_some hE
    clear hE
    subst hp_
    have hE := hE_
    obtain ⟨k23, ht, hE⟩ := o_ln_some hE
    refine wc_ldi C hW ht hE dX0_takeRow_109 (fun hE => ?_)
    refine z_nmi hE (fun v22 hE => ?_)
    refine wc_sti (J := wc_S) C hW hV (st_0_choice hS) hS.uA hE dX0_takeRow_110 (fun u24 H locs hE hW hS hV => ?_)
    refine z_iinc (v := (x4 + (1 : Int32))) (lw := (fun y_ => [(4, .int y_), (3, .int y0), (0, .ref (h + 0))])) hx hb dX0_takeRow_111 hl hE (k := 2) rfl rfl (by decide) (fun _ => rfl) (fun z25 ls hE hl => ?_)
    refine lv_goto (tgt := 58) hx hb dX0_takeRow_114 (by decide) ?_
    exact hag58 _ _ _ _ _ _ hE hW hS hV (lv_sub hl [2, 1, 0] rfl)
  have w_95 : ∀ (ag58 : CS → Int32 → Int32 → Option ((Int32 ⊕ Nat) × CS)) (hag58 : (∀ (u : CS) (x3 : Int32) (x4 : Int32) (H : Heap) (locs : List Loc) (ls : Array Slot), ag58 u x3 x4 = some (V, u1) → wc_W D dA h u H → wc_S u → va_S (CA h) s.heap H locs → lv_has ls 5 [(0, .ref (h + 0)), (3, .int x3), (4, .int x4)] → W p l e ({ frames := 207, cells := 0, slots := 0, locals := 6571 }) s m args below meth c H locs 0 0 (MQX below (wc_Qx D dA h (wc_vi V) u1) args s 0 0 (CA h)) (F0 m 58 ls []))) (u : CS) (x4 : Int32) (H : Heap) (locs : List Loc) (ls : Array Slot), fX0_takeRow_95 N ag58 u x4 = some (V, u1) → wc_W D dA h u H → wc_S u → va_S (CA h) s.heap H locs → lv_has ls 5 [(0, .ref (h + 0)), (4, .int x4)] → W p l e ({ frames := 207, cells := 0, slots := 0, locals := 6571 }) s m args below meth c H locs 0 0 (MQX below (wc_Qx D dA h (wc_vi V) u1) args s 0 0 (CA h)) (F0 m 95 ls []) := by
    intro ag58 hag58 u x4 H locs ls hE hW hS hV hl
    unfold fX0_takeRow_95 at hE
    refine lv_iconst (v := (0 : Int32)) hx hb dX0_takeRow_95 rfl ?_
    exact w_96 ag58 hag58 _ _ _ _ _ _ hE hW hS hV (lv_sub hl [0, 1] rfl)
  have w_58 : ∀ (n : Nat) (u : CS) (x3 : Int32) (x4 : Int32) (H : Heap) (locs : List Loc) (ls : Array Slot), fX0_takeRow_58 N n u x3 x4 = some (V, u1) → wc_W D dA h u H → wc_S u → va_S (CA h) s.heap H locs → lv_has ls 5 [(0, .ref (h + 0)), (3, .int x3), (4, .int x4)] → W p l e ({ frames := 207, cells := 0, slots := 0, locals := 6571 }) s m args below meth c H locs 0 0 (MQX below (wc_Qx D dA h (wc_vi V) u1) args s 0 0 (CA h)) (F0 m 58 ls []) := by
    intro n
    induction n with
    | zero =>
      intro u x3 x4 H locs ls hE hW hS hV hl
      cases (show (none : Option ((Int32 ⊕ Nat) × CS)) = some (V, u1) from hE)
    | succ n ih =>
      intro u x3 x4 H locs ls hE hW hS hV hl
      rw [fX0_takeRow_58] at hE
      refine lv_iload hx hb dX0_takeRow_58 (lv_at hl 2 rfl) ?_
      refine lv_aload_n hx hb dX0_takeRow_60 rfl (lv_at hl 0 rfl) ?_
      refine cg_X0_453_0 C hW (st_0 hS) dX0_takeRow_61 ?_
      refine lv_icmp_ge (tgt := 117) hx hb dX0_takeRow_64 (by decide) (fun c26 => ?_) (fun c26 => ?_)
      · have hE := z_t c26 hE
        refine lv_iload_n hx hb dX0_takeRow_117 rfl (lv_at hl 1 rfl) ?_
        obtain ⟨hb1, hE⟩ := o_bl_some hE
        exact wx_zret C hr hlocks hW hS hV hb1 hE dX0_takeRow_118
      · have hE := z_f c26 hE
        refine lv_iload_n hx hb dX0_takeRow_67 rfl (lv_at hl 1 rfl) ?_
        refine lv_if_eq (tgt := 95) hx hb dX0_takeRow_68 (by decide) (fun c27 => ?_) (fun c27 => ?_)
        · have hE := z_t c27 hE
          exact w_95 (fX0_takeRow_58 N n) ih _ _ _ _ _ hE hW hS hV (lv_sub hl [0, 2] rfl)
        · have hE := z_f c27 hE
          refine lv_aload_n hx hb dX0_takeRow_71 rfl (lv_at hl 0 rfl) ?_
          refine cg_X0_413_0 C hW (st_0 hS) dX0_takeRow_72 ?_
          refine z_nmp hE (fun p28 hE => ?_)
          refine lv_iload hx hb dX0_takeRow_75 (lv_at hl 2 rfl) ?_
          obtain ⟨n29, hp_, hE_⟩ := o_nn_some hE
          clear hE
          subst hp_
          have hE := hE_
          obtain ⟨k31, ht, hE⟩ := o_ln_some hE
          refine wc_ldi C hW ht hE dX0_takeRow_77 (fun hE => ?_)
          refine z_nmi hE (fun v30 hE => ?_)
          refine lv_i2l hx hb dX0_takeRow_78 rfl ?_
          refine lv_lconst (v := (0 : Int64)) hx hb dX0_takeRow_79 rfl ?_
          refine lv_aload_n hx hb dX0_takeRow_80 rfl (lv_at hl 0 rfl) ?_
          refine cg_X0_450_0 C hW (st_0 hS) dX0_takeRow_81 ?_
          refine lv_i2l hx hb dX0_takeRow_84 rfl ?_
          obtain ⟨r32, hc, hE⟩ := o_bd_some hE
          refine sc_X0_31 C.1 (kX0_isIn hc) rfl rfl ⟨Nat.le_of_ble_eq_true rfl, Nat.le_of_ble_eq_true rfl⟩ ⟨Nat.le_refl 0, Nat.le_refl 0⟩ dX0_takeRow_85 hl.1 (Nat.le_of_ble_eq_true rfl) ?_
          refine lv_if_eq (tgt := 95) hx hb dX0_takeRow_88 (by decide) (fun c33 => ?_) (fun c33 => ?_)
          · have hE := z_t c33 hE
            exact w_95 (fX0_takeRow_58 N n) ih _ _ _ _ _ hE hW hS hV (lv_sub hl [0, 2] rfl)
          · have hE := z_f c33 hE
            refine lv_iconst (v := (1 : Int32)) hx hb dX0_takeRow_91 rfl ?_
            refine lv_goto (tgt := 96) hx hb dX0_takeRow_92 (by decide) ?_
            exact w_96 (fX0_takeRow_58 N n) ih _ _ _ _ _ _ hE hW hS hV (lv_sub hl [0, 2] rfl)
  have w_42 : ∀ (u : CS) (x1 : Int32) (x2 : Int32) (y1 : Int32) (H : Heap) (locs : List Loc) (ls : Array Slot), fX0_takeRow_42 N u x1 x2 y1 = some (V, u1) → wc_W D dA h u H → wc_S u → va_S (CA h) s.heap H locs → lv_has ls 5 [(0, .ref (h + 0)), (1, .int x1), (2, .int x2)] → W p l e ({ frames := 207, cells := 0, slots := 0, locals := 6571 }) s m args below meth c H locs 0 0 (MQX below (wc_Qx D dA h (wc_vi V) u1) args s 0 0 (CA h)) (F0 m 42 ls [.int y1, .ref (h + 0)]) := by
    intro u x1 x2 y1 H locs ls hE hW hS hV hl
    unfold fX0_takeRow_42 at hE
    refine lv_bipush (v := (-5 : Int32)) hx hb dX0_takeRow_42 rfl ?_
    refine cx_X0_276 (vf := wc_vi) wc_viN C hlocks hnh hW hS hV (st_0 hS) hE ⟨Nat.le_of_ble_eq_true rfl, Nat.le_of_ble_eq_true rfl⟩ ⟨Nat.le_refl 0, Nat.le_refl 0⟩ dX0_takeRow_44 hl.1 (Nat.le_of_ble_eq_true rfl) (fun _ u34 H locs hE hW hS hV => ?_)
    refine lv_aload_n hx hb dX0_takeRow_47 rfl (lv_at hl 0 rfl) ?_
    refine lv_iload_n hx hb dX0_takeRow_48 rfl (lv_at hl 1 rfl) ?_
    refine lv_iload_n hx hb dX0_takeRow_49 rfl (lv_at hl 2 rfl) ?_
    obtain ⟨u35, hc, hE⟩ := o_bd_some hE
    refine cc_X0_529 C hW hS hV (st_0 hS) (kX0_prepare hc) rfl rfl ⟨Nat.le_of_ble_eq_true rfl, Nat.le_of_ble_eq_true rfl⟩ ⟨Nat.le_refl 0, Nat.le_refl 0⟩ dX0_takeRow_50 hl.1 (Nat.le_of_ble_eq_true rfl) (fun H locs hW hS hV => ?_)
    refine lv_iconst (v := (1 : Int32)) hx hb dX0_takeRow_53 rfl ?_
    refine lv_istore_n (lv' := [(3, .int (1 : Int32)), (0, .ref (h + 0)), (1, .int x1), (2, .int x2)]) hx hb dX0_takeRow_54 rfl hl (by decide) rfl (fun ls hl => ?_)
    refine lv_iconst (v := (0 : Int32)) hx hb dX0_takeRow_55 rfl ?_
    refine lv_istore (lv' := [(4, .int (0 : Int32)), (3, .int (1 : Int32)), (0, .ref (h + 0)), (1, .int x1), (2, .int x2)]) hx hb dX0_takeRow_56 hl (by decide) rfl (fun ls hl => ?_)
    exact w_58 N _ _ _ _ _ _ hE hW hS hV (lv_sub hl [2, 1, 0] rfl)
  have w_19 : ∀ (u : CS) (x1 : Int32) (x2 : Int32) (y1 : Int32) (H : Heap) (locs : List Loc) (ls : Array Slot), fX0_takeRow_19 N u x1 x2 y1 = some (V, u1) → wc_W D dA h u H → wc_S u → va_S (CA h) s.heap H locs → lv_has ls 5 [(0, .ref (h + 0)), (1, .int x1), (2, .int x2)] → W p l e ({ frames := 207, cells := 0, slots := 0, locals := 6571 }) s m args below meth c H locs 0 0 (MQX below (wc_Qx D dA h (wc_vi V) u1) args s 0 0 (CA h)) (F0 m 19 ls [.int y1, .ref (h + 0)]) := by
    intro u x1 x2 y1 H locs ls hE hW hS hV hl
    unfold fX0_takeRow_19 at hE
    refine lv_bipush (v := (-2 : Int32)) hx hb dX0_takeRow_19 rfl ?_
    refine cx_X0_276 (vf := wc_vi) wc_viN C hlocks hnh hW hS hV (st_0 hS) hE ⟨Nat.le_of_ble_eq_true rfl, Nat.le_of_ble_eq_true rfl⟩ ⟨Nat.le_refl 0, Nat.le_refl 0⟩ dX0_takeRow_21 hl.1 (Nat.le_of_ble_eq_true rfl) (fun _ u36 H locs hE hW hS hV => ?_)
    refine lv_aload_n hx hb dX0_takeRow_24 rfl (lv_at hl 0 rfl) ?_
    refine lv_aload_n hx hb dX0_takeRow_25 rfl (lv_at hl 0 rfl) ?_
    refine cg_X0_413_0 C hW (st_0 hS) dX0_takeRow_26 ?_
    refine z_nmp hE (fun p37 hE => ?_)
    obtain ⟨n38, hp_, hE_⟩ := o_nn_some hE
    clear hE
    subst hp_
    have hE := hE_
    obtain ⟨k39, ht, hE⟩ := o_ln_some hE
    refine wc_alen (v := Int32.ofNat k39) C hW ht rfl rfl dX0_takeRow_29 ?_
    refine lv_iload_n hx hb dX0_takeRow_30 rfl (lv_at hl 1 rfl) ?_
    obtain ⟨r40, hc, hE⟩ := o_bd_some hE
    refine sc_X0_445 C.1 (kJ7_bitCount hc) rfl rfl ⟨Nat.le_of_ble_eq_true rfl, Nat.le_of_ble_eq_true rfl⟩ ⟨Nat.le_refl 0, Nat.le_refl 0⟩ dX0_takeRow_31 hl.1 (Nat.le_of_ble_eq_true rfl) ?_
    refine lv_icmp_ne (tgt := 41) hx hb dX0_takeRow_34 (by decide) (fun c41 => ?_) (fun c41 => ?_)
    · have hE := z_f c41 hE
      refine lv_iconst (v := (0 : Int32)) hx hb dX0_takeRow_41 rfl ?_
      exact w_42 _ _ _ _ _ _ _ hE hW hS hV (lv_sub hl [0, 1, 2] rfl)
    · have hE := z_t c41 hE
      refine lv_iconst (v := (1 : Int32)) hx hb dX0_takeRow_37 rfl ?_
      refine lv_goto (tgt := 42) hx hb dX0_takeRow_38 (by decide) ?_
      exact w_42 _ _ _ _ _ _ _ hE hW hS hV (lv_sub hl [0, 1, 2] rfl)
  unfold fX0_takeRow at hE
  refine lv_aload_n hx hb dX0_takeRow_0 rfl (lv_at hl 0 rfl) ?_
  refine lv_iload_n hx hb dX0_takeRow_1 rfl (lv_at hl 1 rfl) ?_
  refine lv_iload_n hx hb dX0_takeRow_2 rfl (lv_at hl 2 rfl) ?_
  refine cx_X0_533 (vf := wc_vi) wc_viN C hlocks hnh hW hS hV (st_0 hS) hE ⟨Nat.le_of_ble_eq_true rfl, Nat.le_of_ble_eq_true rfl⟩ ⟨Nat.le_refl 0, Nat.le_refl 0⟩ dX0_takeRow_3 hl.1 (Nat.le_of_ble_eq_true rfl) (fun _ u42 H locs hE hW hS hV => ?_)
  refine lv_aload_n hx hb dX0_takeRow_6 rfl (lv_at hl 0 rfl) ?_
  refine lv_aload_n hx hb dX0_takeRow_7 rfl (lv_at hl 0 rfl) ?_
  refine cg_X0_413_0 C hW (st_0 hS) dX0_takeRow_8 ?_
  refine z_nmp hE (fun p43 hE => ?_)
  rcases p43 with _ | n44
  · have hE := o_nu_none hE
    refine lv_ifnullN (tgt := 18) hx hb dX0_takeRow_11 (by decide) ?_
    refine lv_iconst (v := (0 : Int32)) hx hb dX0_takeRow_18 rfl ?_
    exact w_19 _ _ _ _ _ _ _ hE hW hS hV (lv_sub hl [0, 1, 2] rfl)
  · have hE := o_nu_nn hE
    refine lv_ifnull hx hb dX0_takeRow_11 ?_
    refine lv_iconst (v := (1 : Int32)) hx hb dX0_takeRow_14 rfl ?_
    refine lv_goto (tgt := 19) hx hb dX0_takeRow_15 (by decide) ?_
    exact w_19 _ _ _ _ _ _ _ hE hW hS hV (lv_sub hl [0, 1, 2] rfl)
theorem cx_X0_553 {β : Type} {vf : β ⊕ Nat → Option Value ⊕ Nat} (hvf : ∀ n, vf (.inr n) = .inr n) {N : Nat} {a1 : Int32} {a2 : Int32} {u uF : CS} {Vf : β ⊕ Nat} {K : Int32 → CS → Option ((β ⊕ Nat) × CS)} (C : CC p m c cc nL s args D dA RX0) (hlocks : meth.locks = false) (hnh : c.exceptionTable.isEmpty = true) (hW : wc_W D dA h u H) (hS : wc_S u) (hV : va_S (CA h) s.heap H locs) (ht : wc_T u 0 = some (.inl 0)) (hE : o_bx (fX0_takeRow N u a1 a2) K = some (Vf, uF)) (hR : 207 + 1 ≤ R.frames ∧ 8 + (5 + 11) + 6571 ≤ R.locals) (hf : cells + 0 ≤ R.cells ∧ slots + 0 ≤ R.slots) (d : decode cc pc = .ok (.invokevirtual 553, 3)) (hsz : ls.size = nL) (hro : (rest.map fun v => v.category).sum ≤ 8) (kk : ∀ (a : Int32) (u2 : CS) (H1 : Heap) (locs1 : List Loc), K a u2 = some (Vf, uF) → wc_W D dA h u2 H1 → wc_S u2 → va_S (CA h) s.heap H1 locs1 → W p l e R s m args below meth c H1 locs1 cells slots (MQX below (wc_Qx D dA h (vf Vf) uF) args s cells slots (CA h)) (F0 m (pc + 3) ls (.int a :: rest))) : W p l e R s m args below meth c H locs cells slots (MQX below (wc_Qx D dA h (vf Vf) uF) args s cells slots (CA h)) (F0 m pc ls (.int a2 :: .int a1 :: .ref (h + 0) :: rest)) :=
  wx_callX (f := fun r => some (.int r)) (As := [.int a1, .int a2]) (fun _ => rfl) wc_viN hvf C hlocks hnh hE (fun V u1 hc => kX0_takeRow hc) (cwV 2 C.1.2.2.2.2 (lw_V q1486 q1488 qs93 q166 q1489) rfl rfl rfl (by decide +kernel) hR) (wc_preV (q := (RX0, TX0, 27)) C.2 hW hS ht rfl _) rfl hsz hro d hf hV kk
theorem cy_X0_553 {ρ : Type} {r0 : ρ} {N : Nat} {a1 : Int32} {a2 : Int32} {u : CS} {K : Int32 → CS → Option ρ} {Kh : Nat → CS → Option ρ} (C : CC p m c cc nL s args D dA RX0) (hW : wc_W D dA h u H) (hS : wc_S u) (hV : va_S (CA h) s.heap H locs) (ht : wc_T u 0 = some (.inl 0)) (hE : o_by (fX0_takeRow N u a1 a2) K Kh = some r0) (hR : 207 + 1 ≤ R.frames ∧ 8 + (5 + 11) + 6571 ≤ R.locals) (hf : cells + 0 ≤ R.cells ∧ slots + 0 ≤ R.slots) (d : decode cc pc = .ok (.invokevirtual 553, 3)) (hsz : ls.size = nL) (hro : (rest.map fun v => v.category).sum ≤ 8) (kk : ∀ (a : Int32) (u2 : CS) (H1 : Heap) (locs1 : List Loc), K a u2 = some r0 → wc_W D dA h u2 H1 → wc_S u2 → va_S (CA h) s.heap H1 locs1 → W p l e R s m args below meth c H1 locs1 cells slots Q (F0 m (pc + 3) ls (.int a :: rest))) (kh : ∀ (n : Nat) (u2 : CS) (H1 : Heap) (locs1 : List Loc), Kh n u2 = some r0 → wc_W D dA h u2 H1 → wc_S u2 → va_S (CA h) s.heap H1 locs1 → ∃ (hpc : Nat) (cell : Cell), H1[h + n]? = some cell ∧ xh_go p l e R s m args below meth c locs1 cells slots (F0 m pc ls rest) (h + n) cell c.exceptionTable.toList hpc ∧ W p l e R s m args below meth c H1 locs1 cells slots Q (F0 m hpc ls [.ref (h + n)])) : W p l e R s m args below meth c H locs cells slots Q (F0 m pc ls (.int a2 :: .int a1 :: .ref (h + 0) :: rest)) :=
  wx_callH (f := fun r => some (.int r)) (As := [.int a1, .int a2]) (fun _ => rfl) wc_viN C hE (fun V u1 hc => kX0_takeRow hc) (cwV 2 C.1.2.2.2.2 (lw_V q1486 q1488 qs93 q166 q1489) rfl rfl rfl (by decide +kernel) hR) (wc_preV (q := (RX0, TX0, 27)) C.2 hW hS ht rfl _) rfl hsz hro d hf hV kk kh
end CG100
