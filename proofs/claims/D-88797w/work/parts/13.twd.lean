section TRG3
variable {p : Program} {l : Launch} {e : Env} {R : Room} {s : State} {m : MethodId} {args : Array Value} {below : List Frame} {meth : Method} {c : Code} {H : Heap} {locs : List Loc} {cells slots : Nat} {Q : State → Prop} {cc : ByteArray} {nL pc : Nat} {ls : Array Slot} {rest : List Value} {D : va_G} {dA : Nat → ClassId} {h : Nat} {H0 : Heap}
set_option maxHeartbeats 4000000 in
set_option maxRecDepth 100000 in
theorem kX7_of {l : Launch} {D : va_G} {dA : Nat → ClassId} {h N : Nat} {u u1 : TS} {a1 : Int32} {a2 : Int32} {r : Int32} (hE : fX7_of N u a1 a2 = some (r, u1)) : Met l yX7_of (ws_ yX7_of cX7_of 3 (some .int)) ({ frames := 72, cells := 0, slots := 0, locals := 2231 }) (va_Pc [.ref h, .int a1, .int a2] (mt_B D dA h u)) (mt_Q D dA h (some (.int r)) u1) 0 0 (TA h) := by
  refine mt_met (by decide) rfl rfl rfl ?_
  intro p e s m args below meth c ls C hr hlocks hT hS hl
  have hx := C.1.1
  have hb := C.1.2.1
  have w_60 : ∀ (u : TS) (y0 : Int32) (H : Heap) (locs : List Loc) (ls : Array Slot), fX7_of_60 N u y0 = some (r, u1) → TW D dA h u H → va_S (TA h) s.heap H locs → lv_has ls 3 [] → W p l e { frames := 72, cells := 0, slots := 0, locals := 2231 } s m args below meth c H locs 0 0 (MQ below (mt_Q D dA h (some (.int r)) u1) args s 0 0 (TA h)) (F0 m 60 ls [.int y0]) := by
    intro u y0 H locs ls hE hT hS hl
    unfold fX7_of_60 at hE
    exact mt_iret C hr hlocks hT hS hE dX7_of_60
  unfold fX7_of at hE
  refine lv_aload_n hx hb dX7_of_0 rfl (lv_at hl 0 rfl) ?_
  refine lv_iload_n hx hb dX7_of_1 rfl (lv_at hl 1 rfl) ?_
  obtain ⟨r2, u1, hc, hE⟩ := o_bd2_some hE
  refine tc_X7_isVillage C hT hS (kX7_isVillage hc) rfl rfl ⟨Nat.le_of_ble_eq_true rfl, Nat.le_of_ble_eq_true rfl⟩ ⟨Nat.le_refl 0, Nat.le_refl 0⟩ dX7_of_2 hl.1 (Nat.le_of_ble_eq_true rfl) (fun H locs hT hS => ?_)
  refine lv_if_ne (tgt := 15) hx hb dX7_of_5 (by decide) (fun c3 => ?_) (fun c3 => ?_)
  · have hE := z_f c3 hE
    refine lv_iload_n hx hb dX7_of_15 rfl (lv_at hl 2 rfl) ?_
    refine lv_iconst (v := (4 : Int32)) hx hb dX7_of_16 rfl ?_
    refine lv_icmp_ne (tgt := 28) hx hb dX7_of_17 (by decide) (fun c4 => ?_) (fun c4 => ?_)
    · have hE := z_f c4 hE
      refine lv_iload_n hx hb dX7_of_28 rfl (lv_at hl 2 rfl) ?_
      refine lv_iconst (v := (0 : Int32)) hx hb dX7_of_29 rfl ?_
      refine lv_iconst (v := (3 : Int32)) hx hb dX7_of_30 rfl ?_
      obtain ⟨r5, hc, hE⟩ := o_bd_some hE
      refine sc_X7_in C.1 (kX7_in hc) rfl rfl ⟨Nat.le_of_ble_eq_true rfl, Nat.le_of_ble_eq_true rfl⟩ ⟨Nat.le_refl 0, Nat.le_refl 0⟩ dX7_of_31 hl.1 (Nat.le_of_ble_eq_true rfl) ?_
      refine lv_if_eq (tgt := 54) hx hb dX7_of_34 (by decide) (fun c6 => ?_) (fun c6 => ?_)
      · have hE := z_t c6 hE
        refine lv_aload_n hx hb dX7_of_54 rfl (lv_at hl 0 rfl) ?_
        refine lv_bipush (v := (-7 : Int32)) hx hb dX7_of_55 rfl ?_
        obtain ⟨r8, u7, hc, hE⟩ := o_bd2_some hE
        refine tc_X7_refuse C hT hS (kX7_refuse hc) rfl rfl ⟨Nat.le_of_ble_eq_true rfl, Nat.le_of_ble_eq_true rfl⟩ ⟨Nat.le_refl 0, Nat.le_refl 0⟩ dX7_of_57 hl.1 (Nat.le_of_ble_eq_true rfl) (fun H locs hT hS => ?_)
        exact w_60 _ _ _ _ _ hE hT hS (lv_sub hl [] rfl)
      · have hE := z_f c6 hE
        refine lv_aload_n hx hb dX7_of_37 rfl (lv_at hl 0 rfl) ?_
        refine tg_s C hT dX7_of_38 ?_
        refine lv_sipush (v := (928 : Int32)) hx hb dX7_of_41 rfl ?_
        refine lv_iconst (v := (4 : Int32)) hx hb dX7_of_44 rfl ?_
        refine lv_iload_n hx hb dX7_of_45 rfl (lv_at hl 1 rfl) ?_
        refine lv_imul hx hb dX7_of_46 ?_
        refine lv_iadd hx hb dX7_of_47 ?_
        refine lv_iload_n hx hb dX7_of_48 rfl (lv_at hl 2 rfl) ?_
        refine lv_iadd hx hb dX7_of_49 ?_
        refine tl_s C hT hE dX7_of_50 (fun hE => ?_)
        refine z_nmi hE (fun v9 hE => ?_)
        refine lv_goto (tgt := 60) hx hb dX7_of_51 (by decide) ?_
        exact w_60 _ _ _ _ _ hE hT hS (lv_sub hl [] rfl)
    · have hE := z_t c4 hE
      refine lv_aload_n hx hb dX7_of_20 rfl (lv_at hl 0 rfl) ?_
      refine lv_iload_n hx hb dX7_of_21 rfl (lv_at hl 1 rfl) ?_
      obtain ⟨r11, u10, hc, hE⟩ := o_bd2_some hE
      refine tc_X7_mast C hT hS (kX7_mast hc) rfl rfl ⟨Nat.le_of_ble_eq_true rfl, Nat.le_of_ble_eq_true rfl⟩ ⟨Nat.le_refl 0, Nat.le_refl 0⟩ dX7_of_22 hl.1 (Nat.le_of_ble_eq_true rfl) (fun H locs hT hS => ?_)
      refine lv_goto (tgt := 60) hx hb dX7_of_25 (by decide) ?_
      exact w_60 _ _ _ _ _ hE hT hS (lv_sub hl [] rfl)
  · have hE := z_t c3 hE
    refine lv_aload_n hx hb dX7_of_8 rfl (lv_at hl 0 rfl) ?_
    refine lv_bipush (v := (-3 : Int32)) hx hb dX7_of_9 rfl ?_
    obtain ⟨r13, u12, hc, hE⟩ := o_bd2_some hE
    refine tc_X7_refuse C hT hS (kX7_refuse hc) rfl rfl ⟨Nat.le_of_ble_eq_true rfl, Nat.le_of_ble_eq_true rfl⟩ ⟨Nat.le_refl 0, Nat.le_refl 0⟩ dX7_of_11 hl.1 (Nat.le_of_ble_eq_true rfl) (fun H locs hT hS => ?_)
    exact mt_iret C hr hlocks hT hS hE dX7_of_14
theorem tc_X7_pc {a1 : Int32} {a2 : Int32} {r : Int32} {u u1 : TS} {rm : Room} (C : TC p m c cc nL s args D dA) (hT : TW D dA h u H) (hS : va_S (TA h) H0 H locs) (hM : Met l yX7_pc (ws_ yX7_pc cX7_pc 3 (some .int)) rm (va_Pc [.ref h, .int a1, .int a2] (mt_B D dA h u)) (mt_Q D dA h (some (.int r)) u1) 0 0 (TA h)) (hrc : rm.cells = 0) (hrs : rm.slots = 0) (hR : rm.frames + 1 ≤ R.frames ∧ 8 + (3 + 11) + rm.locals ≤ R.locals) (hf : cells + 0 ≤ R.cells ∧ slots + 0 ≤ R.slots) (d : decode cc pc = .ok (.invokevirtual 149, 3)) (hsz : ls.size = nL) (hro : (rest.map fun v => v.category).sum ≤ 8) (kk : ∀ (H1 : Heap) (locs1 : List Loc), TW D dA h u1 H1 → va_S (TA h) H0 H1 locs1 → W p l e R s m args below meth c H1 locs1 cells slots Q (F0 m (pc + 3) ls (.int r :: rest))) : W p l e R s m args below meth c H locs cells slots Q (F0 m pc ls (.int a2 :: .int a1 :: .ref h :: rest)) :=
  mt_call (v := (some (.int r))) (va_runV (As := [.int a1, .int a2]) (rest := rest) C.1 hM (cwV 2 C.1.2.2.2.2 (lw_V q1964 q1966 qs129 q177 q1967) rfl hrc hrs (by decide +kernel) hR) (mt_preV C.2 hT _) rfl rfl hsz rfl (lv_room hro) d hf) hS (fun _ z => z) (fun H1 locs1 a b _ _ => kk H1 locs1 a b)
set_option maxHeartbeats 4000000 in
set_option maxRecDepth 100000 in
theorem kX7_pc {l : Launch} {D : va_G} {dA : Nat → ClassId} {h N : Nat} {u u1 : TS} {a1 : Int32} {a2 : Int32} {r : Int32} (hE : fX7_pc N u a1 a2 = some (r, u1)) : Met l yX7_pc (ws_ yX7_pc cX7_pc 3 (some .int)) ({ frames := 0, cells := 0, slots := 0, locals := 0 }) (va_Pc [.ref h, .int a1, .int a2] (mt_B D dA h u)) (mt_Q D dA h (some (.int r)) u1) 0 0 (TA h) := by
  refine mt_met (by decide) rfl rfl rfl ?_
  intro p e s m args below meth c ls C hr hlocks hT hS hl
  have hx := C.1.1
  have hb := C.1.2.1
  unfold fX7_pc at hE
  refine lv_aload_n hx hb dX7_pc_0 rfl (lv_at hl 0 rfl) ?_
  refine tg_s C hT dX7_pc_1 ?_
  refine lv_sipush (v := (960 : Int32)) hx hb dX7_pc_4 rfl ?_
  refine lv_bipush (v := (6 : Int32)) hx hb dX7_pc_7 rfl ?_
  refine lv_iload_n hx hb dX7_pc_9 rfl (lv_at hl 1 rfl) ?_
  refine lv_imul hx hb dX7_pc_10 ?_
  refine lv_iadd hx hb dX7_pc_11 ?_
  refine lv_iload_n hx hb dX7_pc_12 rfl (lv_at hl 2 rfl) ?_
  refine lv_iadd hx hb dX7_pc_13 ?_
  refine tl_s C hT hE dX7_pc_14 (fun hE => ?_)
  refine z_nmi hE (fun v1 hE => ?_)
  exact mt_iret C hr hlocks hT hS hE dX7_pc_15
theorem tc_X7_isParcel {a1 : Int32} {r : Int32} {u u1 : TS} {rm : Room} (C : TC p m c cc nL s args D dA) (hT : TW D dA h u H) (hS : va_S (TA h) H0 H locs) (hM : Met l yX7_isParcel (ws_ yX7_isParcel cX7_isParcel 2 (some .boolean)) rm (va_Pc [.ref h, .int a1] (mt_B D dA h u)) (mt_Q D dA h (some (.int r)) u1) 0 0 (TA h)) (hrc : rm.cells = 0) (hrs : rm.slots = 0) (hR : rm.frames + 1 ≤ R.frames ∧ 8 + (2 + 11) + rm.locals ≤ R.locals) (hf : cells + 0 ≤ R.cells ∧ slots + 0 ≤ R.slots) (d : decode cc pc = .ok (.invokevirtual 156, 3)) (hsz : ls.size = nL) (hro : (rest.map fun v => v.category).sum ≤ 8) (kk : ∀ (H1 : Heap) (locs1 : List Loc), TW D dA h u1 H1 → va_S (TA h) H0 H1 locs1 → W p l e R s m args below meth c H1 locs1 cells slots Q (F0 m (pc + 3) ls (.int r :: rest))) : W p l e R s m args below meth c H locs cells slots Q (F0 m pc ls (.int a1 :: .ref h :: rest)) :=
  mt_call (v := (some (.int r))) (va_runV (As := [.int a1]) (rest := rest) C.1 hM (cwV 1 C.1.2.2.2.2 (lw_V q1960 q1962 qs128 q177 q1963) rfl hrc hrs (by decide +kernel) hR) (mt_preV C.2 hT _) rfl rfl hsz rfl (lv_room hro) d hf) hS (fun _ z => z) (fun H1 locs1 a b _ _ => kk H1 locs1 a b)
set_option maxHeartbeats 4000000 in
set_option maxRecDepth 100000 in
theorem kX7_isParcel {l : Launch} {D : va_G} {dA : Nat → ClassId} {h N : Nat} {u u1 : TS} {a1 : Int32} {r : Int32} (hE : fX7_isParcel N u a1 = some (r, u1)) : Met l yX7_isParcel (ws_ yX7_isParcel cX7_isParcel 2 (some .boolean)) ({ frames := 1, cells := 0, slots := 0, locals := 22 }) (va_Pc [.ref h, .int a1] (mt_B D dA h u)) (mt_Q D dA h (some (.int r)) u1) 0 0 (TA h) := by
  refine mt_met (by decide) rfl rfl rfl ?_
  intro p e s m args below meth c ls C hr hlocks hT hS hl
  have hx := C.1.1
  have hb := C.1.2.1
  have w_25 : ∀ (u : TS) (y0 : Int32) (H : Heap) (locs : List Loc) (ls : Array Slot), fX7_isParcel_25 N u y0 = some (r, u1) → TW D dA h u H → va_S (TA h) s.heap H locs → lv_has ls 2 [] → W p l e { frames := 1, cells := 0, slots := 0, locals := 22 } s m args below meth c H locs 0 0 (MQ below (mt_Q D dA h (some (.int r)) u1) args s 0 0 (TA h)) (F0 m 25 ls [.int y0]) := by
    intro u y0 H locs ls hE hT hS hl
    unfold fX7_isParcel_25 at hE
    obtain ⟨hb1, hE⟩ := o_bl_some hE
    exact mt_zret C hr hlocks hT hS hb1 hE dX7_isParcel_25
  have w_24 : ∀ (u : TS) (H : Heap) (locs : List Loc) (ls : Array Slot), fX7_isParcel_24 N u = some (r, u1) → TW D dA h u H → va_S (TA h) s.heap H locs → lv_has ls 2 [] → W p l e { frames := 1, cells := 0, slots := 0, locals := 22 } s m args below meth c H locs 0 0 (MQ below (mt_Q D dA h (some (.int r)) u1) args s 0 0 (TA h)) (F0 m 24 ls []) := by
    intro u H locs ls hE hT hS hl
    unfold fX7_isParcel_24 at hE
    refine lv_iconst (v := (0 : Int32)) hx hb dX7_isParcel_24 rfl ?_
    exact w_25 _ _ _ _ _ hE hT hS (lv_sub hl [] rfl)
  unfold fX7_isParcel at hE
  refine lv_iload_n hx hb dX7_isParcel_0 rfl (lv_at hl 1 rfl) ?_
  refine lv_iconst (v := (0 : Int32)) hx hb dX7_isParcel_1 rfl ?_
  refine lv_bipush (v := (59 : Int32)) hx hb dX7_isParcel_2 rfl ?_
  obtain ⟨r1, hc, hE⟩ := o_bd_some hE
  refine sc_X7_in C.1 (kX7_in hc) rfl rfl ⟨Nat.le_of_ble_eq_true rfl, Nat.le_of_ble_eq_true rfl⟩ ⟨Nat.le_refl 0, Nat.le_refl 0⟩ dX7_isParcel_4 hl.1 (Nat.le_of_ble_eq_true rfl) ?_
  refine lv_if_eq (tgt := 24) hx hb dX7_isParcel_7 (by decide) (fun c2 => ?_) (fun c2 => ?_)
  · have hE := z_t c2 hE
    exact w_24 _ _ _ _ hE hT hS (lv_sub hl [] rfl)
  · have hE := z_f c2 hE
    refine lv_aload_n hx hb dX7_isParcel_10 rfl (lv_at hl 0 rfl) ?_
    refine lv_iload_n hx hb dX7_isParcel_11 rfl (lv_at hl 1 rfl) ?_
    refine lv_iconst (v := (0 : Int32)) hx hb dX7_isParcel_12 rfl ?_
    obtain ⟨r4, u3, hc, hE⟩ := o_bd2_some hE
    refine tc_X7_pc C hT hS (kX7_pc hc) rfl rfl ⟨Nat.le_of_ble_eq_true rfl, Nat.le_of_ble_eq_true rfl⟩ ⟨Nat.le_refl 0, Nat.le_refl 0⟩ dX7_isParcel_13 hl.1 (Nat.le_of_ble_eq_true rfl) (fun H locs hT hS => ?_)
    refine lv_iconst (v := (1 : Int32)) hx hb dX7_isParcel_16 rfl ?_
    refine lv_icmp_ne (tgt := 24) hx hb dX7_isParcel_17 (by decide) (fun c5 => ?_) (fun c5 => ?_)
    · have hE := z_f c5 hE
      exact w_24 _ _ _ _ hE hT hS (lv_sub hl [] rfl)
    · have hE := z_t c5 hE
      refine lv_iconst (v := (1 : Int32)) hx hb dX7_isParcel_20 rfl ?_
      refine lv_goto (tgt := 25) hx hb dX7_isParcel_21 (by decide) ?_
      exact w_25 _ _ _ _ _ hE hT hS (lv_sub hl [] rfl)
set_option maxHeartbeats 4000000 in
set_option maxRecDepth 100000 in
theorem kX7_parcel {l : Launch} {D : va_G} {dA : Nat → ClassId} {h N : Nat} {u u1 : TS} {a1 : Int32} {a2 : Int32} {r : Int32} (hE : fX7_parcel N u a1 a2 = some (r, u1)) : Met l yX7_parcel (ws_ yX7_parcel cX7_parcel 3 (some .int)) ({ frames := 2, cells := 0, slots := 0, locals := 43 }) (va_Pc [.ref h, .int a1, .int a2] (mt_B D dA h u)) (mt_Q D dA h (some (.int r)) u1) 0 0 (TA h) := by
  refine mt_met (by decide) rfl rfl rfl ?_
  intro p e s m args below meth c ls C hr hlocks hT hS hl
  have hx := C.1.1
  have hb := C.1.2.1
  have w_41 : ∀ (u : TS) (y0 : Int32) (H : Heap) (locs : List Loc) (ls : Array Slot), fX7_parcel_41 N u y0 = some (r, u1) → TW D dA h u H → va_S (TA h) s.heap H locs → lv_has ls 3 [] → W p l e { frames := 2, cells := 0, slots := 0, locals := 43 } s m args below meth c H locs 0 0 (MQ below (mt_Q D dA h (some (.int r)) u1) args s 0 0 (TA h)) (F0 m 41 ls [.int y0]) := by
    intro u y0 H locs ls hE hT hS hl
    unfold fX7_parcel_41 at hE
    exact mt_iret C hr hlocks hT hS hE dX7_parcel_41
  unfold fX7_parcel at hE
  refine lv_aload_n hx hb dX7_parcel_0 rfl (lv_at hl 0 rfl) ?_
  refine lv_iload_n hx hb dX7_parcel_1 rfl (lv_at hl 1 rfl) ?_
  obtain ⟨r2, u1, hc, hE⟩ := o_bd2_some hE
  refine tc_X7_isParcel C hT hS (kX7_isParcel hc) rfl rfl ⟨Nat.le_of_ble_eq_true rfl, Nat.le_of_ble_eq_true rfl⟩ ⟨Nat.le_refl 0, Nat.le_refl 0⟩ dX7_parcel_2 hl.1 (Nat.le_of_ble_eq_true rfl) (fun H locs hT hS => ?_)
  refine lv_if_ne (tgt := 15) hx hb dX7_parcel_5 (by decide) (fun c3 => ?_) (fun c3 => ?_)
  · have hE := z_f c3 hE
    refine lv_iload_n hx hb dX7_parcel_15 rfl (lv_at hl 2 rfl) ?_
    refine lv_iconst (v := (0 : Int32)) hx hb dX7_parcel_16 rfl ?_
    refine lv_iconst (v := (4 : Int32)) hx hb dX7_parcel_17 rfl ?_
    obtain ⟨r4, hc, hE⟩ := o_bd_some hE
    refine sc_X7_in C.1 (kX7_in hc) rfl rfl ⟨Nat.le_of_ble_eq_true rfl, Nat.le_of_ble_eq_true rfl⟩ ⟨Nat.le_refl 0, Nat.le_refl 0⟩ dX7_parcel_18 hl.1 (Nat.le_of_ble_eq_true rfl) ?_
    refine lv_if_eq (tgt := 35) hx hb dX7_parcel_21 (by decide) (fun c5 => ?_) (fun c5 => ?_)
    · have hE := z_t c5 hE
      refine lv_aload_n hx hb dX7_parcel_35 rfl (lv_at hl 0 rfl) ?_
      refine lv_bipush (v := (-7 : Int32)) hx hb dX7_parcel_36 rfl ?_
      obtain ⟨r7, u6, hc, hE⟩ := o_bd2_some hE
      refine tc_X7_refuse C hT hS (kX7_refuse hc) rfl rfl ⟨Nat.le_of_ble_eq_true rfl, Nat.le_of_ble_eq_true rfl⟩ ⟨Nat.le_refl 0, Nat.le_refl 0⟩ dX7_parcel_38 hl.1 (Nat.le_of_ble_eq_true rfl) (fun H locs hT hS => ?_)
      exact w_41 _ _ _ _ _ hE hT hS (lv_sub hl [] rfl)
    · have hE := z_f c5 hE
      refine lv_aload_n hx hb dX7_parcel_24 rfl (lv_at hl 0 rfl) ?_
      refine lv_iload_n hx hb dX7_parcel_25 rfl (lv_at hl 1 rfl) ?_
      refine lv_iconst (v := (1 : Int32)) hx hb dX7_parcel_26 rfl ?_
      refine lv_iload_n hx hb dX7_parcel_27 rfl (lv_at hl 2 rfl) ?_
      refine lv_iadd hx hb dX7_parcel_28 ?_
      obtain ⟨r9, u8, hc, hE⟩ := o_bd2_some hE
      refine tc_X7_pc C hT hS (kX7_pc hc) rfl rfl ⟨Nat.le_of_ble_eq_true rfl, Nat.le_of_ble_eq_true rfl⟩ ⟨Nat.le_refl 0, Nat.le_refl 0⟩ dX7_parcel_29 hl.1 (Nat.le_of_ble_eq_true rfl) (fun H locs hT hS => ?_)
      refine lv_goto (tgt := 41) hx hb dX7_parcel_32 (by decide) ?_
      exact w_41 _ _ _ _ _ hE hT hS (lv_sub hl [] rfl)
  · have hE := z_t c3 hE
    refine lv_aload_n hx hb dX7_parcel_8 rfl (lv_at hl 0 rfl) ?_
    refine lv_bipush (v := (-3 : Int32)) hx hb dX7_parcel_9 rfl ?_
    obtain ⟨r11, u10, hc, hE⟩ := o_bd2_some hE
    refine tc_X7_refuse C hT hS (kX7_refuse hc) rfl rfl ⟨Nat.le_of_ble_eq_true rfl, Nat.le_of_ble_eq_true rfl⟩ ⟨Nat.le_refl 0, Nat.le_refl 0⟩ dX7_parcel_11 hl.1 (Nat.le_of_ble_eq_true rfl) (fun H locs hT hS => ?_)
    exact mt_iret C hr hlocks hT hS hE dX7_parcel_14
set_option maxHeartbeats 4000000 in
set_option maxRecDepth 100000 in
theorem kX7_sell {l : Launch} {D : va_G} {dA : Nat → ClassId} {h N : Nat} {u u1 : TS} {a1 : Int32} {a2 : Int32} {r : Int32} (hE : fX7_sell N u a1 a2 = some (r, u1)) : Met l yX7_sell (ws_ yX7_sell cX7_sell 5 (some .int)) ({ frames := 2, cells := 0, slots := 0, locals := 43 }) (va_Pc [.ref h, .int a1, .int a2] (mt_B D dA h u)) (mt_Q D dA h (some (.int r)) u1) 0 0 (TA h) := by
  refine mt_met (by decide) rfl rfl rfl ?_
  intro p e s m args below meth c ls C hr hlocks hT hS hl
  have hx := C.1.1
  have hb := C.1.2.1
  have w_69 : ∀ (u : TS) (H : Heap) (locs : List Loc) (ls : Array Slot), fX7_sell_69 N u = some (r, u1) → TW D dA h u H → va_S (TA h) s.heap H locs → lv_has ls 5 [(0, .ref h)] → W p l e { frames := 2, cells := 0, slots := 0, locals := 43 } s m args below meth c H locs 0 0 (MQ below (mt_Q D dA h (some (.int r)) u1) args s 0 0 (TA h)) (F0 m 69 ls []) := by
    intro u H locs ls hE hT hS hl
    unfold fX7_sell_69 at hE
    refine lv_aload_n hx hb dX7_sell_69 rfl (lv_at hl 0 rfl) ?_
    refine lv_bipush (v := (-7 : Int32)) hx hb dX7_sell_70 rfl ?_
    obtain ⟨r2, u1, hc, hE⟩ := o_bd2_some hE
    refine tc_X7_refuse C hT hS (kX7_refuse hc) rfl rfl ⟨Nat.le_of_ble_eq_true rfl, Nat.le_of_ble_eq_true rfl⟩ ⟨Nat.le_refl 0, Nat.le_refl 0⟩ dX7_sell_72 hl.1 (Nat.le_of_ble_eq_true rfl) (fun H locs hT hS => ?_)
    exact mt_iret C hr hlocks hT hS hE dX7_sell_75
  unfold fX7_sell at hE
  refine lv_aload_n hx hb dX7_sell_0 rfl (lv_at hl 0 rfl) ?_
  refine lv_iload_n hx hb dX7_sell_1 rfl (lv_at hl 1 rfl) ?_
  obtain ⟨r4, u3, hc, hE⟩ := o_bd2_some hE
  refine tc_X7_isParcel C hT hS (kX7_isParcel hc) rfl rfl ⟨Nat.le_of_ble_eq_true rfl, Nat.le_of_ble_eq_true rfl⟩ ⟨Nat.le_refl 0, Nat.le_refl 0⟩ dX7_sell_2 hl.1 (Nat.le_of_ble_eq_true rfl) (fun H locs hT hS => ?_)
  refine lv_if_ne (tgt := 15) hx hb dX7_sell_5 (by decide) (fun c5 => ?_) (fun c5 => ?_)
  · have hE := z_f c5 hE
    refine lv_aload_n hx hb dX7_sell_15 rfl (lv_at hl 0 rfl) ?_
    refine lv_iload_n hx hb dX7_sell_16 rfl (lv_at hl 1 rfl) ?_
    refine lv_iconst (v := (1 : Int32)) hx hb dX7_sell_17 rfl ?_
    obtain ⟨r7, u6, hc, hE⟩ := o_bd2_some hE
    refine tc_X7_pc C hT hS (kX7_pc hc) rfl rfl ⟨Nat.le_of_ble_eq_true rfl, Nat.le_of_ble_eq_true rfl⟩ ⟨Nat.le_refl 0, Nat.le_refl 0⟩ dX7_sell_18 hl.1 (Nat.le_of_ble_eq_true rfl) (fun H locs hT hS => ?_)
    refine lv_if_eq (tgt := 31) hx hb dX7_sell_21 (by decide) (fun c8 => ?_) (fun c8 => ?_)
    · have hE := z_t c8 hE
      refine lv_aload_n hx hb dX7_sell_31 rfl (lv_at hl 0 rfl) ?_
      refine tg_s C hT dX7_sell_32 ?_
      refine lv_sipush (v := (4530 : Int32)) hx hb dX7_sell_35 rfl ?_
      refine lv_aload_n hx hb dX7_sell_38 rfl (lv_at hl 0 rfl) ?_
      refine lv_aload_n hx hb dX7_sell_39 rfl (lv_at hl 0 rfl) ?_
      refine lv_iload_n hx hb dX7_sell_40 rfl (lv_at hl 1 rfl) ?_
      refine lv_iconst (v := (3 : Int32)) hx hb dX7_sell_41 rfl ?_
      obtain ⟨r10, u9, hc, hE⟩ := o_bd2_some hE
      refine tc_X7_pc C hT hS (kX7_pc hc) rfl rfl ⟨Nat.le_of_ble_eq_true rfl, Nat.le_of_ble_eq_true rfl⟩ ⟨Nat.le_refl 0, Nat.le_refl 0⟩ dX7_sell_42 hl.1 (Nat.le_of_ble_eq_true rfl) (fun H locs hT hS => ?_)
      refine lv_iconst (v := (0 : Int32)) hx hb dX7_sell_45 rfl ?_
      obtain ⟨r12, u11, hc, hE⟩ := o_bd2_some hE
      refine tc_X7_st C hT hS (kX7_st hc) rfl rfl ⟨Nat.le_of_ble_eq_true rfl, Nat.le_of_ble_eq_true rfl⟩ ⟨Nat.le_refl 0, Nat.le_refl 0⟩ dX7_sell_46 hl.1 (Nat.le_of_ble_eq_true rfl) (fun H locs hT hS => ?_)
      refine lv_iadd hx hb dX7_sell_49 ?_
      refine tl_s C hT hE dX7_sell_50 (fun hE => ?_)
      refine z_nmi hE (fun v13 hE => ?_)
      refine lv_istore_n (lv' := [(3, .int v13), (0, .ref h), (1, .int a1), (2, .int a2)]) hx hb dX7_sell_51 rfl hl (by decide) rfl (fun ls hl => ?_)
      refine lv_iload_n hx hb dX7_sell_52 rfl (lv_at hl 3 rfl) ?_
      refine lv_iconst (v := (0 : Int32)) hx hb dX7_sell_53 rfl ?_
      refine lv_sipush (v := (9999 : Int32)) hx hb dX7_sell_54 rfl ?_
      obtain ⟨r14, hc, hE⟩ := o_bd_some hE
      refine sc_X7_in C.1 (kX7_in hc) rfl rfl ⟨Nat.le_of_ble_eq_true rfl, Nat.le_of_ble_eq_true rfl⟩ ⟨Nat.le_refl 0, Nat.le_refl 0⟩ dX7_sell_57 hl.1 (Nat.le_of_ble_eq_true rfl) ?_
      refine lv_if_eq (tgt := 69) hx hb dX7_sell_60 (by decide) (fun c15 => ?_) (fun c15 => ?_)
      · have hE := z_t c15 hE
        exact w_69 _ _ _ _ hE hT hS (lv_sub hl [1] rfl)
      · have hE := z_f c15 hE
        refine lv_iload_n hx hb dX7_sell_63 rfl (lv_at hl 0 rfl) ?_
        refine lv_ldc (v := (999999 : Int32)) hx hb C.1.2.2.2.1 (C.1.2.2.2.2 _ q1629) dX7_sell_64 ?_
        refine lv_icmp_lt (tgt := 76) hx hb dX7_sell_66 (by decide) (fun c16 => ?_) (fun c16 => ?_)
        · have hE := z_t c16 hE
          refine lv_aload_n hx hb dX7_sell_76 rfl (lv_at hl 1 rfl) ?_
          refine lv_iload_n hx hb dX7_sell_77 rfl (lv_at hl 2 rfl) ?_
          refine lv_iconst (v := (2 : Int32)) hx hb dX7_sell_78 rfl ?_
          obtain ⟨r18, u17, hc, hE⟩ := o_bd2_some hE
          refine tc_X7_pc C hT hS (kX7_pc hc) rfl rfl ⟨Nat.le_of_ble_eq_true rfl, Nat.le_of_ble_eq_true rfl⟩ ⟨Nat.le_refl 0, Nat.le_refl 0⟩ dX7_sell_79 hl.1 (Nat.le_of_ble_eq_true rfl) (fun H locs hT hS => ?_)
          refine lv_istore (lv' := [(4, .int r18), (3, .int v13), (0, .ref h), (1, .int a1), (2, .int a2)]) hx hb dX7_sell_82 hl (by decide) rfl (fun ls hl => ?_)
          refine lv_aload_n hx hb dX7_sell_84 rfl (lv_at hl 2 rfl) ?_
          refine tg_books C hT dX7_sell_85 ?_
          refine lv_bipush (v := (7 : Int32)) hx hb dX7_sell_88 rfl ?_
          refine lv_dup2_11 hx hb dX7_sell_90 rfl rfl ?_
          refine tl_books C hT hE dX7_sell_91 (fun hE => ?_)
          refine z_nml hE (fun v19 hE => ?_)
          refine lv_iload hx hb dX7_sell_92 (lv_at hl 0 rfl) ?_
          refine lv_i2l hx hb dX7_sell_94 rfl ?_
          refine lv_iload_n hx hb dX7_sell_95 rfl (lv_at hl 4 rfl) ?_
          refine lv_iload_n hx hb dX7_sell_96 rfl (lv_at hl 1 rfl) ?_
          refine lv_bipush (v := (10 : Int32)) hx hb dX7_sell_97 rfl ?_
          refine lv_idiv hx hb dX7_sell_99 (by decide) ?_
          refine lv_isub hx hb dX7_sell_100 ?_
          refine lv_i2l hx hb dX7_sell_101 rfl ?_
          refine lv_lmul hx hb dX7_sell_102 ?_
          refine lv_ldc2 (v := (100 : Int64)) hx hb C.1.2.2.2.1 (C.1.2.2.2.2 _ q1808) dX7_sell_103 ?_
          refine lv_ldiv hx hb dX7_sell_106 (by decide) ?_
          refine lv_ladd hx hb dX7_sell_107 ?_
          refine ts_books C hT hS hE dX7_sell_108 (fun u20 H locs hE hT hS => ?_)
          refine lv_aload_n hx hb dX7_sell_109 rfl (lv_at hl 2 rfl) ?_
          refine tg_books C hT dX7_sell_110 ?_
          refine lv_iconst (v := (1 : Int32)) hx hb dX7_sell_113 rfl ?_
          refine lv_dup2_11 hx hb dX7_sell_114 rfl rfl ?_
          refine tl_books C hT hE dX7_sell_115 (fun hE => ?_)
          refine z_nml hE (fun v21 hE => ?_)
          refine lv_iload hx hb dX7_sell_116 (lv_at hl 0 rfl) ?_
          refine lv_i2l hx hb dX7_sell_118 rfl ?_
          refine lv_ladd hx hb dX7_sell_119 ?_
          refine ts_books C hT hS hE dX7_sell_120 (fun u22 H locs hE hT hS => ?_)
          refine lv_aload_n hx hb dX7_sell_121 rfl (lv_at hl 2 rfl) ?_
          refine tg_s C hT dX7_sell_122 ?_
          refine lv_sipush (v := (960 : Int32)) hx hb dX7_sell_125 rfl ?_
          refine lv_bipush (v := (6 : Int32)) hx hb dX7_sell_128 rfl ?_
          refine lv_iload_n hx hb dX7_sell_130 rfl (lv_at hl 3 rfl) ?_
          refine lv_imul hx hb dX7_sell_131 ?_
          refine lv_iadd hx hb dX7_sell_132 ?_
          refine lv_iconst (v := (0 : Int32)) hx hb dX7_sell_133 rfl ?_
          refine ts_s C hT hS hE dX7_sell_134 (fun u23 H locs hE hT hS => ?_)
          refine lv_iload hx hb dX7_sell_135 (lv_at hl 0 rfl) ?_
          exact mt_iret C hr hlocks hT hS hE dX7_sell_137
        · have hE := z_f c16 hE
          exact w_69 _ _ _ _ hE hT hS (lv_sub hl [1] rfl)
    · have hE := z_f c8 hE
      refine lv_aload_n hx hb dX7_sell_24 rfl (lv_at hl 0 rfl) ?_
      refine lv_bipush (v := (-5 : Int32)) hx hb dX7_sell_25 rfl ?_
      obtain ⟨r25, u24, hc, hE⟩ := o_bd2_some hE
      refine tc_X7_refuse C hT hS (kX7_refuse hc) rfl rfl ⟨Nat.le_of_ble_eq_true rfl, Nat.le_of_ble_eq_true rfl⟩ ⟨Nat.le_refl 0, Nat.le_refl 0⟩ dX7_sell_27 hl.1 (Nat.le_of_ble_eq_true rfl) (fun H locs hT hS => ?_)
      exact mt_iret C hr hlocks hT hS hE dX7_sell_30
  · have hE := z_t c5 hE
    refine lv_aload_n hx hb dX7_sell_8 rfl (lv_at hl 0 rfl) ?_
    refine lv_bipush (v := (-3 : Int32)) hx hb dX7_sell_9 rfl ?_
    obtain ⟨r27, u26, hc, hE⟩ := o_bd2_some hE
    refine tc_X7_refuse C hT hS (kX7_refuse hc) rfl rfl ⟨Nat.le_of_ble_eq_true rfl, Nat.le_of_ble_eq_true rfl⟩ ⟨Nat.le_refl 0, Nat.le_refl 0⟩ dX7_sell_11 hl.1 (Nat.le_of_ble_eq_true rfl) (fun H locs hT hS => ?_)
    exact mt_iret C hr hlocks hT hS hE dX7_sell_14
set_option maxHeartbeats 4000000 in
set_option maxRecDepth 100000 in
theorem kX7_fetch {l : Launch} {D : va_G} {dA : Nat → ClassId} {h N : Nat} {u u1 : TS} {a1 : Int32} {r : Int32} (hE : fX7_fetch N u a1 = some (r, u1)) : Met l yX7_fetch (ws_ yX7_fetch cX7_fetch 2 (some .int)) ({ frames := 2, cells := 0, slots := 0, locals := 43 }) (va_Pc [.ref h, .int a1] (mt_B D dA h u)) (mt_Q D dA h (some (.int r)) u1) 0 0 (TA h) := by
  refine mt_met (by decide) rfl rfl rfl ?_
  intro p e s m args below meth c ls C hr hlocks hT hS hl
  have hx := C.1.1
  have hb := C.1.2.1
  unfold fX7_fetch at hE
  refine lv_aload_n hx hb dX7_fetch_0 rfl (lv_at hl 0 rfl) ?_
  refine lv_iload_n hx hb dX7_fetch_1 rfl (lv_at hl 1 rfl) ?_
  obtain ⟨r2, u1, hc, hE⟩ := o_bd2_some hE
  refine tc_X7_isParcel C hT hS (kX7_isParcel hc) rfl rfl ⟨Nat.le_of_ble_eq_true rfl, Nat.le_of_ble_eq_true rfl⟩ ⟨Nat.le_refl 0, Nat.le_refl 0⟩ dX7_fetch_2 hl.1 (Nat.le_of_ble_eq_true rfl) (fun H locs hT hS => ?_)
  refine lv_if_ne (tgt := 15) hx hb dX7_fetch_5 (by decide) (fun c3 => ?_) (fun c3 => ?_)
  · have hE := z_f c3 hE
    refine lv_aload_n hx hb dX7_fetch_15 rfl (lv_at hl 0 rfl) ?_
    refine lv_iload_n hx hb dX7_fetch_16 rfl (lv_at hl 1 rfl) ?_
    refine lv_iconst (v := (1 : Int32)) hx hb dX7_fetch_17 rfl ?_
    obtain ⟨r5, u4, hc, hE⟩ := o_bd2_some hE
    refine tc_X7_pc C hT hS (kX7_pc hc) rfl rfl ⟨Nat.le_of_ble_eq_true rfl, Nat.le_of_ble_eq_true rfl⟩ ⟨Nat.le_refl 0, Nat.le_refl 0⟩ dX7_fetch_18 hl.1 (Nat.le_of_ble_eq_true rfl) (fun H locs hT hS => ?_)
    refine lv_iconst (v := (1 : Int32)) hx hb dX7_fetch_21 rfl ?_
    refine lv_icmp_eq (tgt := 32) hx hb dX7_fetch_22 (by decide) (fun c6 => ?_) (fun c6 => ?_)
    · have hE := z_t c6 hE
      refine lv_aload_n hx hb dX7_fetch_32 rfl (lv_at hl 0 rfl) ?_
      refine tg_books C hT dX7_fetch_33 ?_
      refine lv_iconst (v := (2 : Int32)) hx hb dX7_fetch_36 rfl ?_
      refine lv_dup2_11 hx hb dX7_fetch_37 rfl rfl ?_
      refine tl_books C hT hE dX7_fetch_38 (fun hE => ?_)
      refine z_nml hE (fun v7 hE => ?_)
      refine lv_aload_n hx hb dX7_fetch_39 rfl (lv_at hl 0 rfl) ?_
      refine lv_iload_n hx hb dX7_fetch_40 rfl (lv_at hl 1 rfl) ?_
      refine lv_iconst (v := (2 : Int32)) hx hb dX7_fetch_41 rfl ?_
      obtain ⟨r9, u8, hc, hE⟩ := o_bd2_some hE
      refine tc_X7_pc C hT hS (kX7_pc hc) rfl rfl ⟨Nat.le_of_ble_eq_true rfl, Nat.le_of_ble_eq_true rfl⟩ ⟨Nat.le_refl 0, Nat.le_refl 0⟩ dX7_fetch_42 hl.1 (Nat.le_of_ble_eq_true rfl) (fun H locs hT hS => ?_)
      refine lv_i2l hx hb dX7_fetch_45 rfl ?_
      refine lv_ladd hx hb dX7_fetch_46 ?_
      refine ts_books C hT hS hE dX7_fetch_47 (fun u10 H locs hE hT hS => ?_)
      refine lv_aload_n hx hb dX7_fetch_48 rfl (lv_at hl 0 rfl) ?_
      refine tg_s C hT dX7_fetch_49 ?_
      refine lv_sipush (v := (960 : Int32)) hx hb dX7_fetch_52 rfl ?_
      refine lv_bipush (v := (6 : Int32)) hx hb dX7_fetch_55 rfl ?_
      refine lv_iload_n hx hb dX7_fetch_57 rfl (lv_at hl 1 rfl) ?_
      refine lv_imul hx hb dX7_fetch_58 ?_
      refine lv_iadd hx hb dX7_fetch_59 ?_
      refine lv_iconst (v := (0 : Int32)) hx hb dX7_fetch_60 rfl ?_
      refine ts_s C hT hS hE dX7_fetch_61 (fun u11 H locs hE hT hS => ?_)
      refine lv_aload_n hx hb dX7_fetch_62 rfl (lv_at hl 0 rfl) ?_
      refine lv_iload_n hx hb dX7_fetch_63 rfl (lv_at hl 1 rfl) ?_
      refine lv_iconst (v := (2 : Int32)) hx hb dX7_fetch_64 rfl ?_
      obtain ⟨r13, u12, hc, hE⟩ := o_bd2_some hE
      refine tc_X7_pc C hT hS (kX7_pc hc) rfl rfl ⟨Nat.le_of_ble_eq_true rfl, Nat.le_of_ble_eq_true rfl⟩ ⟨Nat.le_refl 0, Nat.le_refl 0⟩ dX7_fetch_65 hl.1 (Nat.le_of_ble_eq_true rfl) (fun H locs hT hS => ?_)
      exact mt_iret C hr hlocks hT hS hE dX7_fetch_68
    · have hE := z_f c6 hE
      refine lv_aload_n hx hb dX7_fetch_25 rfl (lv_at hl 0 rfl) ?_
      refine lv_bipush (v := (-5 : Int32)) hx hb dX7_fetch_26 rfl ?_
      obtain ⟨r15, u14, hc, hE⟩ := o_bd2_some hE
      refine tc_X7_refuse C hT hS (kX7_refuse hc) rfl rfl ⟨Nat.le_of_ble_eq_true rfl, Nat.le_of_ble_eq_true rfl⟩ ⟨Nat.le_refl 0, Nat.le_refl 0⟩ dX7_fetch_28 hl.1 (Nat.le_of_ble_eq_true rfl) (fun H locs hT hS => ?_)
      exact mt_iret C hr hlocks hT hS hE dX7_fetch_31
  · have hE := z_t c3 hE
    refine lv_aload_n hx hb dX7_fetch_8 rfl (lv_at hl 0 rfl) ?_
    refine lv_bipush (v := (-3 : Int32)) hx hb dX7_fetch_9 rfl ?_
    obtain ⟨r17, u16, hc, hE⟩ := o_bd2_some hE
    refine tc_X7_refuse C hT hS (kX7_refuse hc) rfl rfl ⟨Nat.le_of_ble_eq_true rfl, Nat.le_of_ble_eq_true rfl⟩ ⟨Nat.le_refl 0, Nat.le_refl 0⟩ dX7_fetch_11 hl.1 (Nat.le_of_ble_eq_true rfl) (fun H locs hT hS => ?_)
    exact mt_iret C hr hlocks hT hS hE dX7_fetch_14
theorem tc_X7_grown {a1 : Int32} {a2 : Int32} {r : Int32} {u u1 : TS} {rm : Room} (C : TC p m c cc nL s args D dA) (hT : TW D dA h u H) (hS : va_S (TA h) H0 H locs) (hM : Met l yX7_grown (ws_ yX7_grown cX7_grown 5 (some .int)) rm (va_Pc [.ref h, .int a1, .int a2] (mt_B D dA h u)) (mt_Q D dA h (some (.int r)) u1) 0 0 (TA h)) (hrc : rm.cells = 0) (hrs : rm.slots = 0) (hR : rm.frames + 1 ≤ R.frames ∧ 8 + (5 + 11) + rm.locals ≤ R.locals) (hf : cells + 0 ≤ R.cells ∧ slots + 0 ≤ R.slots) (d : decode cc pc = .ok (.invokevirtual 397, 3)) (hsz : ls.size = nL) (hro : (rest.map fun v => v.category).sum ≤ 8) (kk : ∀ (H1 : Heap) (locs1 : List Loc), TW D dA h u1 H1 → va_S (TA h) H0 H1 locs1 → W p l e R s m args below meth c H1 locs1 cells slots Q (F0 m (pc + 3) ls (.int r :: rest))) : W p l e R s m args below meth c H locs cells slots Q (F0 m pc ls (.int a2 :: .int a1 :: .ref h :: rest)) :=
  mt_call (v := (some (.int r))) (va_runV (As := [.int a1, .int a2]) (rest := rest) C.1 hM (cwV 2 C.1.2.2.2.2 (lw_V q1984 q1986 qs131 q177 q1987) rfl hrc hrs (by decide +kernel) hR) (mt_preV C.2 hT _) rfl rfl hsz rfl (lv_room hro) d hf) hS (fun _ z => z) (fun H1 locs1 a b _ _ => kk H1 locs1 a b)
set_option maxHeartbeats 4000000 in
set_option maxRecDepth 100000 in
theorem kX7_grown {l : Launch} {D : va_G} {dA : Nat → ClassId} {h N : Nat} {u u1 : TS} {a1 : Int32} {a2 : Int32} {r : Int32} (hE : fX7_grown N u a1 a2 = some (r, u1)) : Met l yX7_grown (ws_ yX7_grown cX7_grown 5 (some .int)) ({ frames := 1, cells := 0, slots := 0, locals := 28 }) (va_Pc [.ref h, .int a1, .int a2] (mt_B D dA h u)) (mt_Q D dA h (some (.int r)) u1) 0 0 (TA h) := by
  refine mt_met (by decide) rfl rfl rfl ?_
  intro p e s m args below meth c ls C hr hlocks hT hS hl
  have hx := C.1.1
  have hb := C.1.2.1
  have w_75 : ∀ (u : TS) (H : Heap) (locs : List Loc) (ls : Array Slot), fX7_grown_75 N u = some (r, u1) → TW D dA h u H → va_S (TA h) s.heap H locs → lv_has ls 5 [] → W p l e { frames := 1, cells := 0, slots := 0, locals := 28 } s m args below meth c H locs 0 0 (MQ below (mt_Q D dA h (some (.int r)) u1) args s 0 0 (TA h)) (F0 m 75 ls []) := by
    intro u H locs ls hE hT hS hl
    unfold fX7_grown_75 at hE
    refine lv_iconst (v := (0 : Int32)) hx hb dX7_grown_75 rfl ?_
    exact mt_iret C hr hlocks hT hS hE dX7_grown_76
  unfold fX7_grown at hE
  refine lv_sipush (v := (3570 : Int32)) hx hb dX7_grown_0 rfl ?_
  refine lv_bipush (v := (40 : Int32)) hx hb dX7_grown_3 rfl ?_
  refine lv_iload_n hx hb dX7_grown_5 rfl (lv_at hl 1 rfl) ?_
  refine lv_imul hx hb dX7_grown_6 ?_
  refine lv_iadd hx hb dX7_grown_7 ?_
  refine lv_iconst (v := (5 : Int32)) hx hb dX7_grown_8 rfl ?_
  refine lv_iload_n hx hb dX7_grown_9 rfl (lv_at hl 2 rfl) ?_
  refine lv_imul hx hb dX7_grown_10 ?_
  refine lv_iadd hx hb dX7_grown_11 ?_
  refine z_nmi hE (fun z1 hE => ?_)
  refine lv_istore_n (lv' := [(3, .int z1), (0, .ref h), (1, .int a1), (2, .int a2)]) hx hb dX7_grown_12 rfl hl (by decide) rfl (fun ls hl => ?_)
  refine lv_aload_n hx hb dX7_grown_13 rfl (lv_at hl 1 rfl) ?_
  refine lv_iload_n hx hb dX7_grown_14 rfl (lv_at hl 2 rfl) ?_
  refine lv_iconst (v := (2 : Int32)) hx hb dX7_grown_15 rfl ?_
  obtain ⟨r3, u2, hc, hE⟩ := o_bd2_some hE
  refine tc_X7_st C hT hS (kX7_st hc) rfl rfl ⟨Nat.le_of_ble_eq_true rfl, Nat.le_of_ble_eq_true rfl⟩ ⟨Nat.le_refl 0, Nat.le_refl 0⟩ dX7_grown_16 hl.1 (Nat.le_of_ble_eq_true rfl) (fun H locs hT hS => ?_)
  refine lv_aload_n hx hb dX7_grown_19 rfl (lv_at hl 1 rfl) ?_
  refine lv_iload_n hx hb dX7_grown_20 rfl (lv_at hl 2 rfl) ?_
  refine lv_iconst (v := (1 : Int32)) hx hb dX7_grown_21 rfl ?_
  obtain ⟨r5, u4, hc, hE⟩ := o_bd2_some hE
  refine tc_X7_st C hT hS (kX7_st hc) rfl rfl ⟨Nat.le_of_ble_eq_true rfl, Nat.le_of_ble_eq_true rfl⟩ ⟨Nat.le_refl 0, Nat.le_refl 0⟩ dX7_grown_22 hl.1 (Nat.le_of_ble_eq_true rfl) (fun H locs hT hS => ?_)
  refine lv_aload_n hx hb dX7_grown_25 rfl (lv_at hl 1 rfl) ?_
  refine tg_s C hT dX7_grown_26 ?_
  refine lv_iload_n hx hb dX7_grown_29 rfl (lv_at hl 0 rfl) ?_
  refine lv_iconst (v := (1 : Int32)) hx hb dX7_grown_30 rfl ?_
  refine lv_iadd hx hb dX7_grown_31 ?_
  refine tl_s C hT hE dX7_grown_32 (fun hE => ?_)
  refine z_nmi hE (fun v6 hE => ?_)
  obtain ⟨r7, hc, hE⟩ := o_bd_some hE
  refine sc_X7_feetOf C.1 (kX7_feetOf hc) rfl rfl ⟨Nat.le_of_ble_eq_true rfl, Nat.le_of_ble_eq_true rfl⟩ ⟨Nat.le_refl 0, Nat.le_refl 0⟩ dX7_grown_33 hl.1 (Nat.le_of_ble_eq_true rfl) ?_
  refine lv_istore (lv' := [(4, .int r7), (3, .int z1), (0, .ref h), (1, .int a1), (2, .int a2)]) hx hb dX7_grown_36 hl (by decide) rfl (fun ls hl => ?_)
  refine lv_iload hx hb dX7_grown_38 (lv_at hl 0 rfl) ?_
  refine lv_if_eq (tgt := 75) hx hb dX7_grown_40 (by decide) (fun c8 => ?_) (fun c8 => ?_)
  · have hE := z_t c8 hE
    exact w_75 _ _ _ _ hE hT hS (lv_sub hl [] rfl)
  · have hE := z_f c8 hE
    refine lv_aload_n hx hb dX7_grown_43 rfl (lv_at hl 2 rfl) ?_
    refine lv_iload_n hx hb dX7_grown_44 rfl (lv_at hl 3 rfl) ?_
    refine lv_bipush (v := (9 : Int32)) hx hb dX7_grown_45 rfl ?_
    obtain ⟨r10, u9, hc, hE⟩ := o_bd2_some hE
    refine tc_X7_st C hT hS (kX7_st hc) rfl rfl ⟨Nat.le_of_ble_eq_true rfl, Nat.le_of_ble_eq_true rfl⟩ ⟨Nat.le_refl 0, Nat.le_refl 0⟩ dX7_grown_47 hl.1 (Nat.le_of_ble_eq_true rfl) (fun H locs hT hS => ?_)
    refine lv_aload_n hx hb dX7_grown_50 rfl (lv_at hl 2 rfl) ?_
    refine tg_s C hT dX7_grown_51 ?_
    refine lv_iload_n hx hb dX7_grown_54 rfl (lv_at hl 1 rfl) ?_
    refine tl_s C hT hE dX7_grown_55 (fun hE => ?_)
    refine z_nmi hE (fun v11 hE => ?_)
    refine lv_icmp_ge (tgt := 75) hx hb dX7_grown_56 (by decide) (fun c12 => ?_) (fun c12 => ?_)
    · have hE := z_t c12 hE
      exact w_75 _ _ _ _ hE hT hS (lv_sub hl [] rfl)
    · have hE := z_f c12 hE
      refine lv_aload_n hx hb dX7_grown_59 rfl (lv_at hl 2 rfl) ?_
      refine lv_iload_n hx hb dX7_grown_60 rfl (lv_at hl 3 rfl) ?_
      refine lv_bipush (v := (10 : Int32)) hx hb dX7_grown_61 rfl ?_
      obtain ⟨r14, u13, hc, hE⟩ := o_bd2_some hE
      refine tc_X7_st C hT hS (kX7_st hc) rfl rfl ⟨Nat.le_of_ble_eq_true rfl, Nat.le_of_ble_eq_true rfl⟩ ⟨Nat.le_refl 0, Nat.le_refl 0⟩ dX7_grown_63 hl.1 (Nat.le_of_ble_eq_true rfl) (fun H locs hT hS => ?_)
      refine lv_aload_n hx hb dX7_grown_66 rfl (lv_at hl 2 rfl) ?_
      refine tg_s C hT dX7_grown_67 ?_
      refine lv_iload_n hx hb dX7_grown_70 rfl (lv_at hl 1 rfl) ?_
      refine tl_s C hT hE dX7_grown_71 (fun hE => ?_)
      refine z_nmi hE (fun v15 hE => ?_)
      refine lv_icmp_lt (tgt := 77) hx hb dX7_grown_72 (by decide) (fun c16 => ?_) (fun c16 => ?_)
      · have hE := z_t c16 hE
        refine lv_aload_n hx hb dX7_grown_77 rfl (lv_at hl 2 rfl) ?_
        refine tg_s C hT dX7_grown_78 ?_
        refine lv_iload_n hx hb dX7_grown_81 rfl (lv_at hl 1 rfl) ?_
        refine lv_iconst (v := (3 : Int32)) hx hb dX7_grown_82 rfl ?_
        refine lv_iadd hx hb dX7_grown_83 ?_
        refine tl_s C hT hE dX7_grown_84 (fun hE => ?_)
        refine z_nmi hE (fun v17 hE => ?_)
        refine lv_i2l hx hb dX7_grown_85 rfl ?_
        refine lv_aload_n hx hb dX7_grown_86 rfl (lv_at hl 2 rfl) ?_
        refine lv_iload_n hx hb dX7_grown_87 rfl (lv_at hl 3 rfl) ?_
        refine lv_iconst (v := (2 : Int32)) hx hb dX7_grown_88 rfl ?_
        obtain ⟨r19, u18, hc, hE⟩ := o_bd2_some hE
        refine tc_X7_st C hT hS (kX7_st hc) rfl rfl ⟨Nat.le_of_ble_eq_true rfl, Nat.le_of_ble_eq_true rfl⟩ ⟨Nat.le_refl 0, Nat.le_refl 0⟩ dX7_grown_89 hl.1 (Nat.le_of_ble_eq_true rfl) (fun H locs hT hS => ?_)
        refine lv_aload_n hx hb dX7_grown_92 rfl (lv_at hl 2 rfl) ?_
        refine lv_iload_n hx hb dX7_grown_93 rfl (lv_at hl 3 rfl) ?_
        refine lv_iconst (v := (1 : Int32)) hx hb dX7_grown_94 rfl ?_
        obtain ⟨r21, u20, hc, hE⟩ := o_bd2_some hE
        refine tc_X7_st C hT hS (kX7_st hc) rfl rfl ⟨Nat.le_of_ble_eq_true rfl, Nat.le_of_ble_eq_true rfl⟩ ⟨Nat.le_refl 0, Nat.le_refl 0⟩ dX7_grown_95 hl.1 (Nat.le_of_ble_eq_true rfl) (fun H locs hT hS => ?_)
        refine lv_aload_n hx hb dX7_grown_98 rfl (lv_at hl 2 rfl) ?_
        refine lv_iload_n hx hb dX7_grown_99 rfl (lv_at hl 3 rfl) ?_
        refine lv_iconst (v := (5 : Int32)) hx hb dX7_grown_100 rfl ?_
        obtain ⟨r23, u22, hc, hE⟩ := o_bd2_some hE
        refine tc_X7_st C hT hS (kX7_st hc) rfl rfl ⟨Nat.le_of_ble_eq_true rfl, Nat.le_of_ble_eq_true rfl⟩ ⟨Nat.le_refl 0, Nat.le_refl 0⟩ dX7_grown_101 hl.1 (Nat.le_of_ble_eq_true rfl) (fun H locs hT hS => ?_)
        obtain ⟨r24, hc, hE⟩ := o_bd_some hE
        refine sc_X7_feetOf C.1 (kX7_feetOf hc) rfl rfl ⟨Nat.le_of_ble_eq_true rfl, Nat.le_of_ble_eq_true rfl⟩ ⟨Nat.le_refl 0, Nat.le_refl 0⟩ dX7_grown_104 hl.1 (Nat.le_of_ble_eq_true rfl) ?_
        refine lv_i2l hx hb dX7_grown_107 rfl ?_
        refine lv_lmul hx hb dX7_grown_108 ?_
        refine lv_iload hx hb dX7_grown_109 (lv_at hl 0 rfl) ?_
        refine lv_i2l hx hb dX7_grown_111 rfl ?_
        obtain ⟨hz, hE⟩ := o_nzl_some hE
        refine lv_ldiv hx hb dX7_grown_112 hz ?_
        refine lv_l2i hx hb dX7_grown_113 rfl ?_
        exact mt_iret C hr hlocks hT hS hE dX7_grown_114
      · have hE := z_f c16 hE
        exact w_75 _ _ _ _ hE hT hS (lv_sub hl [] rfl)
theorem tc_X7_lackOf {a1 : Int32} {r : Int32} {u u1 : TS} {rm : Room} (C : TC p m c cc nL s args D dA) (hT : TW D dA h u H) (hS : va_S (TA h) H0 H locs) (hM : Met l yX7_lackOf (ws_ yX7_lackOf cX7_lackOf 3 (some .int)) rm (va_Pc [.ref h, .int a1] (mt_B D dA h u)) (mt_Q D dA h (some (.int r)) u1) 0 0 (TA h)) (hrc : rm.cells = 0) (hrs : rm.slots = 0) (hR : rm.frames + 1 ≤ R.frames ∧ 8 + (3 + 11) + rm.locals ≤ R.locals) (hf : cells + 0 ≤ R.cells ∧ slots + 0 ≤ R.slots) (d : decode cc pc = .ok (.invokevirtual 159, 3)) (hsz : ls.size = nL) (hro : (rest.map fun v => v.category).sum ≤ 8) (kk : ∀ (H1 : Heap) (locs1 : List Loc), TW D dA h u1 H1 → va_S (TA h) H0 H1 locs1 → W p l e R s m args below meth c H1 locs1 cells slots Q (F0 m (pc + 3) ls (.int r :: rest))) : W p l e R s m args below meth c H locs cells slots Q (F0 m pc ls (.int a1 :: .ref h :: rest)) :=
  mt_call (v := (some (.int r))) (va_runV (As := [.int a1]) (rest := rest) C.1 hM (cwV 1 C.1.2.2.2.2 (lw_V q1980 q1982 qs130 q177 q1983) rfl hrc hrs (by decide +kernel) hR) (mt_preV C.2 hT _) rfl rfl hsz rfl (lv_room hro) d hf) hS (fun _ z => z) (fun H1 locs1 a b _ _ => kk H1 locs1 a b)
set_option maxHeartbeats 4000000 in
set_option maxRecDepth 100000 in
theorem kX7_lackOf {l : Launch} {D : va_G} {dA : Nat → ClassId} {h N : Nat} {u u1 : TS} {a1 : Int32} {r : Int32} (hE : fX7_lackOf N u a1 = some (r, u1)) : Met l yX7_lackOf (ws_ yX7_lackOf cX7_lackOf 3 (some .int)) ({ frames := 2, cells := 0, slots := 0, locals := 52 }) (va_Pc [.ref h, .int a1] (mt_B D dA h u)) (mt_Q D dA h (some (.int r)) u1) 0 0 (TA h) := by
  refine mt_met (by decide) rfl rfl rfl ?_
  intro p e s m args below meth c ls C hr hlocks hT hS hl
  have hx := C.1.1
  have hb := C.1.2.1
  have w_52 : ∀ (u : TS) (y0 : Int32) (H : Heap) (locs : List Loc) (ls : Array Slot), fX7_lackOf_52 N u y0 = some (r, u1) → TW D dA h u H → va_S (TA h) s.heap H locs → lv_has ls 3 [] → W p l e { frames := 2, cells := 0, slots := 0, locals := 52 } s m args below meth c H locs 0 0 (MQ below (mt_Q D dA h (some (.int r)) u1) args s 0 0 (TA h)) (F0 m 52 ls [.int y0]) := by
    intro u y0 H locs ls hE hT hS hl
    unfold fX7_lackOf_52 at hE
    exact mt_iret C hr hlocks hT hS hE dX7_lackOf_52
  unfold fX7_lackOf at hE
  refine lv_aload_n hx hb dX7_lackOf_0 rfl (lv_at hl 0 rfl) ?_
  refine lv_iload_n hx hb dX7_lackOf_1 rfl (lv_at hl 1 rfl) ?_
  refine lv_aload_n hx hb dX7_lackOf_2 rfl (lv_at hl 0 rfl) ?_
  refine lv_iload_n hx hb dX7_lackOf_3 rfl (lv_at hl 1 rfl) ?_
  refine lv_bipush (v := (11 : Int32)) hx hb dX7_lackOf_4 rfl ?_
  obtain ⟨r2, u1, hc, hE⟩ := o_bd2_some hE
  refine tc_X7_st C hT hS (kX7_st hc) rfl rfl ⟨Nat.le_of_ble_eq_true rfl, Nat.le_of_ble_eq_true rfl⟩ ⟨Nat.le_refl 0, Nat.le_refl 0⟩ dX7_lackOf_6 hl.1 (Nat.le_of_ble_eq_true rfl) (fun H locs hT hS => ?_)
  refine lv_iconst (v := (2 : Int32)) hx hb dX7_lackOf_9 rfl ?_
  refine lv_isub hx hb dX7_lackOf_10 ?_
  obtain ⟨r4, u3, hc, hE⟩ := o_bd2_some hE
  refine tc_X7_grown C hT hS (kX7_grown hc) rfl rfl ⟨Nat.le_of_ble_eq_true rfl, Nat.le_of_ble_eq_true rfl⟩ ⟨Nat.le_refl 0, Nat.le_refl 0⟩ dX7_lackOf_11 hl.1 (Nat.le_of_ble_eq_true rfl) (fun H locs hT hS => ?_)
  refine lv_aload_n hx hb dX7_lackOf_14 rfl (lv_at hl 0 rfl) ?_
  refine tg_s C hT dX7_lackOf_15 ?_
  refine lv_sipush (v := (3570 : Int32)) hx hb dX7_lackOf_18 rfl ?_
  refine lv_bipush (v := (40 : Int32)) hx hb dX7_lackOf_21 rfl ?_
  refine lv_iload_n hx hb dX7_lackOf_23 rfl (lv_at hl 1 rfl) ?_
  refine lv_imul hx hb dX7_lackOf_24 ?_
  refine lv_iadd hx hb dX7_lackOf_25 ?_
  refine lv_iconst (v := (5 : Int32)) hx hb dX7_lackOf_26 rfl ?_
  refine lv_aload_n hx hb dX7_lackOf_27 rfl (lv_at hl 0 rfl) ?_
  refine lv_iload_n hx hb dX7_lackOf_28 rfl (lv_at hl 1 rfl) ?_
  refine lv_bipush (v := (11 : Int32)) hx hb dX7_lackOf_29 rfl ?_
  obtain ⟨r6, u5, hc, hE⟩ := o_bd2_some hE
  refine tc_X7_st C hT hS (kX7_st hc) rfl rfl ⟨Nat.le_of_ble_eq_true rfl, Nat.le_of_ble_eq_true rfl⟩ ⟨Nat.le_refl 0, Nat.le_refl 0⟩ dX7_lackOf_31 hl.1 (Nat.le_of_ble_eq_true rfl) (fun H locs hT hS => ?_)
  refine lv_iconst (v := (1 : Int32)) hx hb dX7_lackOf_34 rfl ?_
  refine lv_isub hx hb dX7_lackOf_35 ?_
  refine lv_imul hx hb dX7_lackOf_36 ?_
  refine lv_iadd hx hb dX7_lackOf_37 ?_
  refine lv_iconst (v := (4 : Int32)) hx hb dX7_lackOf_38 rfl ?_
  refine lv_iadd hx hb dX7_lackOf_39 ?_
  refine tl_s C hT hE dX7_lackOf_40 (fun hE => ?_)
  refine z_nmi hE (fun v7 hE => ?_)
  refine lv_isub hx hb dX7_lackOf_41 ?_
  refine z_nmi hE (fun z8 hE => ?_)
  refine lv_istore_n (lv' := [(2, .int z8), (0, .ref h), (1, .int a1)]) hx hb dX7_lackOf_42 rfl hl (by decide) rfl (fun ls hl => ?_)
  refine lv_iload_n hx hb dX7_lackOf_43 rfl (lv_at hl 0 rfl) ?_
  refine lv_if_ge (tgt := 51) hx hb dX7_lackOf_44 (by decide) (fun c9 => ?_) (fun c9 => ?_)
  · have hE := z_t c9 hE
    refine lv_iload_n hx hb dX7_lackOf_51 rfl (lv_at hl 0 rfl) ?_
    exact w_52 _ _ _ _ _ hE hT hS (lv_sub hl [] rfl)
  · have hE := z_f c9 hE
    refine lv_iconst (v := (0 : Int32)) hx hb dX7_lackOf_47 rfl ?_
    refine lv_goto (tgt := 52) hx hb dX7_lackOf_48 (by decide) ?_
    exact w_52 _ _ _ _ _ hE hT hS (lv_sub hl [] rfl)
theorem tc_X7_free {r : Int32} {u u1 : TS} {rm : Room} (C : TC p m c cc nL s args D dA) (hT : TW D dA h u H) (hS : va_S (TA h) H0 H locs) (hM : Met l yX7_free (ws_ yX7_free cX7_free 2 (some .int)) rm (va_Pc [.ref h] (mt_B D dA h u)) (mt_Q D dA h (some (.int r)) u1) 0 0 (TA h)) (hrc : rm.cells = 0) (hrs : rm.slots = 0) (hR : rm.frames + 1 ≤ R.frames ∧ 8 + (2 + 11) + rm.locals ≤ R.locals) (hf : cells + 0 ≤ R.cells ∧ slots + 0 ≤ R.slots) (d : decode cc pc = .ok (.invokevirtual 152, 3)) (hsz : ls.size = nL) (hro : (rest.map fun v => v.category).sum ≤ 8) (kk : ∀ (H1 : Heap) (locs1 : List Loc), TW D dA h u1 H1 → va_S (TA h) H0 H1 locs1 → W p l e R s m args below meth c H1 locs1 cells slots Q (F0 m (pc + 3) ls (.int r :: rest))) : W p l e R s m args below meth c H locs cells slots Q (F0 m pc ls (.ref h :: rest)) :=
  mt_call (v := (some (.int r))) (va_runV (As := []) (rest := rest) C.1 hM (cwV 0 C.1.2.2.2.2 (lw_V q1988 q1990 qs132 q177 q1991) rfl hrc hrs (by decide +kernel) hR) (mt_preV C.2 hT _) rfl rfl hsz rfl (lv_room hro) d hf) hS (fun _ z => z) (fun H1 locs1 a b _ _ => kk H1 locs1 a b)
set_option maxHeartbeats 4000000 in
set_option maxRecDepth 100000 in
theorem kX7_free {l : Launch} {D : va_G} {dA : Nat → ClassId} {h N : Nat} {u u1 : TS} {r : Int32} (hE : fX7_free N u = some (r, u1)) : Met l yX7_free (ws_ yX7_free cX7_free 2 (some .int)) ({ frames := 1, cells := 0, slots := 0, locals := 22 }) (va_Pc [.ref h] (mt_B D dA h u)) (mt_Q D dA h (some (.int r)) u1) 0 0 (TA h) := by
  refine mt_met (by decide) rfl rfl rfl ?_
  intro p e s m args below meth c ls C hr hlocks hT hS hl
  have hx := C.1.1
  have hb := C.1.2.1
  have w_24 : ∀ (u : TS) (x1 : Int32) (H : Heap) (locs : List Loc) (ls : Array Slot), fX7_free_24 N u x1 = some (r, u1) → TW D dA h u H → va_S (TA h) s.heap H locs → lv_has ls 2 [(1, .int x1)] → W p l e { frames := 1, cells := 0, slots := 0, locals := 22 } s m args below meth c H locs 0 0 (MQ below (mt_Q D dA h (some (.int r)) u1) args s 0 0 (TA h)) (F0 m 24 ls []) := by
    intro u x1 H locs ls hE hT hS hl
    unfold fX7_free_24 at hE
    refine lv_iload_n hx hb dX7_free_24 rfl (lv_at hl 0 rfl) ?_
    exact mt_iret C hr hlocks hT hS hE dX7_free_25
  have w_2 : ∀ (n : Nat) (u : TS) (x1 : Int32) (H : Heap) (locs : List Loc) (ls : Array Slot), fX7_free_2 N n u x1 = some (r, u1) → TW D dA h u H → va_S (TA h) s.heap H locs → lv_has ls 2 [(0, .ref h), (1, .int x1)] → W p l e { frames := 1, cells := 0, slots := 0, locals := 22 } s m args below meth c H locs 0 0 (MQ below (mt_Q D dA h (some (.int r)) u1) args s 0 0 (TA h)) (F0 m 2 ls []) := by
    intro n
    induction n with
    | zero =>
      intro u x1 H locs ls hE hT hS hl
      cases (show (none : Option (Int32 × TS)) = some (r, u1) from hE)
    | succ n ih =>
      intro u x1 H locs ls hE hT hS hl
      rw [fX7_free_2] at hE
      refine lv_iload_n hx hb dX7_free_2 rfl (lv_at hl 1 rfl) ?_
      refine lv_bipush (v := (60 : Int32)) hx hb dX7_free_3 rfl ?_
      refine lv_icmp_ge (tgt := 24) hx hb dX7_free_5 (by decide) (fun c1 => ?_) (fun c1 => ?_)
      · have hE := z_t c1 hE
        exact w_24 _ _ _ _ _ hE hT hS (lv_sub hl [1] rfl)
      · have hE := z_f c1 hE
        refine lv_aload_n hx hb dX7_free_8 rfl (lv_at hl 0 rfl) ?_
        refine lv_iload_n hx hb dX7_free_9 rfl (lv_at hl 1 rfl) ?_
        refine lv_iconst (v := (0 : Int32)) hx hb dX7_free_10 rfl ?_
        obtain ⟨r3, u2, hc, hE⟩ := o_bd2_some hE
        refine tc_X7_pc C hT hS (kX7_pc hc) rfl rfl ⟨Nat.le_of_ble_eq_true rfl, Nat.le_of_ble_eq_true rfl⟩ ⟨Nat.le_refl 0, Nat.le_refl 0⟩ dX7_free_11 hl.1 (Nat.le_of_ble_eq_true rfl) (fun H locs hT hS => ?_)
        refine lv_iconst (v := (1 : Int32)) hx hb dX7_free_14 rfl ?_
        refine lv_icmp_ne (tgt := 24) hx hb dX7_free_15 (by decide) (fun c4 => ?_) (fun c4 => ?_)
        · have hE := z_f c4 hE
          exact w_24 _ _ _ _ _ hE hT hS (lv_sub hl [1] rfl)
        · have hE := z_t c4 hE
          refine z_iinc (v := (x1 + (1 : Int32))) (lw := (fun y_ => [(1, .int y_), (0, .ref h)])) hx hb dX7_free_18 hl hE (k := 1) rfl rfl (by decide) (fun _ => rfl) (fun z5 ls hE hl => ?_)
          refine lv_goto (tgt := 2) hx hb dX7_free_21 (by decide) ?_
          exact ih _ _ _ _ _ hE hT hS (lv_sub hl [1, 0] rfl)
  unfold fX7_free at hE
  refine lv_iconst (v := (0 : Int32)) hx hb dX7_free_0 rfl ?_
  refine lv_istore_n (lv' := [(1, .int (0 : Int32)), (0, .ref h)]) hx hb dX7_free_1 rfl hl (by decide) rfl (fun ls hl => ?_)
  exact w_2 N _ _ _ _ _ hE hT hS (lv_sub hl [1, 0] rfl)
theorem tc_X7_makes {a1 : Int32} {a2 : Int32} {a3 : Int32} {a4 : Int32} {r : Int32} {u u1 : TS} {rm : Room} (C : TC p m c cc nL s args D dA) (hT : TW D dA h u H) (hS : va_S (TA h) H0 H locs) (hM : Met l yX7_makes (ws_ yX7_makes cX7_makes 7 (some .int)) rm (va_Pc [.ref h, .int a1, .int a2, .int a3, .int a4] (mt_B D dA h u)) (mt_Q D dA h (some (.int r)) u1) 0 0 (TA h)) (hrc : rm.cells = 0) (hrs : rm.slots = 0) (hR : rm.frames + 1 ≤ R.frames ∧ 8 + (7 + 11) + rm.locals ≤ R.locals) (hf : cells + 0 ≤ R.cells ∧ slots + 0 ≤ R.slots) (d : decode cc pc = .ok (.invokevirtual 162, 3)) (hsz : ls.size = nL) (hro : (rest.map fun v => v.category).sum ≤ 8) (kk : ∀ (H1 : Heap) (locs1 : List Loc), TW D dA h u1 H1 → va_S (TA h) H0 H1 locs1 → W p l e R s m args below meth c H1 locs1 cells slots Q (F0 m (pc + 3) ls (.int r :: rest))) : W p l e R s m args below meth c H locs cells slots Q (F0 m pc ls (.int a4 :: .int a3 :: .int a2 :: .int a1 :: .ref h :: rest)) :=
  mt_call (v := (some (.int r))) (va_runV (As := [.int a1, .int a2, .int a3, .int a4]) (rest := rest) C.1 hM (cwV 4 C.1.2.2.2.2 (lw_V q1992 q1994 qs133 q177 q1995) rfl hrc hrs (by decide +kernel) hR) (mt_preV C.2 hT _) rfl rfl hsz rfl (lv_room hro) d hf) hS (fun _ z => z) (fun H1 locs1 a b _ _ => kk H1 locs1 a b)
set_option maxHeartbeats 4000000 in
set_option maxRecDepth 100000 in
theorem kX7_makes {l : Launch} {D : va_G} {dA : Nat → ClassId} {h N : Nat} {u u1 : TS} {a1 : Int32} {a2 : Int32} {a3 : Int32} {a4 : Int32} {r : Int32} (hE : fX7_makes N u a1 a2 a3 a4 = some (r, u1)) : Met l yX7_makes (ws_ yX7_makes cX7_makes 7 (some .int)) ({ frames := 2, cells := 0, slots := 0, locals := 43 }) (va_Pc [.ref h, .int a1, .int a2, .int a3, .int a4] (mt_B D dA h u)) (mt_Q D dA h (some (.int r)) u1) 0 0 (TA h) := by
  refine mt_met (by decide) rfl rfl rfl ?_
  intro p e s m args below meth c ls C hr hlocks hT hS hl
  have hx := C.1.1
  have hb := C.1.2.1
  unfold fX7_makes at hE
  refine lv_aload_n hx hb dX7_makes_0 rfl (lv_at hl 0 rfl) ?_
  obtain ⟨r2, u1, hc, hE⟩ := o_bd2_some hE
  refine tc_X7_free C hT hS (kX7_free hc) rfl rfl ⟨Nat.le_of_ble_eq_true rfl, Nat.le_of_ble_eq_true rfl⟩ ⟨Nat.le_refl 0, Nat.le_refl 0⟩ dX7_makes_1 hl.1 (Nat.le_of_ble_eq_true rfl) (fun H locs hT hS => ?_)
  refine lv_istore (lv' := [(5, .int r2), (0, .ref h), (1, .int a1), (2, .int a2), (3, .int a3), (4, .int a4)]) hx hb dX7_makes_4 hl (by decide) rfl (fun ls hl => ?_)
  refine lv_sipush (v := (960 : Int32)) hx hb dX7_makes_6 rfl ?_
  refine lv_bipush (v := (6 : Int32)) hx hb dX7_makes_9 rfl ?_
  refine lv_iload hx hb dX7_makes_11 (lv_at hl 0 rfl) ?_
  refine lv_imul hx hb dX7_makes_13 ?_
  refine lv_iadd hx hb dX7_makes_14 ?_
  refine z_nmi hE (fun z3 hE => ?_)
  refine lv_istore (lv' := [(6, .int z3), (5, .int r2), (0, .ref h), (1, .int a1), (2, .int a2), (3, .int a3), (4, .int a4)]) hx hb dX7_makes_15 hl (by decide) rfl (fun ls hl => ?_)
  refine lv_aload_n hx hb dX7_makes_17 rfl (lv_at hl 2 rfl) ?_
  refine tg_s C hT dX7_makes_18 ?_
  refine lv_iload hx hb dX7_makes_21 (lv_at hl 0 rfl) ?_
  refine lv_iconst (v := (1 : Int32)) hx hb dX7_makes_23 rfl ?_
  refine ts_s C hT hS hE dX7_makes_24 (fun u4 H locs hE hT hS => ?_)
  refine lv_aload_n hx hb dX7_makes_25 rfl (lv_at hl 2 rfl) ?_
  refine tg_s C hT dX7_makes_26 ?_
  refine lv_iload hx hb dX7_makes_29 (lv_at hl 0 rfl) ?_
  refine lv_iconst (v := (1 : Int32)) hx hb dX7_makes_31 rfl ?_
  refine lv_iadd hx hb dX7_makes_32 ?_
  refine lv_iload_n hx hb dX7_makes_33 rfl (lv_at hl 3 rfl) ?_
  refine ts_s C hT hS hE dX7_makes_34 (fun u5 H locs hE hT hS => ?_)
  refine lv_aload_n hx hb dX7_makes_35 rfl (lv_at hl 2 rfl) ?_
  refine tg_s C hT dX7_makes_36 ?_
  refine lv_iload hx hb dX7_makes_39 (lv_at hl 0 rfl) ?_
  refine lv_iconst (v := (2 : Int32)) hx hb dX7_makes_41 rfl ?_
  refine lv_iadd hx hb dX7_makes_42 ?_
  refine lv_iload_n hx hb dX7_makes_43 rfl (lv_at hl 4 rfl) ?_
  refine ts_s C hT hS hE dX7_makes_44 (fun u6 H locs hE hT hS => ?_)
  refine lv_aload_n hx hb dX7_makes_45 rfl (lv_at hl 2 rfl) ?_
  refine tg_s C hT dX7_makes_46 ?_
  refine lv_iload hx hb dX7_makes_49 (lv_at hl 0 rfl) ?_
  refine lv_iconst (v := (3 : Int32)) hx hb dX7_makes_51 rfl ?_
  refine lv_iadd hx hb dX7_makes_52 ?_
  refine lv_iload_n hx hb dX7_makes_53 rfl (lv_at hl 5 rfl) ?_
  refine ts_s C hT hS hE dX7_makes_54 (fun u7 H locs hE hT hS => ?_)
  refine lv_aload_n hx hb dX7_makes_55 rfl (lv_at hl 2 rfl) ?_
  refine tg_s C hT dX7_makes_56 ?_
  refine lv_iload hx hb dX7_makes_59 (lv_at hl 0 rfl) ?_
  refine lv_iconst (v := (4 : Int32)) hx hb dX7_makes_61 rfl ?_
  refine lv_iadd hx hb dX7_makes_62 ?_
  refine lv_aload_n hx hb dX7_makes_63 rfl (lv_at hl 2 rfl) ?_
  refine tg_s C hT dX7_makes_64 ?_
  refine lv_iconst (v := (0 : Int32)) hx hb dX7_makes_67 rfl ?_
  refine tl_s C hT hE dX7_makes_68 (fun hE => ?_)
  refine z_nmi hE (fun v8 hE => ?_)
  refine ts_s C hT hS hE dX7_makes_69 (fun u9 H locs hE hT hS => ?_)
  refine lv_aload_n hx hb dX7_makes_70 rfl (lv_at hl 2 rfl) ?_
  refine tg_s C hT dX7_makes_71 ?_
  refine lv_iload hx hb dX7_makes_74 (lv_at hl 0 rfl) ?_
  refine lv_iconst (v := (5 : Int32)) hx hb dX7_makes_76 rfl ?_
  refine lv_iadd hx hb dX7_makes_77 ?_
  refine lv_iload hx hb dX7_makes_78 (lv_at hl 6 rfl) ?_
  refine ts_s C hT hS hE dX7_makes_80 (fun u10 H locs hE hT hS => ?_)
  refine lv_iload hx hb dX7_makes_81 (lv_at hl 1 rfl) ?_
  exact mt_iret C hr hlocks hT hS hE dX7_makes_83
set_option maxHeartbeats 4000000 in
set_option maxRecDepth 100000 in
theorem kX7_loss {l : Launch} {D : va_G} {dA : Nat → ClassId} {h N : Nat} {u u1 : TS} {a1 : Int32} {r : Int32} (hE : fX7_loss N u a1 = some (r, u1)) : Met l yX7_loss (ws_ yX7_loss cX7_loss 3 (some .int)) ({ frames := 3, cells := 0, slots := 0, locals := 74 }) (va_Pc [.ref h, .int a1] (mt_B D dA h u)) (mt_Q D dA h (some (.int r)) u1) 0 0 (TA h) := by
  refine mt_met (by decide) rfl rfl rfl ?_
  intro p e s m args below meth c ls C hr hlocks hT hS hl
  have hx := C.1.1
  have hb := C.1.2.1
  have w_76 : ∀ (u : TS) (y0 : Int32) (H : Heap) (locs : List Loc) (ls : Array Slot), fX7_loss_76 N u y0 = some (r, u1) → TW D dA h u H → va_S (TA h) s.heap H locs → lv_has ls 3 [] → W p l e { frames := 3, cells := 0, slots := 0, locals := 74 } s m args below meth c H locs 0 0 (MQ below (mt_Q D dA h (some (.int r)) u1) args s 0 0 (TA h)) (F0 m 76 ls [.int y0]) := by
    intro u y0 H locs ls hE hT hS hl
    unfold fX7_loss_76 at hE
    exact mt_iret C hr hlocks hT hS hE dX7_loss_76
  unfold fX7_loss at hE
  refine lv_aload_n hx hb dX7_loss_0 rfl (lv_at hl 0 rfl) ?_
  refine lv_iload_n hx hb dX7_loss_1 rfl (lv_at hl 1 rfl) ?_
  obtain ⟨r2, u1, hc, hE⟩ := o_bd2_some hE
  refine tc_X7_isStand C hT hS (kX7_isStand hc) rfl rfl ⟨Nat.le_of_ble_eq_true rfl, Nat.le_of_ble_eq_true rfl⟩ ⟨Nat.le_refl 0, Nat.le_refl 0⟩ dX7_loss_2 hl.1 (Nat.le_of_ble_eq_true rfl) (fun H locs hT hS => ?_)
  refine lv_if_ne (tgt := 15) hx hb dX7_loss_5 (by decide) (fun c3 => ?_) (fun c3 => ?_)
  · have hE := z_f c3 hE
    refine lv_aload_n hx hb dX7_loss_15 rfl (lv_at hl 0 rfl) ?_
    refine lv_iload_n hx hb dX7_loss_16 rfl (lv_at hl 1 rfl) ?_
    refine lv_bipush (v := (11 : Int32)) hx hb dX7_loss_17 rfl ?_
    obtain ⟨r5, u4, hc, hE⟩ := o_bd2_some hE
    refine tc_X7_st C hT hS (kX7_st hc) rfl rfl ⟨Nat.le_of_ble_eq_true rfl, Nat.le_of_ble_eq_true rfl⟩ ⟨Nat.le_refl 0, Nat.le_refl 0⟩ dX7_loss_19 hl.1 (Nat.le_of_ble_eq_true rfl) (fun H locs hT hS => ?_)
    refine lv_iconst (v := (2 : Int32)) hx hb dX7_loss_22 rfl ?_
    refine lv_icmp_ge (tgt := 33) hx hb dX7_loss_23 (by decide) (fun c6 => ?_) (fun c6 => ?_)
    · have hE := z_t c6 hE
      refine lv_aload_n hx hb dX7_loss_33 rfl (lv_at hl 0 rfl) ?_
      refine lv_iload_n hx hb dX7_loss_34 rfl (lv_at hl 1 rfl) ?_
      obtain ⟨r8, u7, hc, hE⟩ := o_bd2_some hE
      refine tc_X7_lackOf C hT hS (kX7_lackOf hc) rfl rfl ⟨Nat.le_of_ble_eq_true rfl, Nat.le_of_ble_eq_true rfl⟩ ⟨Nat.le_refl 0, Nat.le_refl 0⟩ dX7_loss_35 hl.1 (Nat.le_of_ble_eq_true rfl) (fun H locs hT hS => ?_)
      refine lv_istore_n (lv' := [(2, .int r8), (0, .ref h), (1, .int a1)]) hx hb dX7_loss_38 rfl hl (by decide) rfl (fun ls hl => ?_)
      refine lv_iload_n hx hb dX7_loss_39 rfl (lv_at hl 0 rfl) ?_
      refine lv_if_ne (tgt := 50) hx hb dX7_loss_40 (by decide) (fun c9 => ?_) (fun c9 => ?_)
      · have hE := z_f c9 hE
        refine lv_aload_n hx hb dX7_loss_50 rfl (lv_at hl 1 rfl) ?_
        obtain ⟨r11, u10, hc, hE⟩ := o_bd2_some hE
        refine tc_X7_free C hT hS (kX7_free hc) rfl rfl ⟨Nat.le_of_ble_eq_true rfl, Nat.le_of_ble_eq_true rfl⟩ ⟨Nat.le_refl 0, Nat.le_refl 0⟩ dX7_loss_51 hl.1 (Nat.le_of_ble_eq_true rfl) (fun H locs hT hS => ?_)
        refine lv_bipush (v := (60 : Int32)) hx hb dX7_loss_54 rfl ?_
        refine lv_icmp_ne (tgt := 68) hx hb dX7_loss_56 (by decide) (fun c12 => ?_) (fun c12 => ?_)
        · have hE := z_f c12 hE
          refine lv_aload_n hx hb dX7_loss_68 rfl (lv_at hl 1 rfl) ?_
          refine lv_iconst (v := (2 : Int32)) hx hb dX7_loss_69 rfl ?_
          refine lv_iload_n hx hb dX7_loss_70 rfl (lv_at hl 0 rfl) ?_
          refine lv_iload_n hx hb dX7_loss_71 rfl (lv_at hl 2 rfl) ?_
          refine lv_iconst (v := (-1 : Int32)) hx hb dX7_loss_72 rfl ?_
          obtain ⟨r14, u13, hc, hE⟩ := o_bd2_some hE
          refine tc_X7_makes C hT hS (kX7_makes hc) rfl rfl ⟨Nat.le_of_ble_eq_true rfl, Nat.le_of_ble_eq_true rfl⟩ ⟨Nat.le_refl 0, Nat.le_refl 0⟩ dX7_loss_73 hl.1 (Nat.le_of_ble_eq_true rfl) (fun H locs hT hS => ?_)
          exact w_76 _ _ _ _ _ hE hT hS (lv_sub hl [] rfl)
        · have hE := z_t c12 hE
          refine lv_aload_n hx hb dX7_loss_59 rfl (lv_at hl 1 rfl) ?_
          refine lv_bipush (v := (-8 : Int32)) hx hb dX7_loss_60 rfl ?_
          obtain ⟨r16, u15, hc, hE⟩ := o_bd2_some hE
          refine tc_X7_refuse C hT hS (kX7_refuse hc) rfl rfl ⟨Nat.le_of_ble_eq_true rfl, Nat.le_of_ble_eq_true rfl⟩ ⟨Nat.le_refl 0, Nat.le_refl 0⟩ dX7_loss_62 hl.1 (Nat.le_of_ble_eq_true rfl) (fun H locs hT hS => ?_)
          refine lv_goto (tgt := 76) hx hb dX7_loss_65 (by decide) ?_
          exact w_76 _ _ _ _ _ hE hT hS (lv_sub hl [] rfl)
      · have hE := z_t c9 hE
        refine lv_aload_n hx hb dX7_loss_43 rfl (lv_at hl 1 rfl) ?_
        refine lv_bipush (v := (-7 : Int32)) hx hb dX7_loss_44 rfl ?_
        obtain ⟨r18, u17, hc, hE⟩ := o_bd2_some hE
        refine tc_X7_refuse C hT hS (kX7_refuse hc) rfl rfl ⟨Nat.le_of_ble_eq_true rfl, Nat.le_of_ble_eq_true rfl⟩ ⟨Nat.le_refl 0, Nat.le_refl 0⟩ dX7_loss_46 hl.1 (Nat.le_of_ble_eq_true rfl) (fun H locs hT hS => ?_)
        exact mt_iret C hr hlocks hT hS hE dX7_loss_49
    · have hE := z_f c6 hE
      refine lv_aload_n hx hb dX7_loss_26 rfl (lv_at hl 0 rfl) ?_
      refine lv_bipush (v := (-2 : Int32)) hx hb dX7_loss_27 rfl ?_
      obtain ⟨r20, u19, hc, hE⟩ := o_bd2_some hE
      refine tc_X7_refuse C hT hS (kX7_refuse hc) rfl rfl ⟨Nat.le_of_ble_eq_true rfl, Nat.le_of_ble_eq_true rfl⟩ ⟨Nat.le_refl 0, Nat.le_refl 0⟩ dX7_loss_29 hl.1 (Nat.le_of_ble_eq_true rfl) (fun H locs hT hS => ?_)
      exact mt_iret C hr hlocks hT hS hE dX7_loss_32
  · have hE := z_t c3 hE
    refine lv_aload_n hx hb dX7_loss_8 rfl (lv_at hl 0 rfl) ?_
    refine lv_bipush (v := (-3 : Int32)) hx hb dX7_loss_9 rfl ?_
    obtain ⟨r22, u21, hc, hE⟩ := o_bd2_some hE
    refine tc_X7_refuse C hT hS (kX7_refuse hc) rfl rfl ⟨Nat.le_of_ble_eq_true rfl, Nat.le_of_ble_eq_true rfl⟩ ⟨Nat.le_refl 0, Nat.le_refl 0⟩ dX7_loss_11 hl.1 (Nat.le_of_ble_eq_true rfl) (fun H locs hT hS => ?_)
    exact mt_iret C hr hlocks hT hS hE dX7_loss_14
set_option maxHeartbeats 4000000 in
set_option maxRecDepth 100000 in
theorem kX7_settle {l : Launch} {D : va_G} {dA : Nat → ClassId} {h N : Nat} {u u1 : TS} {a1 : Int32} {a2 : Int32} {r : Int32} (hE : fX7_settle N u a1 a2 = some (r, u1)) : Met l yX7_settle (ws_ yX7_settle cX7_settle 4 (some .int)) ({ frames := 71, cells := 0, slots := 0, locals := 2206 }) (va_Pc [.ref h, .int a1, .int a2] (mt_B D dA h u)) (mt_Q D dA h (some (.int r)) u1) 0 0 (TA h) := by
  refine mt_met (by decide) rfl rfl rfl ?_
  intro p e s m args below meth c ls C hr hlocks hT hS hl
  have hx := C.1.1
  have hb := C.1.2.1
  have w_87 : ∀ (u : TS) (x1 : Int32) (x3 : Int32) (H : Heap) (locs : List Loc) (ls : Array Slot), fX7_settle_87 N u x1 x3 = some (r, u1) → TW D dA h u H → va_S (TA h) s.heap H locs → lv_has ls 4 [(0, .ref h), (1, .int x1), (3, .int x3)] → W p l e { frames := 71, cells := 0, slots := 0, locals := 2206 } s m args below meth c H locs 0 0 (MQ below (mt_Q D dA h (some (.int r)) u1) args s 0 0 (TA h)) (F0 m 87 ls []) := by
    intro u x1 x3 H locs ls hE hT hS hl
    unfold fX7_settle_87 at hE
    refine lv_aload_n hx hb dX7_settle_87 rfl (lv_at hl 0 rfl) ?_
    refine tg_s C hT dX7_settle_88 ?_
    refine lv_sipush (v := (960 : Int32)) hx hb dX7_settle_91 rfl ?_
    refine lv_bipush (v := (6 : Int32)) hx hb dX7_settle_94 rfl ?_
    refine lv_iload_n hx hb dX7_settle_96 rfl (lv_at hl 1 rfl) ?_
    refine lv_imul hx hb dX7_settle_97 ?_
    refine lv_iadd hx hb dX7_settle_98 ?_
    refine lv_iconst (v := (0 : Int32)) hx hb dX7_settle_99 rfl ?_
    refine ts_s C hT hS hE dX7_settle_100 (fun u1 H locs hE hT hS => ?_)
    refine lv_iload_n hx hb dX7_settle_101 rfl (lv_at hl 2 rfl) ?_
    exact mt_iret C hr hlocks hT hS hE dX7_settle_102
  unfold fX7_settle at hE
  refine lv_aload_n hx hb dX7_settle_0 rfl (lv_at hl 0 rfl) ?_
  refine lv_iload_n hx hb dX7_settle_1 rfl (lv_at hl 1 rfl) ?_
  obtain ⟨r3, u2, hc, hE⟩ := o_bd2_some hE
  refine tc_X7_isParcel C hT hS (kX7_isParcel hc) rfl rfl ⟨Nat.le_of_ble_eq_true rfl, Nat.le_of_ble_eq_true rfl⟩ ⟨Nat.le_refl 0, Nat.le_refl 0⟩ dX7_settle_2 hl.1 (Nat.le_of_ble_eq_true rfl) (fun H locs hT hS => ?_)
  refine lv_if_ne (tgt := 15) hx hb dX7_settle_5 (by decide) (fun c4 => ?_) (fun c4 => ?_)
  · have hE := z_f c4 hE
    refine lv_aload_n hx hb dX7_settle_15 rfl (lv_at hl 0 rfl) ?_
    refine lv_iload_n hx hb dX7_settle_16 rfl (lv_at hl 1 rfl) ?_
    refine lv_iconst (v := (1 : Int32)) hx hb dX7_settle_17 rfl ?_
    obtain ⟨r6, u5, hc, hE⟩ := o_bd2_some hE
    refine tc_X7_pc C hT hS (kX7_pc hc) rfl rfl ⟨Nat.le_of_ble_eq_true rfl, Nat.le_of_ble_eq_true rfl⟩ ⟨Nat.le_refl 0, Nat.le_refl 0⟩ dX7_settle_18 hl.1 (Nat.le_of_ble_eq_true rfl) (fun H locs hT hS => ?_)
    refine lv_iconst (v := (2 : Int32)) hx hb dX7_settle_21 rfl ?_
    refine lv_icmp_eq (tgt := 32) hx hb dX7_settle_22 (by decide) (fun c7 => ?_) (fun c7 => ?_)
    · have hE := z_t c7 hE
      refine lv_aload_n hx hb dX7_settle_32 rfl (lv_at hl 0 rfl) ?_
      refine lv_iload_n hx hb dX7_settle_33 rfl (lv_at hl 1 rfl) ?_
      refine lv_iconst (v := (2 : Int32)) hx hb dX7_settle_34 rfl ?_
      obtain ⟨r9, u8, hc, hE⟩ := o_bd2_some hE
      refine tc_X7_pc C hT hS (kX7_pc hc) rfl rfl ⟨Nat.le_of_ble_eq_true rfl, Nat.le_of_ble_eq_true rfl⟩ ⟨Nat.le_refl 0, Nat.le_refl 0⟩ dX7_settle_35 hl.1 (Nat.le_of_ble_eq_true rfl) (fun H locs hT hS => ?_)
      refine lv_istore_n (lv' := [(3, .int r9), (0, .ref h), (1, .int a1), (2, .int a2)]) hx hb dX7_settle_38 rfl hl (by decide) rfl (fun ls hl => ?_)
      refine lv_iload_n hx hb dX7_settle_39 rfl (lv_at hl 3 rfl) ?_
      refine lv_if_eq (tgt := 87) hx hb dX7_settle_40 (by decide) (fun c10 => ?_) (fun c10 => ?_)
      · have hE := z_t c10 hE
        exact w_87 _ _ _ _ _ _ hE hT hS (lv_sub hl [1, 2, 0] rfl)
      · have hE := z_f c10 hE
        refine lv_aload_n hx hb dX7_settle_43 rfl (lv_at hl 1 rfl) ?_
        refine tg_books C hT dX7_settle_44 ?_
        refine lv_bipush (v := (7 : Int32)) hx hb dX7_settle_47 rfl ?_
        refine lv_dup2_11 hx hb dX7_settle_49 rfl rfl ?_
        refine tl_books C hT hE dX7_settle_50 (fun hE => ?_)
        refine z_nml hE (fun v11 hE => ?_)
        refine lv_iload_n hx hb dX7_settle_51 rfl (lv_at hl 0 rfl) ?_
        refine lv_i2l hx hb dX7_settle_52 rfl ?_
        refine lv_aload_n hx hb dX7_settle_53 rfl (lv_at hl 1 rfl) ?_
        refine lv_bipush (v := (6 : Int32)) hx hb dX7_settle_54 rfl ?_
        refine lv_aload_n hx hb dX7_settle_56 rfl (lv_at hl 1 rfl) ?_
        refine lv_iload_n hx hb dX7_settle_57 rfl (lv_at hl 2 rfl) ?_
        refine lv_iconst (v := (3 : Int32)) hx hb dX7_settle_58 rfl ?_
        obtain ⟨r13, u12, hc, hE⟩ := o_bd2_some hE
        refine tc_X7_pc C hT hS (kX7_pc hc) rfl rfl ⟨Nat.le_of_ble_eq_true rfl, Nat.le_of_ble_eq_true rfl⟩ ⟨Nat.le_refl 0, Nat.le_refl 0⟩ dX7_settle_59 hl.1 (Nat.le_of_ble_eq_true rfl) (fun H locs hT hS => ?_)
        refine lv_aload_n hx hb dX7_settle_62 rfl (lv_at hl 1 rfl) ?_
        refine tg_s C hT dX7_settle_63 ?_
        refine lv_iconst (v := (0 : Int32)) hx hb dX7_settle_66 rfl ?_
        refine tl_s C hT hE dX7_settle_67 (fun hE => ?_)
        refine z_nmi hE (fun v14 hE => ?_)
        refine lv_iconst (v := (0 : Int32)) hx hb dX7_settle_68 rfl ?_
        obtain ⟨r16, u15, hc, hE⟩ := o_bd2_some hE
        refine tc_X7_ruled C hT hS (kX7_ruled hc) rfl rfl ⟨Nat.le_of_ble_eq_true rfl, Nat.le_of_ble_eq_true rfl⟩ ⟨Nat.le_refl 0, Nat.le_refl 0⟩ dX7_settle_69 hl.1 (Nat.le_of_ble_eq_true rfl) (fun H locs hT hS => ?_)
        refine lv_iconst (v := (0 : Int32)) hx hb dX7_settle_72 rfl ?_
        refine lv_sipush (v := (10000 : Int32)) hx hb dX7_settle_73 rfl ?_
        obtain ⟨r17, hc, hE⟩ := o_bd_some hE
        refine sc_X7_within C.1 (kX7_within hc) rfl rfl ⟨Nat.le_of_ble_eq_true rfl, Nat.le_of_ble_eq_true rfl⟩ ⟨Nat.le_refl 0, Nat.le_refl 0⟩ dX7_settle_76 hl.1 (Nat.le_of_ble_eq_true rfl) ?_
        refine lv_i2l hx hb dX7_settle_79 rfl ?_
        refine lv_lmul hx hb dX7_settle_80 ?_
        refine lv_ldc2 (v := (100 : Int64)) hx hb C.1.2.2.2.1 (C.1.2.2.2.2 _ q1808) dX7_settle_81 ?_
        refine lv_ldiv hx hb dX7_settle_84 (by decide) ?_
        refine lv_ladd hx hb dX7_settle_85 ?_
        refine ts_books C hT hS hE dX7_settle_86 (fun u18 H locs hE hT hS => ?_)
        exact w_87 _ _ _ _ _ _ hE hT hS (lv_sub hl [1, 2, 0] rfl)
    · have hE := z_f c7 hE
      refine lv_aload_n hx hb dX7_settle_25 rfl (lv_at hl 0 rfl) ?_
      refine lv_bipush (v := (-5 : Int32)) hx hb dX7_settle_26 rfl ?_
      obtain ⟨r20, u19, hc, hE⟩ := o_bd2_some hE
      refine tc_X7_refuse C hT hS (kX7_refuse hc) rfl rfl ⟨Nat.le_of_ble_eq_true rfl, Nat.le_of_ble_eq_true rfl⟩ ⟨Nat.le_refl 0, Nat.le_refl 0⟩ dX7_settle_28 hl.1 (Nat.le_of_ble_eq_true rfl) (fun H locs hT hS => ?_)
      exact mt_iret C hr hlocks hT hS hE dX7_settle_31
  · have hE := z_t c4 hE
    refine lv_aload_n hx hb dX7_settle_8 rfl (lv_at hl 0 rfl) ?_
    refine lv_bipush (v := (-3 : Int32)) hx hb dX7_settle_9 rfl ?_
    obtain ⟨r22, u21, hc, hE⟩ := o_bd2_some hE
    refine tc_X7_refuse C hT hS (kX7_refuse hc) rfl rfl ⟨Nat.le_of_ble_eq_true rfl, Nat.le_of_ble_eq_true rfl⟩ ⟨Nat.le_refl 0, Nat.le_refl 0⟩ dX7_settle_11 hl.1 (Nat.le_of_ble_eq_true rfl) (fun H locs hT hS => ?_)
    exact mt_iret C hr hlocks hT hS hE dX7_settle_14
theorem tc_X7_hush {a1 : Int32} {r : Int32} {u u1 : TS} {rm : Room} (C : TC p m c cc nL s args D dA) (hT : TW D dA h u H) (hS : va_S (TA h) H0 H locs) (hM : Met l yX7_hush (ws_ yX7_hush cX7_hush 2 (some .int)) rm (va_Pc [.ref h, .int a1] (mt_B D dA h u)) (mt_Q D dA h (some (.int r)) u1) 0 0 (TA h)) (hrc : rm.cells = 0) (hrs : rm.slots = 0) (hR : rm.frames + 1 ≤ R.frames ∧ 8 + (2 + 11) + rm.locals ≤ R.locals) (hf : cells + 0 ≤ R.cells ∧ slots + 0 ≤ R.slots) (d : decode cc pc = .ok (.invokevirtual 165, 3)) (hsz : ls.size = nL) (hro : (rest.map fun v => v.category).sum ≤ 8) (kk : ∀ (H1 : Heap) (locs1 : List Loc), TW D dA h u1 H1 → va_S (TA h) H0 H1 locs1 → W p l e R s m args below meth c H1 locs1 cells slots Q (F0 m (pc + 3) ls (.int r :: rest))) : W p l e R s m args below meth c H locs cells slots Q (F0 m pc ls (.int a1 :: .ref h :: rest)) :=
  mt_call (v := (some (.int r))) (va_runV (As := [.int a1]) (rest := rest) C.1 hM (cwV 1 C.1.2.2.2.2 (lw_V q2004 q2006 qs134 q177 q2007) rfl hrc hrs (by decide +kernel) hR) (mt_preV C.2 hT _) rfl rfl hsz rfl (lv_room hro) d hf) hS (fun _ z => z) (fun H1 locs1 a b _ _ => kk H1 locs1 a b)
set_option maxHeartbeats 4000000 in
set_option maxRecDepth 100000 in
theorem kX7_hush {l : Launch} {D : va_G} {dA : Nat → ClassId} {h N : Nat} {u u1 : TS} {a1 : Int32} {r : Int32} (hE : fX7_hush N u a1 = some (r, u1)) : Met l yX7_hush (ws_ yX7_hush cX7_hush 2 (some .int)) ({ frames := 0, cells := 0, slots := 0, locals := 0 }) (va_Pc [.ref h, .int a1] (mt_B D dA h u)) (mt_Q D dA h (some (.int r)) u1) 0 0 (TA h) := by
  refine mt_met (by decide) rfl rfl rfl ?_
  intro p e s m args below meth c ls C hr hlocks hT hS hl
  have hx := C.1.1
  have hb := C.1.2.1
  unfold fX7_hush at hE
  refine lv_aload_n hx hb dX7_hush_0 rfl (lv_at hl 0 rfl) ?_
  refine tg_refusals C hT dX7_hush_1 ?_
  refine lv_iload_n hx hb dX7_hush_4 rfl (lv_at hl 1 rfl) ?_
  refine lv_ineg hx hb dX7_hush_5 ?_
  refine lv_dup2_11 hx hb dX7_hush_6 rfl rfl ?_
  refine tl_refusals C hT hE dX7_hush_7 (fun hE => ?_)
  refine z_nmi hE (fun v1 hE => ?_)
  refine lv_iconst (v := (1 : Int32)) hx hb dX7_hush_8 rfl ?_
  refine lv_iadd hx hb dX7_hush_9 ?_
  refine ts_refusals C hT hS hE dX7_hush_10 (fun u2 H locs hE hT hS => ?_)
  refine lv_iconst (v := (0 : Int32)) hx hb dX7_hush_11 rfl ?_
  exact mt_iret C hr hlocks hT hS hE dX7_hush_12
set_option maxHeartbeats 4000000 in
set_option maxRecDepth 100000 in
theorem kX7_book {l : Launch} {D : va_G} {dA : Nat → ClassId} {h N : Nat} {u u1 : TS} {a1 : Int32} {r : Int64} (hE : fX7_book N u a1 = some (r, u1)) : Met l yX7_book (ws_ yX7_book cX7_book 2 (some .long)) ({ frames := 1, cells := 0, slots := 0, locals := 22 }) (va_Pc [.ref h, .int a1] (mt_B D dA h u)) (mt_Q D dA h (some (.long r)) u1) 0 0 (TA h) := by
  refine mt_met (by decide) rfl rfl rfl ?_
  intro p e s m args below meth c ls C hr hlocks hT hS hl
  have hx := C.1.1
  have hb := C.1.2.1
  have w_26 : ∀ (u : TS) (y0 : Int64) (H : Heap) (locs : List Loc) (ls : Array Slot), fX7_book_26 N u y0 = some (r, u1) → TW D dA h u H → va_S (TA h) s.heap H locs → lv_has ls 2 [] → W p l e { frames := 1, cells := 0, slots := 0, locals := 22 } s m args below meth c H locs 0 0 (MQ below (mt_Q D dA h (some (.long r)) u1) args s 0 0 (TA h)) (F0 m 26 ls [.long y0]) := by
    intro u y0 H locs ls hE hT hS hl
    unfold fX7_book_26 at hE
    exact mt_lret C hr hlocks hT hS hE dX7_book_26
  unfold fX7_book at hE
  refine lv_iload_n hx hb dX7_book_0 rfl (lv_at hl 1 rfl) ?_
  refine lv_iconst (v := (0 : Int32)) hx hb dX7_book_1 rfl ?_
  refine lv_bipush (v := (7 : Int32)) hx hb dX7_book_2 rfl ?_
  obtain ⟨r1, hc, hE⟩ := o_bd_some hE
  refine sc_X7_in C.1 (kX7_in hc) rfl rfl ⟨Nat.le_of_ble_eq_true rfl, Nat.le_of_ble_eq_true rfl⟩ ⟨Nat.le_refl 0, Nat.le_refl 0⟩ dX7_book_4 hl.1 (Nat.le_of_ble_eq_true rfl) ?_
  refine lv_if_eq (tgt := 19) hx hb dX7_book_7 (by decide) (fun c2 => ?_) (fun c2 => ?_)
  · have hE := z_t c2 hE
    refine lv_aload_n hx hb dX7_book_19 rfl (lv_at hl 0 rfl) ?_
    refine lv_bipush (v := (-3 : Int32)) hx hb dX7_book_20 rfl ?_
    obtain ⟨r4, u3, hc, hE⟩ := o_bd2_some hE
    refine tc_X7_hush C hT hS (kX7_hush hc) rfl rfl ⟨Nat.le_of_ble_eq_true rfl, Nat.le_of_ble_eq_true rfl⟩ ⟨Nat.le_refl 0, Nat.le_refl 0⟩ dX7_book_22 hl.1 (Nat.le_of_ble_eq_true rfl) (fun H locs hT hS => ?_)
    refine lv_i2l hx hb dX7_book_25 rfl ?_
    exact w_26 _ _ _ _ _ hE hT hS (lv_sub hl [] rfl)
  · have hE := z_f c2 hE
    refine lv_aload_n hx hb dX7_book_10 rfl (lv_at hl 0 rfl) ?_
    refine tg_books C hT dX7_book_11 ?_
    refine lv_iload_n hx hb dX7_book_14 rfl (lv_at hl 1 rfl) ?_
    refine tl_books C hT hE dX7_book_15 (fun hE => ?_)
    refine z_nml hE (fun v5 hE => ?_)
    refine lv_goto (tgt := 26) hx hb dX7_book_16 (by decide) ?_
    exact w_26 _ _ _ _ _ hE hT hS (lv_sub hl [] rfl)
set_option maxHeartbeats 4000000 in
set_option maxRecDepth 100000 in
theorem kX7_feed {l : Launch} {D : va_G} {dA : Nat → ClassId} {h N : Nat} {u u1 : TS} {a1 : Int32} {a2 : Int32} {r : Int32} (hE : fX7_feed N u a1 a2 = some (r, u1)) : Met l yX7_feed (ws_ yX7_feed cX7_feed 4 (some .int)) ({ frames := 1, cells := 0, slots := 0, locals := 21 }) (va_Pc [.ref h, .int a1, .int a2] (mt_B D dA h u)) (mt_Q D dA h (some (.int r)) u1) 0 0 (TA h) := by
  refine mt_met (by decide) rfl rfl rfl ?_
  intro p e s m args below meth c ls C hr hlocks hT hS hl
  have hx := C.1.1
  have hb := C.1.2.1
  have w_45 : ∀ (n : Nat) (u : TS) (x1 : Int32) (x3 : Int32) (H : Heap) (locs : List Loc) (ls : Array Slot), fX7_feed_45 N n u x1 x3 = some (r, u1) → TW D dA h u H → va_S (TA h) s.heap H locs → lv_has ls 4 [(0, .ref h), (1, .int x1), (3, .int x3)] → W p l e { frames := 1, cells := 0, slots := 0, locals := 21 } s m args below meth c H locs 0 0 (MQ below (mt_Q D dA h (some (.int r)) u1) args s 0 0 (TA h)) (F0 m 45 ls []) := by
    intro n
    induction n with
    | zero =>
      intro u x1 x3 H locs ls hE hT hS hl
      cases (show (none : Option (Int32 × TS)) = some (r, u1) from hE)
    | succ n ih =>
      intro u x1 x3 H locs ls hE hT hS hl
      rw [fX7_feed_45] at hE
      refine lv_iload_n hx hb dX7_feed_45 rfl (lv_at hl 2 rfl) ?_
      refine lv_if_lt (tgt := 84) hx hb dX7_feed_46 (by decide) (fun c1 => ?_) (fun c1 => ?_)
      · have hE := z_t c1 hE
        refine lv_aload_n hx hb dX7_feed_84 rfl (lv_at hl 0 rfl) ?_
        refine tg_taped C hT dX7_feed_85 ?_
        exact mt_iret C hr hlocks hT hS hE dX7_feed_88
      · have hE := z_f c1 hE
        refine lv_aload_n hx hb dX7_feed_49 rfl (lv_at hl 0 rfl) ?_
        refine tg_tape C hT dX7_feed_50 ?_
        refine lv_aload_n hx hb dX7_feed_53 rfl (lv_at hl 0 rfl) ?_
        refine tg_taped C hT dX7_feed_54 ?_
        refine lv_iload_n hx hb dX7_feed_57 rfl (lv_at hl 1 rfl) ?_
        refine lv_bipush (v := (8 : Int32)) hx hb dX7_feed_58 rfl ?_
        refine lv_iload_n hx hb dX7_feed_60 rfl (lv_at hl 2 rfl) ?_
        refine lv_imul hx hb dX7_feed_61 ?_
        refine lv_ishr hx hb dX7_feed_62 ?_
        refine lv_sipush (v := (255 : Int32)) hx hb dX7_feed_63 rfl ?_
        refine lv_iand hx hb dX7_feed_66 ?_
        refine ts_tape C hT hS hE dX7_feed_67 (fun u2 H locs hE hT hS => ?_)
        refine lv_aload_n hx hb dX7_feed_68 rfl (lv_at hl 0 rfl) ?_
        refine lv_dup hx hb dX7_feed_69 rfl ?_
        refine tg_taped C hT dX7_feed_70 ?_
        refine lv_iconst (v := (1 : Int32)) hx hb dX7_feed_73 rfl ?_
        refine lv_iadd hx hb dX7_feed_74 ?_
        refine tp_taped C hT hS hE dX7_feed_75 (fun u3 H locs hE hT hS => ?_)
        refine z_iinc (v := (x3 + (-1 : Int32))) (lw := (fun y_ => [(3, .int y_), (0, .ref h), (1, .int x1)])) hx hb dX7_feed_78 hl hE (k := 2) rfl rfl (by decide) (fun _ => rfl) (fun z4 ls hE hl => ?_)
        refine lv_goto (tgt := 45) hx hb dX7_feed_81 (by decide) ?_
        exact ih _ _ _ _ _ _ hE hT hS (lv_sub hl [1, 2, 0] rfl)
  unfold fX7_feed at hE
  refine lv_iload_n hx hb dX7_feed_0 rfl (lv_at hl 2 rfl) ?_
  refine lv_if_ge (tgt := 11) hx hb dX7_feed_1 (by decide) (fun c5 => ?_) (fun c5 => ?_)
  · have hE := z_t c5 hE
    refine lv_iload_n hx hb dX7_feed_11 rfl (lv_at hl 2 rfl) ?_
    refine lv_iconst (v := (4 : Int32)) hx hb dX7_feed_12 rfl ?_
    refine lv_icmp_le (tgt := 23) hx hb dX7_feed_13 (by decide) (fun c6 => ?_) (fun c6 => ?_)
    · have hE := z_t c6 hE
      refine lv_aload_n hx hb dX7_feed_23 rfl (lv_at hl 0 rfl) ?_
      refine tg_taped C hT dX7_feed_24 ?_
      refine lv_iload_n hx hb dX7_feed_27 rfl (lv_at hl 2 rfl) ?_
      refine lv_iadd hx hb dX7_feed_28 ?_
      refine lv_bipush (v := (120 : Int32)) hx hb dX7_feed_29 rfl ?_
      refine lv_icmp_le (tgt := 41) hx hb dX7_feed_31 (by decide) (fun c7 => ?_) (fun c7 => ?_)
      · have hE := z_t c7 hE
        refine lv_iload_n hx hb dX7_feed_41 rfl (lv_at hl 2 rfl) ?_
        refine lv_iconst (v := (1 : Int32)) hx hb dX7_feed_42 rfl ?_
        refine lv_isub hx hb dX7_feed_43 ?_
        refine z_nmi hE (fun z8 hE => ?_)
        refine lv_istore_n (lv' := [(3, .int z8), (0, .ref h), (1, .int a1), (2, .int a2)]) hx hb dX7_feed_44 rfl hl (by decide) rfl (fun ls hl => ?_)
        exact w_45 N _ _ _ _ _ _ hE hT hS (lv_sub hl [1, 2, 0] rfl)
      · have hE := z_f c7 hE
        refine lv_aload_n hx hb dX7_feed_34 rfl (lv_at hl 0 rfl) ?_
        refine lv_bipush (v := (-8 : Int32)) hx hb dX7_feed_35 rfl ?_
        obtain ⟨r10, u9, hc, hE⟩ := o_bd2_some hE
        refine tc_X7_refuse C hT hS (kX7_refuse hc) rfl rfl ⟨Nat.le_of_ble_eq_true rfl, Nat.le_of_ble_eq_true rfl⟩ ⟨Nat.le_refl 0, Nat.le_refl 0⟩ dX7_feed_37 hl.1 (Nat.le_of_ble_eq_true rfl) (fun H locs hT hS => ?_)
        exact mt_iret C hr hlocks hT hS hE dX7_feed_40
    · have hE := z_f c6 hE
      refine lv_aload_n hx hb dX7_feed_16 rfl (lv_at hl 0 rfl) ?_
      refine lv_bipush (v := (-7 : Int32)) hx hb dX7_feed_17 rfl ?_
      obtain ⟨r12, u11, hc, hE⟩ := o_bd2_some hE
      refine tc_X7_refuse C hT hS (kX7_refuse hc) rfl rfl ⟨Nat.le_of_ble_eq_true rfl, Nat.le_of_ble_eq_true rfl⟩ ⟨Nat.le_refl 0, Nat.le_refl 0⟩ dX7_feed_19 hl.1 (Nat.le_of_ble_eq_true rfl) (fun H locs hT hS => ?_)
      exact mt_iret C hr hlocks hT hS hE dX7_feed_22
  · have hE := z_f c5 hE
    refine lv_aload_n hx hb dX7_feed_4 rfl (lv_at hl 0 rfl) ?_
    refine lv_bipush (v := (-4 : Int32)) hx hb dX7_feed_5 rfl ?_
    obtain ⟨r14, u13, hc, hE⟩ := o_bd2_some hE
    refine tc_X7_refuse C hT hS (kX7_refuse hc) rfl rfl ⟨Nat.le_of_ble_eq_true rfl, Nat.le_of_ble_eq_true rfl⟩ ⟨Nat.le_refl 0, Nat.le_refl 0⟩ dX7_feed_7 hl.1 (Nat.le_of_ble_eq_true rfl) (fun H locs hT hS => ?_)
    exact mt_iret C hr hlocks hT hS hE dX7_feed_10
set_option maxHeartbeats 4000000 in
set_option maxRecDepth 100000 in
theorem kX7_wipe {l : Launch} {D : va_G} {dA : Nat → ClassId} {h N : Nat} {u u1 : TS} {r : Int32} (hE : fX7_wipe N u = some (r, u1)) : Met l yX7_wipe (ws_ yX7_wipe cX7_wipe 2 (some .int)) ({ frames := 0, cells := 0, slots := 0, locals := 0 }) (va_Pc [.ref h] (mt_B D dA h u)) (mt_Q D dA h (some (.int r)) u1) 0 0 (TA h) := by
  refine mt_met (by decide) rfl rfl rfl ?_
  intro p e s m args below meth c ls C hr hlocks hT hS hl
  have hx := C.1.1
  have hb := C.1.2.1
  unfold fX7_wipe at hE
  refine lv_aload_n hx hb dX7_wipe_0 rfl (lv_at hl 0 rfl) ?_
  refine tg_taped C hT dX7_wipe_1 ?_
  refine z_nmi hE (fun z1 hE => ?_)
  refine lv_istore_n (lv' := [(1, .int z1), (0, .ref h)]) hx hb dX7_wipe_4 rfl hl (by decide) rfl (fun ls hl => ?_)
  refine lv_aload_n hx hb dX7_wipe_5 rfl (lv_at hl 1 rfl) ?_
  refine lv_iconst (v := (0 : Int32)) hx hb dX7_wipe_6 rfl ?_
  refine tp_taped C hT hS hE dX7_wipe_7 (fun u2 H locs hE hT hS => ?_)
  refine lv_iload_n hx hb dX7_wipe_10 rfl (lv_at hl 0 rfl) ?_
  exact mt_iret C hr hlocks hT hS hE dX7_wipe_11
set_option maxHeartbeats 4000000 in
set_option maxRecDepth 100000 in
theorem kX7_line {l : Launch} {D : va_G} {dA : Nat → ClassId} {h N : Nat} {u u1 : TS} {r : Int32} (hE : fX7_line N u = some (r, u1)) : Met l yX7_line (ws_ yX7_line cX7_line 4 (some .int)) ({ frames := 69, cells := 0, slots := 0, locals := 2156 }) (va_Pc [.ref h] (mt_B D dA h u)) (mt_Q D dA h (some (.int r)) u1) 0 0 (TA h) := by
  refine mt_met (by decide) rfl rfl rfl ?_
  intro p e s m args below meth c ls C hr hlocks hT hS hl
  have hx := C.1.1
  have hb := C.1.2.1
  have w_237 : ∀ (n : Nat) (u : TS) (x2 : Int32) (x3 : Int32) (H : Heap) (locs : List Loc) (ls : Array Slot), fX7_line_237 N n u x2 x3 = some (r, u1) → TW D dA h u H → va_S (TA h) s.heap H locs → lv_has ls 4 [(0, .ref h), (2, .int x2), (3, .int x3)] → W p l e { frames := 69, cells := 0, slots := 0, locals := 2156 } s m args below meth c H locs 0 0 (MQ below (mt_Q D dA h (some (.int r)) u1) args s 0 0 (TA h)) (F0 m 237 ls []) := by
    intro n
    induction n with
    | zero =>
      intro u x2 x3 H locs ls hE hT hS hl
      cases (show (none : Option (Int32 × TS)) = some (r, u1) from hE)
    | succ n ih =>
      intro u x2 x3 H locs ls hE hT hS hl
      rw [fX7_line_237] at hE
      refine lv_iload_n hx hb dX7_line_237 rfl (lv_at hl 2 rfl) ?_
      refine lv_aload_n hx hb dX7_line_238 rfl (lv_at hl 0 rfl) ?_
      refine tg_taped C hT dX7_line_239 ?_
      refine lv_icmp_ge (tgt := 267) hx hb dX7_line_242 (by decide) (fun c1 => ?_) (fun c1 => ?_)
      · have hE := z_t c1 hE
        refine lv_aload_n hx hb dX7_line_267 rfl (lv_at hl 0 rfl) ?_
        refine lv_iconst (v := (0 : Int32)) hx hb dX7_line_268 rfl ?_
        refine tp_taped C hT hS hE dX7_line_269 (fun u2 H locs hE hT hS => ?_)
        refine lv_aload_n hx hb dX7_line_272 rfl (lv_at hl 0 rfl) ?_
        refine tg_s C hT dX7_line_273 ?_
        refine lv_iconst (v := (4 : Int32)) hx hb dX7_line_276 rfl ?_
        refine lv_dup2_11 hx hb dX7_line_277 rfl rfl ?_
        refine tl_s C hT hE dX7_line_278 (fun hE => ?_)
        refine z_nmi hE (fun v3 hE => ?_)
        refine lv_iconst (v := (1 : Int32)) hx hb dX7_line_279 rfl ?_
        refine lv_iadd hx hb dX7_line_280 ?_
        refine ts_s C hT hS hE dX7_line_281 (fun u4 H locs hE hT hS => ?_)
        refine lv_aload_n hx hb dX7_line_282 rfl (lv_at hl 0 rfl) ?_
        refine tg_s C hT dX7_line_283 ?_
        refine lv_iconst (v := (4 : Int32)) hx hb dX7_line_286 rfl ?_
        refine tl_s C hT hE dX7_line_287 (fun hE => ?_)
        refine z_nmi hE (fun v5 hE => ?_)
        refine lv_iconst (v := (1 : Int32)) hx hb dX7_line_288 rfl ?_
        refine lv_isub hx hb dX7_line_289 ?_
        exact mt_iret C hr hlocks hT hS hE dX7_line_290
      · have hE := z_f c1 hE
        refine lv_aload_n hx hb dX7_line_245 rfl (lv_at hl 0 rfl) ?_
        refine tg_s C hT dX7_line_246 ?_
        refine lv_iload_n hx hb dX7_line_249 rfl (lv_at hl 1 rfl) ?_
        refine lv_iconst (v := (5 : Int32)) hx hb dX7_line_250 rfl ?_
        refine lv_iadd hx hb dX7_line_251 ?_
        refine lv_iload_n hx hb dX7_line_252 rfl (lv_at hl 2 rfl) ?_
        refine lv_iadd hx hb dX7_line_253 ?_
        refine lv_aload_n hx hb dX7_line_254 rfl (lv_at hl 0 rfl) ?_
        refine tg_tape C hT dX7_line_255 ?_
        refine lv_iload_n hx hb dX7_line_258 rfl (lv_at hl 2 rfl) ?_
        refine tl_tape C hT hE dX7_line_259 (fun hE => ?_)
        refine z_nmi hE (fun v6 hE => ?_)
        refine ts_s C hT hS hE dX7_line_260 (fun u7 H locs hE hT hS => ?_)
        refine z_iinc (v := (x3 + (1 : Int32))) (lw := (fun y_ => [(3, .int y_), (0, .ref h), (2, .int x2)])) hx hb dX7_line_261 hl hE (k := 2) rfl rfl (by decide) (fun _ => rfl) (fun z8 ls hE hl => ?_)
        refine lv_goto (tgt := 237) hx hb dX7_line_264 (by decide) ?_
        exact ih _ _ _ _ _ _ hE hT hS (lv_sub hl [1, 2, 0] rfl)
  have w_167 : ∀ (u : TS) (x1 : Int32) (H : Heap) (locs : List Loc) (ls : Array Slot), fX7_line_167 N u x1 = some (r, u1) → TW D dA h u H → va_S (TA h) s.heap H locs → lv_has ls 4 [(0, .ref h), (1, .int x1)] → W p l e { frames := 69, cells := 0, slots := 0, locals := 2156 } s m args below meth c H locs 0 0 (MQ below (mt_Q D dA h (some (.int r)) u1) args s 0 0 (TA h)) (F0 m 167 ls []) := by
    intro u x1 H locs ls hE hT hS hl
    unfold fX7_line_167 at hE
    refine lv_sipush (v := (1320 : Int32)) hx hb dX7_line_167 rfl ?_
    refine lv_bipush (v := (125 : Int32)) hx hb dX7_line_170 rfl ?_
    refine lv_aload_n hx hb dX7_line_172 rfl (lv_at hl 0 rfl) ?_
    refine tg_s C hT dX7_line_173 ?_
    refine lv_iconst (v := (4 : Int32)) hx hb dX7_line_176 rfl ?_
    refine tl_s C hT hE dX7_line_177 (fun hE => ?_)
    refine z_nmi hE (fun v9 hE => ?_)
    refine lv_imul hx hb dX7_line_178 ?_
    refine lv_iadd hx hb dX7_line_179 ?_
    refine z_nmi hE (fun z10 hE => ?_)
    refine lv_istore_n (lv' := [(2, .int z10), (0, .ref h), (1, .int x1)]) hx hb dX7_line_180 rfl hl (by decide) rfl (fun ls hl => ?_)
    refine lv_aload_n hx hb dX7_line_181 rfl (lv_at hl 1 rfl) ?_
    refine tg_s C hT dX7_line_182 ?_
    refine lv_iload_n hx hb dX7_line_185 rfl (lv_at hl 0 rfl) ?_
    refine lv_aload_n hx hb dX7_line_186 rfl (lv_at hl 1 rfl) ?_
    refine tg_key C hT dX7_line_187 ?_
    refine ts_s C hT hS hE dX7_line_190 (fun u11 H locs hE hT hS => ?_)
    refine lv_aload_n hx hb dX7_line_191 rfl (lv_at hl 1 rfl) ?_
    refine tg_s C hT dX7_line_192 ?_
    refine lv_iload_n hx hb dX7_line_195 rfl (lv_at hl 0 rfl) ?_
    refine lv_iconst (v := (1 : Int32)) hx hb dX7_line_196 rfl ?_
    refine lv_iadd hx hb dX7_line_197 ?_
    refine lv_aload_n hx hb dX7_line_198 rfl (lv_at hl 1 rfl) ?_
    refine tg_s C hT dX7_line_199 ?_
    refine lv_iconst (v := (0 : Int32)) hx hb dX7_line_202 rfl ?_
    refine tl_s C hT hE dX7_line_203 (fun hE => ?_)
    refine z_nmi hE (fun v12 hE => ?_)
    refine ts_s C hT hS hE dX7_line_204 (fun u13 H locs hE hT hS => ?_)
    refine lv_aload_n hx hb dX7_line_205 rfl (lv_at hl 1 rfl) ?_
    refine tg_s C hT dX7_line_206 ?_
    refine lv_iload_n hx hb dX7_line_209 rfl (lv_at hl 0 rfl) ?_
    refine lv_iconst (v := (2 : Int32)) hx hb dX7_line_210 rfl ?_
    refine lv_iadd hx hb dX7_line_211 ?_
    refine lv_iconst (v := (-1 : Int32)) hx hb dX7_line_212 rfl ?_
    refine ts_s C hT hS hE dX7_line_213 (fun u14 H locs hE hT hS => ?_)
    refine lv_aload_n hx hb dX7_line_214 rfl (lv_at hl 1 rfl) ?_
    refine tg_s C hT dX7_line_215 ?_
    refine lv_iload_n hx hb dX7_line_218 rfl (lv_at hl 0 rfl) ?_
    refine lv_iconst (v := (3 : Int32)) hx hb dX7_line_219 rfl ?_
    refine lv_iadd hx hb dX7_line_220 ?_
    refine lv_iload_n hx hb dX7_line_221 rfl (lv_at hl 2 rfl) ?_
    refine ts_s C hT hS hE dX7_line_222 (fun u15 H locs hE hT hS => ?_)
    refine lv_aload_n hx hb dX7_line_223 rfl (lv_at hl 1 rfl) ?_
    refine tg_s C hT dX7_line_224 ?_
    refine lv_iload_n hx hb dX7_line_227 rfl (lv_at hl 0 rfl) ?_
    refine lv_iconst (v := (4 : Int32)) hx hb dX7_line_228 rfl ?_
    refine lv_iadd hx hb dX7_line_229 ?_
    refine lv_aload_n hx hb dX7_line_230 rfl (lv_at hl 1 rfl) ?_
    refine tg_taped C hT dX7_line_231 ?_
    refine ts_s C hT hS hE dX7_line_234 (fun u16 H locs hE hT hS => ?_)
    refine lv_iconst (v := (0 : Int32)) hx hb dX7_line_235 rfl ?_
    refine lv_istore_n (lv' := [(3, .int (0 : Int32)), (2, .int z10), (0, .ref h), (1, .int x1)]) hx hb dX7_line_236 rfl hl (by decide) rfl (fun ls hl => ?_)
    exact w_237 N _ _ _ _ _ _ hE hT hS (lv_sub hl [2, 1, 0] rfl)
  have w_146 : ∀ (u : TS) (H : Heap) (locs : List Loc) (ls : Array Slot), fX7_line_146 N u = some (r, u1) → TW D dA h u H → va_S (TA h) s.heap H locs → lv_has ls 4 [(0, .ref h)] → W p l e { frames := 69, cells := 0, slots := 0, locals := 2156 } s m args below meth c H locs 0 0 (MQ below (mt_Q D dA h (some (.int r)) u1) args s 0 0 (TA h)) (F0 m 146 ls []) := by
    intro u H locs ls hE hT hS hl
    unfold fX7_line_146 at hE
    refine lv_aload_n hx hb dX7_line_146 rfl (lv_at hl 0 rfl) ?_
    refine lv_bipush (v := (-7 : Int32)) hx hb dX7_line_147 rfl ?_
    obtain ⟨r18, u17, hc, hE⟩ := o_bd2_some hE
    refine tc_X7_refuse C hT hS (kX7_refuse hc) rfl rfl ⟨Nat.le_of_ble_eq_true rfl, Nat.le_of_ble_eq_true rfl⟩ ⟨Nat.le_refl 0, Nat.le_refl 0⟩ dX7_line_149 hl.1 (Nat.le_of_ble_eq_true rfl) (fun H locs hT hS => ?_)
    exact mt_iret C hr hlocks hT hS hE dX7_line_152
  have w_98 : ∀ (u : TS) (y0 : Int32) (H : Heap) (locs : List Loc) (ls : Array Slot), fX7_line_98 N u y0 = some (r, u1) → TW D dA h u H → va_S (TA h) s.heap H locs → lv_has ls 4 [(0, .ref h)] → W p l e { frames := 69, cells := 0, slots := 0, locals := 2156 } s m args below meth c H locs 0 0 (MQ below (mt_Q D dA h (some (.int r)) u1) args s 0 0 (TA h)) (F0 m 98 ls [.int y0]) := by
    intro u y0 H locs ls hE hT hS hl
    unfold fX7_line_98 at hE
    refine lv_istore_n (lv' := [(1, .int y0), (0, .ref h)]) hx hb dX7_line_98 rfl hl (by decide) rfl (fun ls hl => ?_)
    refine lv_iload_n hx hb dX7_line_99 rfl (lv_at hl 0 rfl) ?_
    refine lv_iconst (v := (-1 : Int32)) hx hb dX7_line_100 rfl ?_
    refine lv_icmp_eq (tgt := 167) hx hb dX7_line_101 (by decide) (fun c19 => ?_) (fun c19 => ?_)
    · have hE := z_t c19 hE
      exact w_167 _ _ _ _ _ hE hT hS (lv_sub hl [1, 0] rfl)
    · have hE := z_f c19 hE
      refine lv_sipush (v := (1320 : Int32)) hx hb dX7_line_104 rfl ?_
      refine lv_bipush (v := (125 : Int32)) hx hb dX7_line_107 rfl ?_
      refine lv_iload_n hx hb dX7_line_109 rfl (lv_at hl 0 rfl) ?_
      refine lv_imul hx hb dX7_line_110 ?_
      refine lv_iadd hx hb dX7_line_111 ?_
      refine z_nmi hE (fun z20 hE => ?_)
      refine lv_istore_n (lv' := [(2, .int z20), (1, .int y0), (0, .ref h)]) hx hb dX7_line_112 rfl hl (by decide) rfl (fun ls hl => ?_)
      refine lv_iload_n hx hb dX7_line_113 rfl (lv_at hl 1 rfl) ?_
      refine lv_aload_n hx hb dX7_line_114 rfl (lv_at hl 2 rfl) ?_
      refine tg_s C hT dX7_line_115 ?_
      refine lv_iconst (v := (4 : Int32)) hx hb dX7_line_118 rfl ?_
      refine tl_s C hT hE dX7_line_119 (fun hE => ?_)
      refine z_nmi hE (fun v21 hE => ?_)
      refine lv_icmp_ge (tgt := 146) hx hb dX7_line_120 (by decide) (fun c22 => ?_) (fun c22 => ?_)
      · have hE := z_t c22 hE
        exact w_146 _ _ _ _ hE hT hS (lv_sub hl [2] rfl)
      · have hE := z_f c22 hE
        refine lv_aload_n hx hb dX7_line_123 rfl (lv_at hl 2 rfl) ?_
        refine tg_s C hT dX7_line_124 ?_
        refine lv_iload_n hx hb dX7_line_127 rfl (lv_at hl 0 rfl) ?_
        refine tl_s C hT hE dX7_line_128 (fun hE => ?_)
        refine z_nmi hE (fun v23 hE => ?_)
        refine lv_bipush (v := (8 : Int32)) hx hb dX7_line_129 rfl ?_
        refine lv_icmp_eq (tgt := 146) hx hb dX7_line_131 (by decide) (fun c24 => ?_) (fun c24 => ?_)
        · have hE := z_t c24 hE
          exact w_146 _ _ _ _ hE hT hS (lv_sub hl [2] rfl)
        · have hE := z_f c24 hE
          refine lv_aload_n hx hb dX7_line_134 rfl (lv_at hl 2 rfl) ?_
          refine tg_s C hT dX7_line_135 ?_
          refine lv_iload_n hx hb dX7_line_138 rfl (lv_at hl 0 rfl) ?_
          refine lv_iconst (v := (2 : Int32)) hx hb dX7_line_139 rfl ?_
          refine lv_iadd hx hb dX7_line_140 ?_
          refine tl_s C hT hE dX7_line_141 (fun hE => ?_)
          refine z_nmi hE (fun v25 hE => ?_)
          refine lv_iconst (v := (-1 : Int32)) hx hb dX7_line_142 rfl ?_
          refine lv_icmp_eq (tgt := 153) hx hb dX7_line_143 (by decide) (fun c26 => ?_) (fun c26 => ?_)
          · have hE := z_t c26 hE
            refine lv_aload_n hx hb dX7_line_153 rfl (lv_at hl 2 rfl) ?_
            refine tg_s C hT dX7_line_154 ?_
            refine lv_iload_n hx hb dX7_line_157 rfl (lv_at hl 0 rfl) ?_
            refine lv_iconst (v := (2 : Int32)) hx hb dX7_line_158 rfl ?_
            refine lv_iadd hx hb dX7_line_159 ?_
            refine lv_aload_n hx hb dX7_line_160 rfl (lv_at hl 2 rfl) ?_
            refine tg_s C hT dX7_line_161 ?_
            refine lv_iconst (v := (0 : Int32)) hx hb dX7_line_164 rfl ?_
            refine tl_s C hT hE dX7_line_165 (fun hE => ?_)
            refine z_nmi hE (fun v27 hE => ?_)
            refine ts_s C hT hS hE dX7_line_166 (fun u28 H locs hE hT hS => ?_)
            exact w_167 _ _ _ _ _ hE hT hS (lv_sub hl [2, 1] rfl)
          · have hE := z_f c26 hE
            exact w_146 _ _ _ _ hE hT hS (lv_sub hl [2] rfl)
  have w_28 : ∀ (n : Nat) (u : TS) (x1 : Int32) (H : Heap) (locs : List Loc) (ls : Array Slot), fX7_line_28 N n u x1 = some (r, u1) → TW D dA h u H → va_S (TA h) s.heap H locs → lv_has ls 4 [(0, .ref h), (1, .int x1)] → W p l e { frames := 69, cells := 0, slots := 0, locals := 2156 } s m args below meth c H locs 0 0 (MQ below (mt_Q D dA h (some (.int r)) u1) args s 0 0 (TA h)) (F0 m 28 ls []) := by
    intro n
    induction n with
    | zero =>
      intro u x1 H locs ls hE hT hS hl
      cases (show (none : Option (Int32 × TS)) = some (r, u1) from hE)
    | succ n ih =>
      intro u x1 H locs ls hE hT hS hl
      rw [fX7_line_28] at hE
      refine lv_iload_n hx hb dX7_line_28 rfl (lv_at hl 1 rfl) ?_
      refine lv_aload_n hx hb dX7_line_29 rfl (lv_at hl 0 rfl) ?_
      refine tg_taped C hT dX7_line_30 ?_
      refine lv_icmp_ge (tgt := 54) hx hb dX7_line_33 (by decide) (fun c29 => ?_) (fun c29 => ?_)
      · have hE := z_t c29 hE
        refine lv_aload_n hx hb dX7_line_54 rfl (lv_at hl 0 rfl) ?_
        refine lv_bipush (v := (100 : Int32)) hx hb dX7_line_55 rfl ?_
        refine lv_aload_n hx hb dX7_line_57 rfl (lv_at hl 0 rfl) ?_
        refine tg_s C hT dX7_line_58 ?_
        refine lv_iconst (v := (0 : Int32)) hx hb dX7_line_61 rfl ?_
        refine tl_s C hT hE dX7_line_62 (fun hE => ?_)
        refine z_nmi hE (fun v30 hE => ?_)
        obtain ⟨u31, hc, hE⟩ := o_bd_some hE
        refine tc_X7_readLine C hT hS (kX7_readLine hc) rfl rfl ⟨Nat.le_of_ble_eq_true rfl, Nat.le_of_ble_eq_true rfl⟩ ⟨Nat.le_refl 0, Nat.le_refl 0⟩ dX7_line_63 hl.1 (Nat.le_of_ble_eq_true rfl) (fun H locs hT hS => ?_)
        refine lv_aload_n hx hb dX7_line_66 rfl (lv_at hl 0 rfl) ?_
        refine tg_bad C hT dX7_line_67 ?_
        refine lv_if_eq (tgt := 81) hx hb dX7_line_70 (by decide) (fun c32 => ?_) (fun c32 => ?_)
        · have hE := z_t c32 hE
          refine lv_aload_n hx hb dX7_line_81 rfl (lv_at hl 0 rfl) ?_
          refine tg_key C hT dX7_line_82 ?_
          refine lv_bipush (v := (8 : Int32)) hx hb dX7_line_85 rfl ?_
          refine lv_icmp_ne (tgt := 97) hx hb dX7_line_87 (by decide) (fun c33 => ?_) (fun c33 => ?_)
          · have hE := z_f c33 hE
            refine lv_iconst (v := (-1 : Int32)) hx hb dX7_line_97 rfl ?_
            exact w_98 _ _ _ _ _ hE hT hS (lv_sub hl [0] rfl)
          · have hE := z_t c33 hE
            refine lv_aload_n hx hb dX7_line_90 rfl (lv_at hl 0 rfl) ?_
            refine tg_said C hT dX7_line_91 ?_
            refine lv_goto (tgt := 98) hx hb dX7_line_94 (by decide) ?_
            exact w_98 _ _ _ _ _ hE hT hS (lv_sub hl [0] rfl)
        · have hE := z_f c32 hE
          refine lv_bipush (v := (-10 : Int32)) hx hb dX7_line_73 rfl ?_
          refine lv_aload_n hx hb dX7_line_75 rfl (lv_at hl 0 rfl) ?_
          refine tg_fault C hT dX7_line_76 ?_
          refine lv_isub hx hb dX7_line_79 ?_
          exact mt_iret C hr hlocks hT hS hE dX7_line_80
      · have hE := z_f c29 hE
        refine lv_aload_n hx hb dX7_line_36 rfl (lv_at hl 0 rfl) ?_
        refine tg_text C hT dX7_line_37 ?_
        refine lv_iload_n hx hb dX7_line_40 rfl (lv_at hl 1 rfl) ?_
        refine lv_aload_n hx hb dX7_line_41 rfl (lv_at hl 0 rfl) ?_
        refine tg_tape C hT dX7_line_42 ?_
        refine lv_iload_n hx hb dX7_line_45 rfl (lv_at hl 1 rfl) ?_
        refine tl_tape C hT hE dX7_line_46 (fun hE => ?_)
        refine z_nmi hE (fun v34 hE => ?_)
        refine ts_text C hT hS hE dX7_line_47 (fun u35 H locs hE hT hS => ?_)
        refine z_iinc (v := (x1 + (1 : Int32))) (lw := (fun y_ => [(1, .int y_), (0, .ref h)])) hx hb dX7_line_48 hl hE (k := 1) rfl rfl (by decide) (fun _ => rfl) (fun z36 ls hE hl => ?_)
        refine lv_goto (tgt := 28) hx hb dX7_line_51 (by decide) ?_
        exact ih _ _ _ _ _ hE hT hS (lv_sub hl [1, 0] rfl)
  unfold fX7_line at hE
  refine lv_aload_n hx hb dX7_line_0 rfl (lv_at hl 0 rfl) ?_
  refine tg_s C hT dX7_line_1 ?_
  refine lv_iconst (v := (4 : Int32)) hx hb dX7_line_4 rfl ?_
  refine tl_s C hT hE dX7_line_5 (fun hE => ?_)
  refine z_nmi hE (fun v37 hE => ?_)
  refine lv_bipush (v := (16 : Int32)) hx hb dX7_line_6 rfl ?_
  refine lv_icmp_ne (tgt := 18) hx hb dX7_line_8 (by decide) (fun c38 => ?_) (fun c38 => ?_)
  · have hE := z_f c38 hE
    refine lv_aload_n hx hb dX7_line_18 rfl (lv_at hl 0 rfl) ?_
    refine lv_aload_n hx hb dX7_line_19 rfl (lv_at hl 0 rfl) ?_
    refine tg_taped C hT dX7_line_20 ?_
    refine tp_size C hT hS hE dX7_line_23 (fun u39 H locs hE hT hS => ?_)
    refine lv_iconst (v := (0 : Int32)) hx hb dX7_line_26 rfl ?_
    refine lv_istore_n (lv' := [(1, .int (0 : Int32)), (0, .ref h)]) hx hb dX7_line_27 rfl hl (by decide) rfl (fun ls hl => ?_)
    exact w_28 N _ _ _ _ _ hE hT hS (lv_sub hl [1, 0] rfl)
  · have hE := z_t c38 hE
    refine lv_aload_n hx hb dX7_line_11 rfl (lv_at hl 0 rfl) ?_
    refine lv_bipush (v := (-8 : Int32)) hx hb dX7_line_12 rfl ?_
    obtain ⟨r41, u40, hc, hE⟩ := o_bd2_some hE
    refine tc_X7_refuse C hT hS (kX7_refuse hc) rfl rfl ⟨Nat.le_of_ble_eq_true rfl, Nat.le_of_ble_eq_true rfl⟩ ⟨Nat.le_refl 0, Nat.le_refl 0⟩ dX7_line_14 hl.1 (Nat.le_of_ble_eq_true rfl) (fun H locs hT hS => ?_)
    exact mt_iret C hr hlocks hT hS hE dX7_line_17
set_option maxHeartbeats 4000000 in
set_option maxRecDepth 100000 in
theorem kX7_lineOf {l : Launch} {D : va_G} {dA : Nat → ClassId} {h N : Nat} {u u1 : TS} {a1 : Int32} {a2 : Int32} {r : Int32} (hE : fX7_lineOf N u a1 a2 = some (r, u1)) : Met l yX7_lineOf (ws_ yX7_lineOf cX7_lineOf 3 (some .int)) ({ frames := 1, cells := 0, slots := 0, locals := 22 }) (va_Pc [.ref h, .int a1, .int a2] (mt_B D dA h u)) (mt_Q D dA h (some (.int r)) u1) 0 0 (TA h) := by
  refine mt_met (by decide) rfl rfl rfl ?_
  intro p e s m args below meth c ls C hr hlocks hT hS hl
  have hx := C.1.1
  have hb := C.1.2.1
  have w_56 : ∀ (u : TS) (y0 : Int32) (H : Heap) (locs : List Loc) (ls : Array Slot), fX7_lineOf_56 N u y0 = some (r, u1) → TW D dA h u H → va_S (TA h) s.heap H locs → lv_has ls 3 [] → W p l e { frames := 1, cells := 0, slots := 0, locals := 22 } s m args below meth c H locs 0 0 (MQ below (mt_Q D dA h (some (.int r)) u1) args s 0 0 (TA h)) (F0 m 56 ls [.int y0]) := by
    intro u y0 H locs ls hE hT hS hl
    unfold fX7_lineOf_56 at hE
    exact mt_iret C hr hlocks hT hS hE dX7_lineOf_56
  unfold fX7_lineOf at hE
  refine lv_iload_n hx hb dX7_lineOf_0 rfl (lv_at hl 1 rfl) ?_
  refine lv_iconst (v := (0 : Int32)) hx hb dX7_lineOf_1 rfl ?_
  refine lv_aload_n hx hb dX7_lineOf_2 rfl (lv_at hl 0 rfl) ?_
  refine tg_s C hT dX7_lineOf_3 ?_
  refine lv_iconst (v := (4 : Int32)) hx hb dX7_lineOf_6 rfl ?_
  refine tl_s C hT hE dX7_lineOf_7 (fun hE => ?_)
  refine z_nmi hE (fun v1 hE => ?_)
  refine lv_iconst (v := (1 : Int32)) hx hb dX7_lineOf_8 rfl ?_
  refine lv_isub hx hb dX7_lineOf_9 ?_
  obtain ⟨r2, hc, hE⟩ := o_bd_some hE
  refine sc_X7_in C.1 (kX7_in hc) rfl rfl ⟨Nat.le_of_ble_eq_true rfl, Nat.le_of_ble_eq_true rfl⟩ ⟨Nat.le_refl 0, Nat.le_refl 0⟩ dX7_lineOf_10 hl.1 (Nat.le_of_ble_eq_true rfl) ?_
  refine lv_if_ne (tgt := 23) hx hb dX7_lineOf_13 (by decide) (fun c3 => ?_) (fun c3 => ?_)
  · have hE := z_f c3 hE
    refine lv_iload_n hx hb dX7_lineOf_23 rfl (lv_at hl 2 rfl) ?_
    refine lv_iconst (v := (0 : Int32)) hx hb dX7_lineOf_24 rfl ?_
    refine lv_iconst (v := (3 : Int32)) hx hb dX7_lineOf_25 rfl ?_
    obtain ⟨r4, hc, hE⟩ := o_bd_some hE
    refine sc_X7_in C.1 (kX7_in hc) rfl rfl ⟨Nat.le_of_ble_eq_true rfl, Nat.le_of_ble_eq_true rfl⟩ ⟨Nat.le_refl 0, Nat.le_refl 0⟩ dX7_lineOf_26 hl.1 (Nat.le_of_ble_eq_true rfl) ?_
    refine lv_if_eq (tgt := 50) hx hb dX7_lineOf_29 (by decide) (fun c5 => ?_) (fun c5 => ?_)
    · have hE := z_t c5 hE
      refine lv_aload_n hx hb dX7_lineOf_50 rfl (lv_at hl 0 rfl) ?_
      refine lv_bipush (v := (-7 : Int32)) hx hb dX7_lineOf_51 rfl ?_
      obtain ⟨r7, u6, hc, hE⟩ := o_bd2_some hE
      refine tc_X7_refuse C hT hS (kX7_refuse hc) rfl rfl ⟨Nat.le_of_ble_eq_true rfl, Nat.le_of_ble_eq_true rfl⟩ ⟨Nat.le_refl 0, Nat.le_refl 0⟩ dX7_lineOf_53 hl.1 (Nat.le_of_ble_eq_true rfl) (fun H locs hT hS => ?_)
      exact w_56 _ _ _ _ _ hE hT hS (lv_sub hl [] rfl)
    · have hE := z_f c5 hE
      refine lv_aload_n hx hb dX7_lineOf_32 rfl (lv_at hl 0 rfl) ?_
      refine tg_s C hT dX7_lineOf_33 ?_
      refine lv_sipush (v := (1320 : Int32)) hx hb dX7_lineOf_36 rfl ?_
      refine lv_bipush (v := (125 : Int32)) hx hb dX7_lineOf_39 rfl ?_
      refine lv_iload_n hx hb dX7_lineOf_41 rfl (lv_at hl 1 rfl) ?_
      refine lv_imul hx hb dX7_lineOf_42 ?_
      refine lv_iadd hx hb dX7_lineOf_43 ?_
      refine lv_iload_n hx hb dX7_lineOf_44 rfl (lv_at hl 2 rfl) ?_
      refine lv_iadd hx hb dX7_lineOf_45 ?_
      refine tl_s C hT hE dX7_lineOf_46 (fun hE => ?_)
      refine z_nmi hE (fun v8 hE => ?_)
      refine lv_goto (tgt := 56) hx hb dX7_lineOf_47 (by decide) ?_
      exact w_56 _ _ _ _ _ hE hT hS (lv_sub hl [] rfl)
  · have hE := z_t c3 hE
    refine lv_aload_n hx hb dX7_lineOf_16 rfl (lv_at hl 0 rfl) ?_
    refine lv_bipush (v := (-3 : Int32)) hx hb dX7_lineOf_17 rfl ?_
    obtain ⟨r10, u9, hc, hE⟩ := o_bd2_some hE
    refine tc_X7_refuse C hT hS (kX7_refuse hc) rfl rfl ⟨Nat.le_of_ble_eq_true rfl, Nat.le_of_ble_eq_true rfl⟩ ⟨Nat.le_refl 0, Nat.le_refl 0⟩ dX7_lineOf_19 hl.1 (Nat.le_of_ble_eq_true rfl) (fun H locs hT hS => ?_)
    exact mt_iret C hr hlocks hT hS hE dX7_lineOf_22
end TRG3
