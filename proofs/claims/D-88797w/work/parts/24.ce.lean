section CG4
variable {p : Program} {l : Launch} {e : Env} {R : Room} {s : State} {m : MethodId} {args : Array Value} {below : List Frame} {meth : Method} {c : Code} {H : Heap} {locs : List Loc} {cells slots : Nat} {Q : State → Prop} {cc : ByteArray} {nL pc : Nat} {ls : Array Slot} {rest : List Value} {D : va_G} {dA : Nat → ClassId} {h : Nat} {H0 : Heap}
set_option maxHeartbeats 4000000 in
set_option maxRecDepth 100000 in
theorem kX0_nursery {l : Launch} {D : va_G} {dA : Nat → ClassId} {h N : Nat} {a1 : Int32} {a2 : Int32} {u u1 : CS} {r : Int32} (hE : fX0_nursery N u a1 a2 = some (r, u1)) : Met l yX0_nursery (ws_ yX0_nursery cX0_nursery 3 (some .int)) ({ frames := 1, cells := 0, slots := 0, locals := 25 }) (va_Pc [.ref (h + 0), .int a1, .int a2] (wc_St D dA h u)) (wc_Qr D dA h (some (.int r)) u1) 0 0 (CA h) := by
  refine wc_met (own := RX0) (lv := [(0, .ref (h + 0)), (1, .int a1), (2, .int a2)]) (by decide) rfl rfl rfl ?_
  intro p e s m args below meth c ls C hr hlocks hW hS hV hl
  have hx := C.1.1
  have hb := C.1.2.1
  have w_53 : ∀ (u : CS) (y0 : Int32) (H : Heap) (locs : List Loc) (ls : Array Slot), fX0_nursery_53 N u y0 = some (r, u1) → wc_W D dA h u H → wc_S u → va_S (CA h) s.heap H locs → lv_has ls 3 [] → W p l e ({ frames := 1, cells := 0, slots := 0, locals := 25 }) s m args below meth c H locs 0 0 (MQ below (wc_Qr D dA h (some (.int r)) u1) args s 0 0 (CA h)) (F0 m 53 ls [.int y0]) := by
    intro u y0 H locs ls hE hW hS hV hl
    unfold fX0_nursery_53 at hE
    exact wc_iret C hr hlocks hW hS hV hE dX0_nursery_53
  unfold fX0_nursery at hE
  refine lv_iload_n hx hb dX0_nursery_0 rfl (lv_at hl 1 rfl) ?_
  refine lv_i2l hx hb dX0_nursery_1 rfl ?_
  refine lv_lconst (v := (0 : Int64)) hx hb dX0_nursery_2 rfl ?_
  refine lv_ldc2 (v := (3 : Int64)) hx hb C.1.2.2.2.1 (C.1.2.2.2.2 _ q784) dX0_nursery_3 ?_
  obtain ⟨r8, hc, hE⟩ := o_bd_some hE
  refine sc_X0_31 C.1 (kX0_isIn hc) rfl rfl ⟨Nat.le_of_ble_eq_true rfl, Nat.le_of_ble_eq_true rfl⟩ ⟨Nat.le_refl 0, Nat.le_refl 0⟩ dX0_nursery_6 hl.1 (Nat.le_of_ble_eq_true rfl) ?_
  refine lv_if_ne (tgt := 19) hx hb dX0_nursery_9 (by decide) (fun c9 => ?_) (fun c9 => ?_)
  · have hE := z_f c9 hE
    refine lv_iload_n hx hb dX0_nursery_19 rfl (lv_at hl 2 rfl) ?_
    refine lv_i2l hx hb dX0_nursery_20 rfl ?_
    refine lv_lconst (v := (0 : Int64)) hx hb dX0_nursery_21 rfl ?_
    refine lv_ldc2 (v := (2 : Int64)) hx hb C.1.2.2.2.1 (C.1.2.2.2.2 _ q1189) dX0_nursery_22 ?_
    obtain ⟨r10, hc, hE⟩ := o_bd_some hE
    refine sc_X0_31 C.1 (kX0_isIn hc) rfl rfl ⟨Nat.le_of_ble_eq_true rfl, Nat.le_of_ble_eq_true rfl⟩ ⟨Nat.le_refl 0, Nat.le_refl 0⟩ dX0_nursery_25 hl.1 (Nat.le_of_ble_eq_true rfl) ?_
    refine lv_if_eq (tgt := 47) hx hb dX0_nursery_28 (by decide) (fun c11 => ?_) (fun c11 => ?_)
    · have hE := z_t c11 hE
      refine lv_aload_n hx hb dX0_nursery_47 rfl (lv_at hl 0 rfl) ?_
      refine lv_bipush (v := (-7 : Int32)) hx hb dX0_nursery_48 rfl ?_
      obtain ⟨r12, u13, hc, hE⟩ := o_bd2_some hE
      refine cc_X0_118 C hW hS hV (st_0 hS) (kX0_refuse hc) rfl rfl ⟨Nat.le_of_ble_eq_true rfl, Nat.le_of_ble_eq_true rfl⟩ ⟨Nat.le_refl 0, Nat.le_refl 0⟩ dX0_nursery_50 hl.1 (Nat.le_of_ble_eq_true rfl) (fun H locs hW hS hV => ?_)
      exact w_53 _ _ _ _ _ hE hW hS hV (lv_sub hl [] rfl)
    · have hE := z_f c11 hE
      refine lv_aload_n hx hb dX0_nursery_31 rfl (lv_at hl 0 rfl) ?_
      refine cgs_X0_19_0 C hW (st_0 hS) (sp_0_now hS) dX0_nursery_32 ?_
      refine cgs_X0_402_1 C hW (st_F hS wc_F3) (sp_F_sown hS wc_F3) dX0_nursery_35 ?_
      refine lv_iconst (v := (3 : Int32)) hx hb dX0_nursery_38 rfl ?_
      refine lv_iload_n hx hb dX0_nursery_39 rfl (lv_at hl 1 rfl) ?_
      refine lv_imul hx hb dX0_nursery_40 ?_
      refine lv_iload_n hx hb dX0_nursery_41 rfl (lv_at hl 2 rfl) ?_
      refine lv_iadd hx hb dX0_nursery_42 ?_
      refine wc_ldi C hW (st_F_sown hS wc_F3) hE dX0_nursery_43 (fun hE => ?_)
      refine z_nmi hE (fun v14 hE => ?_)
      refine lv_goto (tgt := 53) hx hb dX0_nursery_44 (by decide) ?_
      exact w_53 _ _ _ _ _ hE hW hS hV (lv_sub hl [] rfl)
  · have hE := z_t c9 hE
    refine lv_aload_n hx hb dX0_nursery_12 rfl (lv_at hl 0 rfl) ?_
    refine lv_bipush (v := (-5 : Int32)) hx hb dX0_nursery_13 rfl ?_
    obtain ⟨r15, u16, hc, hE⟩ := o_bd2_some hE
    refine cc_X0_118 C hW hS hV (st_0 hS) (kX0_refuse hc) rfl rfl ⟨Nat.le_of_ble_eq_true rfl, Nat.le_of_ble_eq_true rfl⟩ ⟨Nat.le_refl 0, Nat.le_refl 0⟩ dX0_nursery_15 hl.1 (Nat.le_of_ble_eq_true rfl) (fun H locs hW hS hV => ?_)
    exact wc_iret C hr hlocks hW hS hV hE dX0_nursery_18
theorem sc_X0_407 {a1 : Int32} {r : Int32} {rm : Room} (C : CallFix p m c cc nL s args lw_all RX0) (hM : Met l yX0_isWind (ws_ yX0_isWind cX0_isWind 1 (some .boolean)) rm (va_Pc [.int a1] (fun _ => True)) (s_Q (some (.int r))) 0 0 (fun _ => False)) (hrc : rm.cells = 0) (hrs : rm.slots = 0) (hR : rm.frames + 1 ≤ R.frames ∧ 8 + (1 + 11) + rm.locals ≤ R.locals) (hf : cells + 0 ≤ R.cells ∧ slots + 0 ≤ R.slots) (d : decode cc pc = .ok (.invokestatic 407, 3)) (hsz : ls.size = nL) (hro : (rest.map fun v => v.category).sum ≤ 8) (kk : W p l e R s m args below meth c H locs cells slots Q (F0 m (pc + 3) ls (.int r :: rest))) : W p l e R s m args below meth c H locs cells slots Q (F0 m pc ls (.int a1 :: rest)) :=
  s_call (v := (some (.int r))) (va_runS (As := [.int a1]) (rest := rest) C hM (va_cwS 1 C.2.2.2.2 (lw_S q1256 q1257 q166 q1258) rfl hrc hrs (by decide +kernel) hR) (s_pre _) rfl rfl hsz rfl (lv_room hro) d hf) kk
set_option maxHeartbeats 4000000 in
set_option maxRecDepth 100000 in
theorem kX0_isWind {l : Launch} {a1 : Int32} {r : Int32} (hE : fX0_isWind a1 = some r) : Met l yX0_isWind (ws_ yX0_isWind cX0_isWind 1 (some .boolean)) ({ frames := 1, cells := 0, slots := 0, locals := 25 }) (va_Pc [.int a1] (fun _ => True)) (s_Q (some (.int r))) 0 0 (fun _ => False) := by
  refine s_met (own := RX0) (by decide) rfl rfl rfl ?_
  intro p e s m args below meth c ls C hr hlocks hl
  have hx := C.1
  have hb := C.2.1
  unfold fX0_isWind at hE
  refine lv_iload_n hx hb dX0_isWind_0 rfl (lv_at hl 0 rfl) ?_
  refine lv_i2l hx hb dX0_isWind_1 rfl ?_
  refine lv_lconst (v := (0 : Int64)) hx hb dX0_isWind_2 rfl ?_
  refine lv_ldc2 (v := (99 : Int64)) hx hb C.2.2.2.1 (C.2.2.2.2 _ q1255) dX0_isWind_3 ?_
  obtain ⟨r2, hc, hE⟩ := o_bd_some hE
  refine sc_X0_31 C (kX0_isIn hc) rfl rfl ⟨Nat.le_of_ble_eq_true rfl, Nat.le_of_ble_eq_true rfl⟩ ⟨Nat.le_refl 0, Nat.le_refl 0⟩ dX0_isWind_6 hl.1 (Nat.le_of_ble_eq_true rfl) ?_
  obtain ⟨hb1, hE⟩ := o_bl_some hE
  exact s_zret C hr hlocks hb1 hE dX0_isWind_9
set_option maxHeartbeats 4000000 in
set_option maxRecDepth 100000 in
theorem kX0_wind {l : Launch} {D : va_G} {dA : Nat → ClassId} {h N : Nat} {a1 : Int32} {a2 : Int32} {u u1 : CS} {r : Int32} (hE : fX0_wind N u a1 a2 = some (r, u1)) : Met l yX0_wind (ws_ yX0_wind cX0_wind 4 (some .int)) ({ frames := 2, cells := 0, slots := 0, locals := 45 }) (va_Pc [.ref (h + 0), .int a1, .int a2] (wc_St D dA h u)) (wc_Qr D dA h (some (.int r)) u1) 0 0 (CA h) := by
  refine wc_met (own := RX0) (lv := [(0, .ref (h + 0)), (1, .int a1), (2, .int a2)]) (by decide) rfl rfl rfl ?_
  intro p e s m args below meth c ls C hr hlocks hW hS hV hl
  have hx := C.1.1
  have hb := C.1.2.1
  have w_38 : ∀ (u : CS) (x1 : Int32) (x2 : Int32) (H : Heap) (locs : List Loc) (ls : Array Slot), fX0_wind_38 N u x1 x2 = some (r, u1) → wc_W D dA h u H → wc_S u → va_S (CA h) s.heap H locs → lv_has ls 4 [(0, .ref (h + 0)), (1, .int x1), (2, .int x2)] → W p l e ({ frames := 2, cells := 0, slots := 0, locals := 45 }) s m args below meth c H locs 0 0 (MQ below (wc_Qr D dA h (some (.int r)) u1) args s 0 0 (CA h)) (F0 m 38 ls []) := by
    intro u x1 x2 H locs ls hE hW hS hV hl
    unfold fX0_wind_38 at hE
    refine lv_aload_n hx hb dX0_wind_38 rfl (lv_at hl 0 rfl) ?_
    refine cgs_X0_19_0 C hW (st_0 hS) (sp_0_now hS) dX0_wind_39 ?_
    refine cgs_X0_410_1 C hW (st_F hS wc_F3) (sp_F_winds hS wc_F3) dX0_wind_42 ?_
    refine lv_iload_n hx hb dX0_wind_45 rfl (lv_at hl 1 rfl) ?_
    refine wc_ldi C hW (st_F_winds hS wc_F3) hE dX0_wind_46 (fun hE => ?_)
    refine z_nmi hE (fun v8 hE => ?_)
    refine lv_istore_n (lv' := [(3, .int v8), (0, .ref (h + 0)), (1, .int x1), (2, .int x2)]) hx hb dX0_wind_47 rfl hl (by decide) rfl (fun ls hl => ?_)
    refine lv_aload_n hx hb dX0_wind_48 rfl (lv_at hl 1 rfl) ?_
    refine cgs_X0_19_0 C hW (st_0 hS) (sp_0_now hS) dX0_wind_49 ?_
    refine cgs_X0_410_1 C hW (st_F hS wc_F3) (sp_F_winds hS wc_F3) dX0_wind_52 ?_
    refine lv_iload_n hx hb dX0_wind_55 rfl (lv_at hl 2 rfl) ?_
    refine lv_iload_n hx hb dX0_wind_56 rfl (lv_at hl 3 rfl) ?_
    refine wc_sti (J := wc_S) C hW hV (st_F_winds hS wc_F3) hS.uA hE dX0_wind_57 (fun u9 H locs hE hW hS hV => ?_)
    refine lv_iload_n hx hb dX0_wind_58 rfl (lv_at hl 0 rfl) ?_
    exact wc_iret C hr hlocks hW hS hV hE dX0_wind_59
  unfold fX0_wind at hE
  refine lv_iload_n hx hb dX0_wind_0 rfl (lv_at hl 1 rfl) ?_
  refine lv_i2l hx hb dX0_wind_1 rfl ?_
  refine lv_lconst (v := (0 : Int64)) hx hb dX0_wind_2 rfl ?_
  refine lv_ldc2 (v := (99 : Int64)) hx hb C.1.2.2.2.1 (C.1.2.2.2.2 _ q1255) dX0_wind_3 ?_
  obtain ⟨r10, hc, hE⟩ := o_bd_some hE
  refine sc_X0_31 C.1 (kX0_isIn hc) rfl rfl ⟨Nat.le_of_ble_eq_true rfl, Nat.le_of_ble_eq_true rfl⟩ ⟨Nat.le_refl 0, Nat.le_refl 0⟩ dX0_wind_6 hl.1 (Nat.le_of_ble_eq_true rfl) ?_
  refine lv_if_ne (tgt := 19) hx hb dX0_wind_9 (by decide) (fun c11 => ?_) (fun c11 => ?_)
  · have hE := z_f c11 hE
    refine lv_iload_n hx hb dX0_wind_19 rfl (lv_at hl 2 rfl) ?_
    refine lv_iconst (v := (-1 : Int32)) hx hb dX0_wind_20 rfl ?_
    refine lv_icmp_eq (tgt := 38) hx hb dX0_wind_21 (by decide) (fun c12 => ?_) (fun c12 => ?_)
    · have hE := z_t c12 hE
      exact w_38 _ _ _ _ _ _ hE hW hS hV (lv_sub hl [0, 1, 2] rfl)
    · have hE := z_f c12 hE
      refine lv_iload_n hx hb dX0_wind_24 rfl (lv_at hl 2 rfl) ?_
      obtain ⟨r13, hc, hE⟩ := o_bd_some hE
      refine sc_X0_407 C.1 (kX0_isWind hc) rfl rfl ⟨Nat.le_of_ble_eq_true rfl, Nat.le_of_ble_eq_true rfl⟩ ⟨Nat.le_refl 0, Nat.le_refl 0⟩ dX0_wind_25 hl.1 (Nat.le_of_ble_eq_true rfl) ?_
      refine lv_if_ne (tgt := 38) hx hb dX0_wind_28 (by decide) (fun c14 => ?_) (fun c14 => ?_)
      · have hE := z_f c14 hE
        exact w_38 _ _ _ _ _ _ hE hW hS hV (lv_sub hl [0, 1, 2] rfl)
      · have hE := z_t c14 hE
        refine lv_aload_n hx hb dX0_wind_31 rfl (lv_at hl 0 rfl) ?_
        refine lv_bipush (v := (-7 : Int32)) hx hb dX0_wind_32 rfl ?_
        obtain ⟨r15, u16, hc, hE⟩ := o_bd2_some hE
        refine cc_X0_312 C hW hS hV (st_0 hS) (kX0_refuseAsNought hc) rfl rfl ⟨Nat.le_of_ble_eq_true rfl, Nat.le_of_ble_eq_true rfl⟩ ⟨Nat.le_refl 0, Nat.le_refl 0⟩ dX0_wind_34 hl.1 (Nat.le_of_ble_eq_true rfl) (fun H locs hW hS hV => ?_)
        exact wc_iret C hr hlocks hW hS hV hE dX0_wind_37
  · have hE := z_t c11 hE
    refine lv_aload_n hx hb dX0_wind_12 rfl (lv_at hl 0 rfl) ?_
    refine lv_bipush (v := (-3 : Int32)) hx hb dX0_wind_13 rfl ?_
    obtain ⟨r17, u18, hc, hE⟩ := o_bd2_some hE
    refine cc_X0_312 C hW hS hV (st_0 hS) (kX0_refuseAsNought hc) rfl rfl ⟨Nat.le_of_ble_eq_true rfl, Nat.le_of_ble_eq_true rfl⟩ ⟨Nat.le_refl 0, Nat.le_refl 0⟩ dX0_wind_15 hl.1 (Nat.le_of_ble_eq_true rfl) (fun H locs hW hS hV => ?_)
    exact wc_iret C hr hlocks hW hS hV hE dX0_wind_18
set_option maxHeartbeats 4000000 in
set_option maxRecDepth 100000 in
theorem kX0_watch {l : Launch} {D : va_G} {dA : Nat → ClassId} {h N : Nat} {a1 : Int32} {a2 : Int32} {a3 : Int32} {u u1 : CS} {r : Int32} (hE : fX0_watch N u a1 a2 a3 = some (r, u1)) : Met l yX0_watch (ws_ yX0_watch cX0_watch 5 (some .int)) ({ frames := 2, cells := 0, slots := 0, locals := 45 }) (va_Pc [.ref (h + 0), .int a1, .int a2, .int a3] (wc_St D dA h u)) (wc_Qr D dA h (some (.int r)) u1) 0 0 (CA h) := by
  refine wc_met (own := RX0) (lv := [(0, .ref (h + 0)), (1, .int a1), (2, .int a2), (3, .int a3)]) (by decide) rfl rfl rfl ?_
  intro p e s m args below meth c ls C hr hlocks hW hS hV hl
  have hx := C.1.1
  have hb := C.1.2.1
  have w_38 : ∀ (u : CS) (H : Heap) (locs : List Loc) (ls : Array Slot), fX0_watch_38 N u = some (r, u1) → wc_W D dA h u H → wc_S u → va_S (CA h) s.heap H locs → lv_has ls 5 [(0, .ref (h + 0))] → W p l e ({ frames := 2, cells := 0, slots := 0, locals := 45 }) s m args below meth c H locs 0 0 (MQ below (wc_Qr D dA h (some (.int r)) u1) args s 0 0 (CA h)) (F0 m 38 ls []) := by
    intro u H locs ls hE hW hS hV hl
    unfold fX0_watch_38 at hE
    refine lv_aload_n hx hb dX0_watch_38 rfl (lv_at hl 0 rfl) ?_
    refine lv_bipush (v := (-7 : Int32)) hx hb dX0_watch_39 rfl ?_
    obtain ⟨r9, u10, hc, hE⟩ := o_bd2_some hE
    refine cc_X0_118 C hW hS hV (st_0 hS) (kX0_refuse hc) rfl rfl ⟨Nat.le_of_ble_eq_true rfl, Nat.le_of_ble_eq_true rfl⟩ ⟨Nat.le_refl 0, Nat.le_refl 0⟩ dX0_watch_41 hl.1 (Nat.le_of_ble_eq_true rfl) (fun H locs hW hS hV => ?_)
    exact wc_iret C hr hlocks hW hS hV hE dX0_watch_44
  unfold fX0_watch at hE
  refine lv_iload_n hx hb dX0_watch_0 rfl (lv_at hl 1 rfl) ?_
  obtain ⟨r11, hc, hE⟩ := o_bd_some hE
  refine sc_X0_192 C.1 (kX0_isBlock hc) rfl rfl ⟨Nat.le_of_ble_eq_true rfl, Nat.le_of_ble_eq_true rfl⟩ ⟨Nat.le_refl 0, Nat.le_refl 0⟩ dX0_watch_1 hl.1 (Nat.le_of_ble_eq_true rfl) ?_
  refine lv_if_ne (tgt := 14) hx hb dX0_watch_4 (by decide) (fun c12 => ?_) (fun c12 => ?_)
  · have hE := z_f c12 hE
    refine lv_iload_n hx hb dX0_watch_14 rfl (lv_at hl 2 rfl) ?_
    refine lv_i2l hx hb dX0_watch_15 rfl ?_
    refine lv_lconst (v := (0 : Int64)) hx hb dX0_watch_16 rfl ?_
    refine lv_ldc2 (v := (999 : Int64)) hx hb C.1.2.2.2.1 (C.1.2.2.2.2 _ q684) dX0_watch_17 ?_
    obtain ⟨r13, hc, hE⟩ := o_bd_some hE
    refine sc_X0_31 C.1 (kX0_isIn hc) rfl rfl ⟨Nat.le_of_ble_eq_true rfl, Nat.le_of_ble_eq_true rfl⟩ ⟨Nat.le_refl 0, Nat.le_refl 0⟩ dX0_watch_20 hl.1 (Nat.le_of_ble_eq_true rfl) ?_
    refine lv_if_eq (tgt := 38) hx hb dX0_watch_23 (by decide) (fun c14 => ?_) (fun c14 => ?_)
    · have hE := z_t c14 hE
      exact w_38 _ _ _ _ hE hW hS hV (lv_sub hl [0] rfl)
    · have hE := z_f c14 hE
      refine lv_iload_n hx hb dX0_watch_26 rfl (lv_at hl 3 rfl) ?_
      refine lv_i2l hx hb dX0_watch_27 rfl ?_
      refine lv_lconst (v := (0 : Int64)) hx hb dX0_watch_28 rfl ?_
      refine lv_ldc2 (v := (99 : Int64)) hx hb C.1.2.2.2.1 (C.1.2.2.2.2 _ q1255) dX0_watch_29 ?_
      obtain ⟨r15, hc, hE⟩ := o_bd_some hE
      refine sc_X0_31 C.1 (kX0_isIn hc) rfl rfl ⟨Nat.le_of_ble_eq_true rfl, Nat.le_of_ble_eq_true rfl⟩ ⟨Nat.le_refl 0, Nat.le_refl 0⟩ dX0_watch_32 hl.1 (Nat.le_of_ble_eq_true rfl) ?_
      refine lv_if_ne (tgt := 45) hx hb dX0_watch_35 (by decide) (fun c16 => ?_) (fun c16 => ?_)
      · have hE := z_f c16 hE
        refine lv_aload_n hx hb dX0_watch_45 rfl (lv_at hl 0 rfl) ?_
        refine cgs_X0_19_0 C hW (st_0 hS) (sp_0_now hS) dX0_watch_46 ?_
        refine cgs_X0_418_1 C hW (st_F hS wc_F3) (sp_F_thieves hS wc_F3) dX0_watch_49 ?_
        refine lv_iload_n hx hb dX0_watch_52 rfl (lv_at hl 1 rfl) ?_
        refine wc_ldi C hW (st_F_thieves hS wc_F3) hE dX0_watch_53 (fun hE => ?_)
        refine z_nmi hE (fun v17 hE => ?_)
        refine lv_istore (lv' := [(4, .int v17), (0, .ref (h + 0)), (1, .int a1), (2, .int a2), (3, .int a3)]) hx hb dX0_watch_54 hl (by decide) rfl (fun ls hl => ?_)
        refine lv_aload_n hx hb dX0_watch_56 rfl (lv_at hl 1 rfl) ?_
        refine cgs_X0_19_0 C hW (st_0 hS) (sp_0_now hS) dX0_watch_57 ?_
        refine cgs_X0_418_1 C hW (st_F hS wc_F3) (sp_F_thieves hS wc_F3) dX0_watch_60 ?_
        refine lv_iload_n hx hb dX0_watch_63 rfl (lv_at hl 2 rfl) ?_
        refine lv_iload_n hx hb dX0_watch_64 rfl (lv_at hl 3 rfl) ?_
        refine wc_sti (J := wc_S) C hW hV (st_F_thieves hS wc_F3) hS.uA hE dX0_watch_65 (fun u18 H locs hE hW hS hV => ?_)
        refine lv_aload_n hx hb dX0_watch_66 rfl (lv_at hl 1 rfl) ?_
        refine cgs_X0_19_0 C hW (st_0 hS) (sp_0_now hS) dX0_watch_67 ?_
        refine cgs_X0_421_1 C hW (st_F hS wc_F3) (sp_F_guards hS wc_F3) dX0_watch_70 ?_
        refine lv_iload_n hx hb dX0_watch_73 rfl (lv_at hl 2 rfl) ?_
        refine lv_iload_n hx hb dX0_watch_74 rfl (lv_at hl 4 rfl) ?_
        refine wc_sti (J := wc_S) C hW hV (st_F_guards hS wc_F3) hS.uA hE dX0_watch_75 (fun u19 H locs hE hW hS hV => ?_)
        refine lv_iload hx hb dX0_watch_76 (lv_at hl 0 rfl) ?_
        exact wc_iret C hr hlocks hW hS hV hE dX0_watch_78
      · have hE := z_t c16 hE
        exact w_38 _ _ _ _ hE hW hS hV (lv_sub hl [0] rfl)
  · have hE := z_t c12 hE
    refine lv_aload_n hx hb dX0_watch_7 rfl (lv_at hl 0 rfl) ?_
    refine lv_bipush (v := (-3 : Int32)) hx hb dX0_watch_8 rfl ?_
    obtain ⟨r20, u21, hc, hE⟩ := o_bd2_some hE
    refine cc_X0_118 C hW hS hV (st_0 hS) (kX0_refuse hc) rfl rfl ⟨Nat.le_of_ble_eq_true rfl, Nat.le_of_ble_eq_true rfl⟩ ⟨Nat.le_refl 0, Nat.le_refl 0⟩ dX0_watch_10 hl.1 (Nat.le_of_ble_eq_true rfl) (fun H locs hW hS hV => ?_)
    exact wc_iret C hr hlocks hW hS hV hE dX0_watch_13
theorem cc_X1_286 {F : Nat} {a1 : Int32} {a2 : Int32} {u u1 : CS} {rm : Room} (C : CC p m c cc nL s args D dA RX1) (hW : wc_W D dA h u H) (hS : wc_S u) (hV : va_S (CA h) H0 H locs) (ht : wc_T u F = some (.inl 1)) (hM : Met l yX1_become (ws_ yX1_become cX1_become 3 none) rm (va_Pc [.ref (h + F), .int a1, .int a2] (wc_St D dA h u)) (wc_Qr D dA h none u1) 0 0 (CA h)) (hrc : rm.cells = 0) (hrs : rm.slots = 0) (hR : rm.frames + 1 ≤ R.frames ∧ 8 + (3 + 11) + rm.locals ≤ R.locals) (hf : cells + 0 ≤ R.cells ∧ slots + 0 ≤ R.slots) (d : decode cc pc = .ok (.invokevirtual 286, 3)) (hsz : ls.size = nL) (hro : (rest.map fun v => v.category).sum ≤ 8) (kk : ∀ (H1 : Heap) (locs1 : List Loc), wc_W D dA h u1 H1 → wc_S u1 → va_S (CA h) H0 H1 locs1 → W p l e R s m args below meth c H1 locs1 cells slots Q (F0 m (pc + 3) ls (rest))) : W p l e R s m args below meth c H locs cells slots Q (F0 m pc ls (.int a2 :: .int a1 :: .ref (h + F) :: rest)) :=
  wc_call (v := none) (va_runV (As := [.int a1, .int a2]) (rest := rest) C.1 hM (cwV 2 C.1.2.2.2.2 (lw_V q1324 q1326 qs67 q167 q1327) rfl hrc hrs (by decide +kernel) hR) (wc_preV (q := (RX1, TX1, 46)) C.2 hW hS ht rfl _) rfl rfl hsz rfl (lv_room hro) d hf) hV (fun _ z => z) (fun H1 locs1 a b c0 _ _ => kk H1 locs1 a b c0)
set_option maxHeartbeats 4000000 in
set_option maxRecDepth 100000 in
theorem kX1_become {l : Launch} {D : va_G} {dA : Nat → ClassId} {h N : Nat} {F : Nat} {a1 : Int32} {a2 : Int32} {u u_ : CS} (hF : wc_F F) (hE : fX1_become N F u a1 a2 = some u_) : Met l yX1_become (ws_ yX1_become cX1_become 3 none) ({ frames := 0, cells := 0, slots := 0, locals := 0 }) (va_Pc [.ref (h + F), .int a1, .int a2] (wc_St D dA h u)) (wc_Qr D dA h none u_) 0 0 (CA h) := by
  refine wc_met (own := RX1) (lv := [(0, .ref (h + F)), (1, .int a1), (2, .int a2)]) (by decide) rfl rfl rfl ?_
  intro p e s m args below meth c ls C hr hlocks hW hS hV hl
  have hx := C.1.1
  have hb := C.1.2.1
  have w_26 : ∀ (u : CS) (y1 : Int32) (y2 : Int32) (H : Heap) (locs : List Loc) (ls : Array Slot), fX1_become_26 N F u y1 y2 = some u_ → wc_W D dA h u H → wc_S u → va_S (CA h) s.heap H locs → lv_has ls 3 [] → W p l e ({ frames := 0, cells := 0, slots := 0, locals := 0 }) s m args below meth c H locs 0 0 (MQ below (wc_Qr D dA h none u_) args s 0 0 (CA h)) (F0 m 26 ls [.int y2, .int y1, .ref (h + (F + 6))]) := by
    intro u y1 y2 H locs ls hE hW hS hV hl
    unfold fX1_become_26 at hE
    refine wc_sti (J := wc_S) C hW hV (st_F_ages hS hF) hS.uA hE dX1_become_26 (fun u2 H locs hE hW hS hV => ?_)
    exact wc_vret C hr hlocks hW hS hV hE dX1_become_27
  unfold fX1_become at hE
  refine lv_aload_n hx hb dX1_become_0 rfl (lv_at hl 0 rfl) ?_
  refine cgs_X1_30_1 C hW (st_F hS hF) (sp_F_fulls hS hF) dX1_become_1 ?_
  refine lv_iload_n hx hb dX1_become_4 rfl (lv_at hl 1 rfl) ?_
  refine lv_iload_n hx hb dX1_become_5 rfl (lv_at hl 2 rfl) ?_
  refine wc_sti (J := wc_S) C hW hV (st_F_fulls hS hF) hS.uA hE dX1_become_6 (fun u3 H locs hE hW hS hV => ?_)
  refine lv_aload_n hx hb dX1_become_7 rfl (lv_at hl 0 rfl) ?_
  refine cgs_X1_27_1 C hW (st_F hS hF) (sp_F_ages hS hF) dX1_become_8 ?_
  refine lv_iload_n hx hb dX1_become_11 rfl (lv_at hl 1 rfl) ?_
  refine lv_iload_n hx hb dX1_become_12 rfl (lv_at hl 2 rfl) ?_
  refine lv_if_ne (tgt := 20) hx hb dX1_become_13 (by decide) (fun c4 => ?_) (fun c4 => ?_)
  · have hE := z_f c4 hE
    refine lv_aload_n hx hb dX1_become_20 rfl (lv_at hl 0 rfl) ?_
    refine cgs_X1_27_1 C hW (st_F hS hF) (sp_F_ages hS hF) dX1_become_21 ?_
    refine lv_iload_n hx hb dX1_become_24 rfl (lv_at hl 1 rfl) ?_
    refine wc_ldi C hW (st_F_ages hS hF) hE dX1_become_25 (fun hE => ?_)
    refine z_nmi hE (fun v5 hE => ?_)
    exact w_26 _ _ _ _ _ _ hE hW hS hV (lv_sub hl [] rfl)
  · have hE := z_t c4 hE
    refine lv_iconst (v := (0 : Int32)) hx hb dX1_become_16 rfl ?_
    refine lv_goto (tgt := 26) hx hb dX1_become_17 (by decide) ?_
    exact w_26 _ _ _ _ _ _ hE hW hS hV (lv_sub hl [] rfl)
theorem cc_X1_300 {F : Nat} {u u1 : CS} {rm : Room} (C : CC p m c cc nL s args D dA RX1) (hW : wc_W D dA h u H) (hS : wc_S u) (hV : va_S (CA h) H0 H locs) (ht : wc_T u F = some (.inl 1)) (hM : Met l yX1_blow (ws_ yX1_blow cX1_blow 7 none) rm (va_Pc [.ref (h + F)] (wc_St D dA h u)) (wc_Qr D dA h none u1) 0 0 (CA h)) (hrc : rm.cells = 0) (hrs : rm.slots = 0) (hR : rm.frames + 1 ≤ R.frames ∧ 8 + (7 + 11) + rm.locals ≤ R.locals) (hf : cells + 0 ≤ R.cells ∧ slots + 0 ≤ R.slots) (d : decode cc pc = .ok (.invokevirtual 300, 3)) (hsz : ls.size = nL) (hro : (rest.map fun v => v.category).sum ≤ 8) (kk : ∀ (H1 : Heap) (locs1 : List Loc), wc_W D dA h u1 H1 → wc_S u1 → va_S (CA h) H0 H1 locs1 → W p l e R s m args below meth c H1 locs1 cells slots Q (F0 m (pc + 3) ls (rest))) : W p l e R s m args below meth c H locs cells slots Q (F0 m pc ls (.ref (h + F) :: rest)) :=
  wc_call (v := none) (va_runV (As := []) (rest := rest) C.1 hM (cwV 0 C.1.2.2.2.2 (lw_V q1338 q1340 qs69 q167 q1341) rfl hrc hrs (by decide +kernel) hR) (wc_preV (q := (RX1, TX1, 46)) C.2 hW hS ht rfl _) rfl rfl hsz rfl (lv_room hro) d hf) hV (fun _ z => z) (fun H1 locs1 a b c0 _ _ => kk H1 locs1 a b c0)
set_option maxHeartbeats 4000000 in
set_option maxRecDepth 100000 in
theorem kX1_blow {l : Launch} {D : va_G} {dA : Nat → ClassId} {h N : Nat} {F : Nat} {u u_ : CS} (hF : wc_F F) (hE : fX1_blow N F u = some u_) : Met l yX1_blow (ws_ yX1_blow cX1_blow 7 none) ({ frames := 4, cells := 0, slots := 0, locals := 88 }) (va_Pc [.ref (h + F)] (wc_St D dA h u)) (wc_Qr D dA h none u_) 0 0 (CA h) := by
  refine wc_met (own := RX1) (lv := [(0, .ref (h + F))]) (by decide) rfl rfl rfl ?_
  intro p e s m args below meth c ls C hr hlocks hW hS hV hl
  have hx := C.1.1
  have hb := C.1.2.1
  have w_274 : ∀ (ag81 : CS → Int32 → Int32 → Option (CS)) (hag81 : (∀ (u : CS) (x1 : Int32) (x2 : Int32) (H : Heap) (locs : List Loc) (ls : Array Slot), ag81 u x1 x2 = some u_ → wc_W D dA h u H → wc_S u → va_S (CA h) s.heap H locs → lv_has ls 7 [(0, .ref (h + F)), (1, .int x1), (2, .int x2)] → W p l e ({ frames := 4, cells := 0, slots := 0, locals := 88 }) s m args below meth c H locs 0 0 (MQ below (wc_Qr D dA h none u_) args s 0 0 (CA h)) (F0 m 81 ls []))) (u : CS) (x1 : Int32) (x2 : Int32) (H : Heap) (locs : List Loc) (ls : Array Slot), fX1_blow_274 N F ag81 u x1 x2 = some u_ → wc_W D dA h u H → wc_S u → va_S (CA h) s.heap H locs → lv_has ls 7 [(0, .ref (h + F)), (1, .int x1), (2, .int x2)] → W p l e ({ frames := 4, cells := 0, slots := 0, locals := 88 }) s m args below meth c H locs 0 0 (MQ below (wc_Qr D dA h none u_) args s 0 0 (CA h)) (F0 m 274 ls []) := by
    intro ag81 hag81 u x1 x2 H locs ls hE hW hS hV hl
    unfold fX1_blow_274 at hE
    refine z_iinc (v := (x2 + (1 : Int32))) (lw := (fun y_ => [(2, .int y_), (0, .ref (h + F)), (1, .int x1)])) hx hb dX1_blow_274 hl hE (k := 2) rfl rfl (by decide) (fun _ => rfl) (fun z28 ls hE hl => ?_)
    refine lv_goto (tgt := 81) hx hb dX1_blow_277 (by decide) ?_
    exact hag81 _ _ _ _ _ _ hE hW hS hV (lv_sub hl [1, 2, 0] rfl)
  have w_209 : ∀ (ag81 : CS → Int32 → Int32 → Option (CS)) (hag81 : (∀ (u : CS) (x1 : Int32) (x2 : Int32) (H : Heap) (locs : List Loc) (ls : Array Slot), ag81 u x1 x2 = some u_ → wc_W D dA h u H → wc_S u → va_S (CA h) s.heap H locs → lv_has ls 7 [(0, .ref (h + F)), (1, .int x1), (2, .int x2)] → W p l e ({ frames := 4, cells := 0, slots := 0, locals := 88 }) s m args below meth c H locs 0 0 (MQ below (wc_Qr D dA h none u_) args s 0 0 (CA h)) (F0 m 81 ls []))) (u : CS) (x1 : Int32) (x2 : Int32) (y0 : Int32) (y1 : Int32) (y2 : Int32) (H : Heap) (locs : List Loc) (ls : Array Slot), fX1_blow_209 N F ag81 u x1 x2 y0 y1 y2 = some u_ → wc_W D dA h u H → wc_S u → va_S (CA h) s.heap H locs → lv_has ls 7 [(0, .ref (h + F)), (1, .int x1), (2, .int x2)] → W p l e ({ frames := 4, cells := 0, slots := 0, locals := 88 }) s m args below meth c H locs 0 0 (MQ below (wc_Qr D dA h none u_) args s 0 0 (CA h)) (F0 m 209 ls [.int y2, .int y1, .int y0]) := by
    intro ag81 hag81 u x1 x2 y0 y1 y2 H locs ls hE hW hS hV hl
    unfold fX1_blow_209 at hE
    refine lv_imul hx hb dX1_blow_209 ?_
    refine lv_bipush (v := (100 : Int32)) hx hb dX1_blow_210 rfl ?_
    refine lv_idiv hx hb dX1_blow_212 (by decide) ?_
    refine va_mmin hx hb (C.1.2.2.1.trans hl.1.symm) C.1.2.2.2.1 (C.1.2.2.2.2 _ q232) (C.1.2.2.2.2 _ q233) (C.1.2.2.2.2 _ q169) (C.1.2.2.2.2 _ q234) (Nat.le_of_ble_eq_true rfl) (by first | exact Nat.le_of_ble_eq_true rfl | (simp [wc_cat, Value.category])) (Nat.le_refl 0) (Nat.le_refl 0) dX1_blow_213 ?_
    refine z_nmi hE (fun z29 hE => ?_)
    refine lv_istore (lv' := [(5, .int z29), (0, .ref (h + F)), (1, .int x1), (2, .int x2)]) hx hb dX1_blow_216 hl (by decide) rfl (fun ls hl => ?_)
    refine lv_aload_n hx hb dX1_blow_218 rfl (lv_at hl 1 rfl) ?_
    refine lv_iload_n hx hb dX1_blow_219 rfl (lv_at hl 3 rfl) ?_
    obtain ⟨r30, u31, hc, hE⟩ := o_bd2_some hE
    refine cc_X1_283 C hW hS hV (st_F hS hF) (kX1_wood hF hc) rfl rfl ⟨Nat.le_of_ble_eq_true rfl, Nat.le_of_ble_eq_true rfl⟩ ⟨Nat.le_refl 0, Nat.le_refl 0⟩ dX1_blow_220 hl.1 (Nat.le_of_ble_eq_true rfl) (fun H locs hW hS hV => ?_)
    refine lv_istore (lv' := [(6, .int r30), (5, .int z29), (0, .ref (h + F)), (1, .int x1), (2, .int x2)]) hx hb dX1_blow_223 hl (by decide) rfl (fun ls hl => ?_)
    refine lv_aload_n hx hb dX1_blow_225 rfl (lv_at hl 2 rfl) ?_
    refine lv_iload_n hx hb dX1_blow_226 rfl (lv_at hl 4 rfl) ?_
    refine lv_aload_n hx hb dX1_blow_227 rfl (lv_at hl 2 rfl) ?_
    refine cgs_X1_30_1 C hW (st_F hS hF) (sp_F_fulls hS hF) dX1_blow_228 ?_
    refine lv_iload_n hx hb dX1_blow_231 rfl (lv_at hl 4 rfl) ?_
    refine wc_ldi C hW (st_F_fulls hS hF) hE dX1_blow_232 (fun hE => ?_)
    refine z_nmi hE (fun v32 hE => ?_)
    refine lv_iload hx hb dX1_blow_233 (lv_at hl 1 rfl) ?_
    refine lv_isub hx hb dX1_blow_235 ?_
    obtain ⟨u33, hc, hE⟩ := o_bd_some hE
    refine cc_X1_286 C hW hS hV (st_F hS hF) (kX1_become hF hc) rfl rfl ⟨Nat.le_of_ble_eq_true rfl, Nat.le_of_ble_eq_true rfl⟩ ⟨Nat.le_refl 0, Nat.le_refl 0⟩ dX1_blow_236 hl.1 (Nat.le_of_ble_eq_true rfl) (fun H locs hW hS hV => ?_)
    refine lv_aload_n hx hb dX1_blow_239 rfl (lv_at hl 2 rfl) ?_
    refine cgs_X1_33_1 C hW (st_F hS hF) (sp_F_lying hS hF) dX1_blow_240 ?_
    refine lv_iload_n hx hb dX1_blow_243 rfl (lv_at hl 4 rfl) ?_
    refine lv_dup2_11 hx hb dX1_blow_244 rfl rfl ?_
    refine wc_ldi C hW (st_F_lying hS hF) hE dX1_blow_245 (fun hE => ?_)
    refine z_nmi hE (fun v34 hE => ?_)
    refine lv_iload hx hb dX1_blow_246 (lv_at hl 0 rfl) ?_
    refine lv_aload_n hx hb dX1_blow_248 rfl (lv_at hl 2 rfl) ?_
    refine lv_iload_n hx hb dX1_blow_249 rfl (lv_at hl 4 rfl) ?_
    obtain ⟨r35, u36, hc, hE⟩ := o_bd2_some hE
    refine cc_X1_283 C hW hS hV (st_F hS hF) (kX1_wood hF hc) rfl rfl ⟨Nat.le_of_ble_eq_true rfl, Nat.le_of_ble_eq_true rfl⟩ ⟨Nat.le_refl 0, Nat.le_refl 0⟩ dX1_blow_250 hl.1 (Nat.le_of_ble_eq_true rfl) (fun H locs hW hS hV => ?_)
    refine lv_isub hx hb dX1_blow_253 ?_
    refine lv_iadd hx hb dX1_blow_254 ?_
    refine wc_sti (J := wc_S) C hW hV (st_F_lying hS hF) hS.uA hE dX1_blow_255 (fun u37 H locs hE hW hS hV => ?_)
    refine lv_aload_n hx hb dX1_blow_256 rfl (lv_at hl 2 rfl) ?_
    refine cgs_X1_85_1 C hW (st_F hS hF) (sp_F_books hS hF) dX1_blow_257 ?_
    refine lv_iconst (v := (3 : Int32)) hx hb dX1_blow_260 rfl ?_
    refine lv_dup2_11 hx hb dX1_blow_261 rfl rfl ?_
    refine wc_ldl C hW (st_F_books hS hF) hE dX1_blow_262 (fun hE => ?_)
    refine z_nml hE (fun v38 hE => ?_)
    refine lv_iload hx hb dX1_blow_263 (lv_at hl 0 rfl) ?_
    refine lv_aload_n hx hb dX1_blow_265 rfl (lv_at hl 2 rfl) ?_
    refine lv_iload_n hx hb dX1_blow_266 rfl (lv_at hl 4 rfl) ?_
    obtain ⟨r39, u40, hc, hE⟩ := o_bd2_some hE
    refine cc_X1_283 C hW hS hV (st_F hS hF) (kX1_wood hF hc) rfl rfl ⟨Nat.le_of_ble_eq_true rfl, Nat.le_of_ble_eq_true rfl⟩ ⟨Nat.le_refl 0, Nat.le_refl 0⟩ dX1_blow_267 hl.1 (Nat.le_of_ble_eq_true rfl) (fun H locs hW hS hV => ?_)
    refine lv_isub hx hb dX1_blow_270 ?_
    refine lv_i2l hx hb dX1_blow_271 rfl ?_
    refine lv_ladd hx hb dX1_blow_272 ?_
    refine wc_stl (J := wc_S) C hW hV (st_F_books hS hF) hS.uB hE dX1_blow_273 (fun u41 H locs hE hW hS hV => ?_)
    exact w_274 ag81 hag81 _ _ _ _ _ _ hE hW hS hV (lv_sub hl [2, 3, 4] rfl)
  have w_188 : ∀ (ag81 : CS → Int32 → Int32 → Option (CS)) (hag81 : (∀ (u : CS) (x1 : Int32) (x2 : Int32) (H : Heap) (locs : List Loc) (ls : Array Slot), ag81 u x1 x2 = some u_ → wc_W D dA h u H → wc_S u → va_S (CA h) s.heap H locs → lv_has ls 7 [(0, .ref (h + F)), (1, .int x1), (2, .int x2)] → W p l e ({ frames := 4, cells := 0, slots := 0, locals := 88 }) s m args below meth c H locs 0 0 (MQ below (wc_Qr D dA h none u_) args s 0 0 (CA h)) (F0 m 81 ls []))) (u : CS) (x1 : Int32) (x2 : Int32) (x3 : Int32) (y0 : Int32) (H : Heap) (locs : List Loc) (ls : Array Slot), fX1_blow_188 N F ag81 u x1 x2 x3 y0 = some u_ → wc_W D dA h u H → wc_S u → va_S (CA h) s.heap H locs → lv_has ls 7 [(0, .ref (h + F)), (1, .int x1), (2, .int x2), (3, .int x3)] → W p l e ({ frames := 4, cells := 0, slots := 0, locals := 88 }) s m args below meth c H locs 0 0 (MQ below (wc_Qr D dA h none u_) args s 0 0 (CA h)) (F0 m 188 ls [.int y0]) := by
    intro ag81 hag81 u x1 x2 x3 y0 H locs ls hE hW hS hV hl
    unfold fX1_blow_188 at hE
    refine lv_istore (lv' := [(4, .int y0), (0, .ref (h + F)), (1, .int x1), (2, .int x2), (3, .int x3)]) hx hb dX1_blow_188 hl (by decide) rfl (fun ls hl => ?_)
    refine lv_aload_n hx hb dX1_blow_190 rfl (lv_at hl 1 rfl) ?_
    refine cgs_X1_30_1 C hW (st_F hS hF) (sp_F_fulls hS hF) dX1_blow_191 ?_
    refine lv_iload_n hx hb dX1_blow_194 rfl (lv_at hl 3 rfl) ?_
    refine wc_ldi C hW (st_F_fulls hS hF) hE dX1_blow_195 (fun hE => ?_)
    refine z_nmi hE (fun v42 hE => ?_)
    refine lv_iload_n hx hb dX1_blow_196 rfl (lv_at hl 2 rfl) ?_
    refine lv_iload hx hb dX1_blow_197 (lv_at hl 0 rfl) ?_
    refine lv_imul hx hb dX1_blow_199 ?_
    refine lv_iload_n hx hb dX1_blow_200 rfl (lv_at hl 4 rfl) ?_
    refine lv_if_eq (tgt := 208) hx hb dX1_blow_201 (by decide) (fun c43 => ?_) (fun c43 => ?_)
    · have hE := z_t c43 hE
      refine lv_iconst (v := (1 : Int32)) hx hb dX1_blow_208 rfl ?_
      exact w_209 ag81 hag81 _ _ _ _ _ _ _ _ _ hE hW hS hV (lv_sub hl [1, 2, 3] rfl)
    · have hE := z_f c43 hE
      refine lv_iconst (v := (2 : Int32)) hx hb dX1_blow_204 rfl ?_
      refine lv_goto (tgt := 209) hx hb dX1_blow_205 (by decide) ?_
      exact w_209 ag81 hag81 _ _ _ _ _ _ _ _ _ hE hW hS hV (lv_sub hl [1, 2, 3] rfl)
  have w_159 : ∀ (ag81 : CS → Int32 → Int32 → Option (CS)) (hag81 : (∀ (u : CS) (x1 : Int32) (x2 : Int32) (H : Heap) (locs : List Loc) (ls : Array Slot), ag81 u x1 x2 = some u_ → wc_W D dA h u H → wc_S u → va_S (CA h) s.heap H locs → lv_has ls 7 [(0, .ref (h + F)), (1, .int x1), (2, .int x2)] → W p l e ({ frames := 4, cells := 0, slots := 0, locals := 88 }) s m args below meth c H locs 0 0 (MQ below (wc_Qr D dA h none u_) args s 0 0 (CA h)) (F0 m 81 ls []))) (ag116 : CS → Int32 → Int32 → Int32 → Int32 → Option (CS)) (hag116 : (∀ (u : CS) (x1 : Int32) (x2 : Int32) (x3 : Int32) (x4 : Int32) (H : Heap) (locs : List Loc) (ls : Array Slot), ag116 u x1 x2 x3 x4 = some u_ → wc_W D dA h u H → wc_S u → va_S (CA h) s.heap H locs → lv_has ls 7 [(0, .ref (h + F)), (1, .int x1), (2, .int x2), (3, .int x3), (4, .int x4)] → W p l e ({ frames := 4, cells := 0, slots := 0, locals := 88 }) s m args below meth c H locs 0 0 (MQ below (wc_Qr D dA h none u_) args s 0 0 (CA h)) (F0 m 116 ls []))) (u : CS) (x1 : Int32) (x2 : Int32) (x4 : Int32) (y0 : Int32) (H : Heap) (locs : List Loc) (ls : Array Slot), fX1_blow_159 N F ag81 ag116 u x1 x2 x4 y0 = some u_ → wc_W D dA h u H → wc_S u → va_S (CA h) s.heap H locs → lv_has ls 7 [(0, .ref (h + F)), (1, .int x1), (2, .int x2), (4, .int x4)] → W p l e ({ frames := 4, cells := 0, slots := 0, locals := 88 }) s m args below meth c H locs 0 0 (MQ below (wc_Qr D dA h none u_) args s 0 0 (CA h)) (F0 m 159 ls [.int y0]) := by
    intro ag81 hag81 ag116 hag116 u x1 x2 x4 y0 H locs ls hE hW hS hV hl
    unfold fX1_blow_159 at hE
    refine lv_istore_n (lv' := [(3, .int y0), (0, .ref (h + F)), (1, .int x1), (2, .int x2), (4, .int x4)]) hx hb dX1_blow_159 rfl hl (by decide) rfl (fun ls hl => ?_)
    refine z_iinc (v := (x4 + (1 : Int32))) (lw := (fun y_ => [(4, .int y_), (3, .int y0), (0, .ref (h + F)), (1, .int x1), (2, .int x2)])) hx hb dX1_blow_160 hl hE (k := 4) rfl rfl (by decide) (fun _ => rfl) (fun z44 ls hE hl => ?_)
    refine lv_goto (tgt := 116) hx hb dX1_blow_163 (by decide) ?_
    exact hag116 _ _ _ _ _ _ _ _ hE hW hS hV (lv_sub hl [2, 3, 4, 1, 0] rfl)
  have w_154 : ∀ (ag81 : CS → Int32 → Int32 → Option (CS)) (hag81 : (∀ (u : CS) (x1 : Int32) (x2 : Int32) (H : Heap) (locs : List Loc) (ls : Array Slot), ag81 u x1 x2 = some u_ → wc_W D dA h u H → wc_S u → va_S (CA h) s.heap H locs → lv_has ls 7 [(0, .ref (h + F)), (1, .int x1), (2, .int x2)] → W p l e ({ frames := 4, cells := 0, slots := 0, locals := 88 }) s m args below meth c H locs 0 0 (MQ below (wc_Qr D dA h none u_) args s 0 0 (CA h)) (F0 m 81 ls []))) (ag116 : CS → Int32 → Int32 → Int32 → Int32 → Option (CS)) (hag116 : (∀ (u : CS) (x1 : Int32) (x2 : Int32) (x3 : Int32) (x4 : Int32) (H : Heap) (locs : List Loc) (ls : Array Slot), ag116 u x1 x2 x3 x4 = some u_ → wc_W D dA h u H → wc_S u → va_S (CA h) s.heap H locs → lv_has ls 7 [(0, .ref (h + F)), (1, .int x1), (2, .int x2), (3, .int x3), (4, .int x4)] → W p l e ({ frames := 4, cells := 0, slots := 0, locals := 88 }) s m args below meth c H locs 0 0 (MQ below (wc_Qr D dA h none u_) args s 0 0 (CA h)) (F0 m 116 ls []))) (u : CS) (x1 : Int32) (x2 : Int32) (x4 : Int32) (H : Heap) (locs : List Loc) (ls : Array Slot), fX1_blow_154 N F ag81 ag116 u x1 x2 x4 = some u_ → wc_W D dA h u H → wc_S u → va_S (CA h) s.heap H locs → lv_has ls 7 [(0, .ref (h + F)), (1, .int x1), (2, .int x2), (4, .int x4)] → W p l e ({ frames := 4, cells := 0, slots := 0, locals := 88 }) s m args below meth c H locs 0 0 (MQ below (wc_Qr D dA h none u_) args s 0 0 (CA h)) (F0 m 154 ls []) := by
    intro ag81 hag81 ag116 hag116 u x1 x2 x4 H locs ls hE hW hS hV hl
    unfold fX1_blow_154 at hE
    refine lv_iconst (v := (1 : Int32)) hx hb dX1_blow_154 rfl ?_
    refine lv_goto (tgt := 159) hx hb dX1_blow_155 (by decide) ?_
    exact w_159 ag81 hag81 ag116 hag116 _ _ _ _ _ _ _ _ hE hW hS hV (lv_sub hl [0, 1, 2, 3] rfl)
  have w_158 : ∀ (ag81 : CS → Int32 → Int32 → Option (CS)) (hag81 : (∀ (u : CS) (x1 : Int32) (x2 : Int32) (H : Heap) (locs : List Loc) (ls : Array Slot), ag81 u x1 x2 = some u_ → wc_W D dA h u H → wc_S u → va_S (CA h) s.heap H locs → lv_has ls 7 [(0, .ref (h + F)), (1, .int x1), (2, .int x2)] → W p l e ({ frames := 4, cells := 0, slots := 0, locals := 88 }) s m args below meth c H locs 0 0 (MQ below (wc_Qr D dA h none u_) args s 0 0 (CA h)) (F0 m 81 ls []))) (ag116 : CS → Int32 → Int32 → Int32 → Int32 → Option (CS)) (hag116 : (∀ (u : CS) (x1 : Int32) (x2 : Int32) (x3 : Int32) (x4 : Int32) (H : Heap) (locs : List Loc) (ls : Array Slot), ag116 u x1 x2 x3 x4 = some u_ → wc_W D dA h u H → wc_S u → va_S (CA h) s.heap H locs → lv_has ls 7 [(0, .ref (h + F)), (1, .int x1), (2, .int x2), (3, .int x3), (4, .int x4)] → W p l e ({ frames := 4, cells := 0, slots := 0, locals := 88 }) s m args below meth c H locs 0 0 (MQ below (wc_Qr D dA h none u_) args s 0 0 (CA h)) (F0 m 116 ls []))) (u : CS) (x1 : Int32) (x2 : Int32) (x4 : Int32) (H : Heap) (locs : List Loc) (ls : Array Slot), fX1_blow_158 N F ag81 ag116 u x1 x2 x4 = some u_ → wc_W D dA h u H → wc_S u → va_S (CA h) s.heap H locs → lv_has ls 7 [(0, .ref (h + F)), (1, .int x1), (2, .int x2), (4, .int x4)] → W p l e ({ frames := 4, cells := 0, slots := 0, locals := 88 }) s m args below meth c H locs 0 0 (MQ below (wc_Qr D dA h none u_) args s 0 0 (CA h)) (F0 m 158 ls []) := by
    intro ag81 hag81 ag116 hag116 u x1 x2 x4 H locs ls hE hW hS hV hl
    unfold fX1_blow_158 at hE
    refine lv_iconst (v := (0 : Int32)) hx hb dX1_blow_158 rfl ?_
    exact w_159 ag81 hag81 ag116 hag116 _ _ _ _ _ _ _ _ hE hW hS hV (lv_sub hl [0, 1, 2, 3] rfl)
  have w_116 : ∀ (ag81 : CS → Int32 → Int32 → Option (CS)) (hag81 : (∀ (u : CS) (x1 : Int32) (x2 : Int32) (H : Heap) (locs : List Loc) (ls : Array Slot), ag81 u x1 x2 = some u_ → wc_W D dA h u H → wc_S u → va_S (CA h) s.heap H locs → lv_has ls 7 [(0, .ref (h + F)), (1, .int x1), (2, .int x2)] → W p l e ({ frames := 4, cells := 0, slots := 0, locals := 88 }) s m args below meth c H locs 0 0 (MQ below (wc_Qr D dA h none u_) args s 0 0 (CA h)) (F0 m 81 ls []))) (n : Nat) (u : CS) (x1 : Int32) (x2 : Int32) (x3 : Int32) (x4 : Int32) (H : Heap) (locs : List Loc) (ls : Array Slot), fX1_blow_116 N F ag81 n u x1 x2 x3 x4 = some u_ → wc_W D dA h u H → wc_S u → va_S (CA h) s.heap H locs → lv_has ls 7 [(0, .ref (h + F)), (1, .int x1), (2, .int x2), (3, .int x3), (4, .int x4)] → W p l e ({ frames := 4, cells := 0, slots := 0, locals := 88 }) s m args below meth c H locs 0 0 (MQ below (wc_Qr D dA h none u_) args s 0 0 (CA h)) (F0 m 116 ls []) := by
    intro ag81 hag81 n
    induction n with
    | zero =>
      intro u x1 x2 x3 x4 H locs ls hE hW hS hV hl
      cases (show (none : Option (CS)) = some u_ from hE)
    | succ n ih =>
      intro u x1 x2 x3 x4 H locs ls hE hW hS hV hl
      rw [fX1_blow_116] at hE
      refine lv_iload hx hb dX1_blow_116 (lv_at hl 4 rfl) ?_
      refine lv_aload_n hx hb dX1_blow_118 rfl (lv_at hl 0 rfl) ?_
      refine cg_X1_171_1 C hW (st_F hS hF) dX1_blow_119 ?_
      refine lv_icmp_ge (tgt := 166) hx hb dX1_blow_122 (by decide) (fun c45 => ?_) (fun c45 => ?_)
      · have hE := z_t c45 hE
        refine lv_aload_n hx hb dX1_blow_166 rfl (lv_at hl 0 rfl) ?_
        refine cgs_X1_18_1 C hW (st_F hS hF) (sp_F_kinds hS hF) dX1_blow_167 ?_
        refine lv_iload_n hx hb dX1_blow_170 rfl (lv_at hl 2 rfl) ?_
        refine wc_ldi C hW (st_F_kinds hS hF) hE dX1_blow_171 (fun hE => ?_)
        refine z_nmi hE (fun v46 hE => ?_)
        refine lv_if_ne (tgt := 180) hx hb dX1_blow_172 (by decide) (fun c47 => ?_) (fun c47 => ?_)
        · have hE := z_f c47 hE
          refine lv_iconst (v := (5 : Int32)) hx hb dX1_blow_180 rfl ?_
          refine lv_aload_n hx hb dX1_blow_181 rfl (lv_at hl 0 rfl) ?_
          refine cgs_X1_18_1 C hW (st_F hS hF) (sp_F_kinds hS hF) dX1_blow_182 ?_
          refine lv_iload_n hx hb dX1_blow_185 rfl (lv_at hl 2 rfl) ?_
          refine wc_ldi C hW (st_F_kinds hS hF) hE dX1_blow_186 (fun hE => ?_)
          refine z_nmi hE (fun v48 hE => ?_)
          refine lv_isub hx hb dX1_blow_187 ?_
          exact w_188 ag81 hag81 _ _ _ _ _ _ _ _ hE hW hS hV (lv_sub hl [0, 1, 2, 3] rfl)
        · have hE := z_t c47 hE
          refine lv_bipush (v := (6 : Int32)) hx hb dX1_blow_175 rfl ?_
          refine lv_goto (tgt := 188) hx hb dX1_blow_177 (by decide) ?_
          exact w_188 ag81 hag81 _ _ _ _ _ _ _ _ hE hW hS hV (lv_sub hl [0, 1, 2, 3] rfl)
      · have hE := z_f c45 hE
        refine lv_aload_n hx hb dX1_blow_125 rfl (lv_at hl 0 rfl) ?_
        refine lv_iload hx hb dX1_blow_126 (lv_at hl 4 rfl) ?_
        refine lv_iload_n hx hb dX1_blow_128 rfl (lv_at hl 2 rfl) ?_
        obtain ⟨r49, u50, hc, hE⟩ := o_bd2_some hE
        refine cc_X1_226 C hW hS hV (st_F hS hF) (kX1_otherOf hF hc) rfl rfl ⟨Nat.le_of_ble_eq_true rfl, Nat.le_of_ble_eq_true rfl⟩ ⟨Nat.le_refl 0, Nat.le_refl 0⟩ dX1_blow_129 hl.1 (Nat.le_of_ble_eq_true rfl) (fun H locs hW hS hV => ?_)
        refine lv_istore (lv' := [(5, .int r49), (0, .ref (h + F)), (1, .int x1), (2, .int x2), (3, .int x3), (4, .int x4)]) hx hb dX1_blow_132 hl (by decide) rfl (fun ls hl => ?_)
        refine lv_iload_n hx hb dX1_blow_134 rfl (lv_at hl 4 rfl) ?_
        refine lv_if_ne (tgt := 154) hx hb dX1_blow_135 (by decide) (fun c51 => ?_) (fun c51 => ?_)
        · have hE := z_f c51 hE
          exact w_154 ag81 hag81 (fX1_blow_116 N F ag81 n) ih _ _ _ _ _ _ _ hE hW hS hV (lv_sub hl [1, 2, 3, 5] rfl)
        · have hE := z_t c51 hE
          refine lv_iload hx hb dX1_blow_138 (lv_at hl 0 rfl) ?_
          refine lv_iconst (v := (-1 : Int32)) hx hb dX1_blow_140 rfl ?_
          refine lv_icmp_eq (tgt := 158) hx hb dX1_blow_141 (by decide) (fun c52 => ?_) (fun c52 => ?_)
          · have hE := z_t c52 hE
            exact w_158 ag81 hag81 (fX1_blow_116 N F ag81 n) ih _ _ _ _ _ _ _ hE hW hS hV (lv_sub hl [1, 2, 3, 5] rfl)
          · have hE := z_f c52 hE
            refine lv_aload_n hx hb dX1_blow_144 rfl (lv_at hl 1 rfl) ?_
            refine cgs_X1_131_1 C hW (st_F hS hF) (sp_F_isOpen hS hF) dX1_blow_145 ?_
            refine lv_iload hx hb dX1_blow_148 (lv_at hl 0 rfl) ?_
            refine wc_ldz C hW (st_F_isOpen hS hF) hE dX1_blow_150 (fun hE => ?_)
            refine z_nmi hE (fun v53 hE => ?_)
            refine lv_if_eq (tgt := 158) hx hb dX1_blow_151 (by decide) (fun c54 => ?_) (fun c54 => ?_)
            · have hE := z_t c54 hE
              exact w_158 ag81 hag81 (fX1_blow_116 N F ag81 n) ih _ _ _ _ _ _ _ hE hW hS hV (lv_sub hl [1, 2, 3, 5] rfl)
            · have hE := z_f c54 hE
              exact w_154 ag81 hag81 (fX1_blow_116 N F ag81 n) ih _ _ _ _ _ _ _ hE hW hS hV (lv_sub hl [1, 2, 3, 5] rfl)
  have w_81 : ∀ (n : Nat) (u : CS) (x1 : Int32) (x2 : Int32) (H : Heap) (locs : List Loc) (ls : Array Slot), fX1_blow_81 N F n u x1 x2 = some u_ → wc_W D dA h u H → wc_S u → va_S (CA h) s.heap H locs → lv_has ls 7 [(0, .ref (h + F)), (1, .int x1), (2, .int x2)] → W p l e ({ frames := 4, cells := 0, slots := 0, locals := 88 }) s m args below meth c H locs 0 0 (MQ below (wc_Qr D dA h none u_) args s 0 0 (CA h)) (F0 m 81 ls []) := by
    intro n
    induction n with
    | zero =>
      intro u x1 x2 H locs ls hE hW hS hV hl
      cases (show (none : Option (CS)) = some u_ from hE)
    | succ n ih =>
      intro u x1 x2 H locs ls hE hW hS hV hl
      rw [fX1_blow_81] at hE
      refine lv_iload_n hx hb dX1_blow_81 rfl (lv_at hl 2 rfl) ?_
      refine lv_aload_n hx hb dX1_blow_82 rfl (lv_at hl 0 rfl) ?_
      refine cg_X1_168_1 C hW (st_F hS hF) dX1_blow_83 ?_
      refine lv_icmp_ge (tgt := 280) hx hb dX1_blow_86 (by decide) (fun c55 => ?_) (fun c55 => ?_)
      · have hE := z_t c55 hE
        exact wc_vret C hr hlocks hW hS hV hE dX1_blow_280
      · have hE := z_f c55 hE
        refine lv_aload_n hx hb dX1_blow_89 rfl (lv_at hl 0 rfl) ?_
        refine lv_iload_n hx hb dX1_blow_90 rfl (lv_at hl 2 rfl) ?_
        obtain ⟨r56, u57, hc, hE⟩ := o_bd2_some hE
        refine cc_X1_232 C hW hS hV (st_F hS hF) (kX1_isBare hF hc) rfl rfl ⟨Nat.le_of_ble_eq_true rfl, Nat.le_of_ble_eq_true rfl⟩ ⟨Nat.le_refl 0, Nat.le_refl 0⟩ dX1_blow_91 hl.1 (Nat.le_of_ble_eq_true rfl) (fun H locs hW hS hV => ?_)
        refine lv_if_ne (tgt := 274) hx hb dX1_blow_94 (by decide) (fun c58 => ?_) (fun c58 => ?_)
        · have hE := z_f c58 hE
          exact w_274 (fX1_blow_81 N F n) ih _ _ _ _ _ _ hE hW hS hV (lv_sub hl [0, 1, 2] rfl)
        · have hE := z_t c58 hE
          refine lv_aload_n hx hb dX1_blow_97 rfl (lv_at hl 0 rfl) ?_
          refine cgs_X1_27_1 C hW (st_F hS hF) (sp_F_ages hS hF) dX1_blow_98 ?_
          refine lv_iload_n hx hb dX1_blow_101 rfl (lv_at hl 2 rfl) ?_
          refine wc_ldi C hW (st_F_ages hS hF) hE dX1_blow_102 (fun hE => ?_)
          refine z_nmi hE (fun v59 hE => ?_)
          refine lv_bipush (v := (40 : Int32)) hx hb dX1_blow_103 rfl ?_
          refine lv_icmp_ge (tgt := 111) hx hb dX1_blow_105 (by decide) (fun c60 => ?_) (fun c60 => ?_)
          · have hE := z_t c60 hE
            refine lv_iconst (v := (0 : Int32)) hx hb dX1_blow_111 rfl ?_
            refine lv_istore_n (lv' := [(3, .int (0 : Int32)), (0, .ref (h + F)), (1, .int x1), (2, .int x2)]) hx hb dX1_blow_112 rfl hl (by decide) rfl (fun ls hl => ?_)
            refine lv_iconst (v := (0 : Int32)) hx hb dX1_blow_113 rfl ?_
            refine lv_istore (lv' := [(4, .int (0 : Int32)), (3, .int (0 : Int32)), (0, .ref (h + F)), (1, .int x1), (2, .int x2)]) hx hb dX1_blow_114 hl (by decide) rfl (fun ls hl => ?_)
            exact w_116 (fX1_blow_81 N F n) ih N _ _ _ _ _ _ _ _ hE hW hS hV (lv_sub hl [2, 3, 4, 1, 0] rfl)
          · have hE := z_f c60 hE
            refine lv_goto (tgt := 274) hx hb dX1_blow_108 (by decide) ?_
            exact w_274 (fX1_blow_81 N F n) ih _ _ _ _ _ _ hE hW hS hV (lv_sub hl [0, 1, 2] rfl)
  have w_72 : ∀ (ag35 : CS → Int32 → Int32 → Option (CS)) (hag35 : (∀ (u : CS) (x1 : Int32) (x2 : Int32) (H : Heap) (locs : List Loc) (ls : Array Slot), ag35 u x1 x2 = some u_ → wc_W D dA h u H → wc_S u → va_S (CA h) s.heap H locs → lv_has ls 7 [(0, .ref (h + F)), (1, .int x1), (2, .int x2)] → W p l e ({ frames := 4, cells := 0, slots := 0, locals := 88 }) s m args below meth c H locs 0 0 (MQ below (wc_Qr D dA h none u_) args s 0 0 (CA h)) (F0 m 35 ls []))) (u : CS) (x1 : Int32) (x2 : Int32) (y1 : Int32) (y2 : Int32) (H : Heap) (locs : List Loc) (ls : Array Slot), fX1_blow_72 N F ag35 u x1 x2 y1 y2 = some u_ → wc_W D dA h u H → wc_S u → va_S (CA h) s.heap H locs → lv_has ls 7 [(0, .ref (h + F)), (1, .int x1), (2, .int x2)] → W p l e ({ frames := 4, cells := 0, slots := 0, locals := 88 }) s m args below meth c H locs 0 0 (MQ below (wc_Qr D dA h none u_) args s 0 0 (CA h)) (F0 m 72 ls [.int y2, .int y1, .ref (h + (F + 36))]) := by
    intro ag35 hag35 u x1 x2 y1 y2 H locs ls hE hW hS hV hl
    unfold fX1_blow_72 at hE
    obtain ⟨hb1, hE⟩ := o_bl_some hE
    refine wc_stz (J := wc_S) C hW hV (st_F_isOpen hS hF) hS.uA hb1 hE dX1_blow_72 (fun u61 H locs hE hW hS hV => ?_)
    refine z_iinc (v := (x2 + (1 : Int32))) (lw := (fun y_ => [(2, .int y_), (0, .ref (h + F)), (1, .int x1)])) hx hb dX1_blow_73 hl hE (k := 2) rfl rfl (by decide) (fun _ => rfl) (fun z62 ls hE hl => ?_)
    refine lv_goto (tgt := 35) hx hb dX1_blow_76 (by decide) ?_
    exact hag35 _ _ _ _ _ _ hE hW hS hV (lv_sub hl [1, 2, 0] rfl)
  have w_67 : ∀ (ag35 : CS → Int32 → Int32 → Option (CS)) (hag35 : (∀ (u : CS) (x1 : Int32) (x2 : Int32) (H : Heap) (locs : List Loc) (ls : Array Slot), ag35 u x1 x2 = some u_ → wc_W D dA h u H → wc_S u → va_S (CA h) s.heap H locs → lv_has ls 7 [(0, .ref (h + F)), (1, .int x1), (2, .int x2)] → W p l e ({ frames := 4, cells := 0, slots := 0, locals := 88 }) s m args below meth c H locs 0 0 (MQ below (wc_Qr D dA h none u_) args s 0 0 (CA h)) (F0 m 35 ls []))) (u : CS) (x1 : Int32) (x2 : Int32) (y1 : Int32) (H : Heap) (locs : List Loc) (ls : Array Slot), fX1_blow_67 N F ag35 u x1 x2 y1 = some u_ → wc_W D dA h u H → wc_S u → va_S (CA h) s.heap H locs → lv_has ls 7 [(0, .ref (h + F)), (1, .int x1), (2, .int x2)] → W p l e ({ frames := 4, cells := 0, slots := 0, locals := 88 }) s m args below meth c H locs 0 0 (MQ below (wc_Qr D dA h none u_) args s 0 0 (CA h)) (F0 m 67 ls [.int y1, .ref (h + (F + 36))]) := by
    intro ag35 hag35 u x1 x2 y1 H locs ls hE hW hS hV hl
    unfold fX1_blow_67 at hE
    refine lv_iconst (v := (1 : Int32)) hx hb dX1_blow_67 rfl ?_
    refine lv_goto (tgt := 72) hx hb dX1_blow_68 (by decide) ?_
    exact w_72 ag35 hag35 _ _ _ _ _ _ _ _ hE hW hS hV (lv_sub hl [0, 1, 2] rfl)
  have w_35 : ∀ (n : Nat) (u : CS) (x1 : Int32) (x2 : Int32) (H : Heap) (locs : List Loc) (ls : Array Slot), fX1_blow_35 N F n u x1 x2 = some u_ → wc_W D dA h u H → wc_S u → va_S (CA h) s.heap H locs → lv_has ls 7 [(0, .ref (h + F)), (1, .int x1), (2, .int x2)] → W p l e ({ frames := 4, cells := 0, slots := 0, locals := 88 }) s m args below meth c H locs 0 0 (MQ below (wc_Qr D dA h none u_) args s 0 0 (CA h)) (F0 m 35 ls []) := by
    intro n
    induction n with
    | zero =>
      intro u x1 x2 H locs ls hE hW hS hV hl
      cases (show (none : Option (CS)) = some u_ from hE)
    | succ n ih =>
      intro u x1 x2 H locs ls hE hW hS hV hl
      rw [fX1_blow_35] at hE
      refine lv_iload_n hx hb dX1_blow_35 rfl (lv_at hl 2 rfl) ?_
      refine lv_aload_n hx hb dX1_blow_36 rfl (lv_at hl 0 rfl) ?_
      refine cg_X1_168_1 C hW (st_F hS hF) dX1_blow_37 ?_
      refine lv_icmp_ge (tgt := 79) hx hb dX1_blow_40 (by decide) (fun c63 => ?_) (fun c63 => ?_)
      · have hE := z_t c63 hE
        refine lv_iconst (v := (0 : Int32)) hx hb dX1_blow_79 rfl ?_
        refine lv_istore_n (lv' := [(2, .int (0 : Int32)), (0, .ref (h + F)), (1, .int x1)]) hx hb dX1_blow_80 rfl hl (by decide) rfl (fun ls hl => ?_)
        exact w_81 N _ _ _ _ _ _ hE hW hS hV (lv_sub hl [1, 2, 0] rfl)
      · have hE := z_f c63 hE
        refine lv_aload_n hx hb dX1_blow_43 rfl (lv_at hl 0 rfl) ?_
        refine cgs_X1_131_1 C hW (st_F hS hF) (sp_F_isOpen hS hF) dX1_blow_44 ?_
        refine lv_iload_n hx hb dX1_blow_47 rfl (lv_at hl 2 rfl) ?_
        refine lv_aload_n hx hb dX1_blow_48 rfl (lv_at hl 0 rfl) ?_
        refine lv_iload_n hx hb dX1_blow_49 rfl (lv_at hl 2 rfl) ?_
        obtain ⟨r64, u65, hc, hE⟩ := o_bd2_some hE
        refine cc_X1_232 C hW hS hV (st_F hS hF) (kX1_isBare hF hc) rfl rfl ⟨Nat.le_of_ble_eq_true rfl, Nat.le_of_ble_eq_true rfl⟩ ⟨Nat.le_refl 0, Nat.le_refl 0⟩ dX1_blow_50 hl.1 (Nat.le_of_ble_eq_true rfl) (fun H locs hW hS hV => ?_)
        refine lv_if_ne (tgt := 67) hx hb dX1_blow_53 (by decide) (fun c66 => ?_) (fun c66 => ?_)
        · have hE := z_f c66 hE
          exact w_67 (fX1_blow_35 N F n) ih _ _ _ _ _ _ _ hE hW hS hV (lv_sub hl [0, 1, 2] rfl)
        · have hE := z_t c66 hE
          refine lv_aload_n hx hb dX1_blow_56 rfl (lv_at hl 0 rfl) ?_
          refine cgs_X1_27_1 C hW (st_F hS hF) (sp_F_ages hS hF) dX1_blow_57 ?_
          refine lv_iload_n hx hb dX1_blow_60 rfl (lv_at hl 2 rfl) ?_
          refine wc_ldi C hW (st_F_ages hS hF) hE dX1_blow_61 (fun hE => ?_)
          refine z_nmi hE (fun v67 hE => ?_)
          refine lv_bipush (v := (20 : Int32)) hx hb dX1_blow_62 rfl ?_
          refine lv_icmp_ge (tgt := 71) hx hb dX1_blow_64 (by decide) (fun c68 => ?_) (fun c68 => ?_)
          · have hE := z_t c68 hE
            refine lv_iconst (v := (0 : Int32)) hx hb dX1_blow_71 rfl ?_
            exact w_72 (fX1_blow_35 N F n) ih _ _ _ _ _ _ _ _ hE hW hS hV (lv_sub hl [0, 1, 2] rfl)
          · have hE := z_f c68 hE
            exact w_67 (fX1_blow_35 N F n) ih _ _ _ _ _ _ _ hE hW hS hV (lv_sub hl [0, 1, 2] rfl)
  have w_32 : ∀ (u : CS) (y0 : Int32) (H : Heap) (locs : List Loc) (ls : Array Slot), fX1_blow_32 N F u y0 = some u_ → wc_W D dA h u H → wc_S u → va_S (CA h) s.heap H locs → lv_has ls 7 [(0, .ref (h + F))] → W p l e ({ frames := 4, cells := 0, slots := 0, locals := 88 }) s m args below meth c H locs 0 0 (MQ below (wc_Qr D dA h none u_) args s 0 0 (CA h)) (F0 m 32 ls [.int y0]) := by
    intro u y0 H locs ls hE hW hS hV hl
    unfold fX1_blow_32 at hE
    refine lv_istore_n (lv' := [(1, .int y0), (0, .ref (h + F))]) hx hb dX1_blow_32 rfl hl (by decide) rfl (fun ls hl => ?_)
    refine lv_iconst (v := (0 : Int32)) hx hb dX1_blow_33 rfl ?_
    refine lv_istore_n (lv' := [(2, .int (0 : Int32)), (1, .int y0), (0, .ref (h + F))]) hx hb dX1_blow_34 rfl hl (by decide) rfl (fun ls hl => ?_)
    exact w_35 N _ _ _ _ _ _ hE hW hS hV (lv_sub hl [2, 1, 0] rfl)
  unfold fX1_blow at hE
  refine lv_aload_n hx hb dX1_blow_0 rfl (lv_at hl 0 rfl) ?_
  refine cgs_X1_113_1 C hW (st_F hS hF) (sp_F_winds hS hF) dX1_blow_1 ?_
  refine lv_aload_n hx hb dX1_blow_4 rfl (lv_at hl 0 rfl) ?_
  refine cg_X1_142_1 C hW (st_F hS hF) dX1_blow_5 ?_
  refine lv_bipush (v := (100 : Int32)) hx hb dX1_blow_8 rfl ?_
  refine lv_irem hx hb dX1_blow_10 (by decide) ?_
  refine wc_ldi C hW (st_F_winds hS hF) hE dX1_blow_11 (fun hE => ?_)
  refine z_nmi hE (fun v69 hE => ?_)
  refine lv_iconst (v := (-1 : Int32)) hx hb dX1_blow_12 rfl ?_
  refine lv_icmp_ne (tgt := 20) hx hb dX1_blow_13 (by decide) (fun c70 => ?_) (fun c70 => ?_)
  · have hE := z_f c70 hE
    refine lv_aload_n hx hb dX1_blow_20 rfl (lv_at hl 0 rfl) ?_
    refine cgs_X1_113_1 C hW (st_F hS hF) (sp_F_winds hS hF) dX1_blow_21 ?_
    refine lv_aload_n hx hb dX1_blow_24 rfl (lv_at hl 0 rfl) ?_
    refine cg_X1_142_1 C hW (st_F hS hF) dX1_blow_25 ?_
    refine lv_bipush (v := (100 : Int32)) hx hb dX1_blow_28 rfl ?_
    refine lv_irem hx hb dX1_blow_30 (by decide) ?_
    refine wc_ldi C hW (st_F_winds hS hF) hE dX1_blow_31 (fun hE => ?_)
    refine z_nmi hE (fun v71 hE => ?_)
    exact w_32 _ _ _ _ _ hE hW hS hV (lv_sub hl [0] rfl)
  · have hE := z_t c70 hE
    refine lv_iconst (v := (0 : Int32)) hx hb dX1_blow_16 rfl ?_
    refine lv_goto (tgt := 32) hx hb dX1_blow_17 (by decide) ?_
    exact w_32 _ _ _ _ _ hE hW hS hV (lv_sub hl [0] rfl)
theorem cc_X1_303 {F : Nat} {u u1 : CS} {rm : Room} (C : CC p m c cc nL s args D dA RX1) (hW : wc_W D dA h u H) (hS : wc_S u) (hV : va_S (CA h) H0 H locs) (ht : wc_T u F = some (.inl 1)) (hM : Met l yX1_eat (ws_ yX1_eat cX1_eat 5 none) rm (va_Pc [.ref (h + F)] (wc_St D dA h u)) (wc_Qr D dA h none u1) 0 0 (CA h)) (hrc : rm.cells = 0) (hrs : rm.slots = 0) (hR : rm.frames + 1 ≤ R.frames ∧ 8 + (5 + 11) + rm.locals ≤ R.locals) (hf : cells + 0 ≤ R.cells ∧ slots + 0 ≤ R.slots) (d : decode cc pc = .ok (.invokevirtual 303, 3)) (hsz : ls.size = nL) (hro : (rest.map fun v => v.category).sum ≤ 8) (kk : ∀ (H1 : Heap) (locs1 : List Loc), wc_W D dA h u1 H1 → wc_S u1 → va_S (CA h) H0 H1 locs1 → W p l e R s m args below meth c H1 locs1 cells slots Q (F0 m (pc + 3) ls (rest))) : W p l e R s m args below meth c H locs cells slots Q (F0 m pc ls (.ref (h + F) :: rest)) :=
  wc_call (v := none) (va_runV (As := []) (rest := rest) C.1 hM (cwV 0 C.1.2.2.2.2 (lw_V q1342 q1344 qs70 q167 q1345) rfl hrc hrs (by decide +kernel) hR) (wc_preV (q := (RX1, TX1, 46)) C.2 hW hS ht rfl _) rfl rfl hsz rfl (lv_room hro) d hf) hV (fun _ z => z) (fun H1 locs1 a b c0 _ _ => kk H1 locs1 a b c0)
set_option maxHeartbeats 4000000 in
set_option maxRecDepth 100000 in
theorem kX1_eat {l : Launch} {D : va_G} {dA : Nat → ClassId} {h N : Nat} {F : Nat} {u u_ : CS} (hF : wc_F F) (hE : fX1_eat N F u = some u_) : Met l yX1_eat (ws_ yX1_eat cX1_eat 5 none) ({ frames := 4, cells := 0, slots := 0, locals := 88 }) (va_Pc [.ref (h + F)] (wc_St D dA h u)) (wc_Qr D dA h none u_) 0 0 (CA h) := by
  refine wc_met (own := RX1) (lv := [(0, .ref (h + F))]) (by decide) rfl rfl rfl ?_
  intro p e s m args below meth c ls C hr hlocks hW hS hV hl
  have hx := C.1.1
  have hb := C.1.2.1
  have w_201 : ∀ (ag30 : CS → Int32 → Option (CS)) (hag30 : (∀ (u : CS) (x1 : Int32) (H : Heap) (locs : List Loc) (ls : Array Slot), ag30 u x1 = some u_ → wc_W D dA h u H → wc_S u → va_S (CA h) s.heap H locs → lv_has ls 5 [(0, .ref (h + F)), (1, .int x1)] → W p l e ({ frames := 4, cells := 0, slots := 0, locals := 88 }) s m args below meth c H locs 0 0 (MQ below (wc_Qr D dA h none u_) args s 0 0 (CA h)) (F0 m 30 ls []))) (u : CS) (x1 : Int32) (H : Heap) (locs : List Loc) (ls : Array Slot), fX1_eat_201 N F ag30 u x1 = some u_ → wc_W D dA h u H → wc_S u → va_S (CA h) s.heap H locs → lv_has ls 5 [(0, .ref (h + F)), (1, .int x1)] → W p l e ({ frames := 4, cells := 0, slots := 0, locals := 88 }) s m args below meth c H locs 0 0 (MQ below (wc_Qr D dA h none u_) args s 0 0 (CA h)) (F0 m 201 ls []) := by
    intro ag30 hag30 u x1 H locs ls hE hW hS hV hl
    unfold fX1_eat_201 at hE
    refine z_iinc (v := (x1 + (1 : Int32))) (lw := (fun y_ => [(1, .int y_), (0, .ref (h + F))])) hx hb dX1_eat_201 hl hE (k := 1) rfl rfl (by decide) (fun _ => rfl) (fun z22 ls hE hl => ?_)
    refine lv_goto (tgt := 30) hx hb dX1_eat_204 (by decide) ?_
    exact hag30 _ _ _ _ _ hE hW hS hV (lv_sub hl [1, 0] rfl)
  have w_55 : ∀ (ag30 : CS → Int32 → Option (CS)) (hag30 : (∀ (u : CS) (x1 : Int32) (H : Heap) (locs : List Loc) (ls : Array Slot), ag30 u x1 = some u_ → wc_W D dA h u H → wc_S u → va_S (CA h) s.heap H locs → lv_has ls 5 [(0, .ref (h + F)), (1, .int x1)] → W p l e ({ frames := 4, cells := 0, slots := 0, locals := 88 }) s m args below meth c H locs 0 0 (MQ below (wc_Qr D dA h none u_) args s 0 0 (CA h)) (F0 m 30 ls []))) (u : CS) (x1 : Int32) (H : Heap) (locs : List Loc) (ls : Array Slot), fX1_eat_55 N F ag30 u x1 = some u_ → wc_W D dA h u H → wc_S u → va_S (CA h) s.heap H locs → lv_has ls 5 [(0, .ref (h + F)), (1, .int x1)] → W p l e ({ frames := 4, cells := 0, slots := 0, locals := 88 }) s m args below meth c H locs 0 0 (MQ below (wc_Qr D dA h none u_) args s 0 0 (CA h)) (F0 m 55 ls []) := by
    intro ag30 hag30 u x1 H locs ls hE hW hS hV hl
    unfold fX1_eat_55 at hE
    refine lv_aload_n hx hb dX1_eat_55 rfl (lv_at hl 0 rfl) ?_
    refine cgs_X1_36_1 C hW (st_F hS hF) (sp_F_bugs hS hF) dX1_eat_56 ?_
    refine lv_iload_n hx hb dX1_eat_59 rfl (lv_at hl 1 rfl) ?_
    refine lv_iconst (v := (0 : Int32)) hx hb dX1_eat_60 rfl ?_
    refine wc_sti (J := wc_S) C hW hV (st_F_bugs hS hF) hS.uA hE dX1_eat_61 (fun u23 H locs hE hW hS hV => ?_)
    refine lv_goto (tgt := 201) hx hb dX1_eat_62 (by decide) ?_
    exact w_201 ag30 hag30 _ _ _ _ _ hE hW hS hV (lv_sub hl [0, 1] rfl)
  have w_103 : ∀ (ag30 : CS → Int32 → Option (CS)) (hag30 : (∀ (u : CS) (x1 : Int32) (H : Heap) (locs : List Loc) (ls : Array Slot), ag30 u x1 = some u_ → wc_W D dA h u H → wc_S u → va_S (CA h) s.heap H locs → lv_has ls 5 [(0, .ref (h + F)), (1, .int x1)] → W p l e ({ frames := 4, cells := 0, slots := 0, locals := 88 }) s m args below meth c H locs 0 0 (MQ below (wc_Qr D dA h none u_) args s 0 0 (CA h)) (F0 m 30 ls []))) (ag69 : CS → Int32 → Int32 → Int32 → Option (CS)) (hag69 : (∀ (u : CS) (x1 : Int32) (x2 : Int32) (x3 : Int32) (H : Heap) (locs : List Loc) (ls : Array Slot), ag69 u x1 x2 x3 = some u_ → wc_W D dA h u H → wc_S u → va_S (CA h) s.heap H locs → lv_has ls 5 [(0, .ref (h + F)), (1, .int x1), (2, .int x2), (3, .int x3)] → W p l e ({ frames := 4, cells := 0, slots := 0, locals := 88 }) s m args below meth c H locs 0 0 (MQ below (wc_Qr D dA h none u_) args s 0 0 (CA h)) (F0 m 69 ls []))) (u : CS) (x1 : Int32) (x3 : Int32) (y0 : Int32) (y1 : Int32) (H : Heap) (locs : List Loc) (ls : Array Slot), fX1_eat_103 N F ag30 ag69 u x1 x3 y0 y1 = some u_ → wc_W D dA h u H → wc_S u → va_S (CA h) s.heap H locs → lv_has ls 5 [(0, .ref (h + F)), (1, .int x1), (3, .int x3)] → W p l e ({ frames := 4, cells := 0, slots := 0, locals := 88 }) s m args below meth c H locs 0 0 (MQ below (wc_Qr D dA h none u_) args s 0 0 (CA h)) (F0 m 103 ls [.int y1, .int y0]) := by
    intro ag30 hag30 ag69 hag69 u x1 x3 y0 y1 H locs ls hE hW hS hV hl
    unfold fX1_eat_103 at hE
    refine lv_iadd hx hb dX1_eat_103 ?_
    refine z_nmi hE (fun z24 hE => ?_)
    refine lv_istore_n (lv' := [(2, .int z24), (0, .ref (h + F)), (1, .int x1), (3, .int x3)]) hx hb dX1_eat_104 rfl hl (by decide) rfl (fun ls hl => ?_)
    refine z_iinc (v := (x3 + (1 : Int32))) (lw := (fun y_ => [(3, .int y_), (2, .int z24), (0, .ref (h + F)), (1, .int x1)])) hx hb dX1_eat_105 hl hE (k := 3) rfl rfl (by decide) (fun _ => rfl) (fun z25 ls hE hl => ?_)
    refine lv_goto (tgt := 69) hx hb dX1_eat_108 (by decide) ?_
    exact hag69 _ _ _ _ _ _ _ hE hW hS hV (lv_sub hl [2, 3, 1, 0] rfl)
  have w_69 : ∀ (ag30 : CS → Int32 → Option (CS)) (hag30 : (∀ (u : CS) (x1 : Int32) (H : Heap) (locs : List Loc) (ls : Array Slot), ag30 u x1 = some u_ → wc_W D dA h u H → wc_S u → va_S (CA h) s.heap H locs → lv_has ls 5 [(0, .ref (h + F)), (1, .int x1)] → W p l e ({ frames := 4, cells := 0, slots := 0, locals := 88 }) s m args below meth c H locs 0 0 (MQ below (wc_Qr D dA h none u_) args s 0 0 (CA h)) (F0 m 30 ls []))) (n : Nat) (u : CS) (x1 : Int32) (x2 : Int32) (x3 : Int32) (H : Heap) (locs : List Loc) (ls : Array Slot), fX1_eat_69 N F ag30 n u x1 x2 x3 = some u_ → wc_W D dA h u H → wc_S u → va_S (CA h) s.heap H locs → lv_has ls 5 [(0, .ref (h + F)), (1, .int x1), (2, .int x2), (3, .int x3)] → W p l e ({ frames := 4, cells := 0, slots := 0, locals := 88 }) s m args below meth c H locs 0 0 (MQ below (wc_Qr D dA h none u_) args s 0 0 (CA h)) (F0 m 69 ls []) := by
    intro ag30 hag30 n
    induction n with
    | zero =>
      intro u x1 x2 x3 H locs ls hE hW hS hV hl
      cases (show (none : Option (CS)) = some u_ from hE)
    | succ n ih =>
      intro u x1 x2 x3 H locs ls hE hW hS hV hl
      rw [fX1_eat_69] at hE
      refine lv_iload_n hx hb dX1_eat_69 rfl (lv_at hl 3 rfl) ?_
      refine lv_aload_n hx hb dX1_eat_70 rfl (lv_at hl 0 rfl) ?_
      refine cg_X1_171_1 C hW (st_F hS hF) dX1_eat_71 ?_
      refine lv_icmp_ge (tgt := 111) hx hb dX1_eat_74 (by decide) (fun c26 => ?_) (fun c26 => ?_)
      · have hE := z_t c26 hE
        refine lv_aload_n hx hb dX1_eat_111 rfl (lv_at hl 0 rfl) ?_
        refine cgs_X1_36_1 C hW (st_F hS hF) (sp_F_bugs hS hF) dX1_eat_112 ?_
        refine lv_iload_n hx hb dX1_eat_115 rfl (lv_at hl 1 rfl) ?_
        refine lv_sipush (v := (1000 : Int32)) hx hb dX1_eat_116 rfl ?_
        refine lv_aload_n hx hb dX1_eat_119 rfl (lv_at hl 0 rfl) ?_
        refine cgs_X1_135_1 C hW (st_F hS hF) (sp_F_bugsBefore hS hF) dX1_eat_120 ?_
        refine lv_iload_n hx hb dX1_eat_123 rfl (lv_at hl 1 rfl) ?_
        refine wc_ldi C hW (st_F_bugsBefore hS hF) hE dX1_eat_124 (fun hE => ?_)
        refine z_nmi hE (fun v27 hE => ?_)
        refine lv_iconst (v := (2 : Int32)) hx hb dX1_eat_125 rfl ?_
        refine lv_idiv hx hb dX1_eat_126 (by decide) ?_
        refine lv_aload_n hx hb dX1_eat_127 rfl (lv_at hl 0 rfl) ?_
        refine cgs_X1_33_1 C hW (st_F hS hF) (sp_F_lying hS hF) dX1_eat_128 ?_
        refine lv_iload_n hx hb dX1_eat_131 rfl (lv_at hl 1 rfl) ?_
        refine wc_ldi C hW (st_F_lying hS hF) hE dX1_eat_132 (fun hE => ?_)
        refine z_nmi hE (fun v28 hE => ?_)
        refine lv_bipush (v := (10 : Int32)) hx hb dX1_eat_133 rfl ?_
        refine lv_aload_n hx hb dX1_eat_135 rfl (lv_at hl 0 rfl) ?_
        refine cgs_X1_24_1 C hW (st_F hS hF) (sp_F_acres hS hF) dX1_eat_136 ?_
        refine lv_iload_n hx hb dX1_eat_139 rfl (lv_at hl 1 rfl) ?_
        refine wc_ldi C hW (st_F_acres hS hF) hE dX1_eat_140 (fun hE => ?_)
        refine z_nmi hE (fun v29 hE => ?_)
        refine lv_imul hx hb dX1_eat_141 ?_
        obtain ⟨hz, hE⟩ := o_nz_some hE
        refine lv_idiv hx hb dX1_eat_142 hz ?_
        refine lv_iadd hx hb dX1_eat_143 ?_
        refine lv_iload_n hx hb dX1_eat_144 rfl (lv_at hl 2 rfl) ?_
        refine lv_bipush (v := (8 : Int32)) hx hb dX1_eat_145 rfl ?_
        refine lv_idiv hx hb dX1_eat_147 (by decide) ?_
        refine lv_iadd hx hb dX1_eat_148 ?_
        refine va_mmin hx hb (C.1.2.2.1.trans hl.1.symm) C.1.2.2.2.1 (C.1.2.2.2.2 _ q232) (C.1.2.2.2.2 _ q233) (C.1.2.2.2.2 _ q169) (C.1.2.2.2.2 _ q234) (Nat.le_of_ble_eq_true rfl) (by first | exact Nat.le_of_ble_eq_true rfl | (simp [wc_cat, Value.category])) (Nat.le_refl 0) (Nat.le_refl 0) dX1_eat_149 ?_
        refine wc_sti (J := wc_S) C hW hV (st_F_bugs hS hF) hS.uA hE dX1_eat_152 (fun u30 H locs hE hW hS hV => ?_)
        refine lv_aload_n hx hb dX1_eat_153 rfl (lv_at hl 0 rfl) ?_
        refine lv_iload_n hx hb dX1_eat_154 rfl (lv_at hl 1 rfl) ?_
        obtain ⟨r31, u32, hc, hE⟩ := o_bd2_some hE
        refine cc_X1_283 C hW hS hV (st_F hS hF) (kX1_wood hF hc) rfl rfl ⟨Nat.le_of_ble_eq_true rfl, Nat.le_of_ble_eq_true rfl⟩ ⟨Nat.le_refl 0, Nat.le_refl 0⟩ dX1_eat_155 hl.1 (Nat.le_of_ble_eq_true rfl) (fun H locs hW hS hV => ?_)
        refine lv_istore_n (lv' := [(3, .int r31), (0, .ref (h + F)), (1, .int x1), (2, .int x2)]) hx hb dX1_eat_158 rfl hl (by decide) rfl (fun ls hl => ?_)
        refine lv_aload_n hx hb dX1_eat_159 rfl (lv_at hl 1 rfl) ?_
        refine lv_iload_n hx hb dX1_eat_160 rfl (lv_at hl 2 rfl) ?_
        refine lv_iconst (v := (0 : Int32)) hx hb dX1_eat_161 rfl ?_
        refine lv_aload_n hx hb dX1_eat_162 rfl (lv_at hl 1 rfl) ?_
        refine cgs_X1_30_1 C hW (st_F hS hF) (sp_F_fulls hS hF) dX1_eat_163 ?_
        refine lv_iload_n hx hb dX1_eat_166 rfl (lv_at hl 2 rfl) ?_
        refine wc_ldi C hW (st_F_fulls hS hF) hE dX1_eat_167 (fun hE => ?_)
        refine z_nmi hE (fun v33 hE => ?_)
        refine lv_aload_n hx hb dX1_eat_168 rfl (lv_at hl 1 rfl) ?_
        refine cgs_X1_36_1 C hW (st_F hS hF) (sp_F_bugs hS hF) dX1_eat_169 ?_
        refine lv_iload_n hx hb dX1_eat_172 rfl (lv_at hl 2 rfl) ?_
        refine wc_ldi C hW (st_F_bugs hS hF) hE dX1_eat_173 (fun hE => ?_)
        refine z_nmi hE (fun v34 hE => ?_)
        refine lv_bipush (v := (100 : Int32)) hx hb dX1_eat_174 rfl ?_
        refine lv_idiv hx hb dX1_eat_176 (by decide) ?_
        refine lv_isub hx hb dX1_eat_177 ?_
        refine va_mmax hx hb (C.1.2.2.1.trans hl.1.symm) C.1.2.2.2.1 (C.1.2.2.2.2 _ q827) (C.1.2.2.2.2 _ q828) (C.1.2.2.2.2 _ q169) (C.1.2.2.2.2 _ q829) (Nat.le_of_ble_eq_true rfl) (by first | exact Nat.le_of_ble_eq_true rfl | (simp [wc_cat, Value.category])) (Nat.le_refl 0) (Nat.le_refl 0) dX1_eat_178 ?_
        obtain ⟨u35, hc, hE⟩ := o_bd_some hE
        refine cc_X1_286 C hW hS hV (st_F hS hF) (kX1_become hF hc) rfl rfl ⟨Nat.le_of_ble_eq_true rfl, Nat.le_of_ble_eq_true rfl⟩ ⟨Nat.le_refl 0, Nat.le_refl 0⟩ dX1_eat_181 hl.1 (Nat.le_of_ble_eq_true rfl) (fun H locs hW hS hV => ?_)
        refine lv_aload_n hx hb dX1_eat_184 rfl (lv_at hl 1 rfl) ?_
        refine cgs_X1_85_1 C hW (st_F hS hF) (sp_F_books hS hF) dX1_eat_185 ?_
        refine lv_iconst (v := (5 : Int32)) hx hb dX1_eat_188 rfl ?_
        refine lv_dup2_11 hx hb dX1_eat_189 rfl rfl ?_
        refine wc_ldl C hW (st_F_books hS hF) hE dX1_eat_190 (fun hE => ?_)
        refine z_nml hE (fun v36 hE => ?_)
        refine lv_iload_n hx hb dX1_eat_191 rfl (lv_at hl 0 rfl) ?_
        refine lv_aload_n hx hb dX1_eat_192 rfl (lv_at hl 1 rfl) ?_
        refine lv_iload_n hx hb dX1_eat_193 rfl (lv_at hl 2 rfl) ?_
        obtain ⟨r37, u38, hc, hE⟩ := o_bd2_some hE
        refine cc_X1_283 C hW hS hV (st_F hS hF) (kX1_wood hF hc) rfl rfl ⟨Nat.le_of_ble_eq_true rfl, Nat.le_of_ble_eq_true rfl⟩ ⟨Nat.le_refl 0, Nat.le_refl 0⟩ dX1_eat_194 hl.1 (Nat.le_of_ble_eq_true rfl) (fun H locs hW hS hV => ?_)
        refine lv_isub hx hb dX1_eat_197 ?_
        refine lv_i2l hx hb dX1_eat_198 rfl ?_
        refine lv_ladd hx hb dX1_eat_199 ?_
        refine wc_stl (J := wc_S) C hW hV (st_F_books hS hF) hS.uB hE dX1_eat_200 (fun u39 H locs hE hW hS hV => ?_)
        exact w_201 ag30 hag30 _ _ _ _ _ hE hW hS hV (lv_sub hl [1, 2] rfl)
      · have hE := z_f c26 hE
        refine lv_aload_n hx hb dX1_eat_77 rfl (lv_at hl 0 rfl) ?_
        refine lv_iload_n hx hb dX1_eat_78 rfl (lv_at hl 3 rfl) ?_
        refine lv_iload_n hx hb dX1_eat_79 rfl (lv_at hl 1 rfl) ?_
        obtain ⟨r40, u41, hc, hE⟩ := o_bd2_some hE
        refine cc_X1_226 C hW hS hV (st_F hS hF) (kX1_otherOf hF hc) rfl rfl ⟨Nat.le_of_ble_eq_true rfl, Nat.le_of_ble_eq_true rfl⟩ ⟨Nat.le_refl 0, Nat.le_refl 0⟩ dX1_eat_80 hl.1 (Nat.le_of_ble_eq_true rfl) (fun H locs hW hS hV => ?_)
        refine lv_istore (lv' := [(4, .int r40), (0, .ref (h + F)), (1, .int x1), (2, .int x2), (3, .int x3)]) hx hb dX1_eat_83 hl (by decide) rfl (fun ls hl => ?_)
        refine lv_iload_n hx hb dX1_eat_85 rfl (lv_at hl 3 rfl) ?_
        refine lv_iload hx hb dX1_eat_86 (lv_at hl 0 rfl) ?_
        refine lv_iconst (v := (-1 : Int32)) hx hb dX1_eat_88 rfl ?_
        refine lv_icmp_ne (tgt := 96) hx hb dX1_eat_89 (by decide) (fun c42 => ?_) (fun c42 => ?_)
        · have hE := z_f c42 hE
          refine lv_aload_n hx hb dX1_eat_96 rfl (lv_at hl 1 rfl) ?_
          refine cgs_X1_135_1 C hW (st_F hS hF) (sp_F_bugsBefore hS hF) dX1_eat_97 ?_
          refine lv_iload hx hb dX1_eat_100 (lv_at hl 0 rfl) ?_
          refine wc_ldi C hW (st_F_bugsBefore hS hF) hE dX1_eat_102 (fun hE => ?_)
          refine z_nmi hE (fun v43 hE => ?_)
          exact w_103 ag30 hag30 (fX1_eat_69 N F ag30 n) ih _ _ _ _ _ _ _ _ hE hW hS hV (lv_sub hl [1, 2, 4] rfl)
        · have hE := z_t c42 hE
          refine lv_iconst (v := (0 : Int32)) hx hb dX1_eat_92 rfl ?_
          refine lv_goto (tgt := 103) hx hb dX1_eat_93 (by decide) ?_
          exact w_103 ag30 hag30 (fX1_eat_69 N F ag30 n) ih _ _ _ _ _ _ _ _ hE hW hS hV (lv_sub hl [1, 2, 4] rfl)
  have w_30 : ∀ (n : Nat) (u : CS) (x1 : Int32) (H : Heap) (locs : List Loc) (ls : Array Slot), fX1_eat_30 N F n u x1 = some u_ → wc_W D dA h u H → wc_S u → va_S (CA h) s.heap H locs → lv_has ls 5 [(0, .ref (h + F)), (1, .int x1)] → W p l e ({ frames := 4, cells := 0, slots := 0, locals := 88 }) s m args below meth c H locs 0 0 (MQ below (wc_Qr D dA h none u_) args s 0 0 (CA h)) (F0 m 30 ls []) := by
    intro n
    induction n with
    | zero =>
      intro u x1 H locs ls hE hW hS hV hl
      cases (show (none : Option (CS)) = some u_ from hE)
    | succ n ih =>
      intro u x1 H locs ls hE hW hS hV hl
      rw [fX1_eat_30] at hE
      refine lv_iload_n hx hb dX1_eat_30 rfl (lv_at hl 1 rfl) ?_
      refine lv_aload_n hx hb dX1_eat_31 rfl (lv_at hl 0 rfl) ?_
      refine cg_X1_168_1 C hW (st_F hS hF) dX1_eat_32 ?_
      refine lv_icmp_ge (tgt := 207) hx hb dX1_eat_35 (by decide) (fun c44 => ?_) (fun c44 => ?_)
      · have hE := z_t c44 hE
        exact wc_vret C hr hlocks hW hS hV hE dX1_eat_207
      · have hE := z_f c44 hE
        refine lv_aload_n hx hb dX1_eat_38 rfl (lv_at hl 0 rfl) ?_
        refine cgs_X1_18_1 C hW (st_F hS hF) (sp_F_kinds hS hF) dX1_eat_39 ?_
        refine lv_iload_n hx hb dX1_eat_42 rfl (lv_at hl 1 rfl) ?_
        refine wc_ldi C hW (st_F_kinds hS hF) hE dX1_eat_43 (fun hE => ?_)
        refine z_nmi hE (fun v45 hE => ?_)
        refine lv_if_ne (tgt := 55) hx hb dX1_eat_44 (by decide) (fun c46 => ?_) (fun c46 => ?_)
        · have hE := z_f c46 hE
          exact w_55 (fX1_eat_30 N F n) ih _ _ _ _ _ hE hW hS hV (lv_sub hl [0, 1] rfl)
        · have hE := z_t c46 hE
          refine lv_aload_n hx hb dX1_eat_47 rfl (lv_at hl 0 rfl) ?_
          refine lv_iload_n hx hb dX1_eat_48 rfl (lv_at hl 1 rfl) ?_
          obtain ⟨r47, u48, hc, hE⟩ := o_bd2_some hE
          refine cc_X1_232 C hW hS hV (st_F hS hF) (kX1_isBare hF hc) rfl rfl ⟨Nat.le_of_ble_eq_true rfl, Nat.le_of_ble_eq_true rfl⟩ ⟨Nat.le_refl 0, Nat.le_refl 0⟩ dX1_eat_49 hl.1 (Nat.le_of_ble_eq_true rfl) (fun H locs hW hS hV => ?_)
          refine lv_if_eq (tgt := 65) hx hb dX1_eat_52 (by decide) (fun c49 => ?_) (fun c49 => ?_)
          · have hE := z_t c49 hE
            refine lv_iconst (v := (0 : Int32)) hx hb dX1_eat_65 rfl ?_
            refine lv_istore_n (lv' := [(2, .int (0 : Int32)), (0, .ref (h + F)), (1, .int x1)]) hx hb dX1_eat_66 rfl hl (by decide) rfl (fun ls hl => ?_)
            refine lv_iconst (v := (0 : Int32)) hx hb dX1_eat_67 rfl ?_
            refine lv_istore_n (lv' := [(3, .int (0 : Int32)), (2, .int (0 : Int32)), (0, .ref (h + F)), (1, .int x1)]) hx hb dX1_eat_68 rfl hl (by decide) rfl (fun ls hl => ?_)
            exact w_69 (fX1_eat_30 N F n) ih N _ _ _ _ _ _ _ hE hW hS hV (lv_sub hl [2, 3, 1, 0] rfl)
          · have hE := z_f c49 hE
            exact w_55 (fX1_eat_30 N F n) ih _ _ _ _ _ hE hW hS hV (lv_sub hl [0, 1] rfl)
  have w_2 : ∀ (n : Nat) (u : CS) (x1 : Int32) (H : Heap) (locs : List Loc) (ls : Array Slot), fX1_eat_2 N F n u x1 = some u_ → wc_W D dA h u H → wc_S u → va_S (CA h) s.heap H locs → lv_has ls 5 [(0, .ref (h + F)), (1, .int x1)] → W p l e ({ frames := 4, cells := 0, slots := 0, locals := 88 }) s m args below meth c H locs 0 0 (MQ below (wc_Qr D dA h none u_) args s 0 0 (CA h)) (F0 m 2 ls []) := by
    intro n
    induction n with
    | zero =>
      intro u x1 H locs ls hE hW hS hV hl
      cases (show (none : Option (CS)) = some u_ from hE)
    | succ n ih =>
      intro u x1 H locs ls hE hW hS hV hl
      rw [fX1_eat_2] at hE
      refine lv_iload_n hx hb dX1_eat_2 rfl (lv_at hl 1 rfl) ?_
      refine lv_aload_n hx hb dX1_eat_3 rfl (lv_at hl 0 rfl) ?_
      refine cg_X1_168_1 C hW (st_F hS hF) dX1_eat_4 ?_
      refine lv_icmp_ge (tgt := 28) hx hb dX1_eat_7 (by decide) (fun c50 => ?_) (fun c50 => ?_)
      · have hE := z_t c50 hE
        refine lv_iconst (v := (0 : Int32)) hx hb dX1_eat_28 rfl ?_
        refine lv_istore_n (lv' := [(1, .int (0 : Int32)), (0, .ref (h + F))]) hx hb dX1_eat_29 rfl hl (by decide) rfl (fun ls hl => ?_)
        exact w_30 N _ _ _ _ _ hE hW hS hV (lv_sub hl [1, 0] rfl)
      · have hE := z_f c50 hE
        refine lv_aload_n hx hb dX1_eat_10 rfl (lv_at hl 0 rfl) ?_
        refine cgs_X1_135_1 C hW (st_F hS hF) (sp_F_bugsBefore hS hF) dX1_eat_11 ?_
        refine lv_iload_n hx hb dX1_eat_14 rfl (lv_at hl 1 rfl) ?_
        refine lv_aload_n hx hb dX1_eat_15 rfl (lv_at hl 0 rfl) ?_
        refine cgs_X1_36_1 C hW (st_F hS hF) (sp_F_bugs hS hF) dX1_eat_16 ?_
        refine lv_iload_n hx hb dX1_eat_19 rfl (lv_at hl 1 rfl) ?_
        refine wc_ldi C hW (st_F_bugs hS hF) hE dX1_eat_20 (fun hE => ?_)
        refine z_nmi hE (fun v51 hE => ?_)
        refine wc_sti (J := wc_S) C hW hV (st_F_bugsBefore hS hF) hS.uA hE dX1_eat_21 (fun u52 H locs hE hW hS hV => ?_)
        refine z_iinc (v := (x1 + (1 : Int32))) (lw := (fun y_ => [(1, .int y_), (0, .ref (h + F))])) hx hb dX1_eat_22 hl hE (k := 1) rfl rfl (by decide) (fun _ => rfl) (fun z53 ls hE hl => ?_)
        refine lv_goto (tgt := 2) hx hb dX1_eat_25 (by decide) ?_
        exact ih _ _ _ _ _ hE hW hS hV (lv_sub hl [1, 0] rfl)
  unfold fX1_eat at hE
  refine lv_iconst (v := (0 : Int32)) hx hb dX1_eat_0 rfl ?_
  refine lv_istore_n (lv' := [(1, .int (0 : Int32)), (0, .ref (h + F))]) hx hb dX1_eat_1 rfl hl (by decide) rfl (fun ls hl => ?_)
  exact w_2 N _ _ _ _ _ hE hW hS hV (lv_sub hl [1, 0] rfl)
theorem cc_X1_306 {F : Nat} {u u1 : CS} {rm : Room} (C : CC p m c cc nL s args D dA RX1) (hW : wc_W D dA h u H) (hS : wc_S u) (hV : va_S (CA h) H0 H locs) (ht : wc_T u F = some (.inl 1)) (hM : Met l yX1_rot (ws_ yX1_rot cX1_rot 3 none) rm (va_Pc [.ref (h + F)] (wc_St D dA h u)) (wc_Qr D dA h none u1) 0 0 (CA h)) (hrc : rm.cells = 0) (hrs : rm.slots = 0) (hR : rm.frames + 1 ≤ R.frames ∧ 8 + (3 + 11) + rm.locals ≤ R.locals) (hf : cells + 0 ≤ R.cells ∧ slots + 0 ≤ R.slots) (d : decode cc pc = .ok (.invokevirtual 306, 3)) (hsz : ls.size = nL) (hro : (rest.map fun v => v.category).sum ≤ 8) (kk : ∀ (H1 : Heap) (locs1 : List Loc), wc_W D dA h u1 H1 → wc_S u1 → va_S (CA h) H0 H1 locs1 → W p l e R s m args below meth c H1 locs1 cells slots Q (F0 m (pc + 3) ls (rest))) : W p l e R s m args below meth c H locs cells slots Q (F0 m pc ls (.ref (h + F) :: rest)) :=
  wc_call (v := none) (va_runV (As := []) (rest := rest) C.1 hM (cwV 0 C.1.2.2.2.2 (lw_V q1346 q1348 qs71 q167 q1349) rfl hrc hrs (by decide +kernel) hR) (wc_preV (q := (RX1, TX1, 46)) C.2 hW hS ht rfl _) rfl rfl hsz rfl (lv_room hro) d hf) hV (fun _ z => z) (fun H1 locs1 a b c0 _ _ => kk H1 locs1 a b c0)
set_option maxHeartbeats 4000000 in
set_option maxRecDepth 100000 in
theorem kX1_rot {l : Launch} {D : va_G} {dA : Nat → ClassId} {h N : Nat} {F : Nat} {u u_ : CS} (hF : wc_F F) (hE : fX1_rot N F u = some u_) : Met l yX1_rot (ws_ yX1_rot cX1_rot 3 none) ({ frames := 0, cells := 0, slots := 0, locals := 0 }) (va_Pc [.ref (h + F)] (wc_St D dA h u)) (wc_Qr D dA h none u_) 0 0 (CA h) := by
  refine wc_met (own := RX1) (lv := [(0, .ref (h + F))]) (by decide) rfl rfl rfl ?_
  intro p e s m args below meth c ls C hr hlocks hW hS hV hl
  have hx := C.1.1
  have hb := C.1.2.1
  have w_2 : ∀ (n : Nat) (u : CS) (x1 : Int32) (H : Heap) (locs : List Loc) (ls : Array Slot), fX1_rot_2 N F n u x1 = some u_ → wc_W D dA h u H → wc_S u → va_S (CA h) s.heap H locs → lv_has ls 3 [(0, .ref (h + F)), (1, .int x1)] → W p l e ({ frames := 0, cells := 0, slots := 0, locals := 0 }) s m args below meth c H locs 0 0 (MQ below (wc_Qr D dA h none u_) args s 0 0 (CA h)) (F0 m 2 ls []) := by
    intro n
    induction n with
    | zero =>
      intro u x1 H locs ls hE hW hS hV hl
      cases (show (none : Option (CS)) = some u_ from hE)
    | succ n ih =>
      intro u x1 H locs ls hE hW hS hV hl
      rw [fX1_rot_2] at hE
      refine lv_iload_n hx hb dX1_rot_2 rfl (lv_at hl 1 rfl) ?_
      refine lv_aload_n hx hb dX1_rot_3 rfl (lv_at hl 0 rfl) ?_
      refine cg_X1_168_1 C hW (st_F hS hF) dX1_rot_4 ?_
      refine lv_icmp_ge (tgt := 50) hx hb dX1_rot_7 (by decide) (fun c5 => ?_) (fun c5 => ?_)
      · have hE := z_t c5 hE
        exact wc_vret C hr hlocks hW hS hV hE dX1_rot_50
      · have hE := z_f c5 hE
        refine lv_aload_n hx hb dX1_rot_10 rfl (lv_at hl 0 rfl) ?_
        refine cgs_X1_33_1 C hW (st_F hS hF) (sp_F_lying hS hF) dX1_rot_11 ?_
        refine lv_iload_n hx hb dX1_rot_14 rfl (lv_at hl 1 rfl) ?_
        refine wc_ldi C hW (st_F_lying hS hF) hE dX1_rot_15 (fun hE => ?_)
        refine z_nmi hE (fun v6 hE => ?_)
        refine lv_iconst (v := (2 : Int32)) hx hb dX1_rot_16 rfl ?_
        refine lv_idiv hx hb dX1_rot_17 (by decide) ?_
        refine z_nmi hE (fun z7 hE => ?_)
        refine lv_istore_n (lv' := [(2, .int z7), (0, .ref (h + F)), (1, .int x1)]) hx hb dX1_rot_18 rfl hl (by decide) rfl (fun ls hl => ?_)
        refine lv_aload_n hx hb dX1_rot_19 rfl (lv_at hl 1 rfl) ?_
        refine cgs_X1_85_1 C hW (st_F hS hF) (sp_F_books hS hF) dX1_rot_20 ?_
        refine lv_iconst (v := (4 : Int32)) hx hb dX1_rot_23 rfl ?_
        refine lv_dup2_11 hx hb dX1_rot_24 rfl rfl ?_
        refine wc_ldl C hW (st_F_books hS hF) hE dX1_rot_25 (fun hE => ?_)
        refine z_nml hE (fun v8 hE => ?_)
        refine lv_aload_n hx hb dX1_rot_26 rfl (lv_at hl 1 rfl) ?_
        refine cgs_X1_33_1 C hW (st_F hS hF) (sp_F_lying hS hF) dX1_rot_27 ?_
        refine lv_iload_n hx hb dX1_rot_30 rfl (lv_at hl 2 rfl) ?_
        refine wc_ldi C hW (st_F_lying hS hF) hE dX1_rot_31 (fun hE => ?_)
        refine z_nmi hE (fun v9 hE => ?_)
        refine lv_iload_n hx hb dX1_rot_32 rfl (lv_at hl 0 rfl) ?_
        refine lv_isub hx hb dX1_rot_33 ?_
        refine lv_i2l hx hb dX1_rot_34 rfl ?_
        refine lv_ladd hx hb dX1_rot_35 ?_
        refine wc_stl (J := wc_S) C hW hV (st_F_books hS hF) hS.uB hE dX1_rot_36 (fun u10 H locs hE hW hS hV => ?_)
        refine lv_aload_n hx hb dX1_rot_37 rfl (lv_at hl 1 rfl) ?_
        refine cgs_X1_33_1 C hW (st_F hS hF) (sp_F_lying hS hF) dX1_rot_38 ?_
        refine lv_iload_n hx hb dX1_rot_41 rfl (lv_at hl 2 rfl) ?_
        refine lv_iload_n hx hb dX1_rot_42 rfl (lv_at hl 0 rfl) ?_
        refine wc_sti (J := wc_S) C hW hV (st_F_lying hS hF) hS.uA hE dX1_rot_43 (fun u11 H locs hE hW hS hV => ?_)
        refine z_iinc (v := (x1 + (1 : Int32))) (lw := (fun y_ => [(1, .int y_), (2, .int z7), (0, .ref (h + F))])) hx hb dX1_rot_44 hl hE (k := 2) rfl rfl (by decide) (fun _ => rfl) (fun z12 ls hE hl => ?_)
        refine lv_goto (tgt := 2) hx hb dX1_rot_47 (by decide) ?_
        exact ih _ _ _ _ _ hE hW hS hV (lv_sub hl [2, 0] rfl)
  unfold fX1_rot at hE
  refine lv_iconst (v := (0 : Int32)) hx hb dX1_rot_0 rfl ?_
  refine lv_istore_n (lv' := [(1, .int (0 : Int32)), (0, .ref (h + F))]) hx hb dX1_rot_1 rfl hl (by decide) rfl (fun ls hl => ?_)
  exact w_2 N _ _ _ _ _ hE hW hS hV (lv_sub hl [1, 0] rfl)
theorem cc_X1_309 {F : Nat} {u u1 : CS} {rm : Room} (C : CC p m c cc nL s args D dA RX1) (hW : wc_W D dA h u H) (hS : wc_S u) (hV : va_S (CA h) H0 H locs) (ht : wc_T u F = some (.inl 1)) (hM : Met l yX1_grow (ws_ yX1_grow cX1_grow 2 none) rm (va_Pc [.ref (h + F)] (wc_St D dA h u)) (wc_Qr D dA h none u1) 0 0 (CA h)) (hrc : rm.cells = 0) (hrs : rm.slots = 0) (hR : rm.frames + 1 ≤ R.frames ∧ 8 + (2 + 11) + rm.locals ≤ R.locals) (hf : cells + 0 ≤ R.cells ∧ slots + 0 ≤ R.slots) (d : decode cc pc = .ok (.invokevirtual 309, 3)) (hsz : ls.size = nL) (hro : (rest.map fun v => v.category).sum ≤ 8) (kk : ∀ (H1 : Heap) (locs1 : List Loc), wc_W D dA h u1 H1 → wc_S u1 → va_S (CA h) H0 H1 locs1 → W p l e R s m args below meth c H1 locs1 cells slots Q (F0 m (pc + 3) ls (rest))) : W p l e R s m args below meth c H locs cells slots Q (F0 m pc ls (.ref (h + F) :: rest)) :=
  wc_call (v := none) (va_runV (As := []) (rest := rest) C.1 hM (cwV 0 C.1.2.2.2.2 (lw_V q1350 q1352 qs72 q167 q1353) rfl hrc hrs (by decide +kernel) hR) (wc_preV (q := (RX1, TX1, 46)) C.2 hW hS ht rfl _) rfl rfl hsz rfl (lv_room hro) d hf) hV (fun _ z => z) (fun H1 locs1 a b c0 _ _ => kk H1 locs1 a b c0)
set_option maxHeartbeats 4000000 in
set_option maxRecDepth 100000 in
theorem kX1_grow {l : Launch} {D : va_G} {dA : Nat → ClassId} {h N : Nat} {F : Nat} {u u_ : CS} (hF : wc_F F) (hE : fX1_grow N F u = some u_) : Met l yX1_grow (ws_ yX1_grow cX1_grow 2 none) ({ frames := 1, cells := 0, slots := 0, locals := 24 }) (va_Pc [.ref (h + F)] (wc_St D dA h u)) (wc_Qr D dA h none u_) 0 0 (CA h) := by
  refine wc_met (own := RX1) (lv := [(0, .ref (h + F))]) (by decide) rfl rfl rfl ?_
  intro p e s m args below meth c ls C hr hlocks hW hS hV hl
  have hx := C.1.1
  have hb := C.1.2.1
  have w_90 : ∀ (ag2 : CS → Int32 → Option (CS)) (hag2 : (∀ (u : CS) (x1 : Int32) (H : Heap) (locs : List Loc) (ls : Array Slot), ag2 u x1 = some u_ → wc_W D dA h u H → wc_S u → va_S (CA h) s.heap H locs → lv_has ls 2 [(0, .ref (h + F)), (1, .int x1)] → W p l e ({ frames := 1, cells := 0, slots := 0, locals := 24 }) s m args below meth c H locs 0 0 (MQ below (wc_Qr D dA h none u_) args s 0 0 (CA h)) (F0 m 2 ls []))) (u : CS) (x1 : Int32) (H : Heap) (locs : List Loc) (ls : Array Slot), fX1_grow_90 N F ag2 u x1 = some u_ → wc_W D dA h u H → wc_S u → va_S (CA h) s.heap H locs → lv_has ls 2 [(0, .ref (h + F)), (1, .int x1)] → W p l e ({ frames := 1, cells := 0, slots := 0, locals := 24 }) s m args below meth c H locs 0 0 (MQ below (wc_Qr D dA h none u_) args s 0 0 (CA h)) (F0 m 90 ls []) := by
    intro ag2 hag2 u x1 H locs ls hE hW hS hV hl
    unfold fX1_grow_90 at hE
    refine z_iinc (v := (x1 + (1 : Int32))) (lw := (fun y_ => [(1, .int y_), (0, .ref (h + F))])) hx hb dX1_grow_90 hl hE (k := 1) rfl rfl (by decide) (fun _ => rfl) (fun z9 ls hE hl => ?_)
    refine lv_goto (tgt := 2) hx hb dX1_grow_93 (by decide) ?_
    exact hag2 _ _ _ _ _ hE hW hS hV (lv_sub hl [1, 0] rfl)
  have w_88 : ∀ (ag2 : CS → Int32 → Option (CS)) (hag2 : (∀ (u : CS) (x1 : Int32) (H : Heap) (locs : List Loc) (ls : Array Slot), ag2 u x1 = some u_ → wc_W D dA h u H → wc_S u → va_S (CA h) s.heap H locs → lv_has ls 2 [(0, .ref (h + F)), (1, .int x1)] → W p l e ({ frames := 1, cells := 0, slots := 0, locals := 24 }) s m args below meth c H locs 0 0 (MQ below (wc_Qr D dA h none u_) args s 0 0 (CA h)) (F0 m 2 ls []))) (u : CS) (x1 : Int32) (y1 : Int32) (y2 : Int32) (y3 : Int32) (H : Heap) (locs : List Loc) (ls : Array Slot), fX1_grow_88 N F ag2 u x1 y1 y2 y3 = some u_ → wc_W D dA h u H → wc_S u → va_S (CA h) s.heap H locs → lv_has ls 2 [(0, .ref (h + F)), (1, .int x1)] → W p l e ({ frames := 1, cells := 0, slots := 0, locals := 24 }) s m args below meth c H locs 0 0 (MQ below (wc_Qr D dA h none u_) args s 0 0 (CA h)) (F0 m 88 ls [.int y3, .int y2, .int y1, .ref (h + (F + 7))]) := by
    intro ag2 hag2 u x1 y1 y2 y3 H locs ls hE hW hS hV hl
    unfold fX1_grow_88 at hE
    refine lv_iadd hx hb dX1_grow_88 ?_
    refine wc_sti (J := wc_S) C hW hV (st_F_fulls hS hF) hS.uA hE dX1_grow_89 (fun u10 H locs hE hW hS hV => ?_)
    exact w_90 ag2 hag2 _ _ _ _ _ hE hW hS hV (lv_sub hl [0, 1] rfl)
  have w_87 : ∀ (ag2 : CS → Int32 → Option (CS)) (hag2 : (∀ (u : CS) (x1 : Int32) (H : Heap) (locs : List Loc) (ls : Array Slot), ag2 u x1 = some u_ → wc_W D dA h u H → wc_S u → va_S (CA h) s.heap H locs → lv_has ls 2 [(0, .ref (h + F)), (1, .int x1)] → W p l e ({ frames := 1, cells := 0, slots := 0, locals := 24 }) s m args below meth c H locs 0 0 (MQ below (wc_Qr D dA h none u_) args s 0 0 (CA h)) (F0 m 2 ls []))) (u : CS) (x1 : Int32) (y1 : Int32) (y2 : Int32) (H : Heap) (locs : List Loc) (ls : Array Slot), fX1_grow_87 N F ag2 u x1 y1 y2 = some u_ → wc_W D dA h u H → wc_S u → va_S (CA h) s.heap H locs → lv_has ls 2 [(0, .ref (h + F)), (1, .int x1)] → W p l e ({ frames := 1, cells := 0, slots := 0, locals := 24 }) s m args below meth c H locs 0 0 (MQ below (wc_Qr D dA h none u_) args s 0 0 (CA h)) (F0 m 87 ls [.int y2, .int y1, .ref (h + (F + 7))]) := by
    intro ag2 hag2 u x1 y1 y2 H locs ls hE hW hS hV hl
    unfold fX1_grow_87 at hE
    refine lv_iconst (v := (0 : Int32)) hx hb dX1_grow_87 rfl ?_
    exact w_88 ag2 hag2 _ _ _ _ _ _ _ _ hE hW hS hV (lv_sub hl [0, 1] rfl)
  have w_2 : ∀ (n : Nat) (u : CS) (x1 : Int32) (H : Heap) (locs : List Loc) (ls : Array Slot), fX1_grow_2 N F n u x1 = some u_ → wc_W D dA h u H → wc_S u → va_S (CA h) s.heap H locs → lv_has ls 2 [(0, .ref (h + F)), (1, .int x1)] → W p l e ({ frames := 1, cells := 0, slots := 0, locals := 24 }) s m args below meth c H locs 0 0 (MQ below (wc_Qr D dA h none u_) args s 0 0 (CA h)) (F0 m 2 ls []) := by
    intro n
    induction n with
    | zero =>
      intro u x1 H locs ls hE hW hS hV hl
      cases (show (none : Option (CS)) = some u_ from hE)
    | succ n ih =>
      intro u x1 H locs ls hE hW hS hV hl
      rw [fX1_grow_2] at hE
      refine lv_iload_n hx hb dX1_grow_2 rfl (lv_at hl 1 rfl) ?_
      refine lv_aload_n hx hb dX1_grow_3 rfl (lv_at hl 0 rfl) ?_
      refine cg_X1_168_1 C hW (st_F hS hF) dX1_grow_4 ?_
      refine lv_icmp_ge (tgt := 96) hx hb dX1_grow_7 (by decide) (fun c11 => ?_) (fun c11 => ?_)
      · have hE := z_t c11 hE
        exact wc_vret C hr hlocks hW hS hV hE dX1_grow_96
      · have hE := z_f c11 hE
        refine lv_aload_n hx hb dX1_grow_10 rfl (lv_at hl 0 rfl) ?_
        refine lv_iload_n hx hb dX1_grow_11 rfl (lv_at hl 1 rfl) ?_
        obtain ⟨r12, u13, hc, hE⟩ := o_bd2_some hE
        refine cc_X1_232 C hW hS hV (st_F hS hF) (kX1_isBare hF hc) rfl rfl ⟨Nat.le_of_ble_eq_true rfl, Nat.le_of_ble_eq_true rfl⟩ ⟨Nat.le_refl 0, Nat.le_refl 0⟩ dX1_grow_12 hl.1 (Nat.le_of_ble_eq_true rfl) (fun H locs hW hS hV => ?_)
        refine lv_if_ne (tgt := 90) hx hb dX1_grow_15 (by decide) (fun c14 => ?_) (fun c14 => ?_)
        · have hE := z_f c14 hE
          exact w_90 (fX1_grow_2 N F n) ih _ _ _ _ _ hE hW hS hV (lv_sub hl [0, 1] rfl)
        · have hE := z_t c14 hE
          refine lv_aload_n hx hb dX1_grow_18 rfl (lv_at hl 0 rfl) ?_
          refine cgs_X1_42_1 C hW (st_F hS hF) (sp_F_plantedIn hS hF) dX1_grow_19 ?_
          refine lv_iload_n hx hb dX1_grow_22 rfl (lv_at hl 1 rfl) ?_
          refine wc_ldi C hW (st_F_plantedIn hS hF) hE dX1_grow_23 (fun hE => ?_)
          refine z_nmi hE (fun v15 hE => ?_)
          refine lv_aload_n hx hb dX1_grow_24 rfl (lv_at hl 0 rfl) ?_
          refine cg_X1_142_1 C hW (st_F hS hF) dX1_grow_25 ?_
          refine lv_icmp_ne (tgt := 34) hx hb dX1_grow_28 (by decide) (fun c16 => ?_) (fun c16 => ?_)
          · have hE := z_f c16 hE
            refine lv_aload_n hx hb dX1_grow_34 rfl (lv_at hl 0 rfl) ?_
            refine cgs_X1_27_1 C hW (st_F hS hF) (sp_F_ages hS hF) dX1_grow_35 ?_
            refine lv_iload_n hx hb dX1_grow_38 rfl (lv_at hl 1 rfl) ?_
            refine lv_sipush (v := (400 : Int32)) hx hb dX1_grow_39 rfl ?_
            refine lv_aload_n hx hb dX1_grow_42 rfl (lv_at hl 0 rfl) ?_
            refine cgs_X1_27_1 C hW (st_F hS hF) (sp_F_ages hS hF) dX1_grow_43 ?_
            refine lv_iload_n hx hb dX1_grow_46 rfl (lv_at hl 1 rfl) ?_
            refine wc_ldi C hW (st_F_ages hS hF) hE dX1_grow_47 (fun hE => ?_)
            refine z_nmi hE (fun v17 hE => ?_)
            refine lv_iconst (v := (1 : Int32)) hx hb dX1_grow_48 rfl ?_
            refine lv_iadd hx hb dX1_grow_49 ?_
            refine va_mmin hx hb (C.1.2.2.1.trans hl.1.symm) C.1.2.2.2.1 (C.1.2.2.2.2 _ q232) (C.1.2.2.2.2 _ q233) (C.1.2.2.2.2 _ q169) (C.1.2.2.2.2 _ q234) (Nat.le_of_ble_eq_true rfl) (by first | exact Nat.le_of_ble_eq_true rfl | (simp [wc_cat, Value.category])) (Nat.le_refl 0) (Nat.le_refl 0) dX1_grow_50 ?_
            refine wc_sti (J := wc_S) C hW hV (st_F_ages hS hF) hS.uA hE dX1_grow_53 (fun u18 H locs hE hW hS hV => ?_)
            refine lv_aload_n hx hb dX1_grow_54 rfl (lv_at hl 0 rfl) ?_
            refine cgs_X1_30_1 C hW (st_F hS hF) (sp_F_fulls hS hF) dX1_grow_55 ?_
            refine lv_iload_n hx hb dX1_grow_58 rfl (lv_at hl 1 rfl) ?_
            refine lv_dup2_11 hx hb dX1_grow_59 rfl rfl ?_
            refine wc_ldi C hW (st_F_fulls hS hF) hE dX1_grow_60 (fun hE => ?_)
            refine z_nmi hE (fun v19 hE => ?_)
            refine lv_aload_n hx hb dX1_grow_61 rfl (lv_at hl 0 rfl) ?_
            refine cgs_X1_30_1 C hW (st_F hS hF) (sp_F_fulls hS hF) dX1_grow_62 ?_
            refine lv_iload_n hx hb dX1_grow_65 rfl (lv_at hl 1 rfl) ?_
            refine wc_ldi C hW (st_F_fulls hS hF) hE dX1_grow_66 (fun hE => ?_)
            refine z_nmi hE (fun v20 hE => ?_)
            refine lv_bipush (v := (100 : Int32)) hx hb dX1_grow_67 rfl ?_
            refine lv_icmp_ge (tgt := 87) hx hb dX1_grow_69 (by decide) (fun c21 => ?_) (fun c21 => ?_)
            · have hE := z_t c21 hE
              exact w_87 (fX1_grow_2 N F n) ih _ _ _ _ _ _ _ hE hW hS hV (lv_sub hl [0, 1] rfl)
            · have hE := z_f c21 hE
              refine lv_aload_n hx hb dX1_grow_72 rfl (lv_at hl 0 rfl) ?_
              refine cgs_X1_27_1 C hW (st_F hS hF) (sp_F_ages hS hF) dX1_grow_73 ?_
              refine lv_iload_n hx hb dX1_grow_76 rfl (lv_at hl 1 rfl) ?_
              refine wc_ldi C hW (st_F_ages hS hF) hE dX1_grow_77 (fun hE => ?_)
              refine z_nmi hE (fun v22 hE => ?_)
              refine lv_bipush (v := (100 : Int32)) hx hb dX1_grow_78 rfl ?_
              refine lv_icmp_ge (tgt := 87) hx hb dX1_grow_80 (by decide) (fun c23 => ?_) (fun c23 => ?_)
              · have hE := z_t c23 hE
                exact w_87 (fX1_grow_2 N F n) ih _ _ _ _ _ _ _ hE hW hS hV (lv_sub hl [0, 1] rfl)
              · have hE := z_f c23 hE
                refine lv_iconst (v := (1 : Int32)) hx hb dX1_grow_83 rfl ?_
                refine lv_goto (tgt := 88) hx hb dX1_grow_84 (by decide) ?_
                exact w_88 (fX1_grow_2 N F n) ih _ _ _ _ _ _ _ _ hE hW hS hV (lv_sub hl [0, 1] rfl)
          · have hE := z_t c16 hE
            refine lv_goto (tgt := 90) hx hb dX1_grow_31 (by decide) ?_
            exact w_90 (fX1_grow_2 N F n) ih _ _ _ _ _ hE hW hS hV (lv_sub hl [0, 1] rfl)
  unfold fX1_grow at hE
  refine lv_iconst (v := (0 : Int32)) hx hb dX1_grow_0 rfl ?_
  refine lv_istore_n (lv' := [(1, .int (0 : Int32)), (0, .ref (h + F))]) hx hb dX1_grow_1 rfl hl (by decide) rfl (fun ls hl => ?_)
  exact w_2 N _ _ _ _ _ hE hW hS hV (lv_sub hl [1, 0] rfl)
theorem cc_X1_312 {F : Nat} {a1 : Int32} {u u1 : CS} {rm : Room} (C : CC p m c cc nL s args D dA RX1) (hW : wc_W D dA h u H) (hS : wc_S u) (hV : va_S (CA h) H0 H locs) (ht : wc_T u F = some (.inl 1)) (hM : Met l yX1_steal (ws_ yX1_steal cX1_steal 5 none) rm (va_Pc [.ref (h + F), .int a1] (wc_St D dA h u)) (wc_Qr D dA h none u1) 0 0 (CA h)) (hrc : rm.cells = 0) (hrs : rm.slots = 0) (hR : rm.frames + 1 ≤ R.frames ∧ 8 + (5 + 11) + rm.locals ≤ R.locals) (hf : cells + 0 ≤ R.cells ∧ slots + 0 ≤ R.slots) (d : decode cc pc = .ok (.invokevirtual 312, 3)) (hsz : ls.size = nL) (hro : (rest.map fun v => v.category).sum ≤ 8) (kk : ∀ (H1 : Heap) (locs1 : List Loc), wc_W D dA h u1 H1 → wc_S u1 → va_S (CA h) H0 H1 locs1 → W p l e R s m args below meth c H1 locs1 cells slots Q (F0 m (pc + 3) ls (rest))) : W p l e R s m args below meth c H locs cells slots Q (F0 m pc ls (.int a1 :: .ref (h + F) :: rest)) :=
  wc_call (v := none) (va_runV (As := [.int a1]) (rest := rest) C.1 hM (cwV 1 C.1.2.2.2.2 (lw_V q1354 q1356 qs73 q167 q1357) rfl hrc hrs (by decide +kernel) hR) (wc_preV (q := (RX1, TX1, 46)) C.2 hW hS ht rfl _) rfl rfl hsz rfl (lv_room hro) d hf) hV (fun _ z => z) (fun H1 locs1 a b c0 _ _ => kk H1 locs1 a b c0)
set_option maxHeartbeats 4000000 in
set_option maxRecDepth 100000 in
theorem kX1_steal {l : Launch} {D : va_G} {dA : Nat → ClassId} {h N : Nat} {F : Nat} {a1 : Int32} {u u_ : CS} (hF : wc_F F) (hE : fX1_steal N F u a1 = some u_) : Met l yX1_steal (ws_ yX1_steal cX1_steal 5 none) ({ frames := 4, cells := 0, slots := 0, locals := 88 }) (va_Pc [.ref (h + F), .int a1] (wc_St D dA h u)) (wc_Qr D dA h none u_) 0 0 (CA h) := by
  refine wc_met (own := RX1) (lv := [(0, .ref (h + F)), (1, .int a1)]) (by decide) rfl rfl rfl ?_
  intro p e s m args below meth c ls C hr hlocks hW hS hV hl
  have hx := C.1.1
  have hb := C.1.2.1
  have w_194 : ∀ (u : CS) (H : Heap) (locs : List Loc) (ls : Array Slot), fX1_steal_194 N F u = some u_ → wc_W D dA h u H → wc_S u → va_S (CA h) s.heap H locs → lv_has ls 5 [] → W p l e ({ frames := 4, cells := 0, slots := 0, locals := 88 }) s m args below meth c H locs 0 0 (MQ below (wc_Qr D dA h none u_) args s 0 0 (CA h)) (F0 m 194 ls []) := by
    intro u H locs ls hE hW hS hV hl
    unfold fX1_steal_194 at hE
    exact wc_vret C hr hlocks hW hS hV hE dX1_steal_194
  have w_188 : ∀ (ag101 : CS → Int32 → Int32 → Int32 → Option (CS)) (hag101 : (∀ (u : CS) (x1 : Int32) (x2 : Int32) (x3 : Int32) (H : Heap) (locs : List Loc) (ls : Array Slot), ag101 u x1 x2 x3 = some u_ → wc_W D dA h u H → wc_S u → va_S (CA h) s.heap H locs → lv_has ls 5 [(0, .ref (h + F)), (1, .int x1), (2, .int x2), (3, .int x3)] → W p l e ({ frames := 4, cells := 0, slots := 0, locals := 88 }) s m args below meth c H locs 0 0 (MQ below (wc_Qr D dA h none u_) args s 0 0 (CA h)) (F0 m 101 ls []))) (u : CS) (x1 : Int32) (x2 : Int32) (x3 : Int32) (H : Heap) (locs : List Loc) (ls : Array Slot), fX1_steal_188 N F ag101 u x1 x2 x3 = some u_ → wc_W D dA h u H → wc_S u → va_S (CA h) s.heap H locs → lv_has ls 5 [(0, .ref (h + F)), (1, .int x1), (2, .int x2), (3, .int x3)] → W p l e ({ frames := 4, cells := 0, slots := 0, locals := 88 }) s m args below meth c H locs 0 0 (MQ below (wc_Qr D dA h none u_) args s 0 0 (CA h)) (F0 m 188 ls []) := by
    intro ag101 hag101 u x1 x2 x3 H locs ls hE hW hS hV hl
    unfold fX1_steal_188 at hE
    refine z_iinc (v := (x3 + (1 : Int32))) (lw := (fun y_ => [(3, .int y_), (0, .ref (h + F)), (1, .int x1), (2, .int x2)])) hx hb dX1_steal_188 hl hE (k := 3) rfl rfl (by decide) (fun _ => rfl) (fun z21 ls hE hl => ?_)
    refine lv_goto (tgt := 101) hx hb dX1_steal_191 (by decide) ?_
    exact hag101 _ _ _ _ _ _ _ hE hW hS hV (lv_sub hl [1, 2, 3, 0] rfl)
  have w_113 : ∀ (ag101 : CS → Int32 → Int32 → Int32 → Option (CS)) (hag101 : (∀ (u : CS) (x1 : Int32) (x2 : Int32) (x3 : Int32) (H : Heap) (locs : List Loc) (ls : Array Slot), ag101 u x1 x2 x3 = some u_ → wc_W D dA h u H → wc_S u → va_S (CA h) s.heap H locs → lv_has ls 5 [(0, .ref (h + F)), (1, .int x1), (2, .int x2), (3, .int x3)] → W p l e ({ frames := 4, cells := 0, slots := 0, locals := 88 }) s m args below meth c H locs 0 0 (MQ below (wc_Qr D dA h none u_) args s 0 0 (CA h)) (F0 m 101 ls []))) (n : Nat) (u : CS) (x1 : Int32) (x2 : Int32) (x3 : Int32) (H : Heap) (locs : List Loc) (ls : Array Slot), fX1_steal_113 N F ag101 n u x1 x2 x3 = some u_ → wc_W D dA h u H → wc_S u → va_S (CA h) s.heap H locs → lv_has ls 5 [(0, .ref (h + F)), (1, .int x1), (2, .int x2), (3, .int x3)] → W p l e ({ frames := 4, cells := 0, slots := 0, locals := 88 }) s m args below meth c H locs 0 0 (MQ below (wc_Qr D dA h none u_) args s 0 0 (CA h)) (F0 m 113 ls []) := by
    intro ag101 hag101 n
    induction n with
    | zero =>
      intro u x1 x2 x3 H locs ls hE hW hS hV hl
      cases (show (none : Option (CS)) = some u_ from hE)
    | succ n ih =>
      intro u x1 x2 x3 H locs ls hE hW hS hV hl
      rw [fX1_steal_113] at hE
      refine lv_aload_n hx hb dX1_steal_113 rfl (lv_at hl 0 rfl) ?_
      refine cgs_X1_9_1 C hW (st_F hS hF) (sp_F_blocks hS hF) dX1_steal_114 ?_
      refine lv_iload_n hx hb dX1_steal_117 rfl (lv_at hl 3 rfl) ?_
      refine wc_ldi C hW (st_F_blocks hS hF) hE dX1_steal_118 (fun hE => ?_)
      refine z_nmi hE (fun v22 hE => ?_)
      refine lv_iload_n hx hb dX1_steal_119 rfl (lv_at hl 1 rfl) ?_
      refine lv_icmp_ne (tgt := 188) hx hb dX1_steal_120 (by decide) (fun c23 => ?_) (fun c23 => ?_)
      · have hE := z_f c23 hE
        exact w_188 ag101 hag101 _ _ _ _ _ _ _ hE hW hS hV (lv_sub hl [0, 1, 2, 3] rfl)
      · have hE := z_t c23 hE
        refine lv_aload_n hx hb dX1_steal_123 rfl (lv_at hl 0 rfl) ?_
        refine lv_iload_n hx hb dX1_steal_124 rfl (lv_at hl 3 rfl) ?_
        obtain ⟨r24, u25, hc, hE⟩ := o_bd2_some hE
        refine cc_X1_232 C hW hS hV (st_F hS hF) (kX1_isBare hF hc) rfl rfl ⟨Nat.le_of_ble_eq_true rfl, Nat.le_of_ble_eq_true rfl⟩ ⟨Nat.le_refl 0, Nat.le_refl 0⟩ dX1_steal_125 hl.1 (Nat.le_of_ble_eq_true rfl) (fun H locs hW hS hV => ?_)
        refine lv_if_ne (tgt := 188) hx hb dX1_steal_128 (by decide) (fun c26 => ?_) (fun c26 => ?_)
        · have hE := z_f c26 hE
          exact w_188 ag101 hag101 _ _ _ _ _ _ _ hE hW hS hV (lv_sub hl [0, 1, 2, 3] rfl)
        · have hE := z_t c26 hE
          refine lv_iload_n hx hb dX1_steal_131 rfl (lv_at hl 2 rfl) ?_
          refine lv_if_le (tgt := 188) hx hb dX1_steal_132 (by decide) (fun c27 => ?_) (fun c27 => ?_)
          · have hE := z_t c27 hE
            exact w_188 ag101 hag101 _ _ _ _ _ _ _ hE hW hS hV (lv_sub hl [0, 1, 2, 3] rfl)
          · have hE := z_f c27 hE
            refine lv_aload_n hx hb dX1_steal_135 rfl (lv_at hl 0 rfl) ?_
            refine lv_iload_n hx hb dX1_steal_136 rfl (lv_at hl 3 rfl) ?_
            obtain ⟨r28, u29, hc, hE⟩ := o_bd2_some hE
            refine cc_X1_283 C hW hS hV (st_F hS hF) (kX1_wood hF hc) rfl rfl ⟨Nat.le_of_ble_eq_true rfl, Nat.le_of_ble_eq_true rfl⟩ ⟨Nat.le_refl 0, Nat.le_refl 0⟩ dX1_steal_137 hl.1 (Nat.le_of_ble_eq_true rfl) (fun H locs hW hS hV => ?_)
            refine lv_istore (lv' := [(4, .int r28), (0, .ref (h + F)), (1, .int x1), (2, .int x2), (3, .int x3)]) hx hb dX1_steal_140 hl (by decide) rfl (fun ls hl => ?_)
            refine lv_aload_n hx hb dX1_steal_142 rfl (lv_at hl 1 rfl) ?_
            refine lv_iload_n hx hb dX1_steal_143 rfl (lv_at hl 4 rfl) ?_
            refine lv_aload_n hx hb dX1_steal_144 rfl (lv_at hl 1 rfl) ?_
            refine cgs_X1_30_1 C hW (st_F hS hF) (sp_F_fulls hS hF) dX1_steal_145 ?_
            refine lv_iload_n hx hb dX1_steal_148 rfl (lv_at hl 4 rfl) ?_
            refine wc_ldi C hW (st_F_fulls hS hF) hE dX1_steal_149 (fun hE => ?_)
            refine z_nmi hE (fun v30 hE => ?_)
            refine lv_iconst (v := (1 : Int32)) hx hb dX1_steal_150 rfl ?_
            refine lv_isub hx hb dX1_steal_151 ?_
            obtain ⟨u31, hc, hE⟩ := o_bd_some hE
            refine cc_X1_286 C hW hS hV (st_F hS hF) (kX1_become hF hc) rfl rfl ⟨Nat.le_of_ble_eq_true rfl, Nat.le_of_ble_eq_true rfl⟩ ⟨Nat.le_refl 0, Nat.le_refl 0⟩ dX1_steal_152 hl.1 (Nat.le_of_ble_eq_true rfl) (fun H locs hW hS hV => ?_)
            refine lv_iload_n hx hb dX1_steal_155 rfl (lv_at hl 3 rfl) ?_
            refine lv_iload hx hb dX1_steal_156 (lv_at hl 0 rfl) ?_
            refine lv_aload_n hx hb dX1_steal_158 rfl (lv_at hl 1 rfl) ?_
            refine lv_iload_n hx hb dX1_steal_159 rfl (lv_at hl 4 rfl) ?_
            obtain ⟨r32, u33, hc, hE⟩ := o_bd2_some hE
            refine cc_X1_283 C hW hS hV (st_F hS hF) (kX1_wood hF hc) rfl rfl ⟨Nat.le_of_ble_eq_true rfl, Nat.le_of_ble_eq_true rfl⟩ ⟨Nat.le_refl 0, Nat.le_refl 0⟩ dX1_steal_160 hl.1 (Nat.le_of_ble_eq_true rfl) (fun H locs hW hS hV => ?_)
            refine lv_isub hx hb dX1_steal_163 ?_
            refine lv_isub hx hb dX1_steal_164 ?_
            refine z_nmi hE (fun z34 hE => ?_)
            refine lv_istore_n (lv' := [(2, .int z34), (4, .int r28), (0, .ref (h + F)), (1, .int x1), (3, .int x3)]) hx hb dX1_steal_165 rfl hl (by decide) rfl (fun ls hl => ?_)
            refine lv_aload_n hx hb dX1_steal_166 rfl (lv_at hl 2 rfl) ?_
            refine cgs_X1_85_1 C hW (st_F hS hF) (sp_F_books hS hF) dX1_steal_167 ?_
            refine lv_bipush (v := (6 : Int32)) hx hb dX1_steal_170 rfl ?_
            refine lv_dup2_11 hx hb dX1_steal_172 rfl rfl ?_
            refine wc_ldl C hW (st_F_books hS hF) hE dX1_steal_173 (fun hE => ?_)
            refine z_nml hE (fun v35 hE => ?_)
            refine lv_iload hx hb dX1_steal_174 (lv_at hl 1 rfl) ?_
            refine lv_aload_n hx hb dX1_steal_176 rfl (lv_at hl 2 rfl) ?_
            refine lv_iload_n hx hb dX1_steal_177 rfl (lv_at hl 4 rfl) ?_
            obtain ⟨r36, u37, hc, hE⟩ := o_bd2_some hE
            refine cc_X1_283 C hW hS hV (st_F hS hF) (kX1_wood hF hc) rfl rfl ⟨Nat.le_of_ble_eq_true rfl, Nat.le_of_ble_eq_true rfl⟩ ⟨Nat.le_refl 0, Nat.le_refl 0⟩ dX1_steal_178 hl.1 (Nat.le_of_ble_eq_true rfl) (fun H locs hW hS hV => ?_)
            refine lv_isub hx hb dX1_steal_181 ?_
            refine lv_i2l hx hb dX1_steal_182 rfl ?_
            refine lv_ladd hx hb dX1_steal_183 ?_
            refine wc_stl (J := wc_S) C hW hV (st_F_books hS hF) hS.uB hE dX1_steal_184 (fun u38 H locs hE hW hS hV => ?_)
            refine lv_goto (tgt := 113) hx hb dX1_steal_185 (by decide) ?_
            exact ih _ _ _ _ _ _ _ hE hW hS hV (lv_sub hl [2, 3, 0, 4] rfl)
  have w_101 : ∀ (n : Nat) (u : CS) (x1 : Int32) (x2 : Int32) (x3 : Int32) (H : Heap) (locs : List Loc) (ls : Array Slot), fX1_steal_101 N F n u x1 x2 x3 = some u_ → wc_W D dA h u H → wc_S u → va_S (CA h) s.heap H locs → lv_has ls 5 [(0, .ref (h + F)), (1, .int x1), (2, .int x2), (3, .int x3)] → W p l e ({ frames := 4, cells := 0, slots := 0, locals := 88 }) s m args below meth c H locs 0 0 (MQ below (wc_Qr D dA h none u_) args s 0 0 (CA h)) (F0 m 101 ls []) := by
    intro n
    induction n with
    | zero =>
      intro u x1 x2 x3 H locs ls hE hW hS hV hl
      cases (show (none : Option (CS)) = some u_ from hE)
    | succ n ih =>
      intro u x1 x2 x3 H locs ls hE hW hS hV hl
      rw [fX1_steal_101] at hE
      refine lv_iload_n hx hb dX1_steal_101 rfl (lv_at hl 3 rfl) ?_
      refine lv_aload_n hx hb dX1_steal_102 rfl (lv_at hl 0 rfl) ?_
      refine cg_X1_168_1 C hW (st_F hS hF) dX1_steal_103 ?_
      refine lv_icmp_ge (tgt := 194) hx hb dX1_steal_106 (by decide) (fun c39 => ?_) (fun c39 => ?_)
      · have hE := z_t c39 hE
        exact w_194 _ _ _ _ hE hW hS hV (lv_sub hl [] rfl)
      · have hE := z_f c39 hE
        refine lv_iload_n hx hb dX1_steal_109 rfl (lv_at hl 2 rfl) ?_
        refine lv_if_le (tgt := 194) hx hb dX1_steal_110 (by decide) (fun c40 => ?_) (fun c40 => ?_)
        · have hE := z_t c40 hE
          exact w_194 _ _ _ _ hE hW hS hV (lv_sub hl [] rfl)
        · have hE := z_f c40 hE
          exact w_113 (fX1_steal_101 N F n) ih N _ _ _ _ _ _ _ hE hW hS hV (lv_sub hl [0, 1, 2, 3] rfl)
  have w_99 : ∀ (u : CS) (x1 : Int32) (x2 : Int32) (H : Heap) (locs : List Loc) (ls : Array Slot), fX1_steal_99 N F u x1 x2 = some u_ → wc_W D dA h u H → wc_S u → va_S (CA h) s.heap H locs → lv_has ls 5 [(0, .ref (h + F)), (1, .int x1), (2, .int x2)] → W p l e ({ frames := 4, cells := 0, slots := 0, locals := 88 }) s m args below meth c H locs 0 0 (MQ below (wc_Qr D dA h none u_) args s 0 0 (CA h)) (F0 m 99 ls []) := by
    intro u x1 x2 H locs ls hE hW hS hV hl
    unfold fX1_steal_99 at hE
    refine lv_iconst (v := (0 : Int32)) hx hb dX1_steal_99 rfl ?_
    refine lv_istore_n (lv' := [(3, .int (0 : Int32)), (0, .ref (h + F)), (1, .int x1), (2, .int x2)]) hx hb dX1_steal_100 rfl hl (by decide) rfl (fun ls hl => ?_)
    exact w_101 N _ _ _ _ _ _ _ hE hW hS hV (lv_sub hl [1, 2, 3, 0] rfl)
  have w_62 : ∀ (ag26 : CS → Int32 → Int32 → Int32 → Option (CS)) (hag26 : (∀ (u : CS) (x1 : Int32) (x2 : Int32) (x3 : Int32) (H : Heap) (locs : List Loc) (ls : Array Slot), ag26 u x1 x2 x3 = some u_ → wc_W D dA h u H → wc_S u → va_S (CA h) s.heap H locs → lv_has ls 5 [(0, .ref (h + F)), (1, .int x1), (2, .int x2), (3, .int x3)] → W p l e ({ frames := 4, cells := 0, slots := 0, locals := 88 }) s m args below meth c H locs 0 0 (MQ below (wc_Qr D dA h none u_) args s 0 0 (CA h)) (F0 m 26 ls []))) (u : CS) (x1 : Int32) (x2 : Int32) (x3 : Int32) (y0 : Int32) (H : Heap) (locs : List Loc) (ls : Array Slot), fX1_steal_62 N F ag26 u x1 x2 x3 y0 = some u_ → wc_W D dA h u H → wc_S u → va_S (CA h) s.heap H locs → lv_has ls 5 [(0, .ref (h + F)), (1, .int x1), (2, .int x2), (3, .int x3)] → W p l e ({ frames := 4, cells := 0, slots := 0, locals := 88 }) s m args below meth c H locs 0 0 (MQ below (wc_Qr D dA h none u_) args s 0 0 (CA h)) (F0 m 62 ls [.int y0]) := by
    intro ag26 hag26 u x1 x2 x3 y0 H locs ls hE hW hS hV hl
    unfold fX1_steal_62 at hE
    refine lv_istore (lv' := [(4, .int y0), (0, .ref (h + F)), (1, .int x1), (2, .int x2), (3, .int x3)]) hx hb dX1_steal_62 hl (by decide) rfl (fun ls hl => ?_)
    refine lv_aload_n hx hb dX1_steal_64 rfl (lv_at hl 1 rfl) ?_
    refine cgs_X1_33_1 C hW (st_F hS hF) (sp_F_lying hS hF) dX1_steal_65 ?_
    refine lv_iload_n hx hb dX1_steal_68 rfl (lv_at hl 4 rfl) ?_
    refine lv_dup2_11 hx hb dX1_steal_69 rfl rfl ?_
    refine wc_ldi C hW (st_F_lying hS hF) hE dX1_steal_70 (fun hE => ?_)
    refine z_nmi hE (fun v41 hE => ?_)
    refine lv_iload hx hb dX1_steal_71 (lv_at hl 0 rfl) ?_
    refine lv_isub hx hb dX1_steal_73 ?_
    refine wc_sti (J := wc_S) C hW hV (st_F_lying hS hF) hS.uA hE dX1_steal_74 (fun u42 H locs hE hW hS hV => ?_)
    refine lv_iload_n hx hb dX1_steal_75 rfl (lv_at hl 3 rfl) ?_
    refine lv_iload hx hb dX1_steal_76 (lv_at hl 0 rfl) ?_
    refine lv_isub hx hb dX1_steal_78 ?_
    refine z_nmi hE (fun z43 hE => ?_)
    refine lv_istore_n (lv' := [(2, .int z43), (4, .int y0), (0, .ref (h + F)), (1, .int x1), (3, .int x3)]) hx hb dX1_steal_79 rfl hl (by decide) rfl (fun ls hl => ?_)
    refine lv_aload_n hx hb dX1_steal_80 rfl (lv_at hl 2 rfl) ?_
    refine cgs_X1_85_1 C hW (st_F hS hF) (sp_F_books hS hF) dX1_steal_81 ?_
    refine lv_bipush (v := (6 : Int32)) hx hb dX1_steal_84 rfl ?_
    refine lv_dup2_11 hx hb dX1_steal_86 rfl rfl ?_
    refine wc_ldl C hW (st_F_books hS hF) hE dX1_steal_87 (fun hE => ?_)
    refine z_nml hE (fun v44 hE => ?_)
    refine lv_iload hx hb dX1_steal_88 (lv_at hl 1 rfl) ?_
    refine lv_i2l hx hb dX1_steal_90 rfl ?_
    refine lv_ladd hx hb dX1_steal_91 ?_
    refine wc_stl (J := wc_S) C hW hV (st_F_books hS hF) hS.uB hE dX1_steal_92 (fun u45 H locs hE hW hS hV => ?_)
    refine z_iinc (v := (x3 + (1 : Int32))) (lw := (fun y_ => [(3, .int y_), (2, .int z43), (4, .int y0), (0, .ref (h + F)), (1, .int x1)])) hx hb dX1_steal_93 hl hE (k := 4) rfl rfl (by decide) (fun _ => rfl) (fun z46 ls hE hl => ?_)
    refine lv_goto (tgt := 26) hx hb dX1_steal_96 (by decide) ?_
    exact hag26 _ _ _ _ _ _ _ hE hW hS hV (lv_sub hl [3, 4, 1, 0] rfl)
  have w_26 : ∀ (n : Nat) (u : CS) (x1 : Int32) (x2 : Int32) (x3 : Int32) (H : Heap) (locs : List Loc) (ls : Array Slot), fX1_steal_26 N F n u x1 x2 x3 = some u_ → wc_W D dA h u H → wc_S u → va_S (CA h) s.heap H locs → lv_has ls 5 [(0, .ref (h + F)), (1, .int x1), (2, .int x2), (3, .int x3)] → W p l e ({ frames := 4, cells := 0, slots := 0, locals := 88 }) s m args below meth c H locs 0 0 (MQ below (wc_Qr D dA h none u_) args s 0 0 (CA h)) (F0 m 26 ls []) := by
    intro n
    induction n with
    | zero =>
      intro u x1 x2 x3 H locs ls hE hW hS hV hl
      cases (show (none : Option (CS)) = some u_ from hE)
    | succ n ih =>
      intro u x1 x2 x3 H locs ls hE hW hS hV hl
      rw [fX1_steal_26] at hE
      refine lv_iload_n hx hb dX1_steal_26 rfl (lv_at hl 3 rfl) ?_
      refine lv_aload_n hx hb dX1_steal_27 rfl (lv_at hl 0 rfl) ?_
      refine cg_X1_168_1 C hW (st_F hS hF) dX1_steal_28 ?_
      refine lv_icmp_ge (tgt := 99) hx hb dX1_steal_31 (by decide) (fun c47 => ?_) (fun c47 => ?_)
      · have hE := z_t c47 hE
        exact w_99 _ _ _ _ _ _ hE hW hS hV (lv_sub hl [0, 1, 2] rfl)
      · have hE := z_f c47 hE
        refine lv_iload_n hx hb dX1_steal_34 rfl (lv_at hl 2 rfl) ?_
        refine lv_if_le (tgt := 99) hx hb dX1_steal_35 (by decide) (fun c48 => ?_) (fun c48 => ?_)
        · have hE := z_t c48 hE
          exact w_99 _ _ _ _ _ _ hE hW hS hV (lv_sub hl [0, 1, 2] rfl)
        · have hE := z_f c48 hE
          refine lv_aload_n hx hb dX1_steal_38 rfl (lv_at hl 0 rfl) ?_
          refine cgs_X1_9_1 C hW (st_F hS hF) (sp_F_blocks hS hF) dX1_steal_39 ?_
          refine lv_iload_n hx hb dX1_steal_42 rfl (lv_at hl 3 rfl) ?_
          refine wc_ldi C hW (st_F_blocks hS hF) hE dX1_steal_43 (fun hE => ?_)
          refine z_nmi hE (fun v49 hE => ?_)
          refine lv_iload_n hx hb dX1_steal_44 rfl (lv_at hl 1 rfl) ?_
          refine lv_icmp_ne (tgt := 61) hx hb dX1_steal_45 (by decide) (fun c50 => ?_) (fun c50 => ?_)
          · have hE := z_f c50 hE
            refine lv_iconst (v := (0 : Int32)) hx hb dX1_steal_61 rfl ?_
            exact w_62 (fX1_steal_26 N F n) ih _ _ _ _ _ _ _ _ hE hW hS hV (lv_sub hl [0, 1, 2, 3] rfl)
          · have hE := z_t c50 hE
            refine lv_iload_n hx hb dX1_steal_48 rfl (lv_at hl 2 rfl) ?_
            refine lv_aload_n hx hb dX1_steal_49 rfl (lv_at hl 0 rfl) ?_
            refine cgs_X1_33_1 C hW (st_F hS hF) (sp_F_lying hS hF) dX1_steal_50 ?_
            refine lv_iload_n hx hb dX1_steal_53 rfl (lv_at hl 3 rfl) ?_
            refine wc_ldi C hW (st_F_lying hS hF) hE dX1_steal_54 (fun hE => ?_)
            refine z_nmi hE (fun v51 hE => ?_)
            refine va_mmin hx hb (C.1.2.2.1.trans hl.1.symm) C.1.2.2.2.1 (C.1.2.2.2.2 _ q232) (C.1.2.2.2.2 _ q233) (C.1.2.2.2.2 _ q169) (C.1.2.2.2.2 _ q234) (Nat.le_of_ble_eq_true rfl) (by first | exact Nat.le_of_ble_eq_true rfl | (simp [wc_cat, Value.category])) (Nat.le_refl 0) (Nat.le_refl 0) dX1_steal_55 ?_
            refine lv_goto (tgt := 62) hx hb dX1_steal_58 (by decide) ?_
            exact w_62 (fX1_steal_26 N F n) ih _ _ _ _ _ _ _ _ hE hW hS hV (lv_sub hl [0, 1, 2, 3] rfl)
  unfold fX1_steal at hE
  refine lv_iconst (v := (0 : Int32)) hx hb dX1_steal_0 rfl ?_
  refine lv_bipush (v := (10 : Int32)) hx hb dX1_steal_1 rfl ?_
  refine lv_aload_n hx hb dX1_steal_3 rfl (lv_at hl 0 rfl) ?_
  refine cgs_X1_116_1 C hW (st_F hS hF) (sp_F_thieves hS hF) dX1_steal_4 ?_
  refine lv_iload_n hx hb dX1_steal_7 rfl (lv_at hl 1 rfl) ?_
  refine wc_ldi C hW (st_F_thieves hS hF) hE dX1_steal_8 (fun hE => ?_)
  refine z_nmi hE (fun v52 hE => ?_)
  refine lv_imul hx hb dX1_steal_9 ?_
  refine lv_bipush (v := (50 : Int32)) hx hb dX1_steal_10 rfl ?_
  refine lv_aload_n hx hb dX1_steal_12 rfl (lv_at hl 0 rfl) ?_
  refine cgs_X1_119_1 C hW (st_F hS hF) (sp_F_guards hS hF) dX1_steal_13 ?_
  refine lv_iload_n hx hb dX1_steal_16 rfl (lv_at hl 1 rfl) ?_
  refine wc_ldi C hW (st_F_guards hS hF) hE dX1_steal_17 (fun hE => ?_)
  refine z_nmi hE (fun v53 hE => ?_)
  refine lv_imul hx hb dX1_steal_18 ?_
  refine lv_isub hx hb dX1_steal_19 ?_
  refine va_mmax hx hb (C.1.2.2.1.trans hl.1.symm) C.1.2.2.2.1 (C.1.2.2.2.2 _ q827) (C.1.2.2.2.2 _ q828) (C.1.2.2.2.2 _ q169) (C.1.2.2.2.2 _ q829) (Nat.le_of_ble_eq_true rfl) (by first | exact Nat.le_of_ble_eq_true rfl | (simp [wc_cat, Value.category])) (Nat.le_refl 0) (Nat.le_refl 0) dX1_steal_20 ?_
  refine z_nmi hE (fun z54 hE => ?_)
  refine lv_istore_n (lv' := [(2, .int z54), (0, .ref (h + F)), (1, .int a1)]) hx hb dX1_steal_23 rfl hl (by decide) rfl (fun ls hl => ?_)
  refine lv_iconst (v := (0 : Int32)) hx hb dX1_steal_24 rfl ?_
  refine lv_istore_n (lv' := [(3, .int (0 : Int32)), (2, .int z54), (0, .ref (h + F)), (1, .int a1)]) hx hb dX1_steal_25 rfl hl (by decide) rfl (fun ls hl => ?_)
  exact w_26 N _ _ _ _ _ _ _ hE hW hS hV (lv_sub hl [2, 3, 1, 0] rfl)
theorem cc_X0_430 {G1 : Nat} {r : Int32} {u u1 : CS} {rm : Room} (C : CC p m c cc nL s args D dA RX0) (hW : wc_W D dA h u H) (hS : wc_S u) (hV : va_S (CA h) H0 H locs) (hM : Met l yX0_bareOf (ws_ yX0_bareOf cX0_bareOf 3 (some .int)) rm (va_Pc [.ref (h + G1)] (wc_St D dA h u)) (wc_Qr D dA h (some (.int r)) u1) 0 0 (CA h)) (hrc : rm.cells = 0) (hrs : rm.slots = 0) (hR : rm.frames + 1 ≤ R.frames ∧ 8 + (3 + 11) + rm.locals ≤ R.locals) (hf : cells + 0 ≤ R.cells ∧ slots + 0 ≤ R.slots) (d : decode cc pc = .ok (.invokestatic 430, 3)) (hsz : ls.size = nL) (hro : (rest.map fun v => v.category).sum ≤ 8) (kk : ∀ (H1 : Heap) (locs1 : List Loc), wc_W D dA h u1 H1 → wc_S u1 → va_S (CA h) H0 H1 locs1 → W p l e R s m args below meth c H1 locs1 cells slots Q (F0 m (pc + 3) ls (.int r :: rest))) : W p l e R s m args below meth c H locs cells slots Q (F0 m pc ls (.ref (h + G1) :: rest)) :=
  wc_call (v := (some (.int r))) (va_runS (As := [.ref (h + G1)]) (rest := rest) C.1 hM (va_cwS 1 C.1.2.2.2.2 (lw_S q1358 q1359 q166 q1360) rfl hrc hrs (by decide +kernel) hR) (wc_preS C.2 hW hS _) rfl rfl hsz rfl (lv_room hro) d hf) hV (fun _ z => z) (fun H1 locs1 a b c0 _ _ => kk H1 locs1 a b c0)
set_option maxHeartbeats 4000000 in
set_option maxRecDepth 100000 in
theorem kX0_bareOf {l : Launch} {D : va_G} {dA : Nat → ClassId} {h N : Nat} {G1 : Nat} {u u1 : CS} {r : Int32} (hG1 : wc_F G1) (hE : fX0_bareOf N G1 u = some (r, u1)) : Met l yX0_bareOf (ws_ yX0_bareOf cX0_bareOf 3 (some .int)) ({ frames := 1, cells := 0, slots := 0, locals := 21 }) (va_Pc [.ref (h + G1)] (wc_St D dA h u)) (wc_Qr D dA h (some (.int r)) u1) 0 0 (CA h) := by
  refine wc_met (own := RX0) (lv := [(0, .ref (h + G1))]) (by decide) rfl rfl rfl ?_
  intro p e s m args below meth c ls C hr hlocks hW hS hV hl
  have hx := C.1.1
  have hb := C.1.2.1
  have w_26 : ∀ (ag4 : CS → Int32 → Int32 → Option (Int32 × CS)) (hag4 : (∀ (u : CS) (x1 : Int32) (x2 : Int32) (H : Heap) (locs : List Loc) (ls : Array Slot), ag4 u x1 x2 = some (r, u1) → wc_W D dA h u H → wc_S u → va_S (CA h) s.heap H locs → lv_has ls 3 [(0, .ref (h + G1)), (1, .int x1), (2, .int x2)] → W p l e ({ frames := 1, cells := 0, slots := 0, locals := 21 }) s m args below meth c H locs 0 0 (MQ below (wc_Qr D dA h (some (.int r)) u1) args s 0 0 (CA h)) (F0 m 4 ls []))) (u : CS) (x2 : Int32) (y0 : Int32) (y1 : Int32) (H : Heap) (locs : List Loc) (ls : Array Slot), fX0_bareOf_26 N G1 ag4 u x2 y0 y1 = some (r, u1) → wc_W D dA h u H → wc_S u → va_S (CA h) s.heap H locs → lv_has ls 3 [(0, .ref (h + G1)), (2, .int x2)] → W p l e ({ frames := 1, cells := 0, slots := 0, locals := 21 }) s m args below meth c H locs 0 0 (MQ below (wc_Qr D dA h (some (.int r)) u1) args s 0 0 (CA h)) (F0 m 26 ls [.int y1, .int y0]) := by
    intro ag4 hag4 u x2 y0 y1 H locs ls hE hW hS hV hl
    unfold fX0_bareOf_26 at hE
    refine lv_iadd hx hb dX0_bareOf_26 ?_
    refine z_nmi hE (fun z4 hE => ?_)
    refine lv_istore_n (lv' := [(1, .int z4), (0, .ref (h + G1)), (2, .int x2)]) hx hb dX0_bareOf_27 rfl hl (by decide) rfl (fun ls hl => ?_)
    refine z_iinc (v := (x2 + (1 : Int32))) (lw := (fun y_ => [(2, .int y_), (1, .int z4), (0, .ref (h + G1))])) hx hb dX0_bareOf_28 hl hE (k := 2) rfl rfl (by decide) (fun _ => rfl) (fun z5 ls hE hl => ?_)
    refine lv_goto (tgt := 4) hx hb dX0_bareOf_31 (by decide) ?_
    exact hag4 _ _ _ _ _ _ hE hW hS hV (lv_sub hl [2, 1, 0] rfl)
  have w_4 : ∀ (n : Nat) (u : CS) (x1 : Int32) (x2 : Int32) (H : Heap) (locs : List Loc) (ls : Array Slot), fX0_bareOf_4 N G1 n u x1 x2 = some (r, u1) → wc_W D dA h u H → wc_S u → va_S (CA h) s.heap H locs → lv_has ls 3 [(0, .ref (h + G1)), (1, .int x1), (2, .int x2)] → W p l e ({ frames := 1, cells := 0, slots := 0, locals := 21 }) s m args below meth c H locs 0 0 (MQ below (wc_Qr D dA h (some (.int r)) u1) args s 0 0 (CA h)) (F0 m 4 ls []) := by
    intro n
    induction n with
    | zero =>
      intro u x1 x2 H locs ls hE hW hS hV hl
      cases (show (none : Option (Int32 × CS)) = some (r, u1) from hE)
    | succ n ih =>
      intro u x1 x2 H locs ls hE hW hS hV hl
      rw [fX0_bareOf_4] at hE
      refine lv_iload_n hx hb dX0_bareOf_4 rfl (lv_at hl 2 rfl) ?_
      refine lv_aload_n hx hb dX0_bareOf_5 rfl (lv_at hl 0 rfl) ?_
      refine cg_X0_23_1 C hW (st_F hS hG1) dX0_bareOf_6 ?_
      refine lv_icmp_ge (tgt := 34) hx hb dX0_bareOf_9 (by decide) (fun c6 => ?_) (fun c6 => ?_)
      · have hE := z_t c6 hE
        refine lv_iload_n hx hb dX0_bareOf_34 rfl (lv_at hl 1 rfl) ?_
        exact wc_iret C hr hlocks hW hS hV hE dX0_bareOf_35
      · have hE := z_f c6 hE
        refine lv_iload_n hx hb dX0_bareOf_12 rfl (lv_at hl 1 rfl) ?_
        refine lv_aload_n hx hb dX0_bareOf_13 rfl (lv_at hl 0 rfl) ?_
        refine lv_iload_n hx hb dX0_bareOf_14 rfl (lv_at hl 2 rfl) ?_
        obtain ⟨r7, u8, hc, hE⟩ := o_bd2_some hE
        refine cc_X0_424 C hW hS hV (st_F hS hG1) (kX1_isBare hG1 hc) rfl rfl ⟨Nat.le_of_ble_eq_true rfl, Nat.le_of_ble_eq_true rfl⟩ ⟨Nat.le_refl 0, Nat.le_refl 0⟩ dX0_bareOf_15 hl.1 (Nat.le_of_ble_eq_true rfl) (fun H locs hW hS hV => ?_)
        refine lv_if_eq (tgt := 25) hx hb dX0_bareOf_18 (by decide) (fun c9 => ?_) (fun c9 => ?_)
        · have hE := z_t c9 hE
          refine lv_iconst (v := (0 : Int32)) hx hb dX0_bareOf_25 rfl ?_
          exact w_26 (fX0_bareOf_4 N G1 n) ih _ _ _ _ _ _ _ hE hW hS hV (lv_sub hl [0, 2] rfl)
        · have hE := z_f c9 hE
          refine lv_iconst (v := (1 : Int32)) hx hb dX0_bareOf_21 rfl ?_
          refine lv_goto (tgt := 26) hx hb dX0_bareOf_22 (by decide) ?_
          exact w_26 (fX0_bareOf_4 N G1 n) ih _ _ _ _ _ _ _ hE hW hS hV (lv_sub hl [0, 2] rfl)
  unfold fX0_bareOf at hE
  refine lv_iconst (v := (0 : Int32)) hx hb dX0_bareOf_0 rfl ?_
  refine lv_istore_n (lv' := [(1, .int (0 : Int32)), (0, .ref (h + G1))]) hx hb dX0_bareOf_1 rfl hl (by decide) rfl (fun ls hl => ?_)
  refine lv_iconst (v := (0 : Int32)) hx hb dX0_bareOf_2 rfl ?_
  refine lv_istore_n (lv' := [(2, .int (0 : Int32)), (1, .int (0 : Int32)), (0, .ref (h + G1))]) hx hb dX0_bareOf_3 rfl hl (by decide) rfl (fun ls hl => ?_)
  exact w_4 N _ _ _ _ _ _ hE hW hS hV (lv_sub hl [2, 1, 0] rfl)
theorem cc_X1_318 {F : Nat} {a1 : Int32} {r : Int32} {u u1 : CS} {rm : Room} (C : CC p m c cc nL s args D dA RX1) (hW : wc_W D dA h u H) (hS : wc_S u) (hV : va_S (CA h) H0 H locs) (ht : wc_T u F = some (.inl 1)) (hM : Met l yX1_draw (ws_ yX1_draw cX1_draw 2 (some .int)) rm (va_Pc [.ref (h + F), .int a1] (wc_St D dA h u)) (wc_Qr D dA h (some (.int r)) u1) 0 0 (CA h)) (hrc : rm.cells = 0) (hrs : rm.slots = 0) (hR : rm.frames + 1 ≤ R.frames ∧ 8 + (2 + 11) + rm.locals ≤ R.locals) (hf : cells + 0 ≤ R.cells ∧ slots + 0 ≤ R.slots) (d : decode cc pc = .ok (.invokevirtual 318, 3)) (hsz : ls.size = nL) (hro : (rest.map fun v => v.category).sum ≤ 8) (kk : ∀ (H1 : Heap) (locs1 : List Loc), wc_W D dA h u1 H1 → wc_S u1 → va_S (CA h) H0 H1 locs1 → W p l e R s m args below meth c H1 locs1 cells slots Q (F0 m (pc + 3) ls (.int r :: rest))) : W p l e R s m args below meth c H locs cells slots Q (F0 m pc ls (.int a1 :: .ref (h + F) :: rest)) :=
  wc_call (v := (some (.int r))) (va_runV (As := [.int a1]) (rest := rest) C.1 hM (cwV 1 C.1.2.2.2.2 (lw_V q1372 q1374 qs75 q167 q1375) rfl hrc hrs (by decide +kernel) hR) (wc_preV (q := (RX1, TX1, 46)) C.2 hW hS ht rfl _) rfl rfl hsz rfl (lv_room hro) d hf) hV (fun _ z => z) (fun H1 locs1 a b c0 _ _ => kk H1 locs1 a b c0)
set_option maxHeartbeats 4000000 in
set_option maxRecDepth 100000 in
theorem kX1_draw {l : Launch} {D : va_G} {dA : Nat → ClassId} {h N : Nat} {F : Nat} {a1 : Int32} {u u1 : CS} {r : Int32} (hF : wc_F F) (hE : fX1_draw N F u a1 = some (r, u1)) : Met l yX1_draw (ws_ yX1_draw cX1_draw 2 (some .int)) ({ frames := 0, cells := 0, slots := 0, locals := 0 }) (va_Pc [.ref (h + F), .int a1] (wc_St D dA h u)) (wc_Qr D dA h (some (.int r)) u1) 0 0 (CA h) := by
  refine wc_met (own := RX1) (lv := [(0, .ref (h + F)), (1, .int a1)]) (by decide) rfl rfl rfl ?_
  intro p e s m args below meth c ls C hr hlocks hW hS hV hl
  have hx := C.1.1
  have hb := C.1.2.1
  unfold fX1_draw at hE
  refine lv_aload_n hx hb dX1_draw_0 rfl (lv_at hl 0 rfl) ?_
  refine lv_aload_n hx hb dX1_draw_1 rfl (lv_at hl 0 rfl) ?_
  refine cg_X1_51_1 C hW (st_F hS hF) dX1_draw_2 ?_
  refine lv_ldc (v := (1103515245 : Int32)) hx hb C.1.2.2.2.1 (C.1.2.2.2.2 _ q1376) dX1_draw_5 ?_
  refine lv_imul hx hb dX1_draw_7 ?_
  refine lv_sipush (v := (12345 : Int32)) hx hb dX1_draw_8 rfl ?_
  refine lv_iadd hx hb dX1_draw_11 ?_
  refine cp_X1_51_1 (J := wc_S) C hW hV (st_F hS hF) hS.uI hE dX1_draw_12 (fun u2 H locs hE hW hS hV => ?_)
  refine lv_aload_n hx hb dX1_draw_15 rfl (lv_at hl 0 rfl) ?_
  refine cg_X1_51_1 C hW (st_F hS hF) dX1_draw_16 ?_
  refine lv_bipush (v := (16 : Int32)) hx hb dX1_draw_19 rfl ?_
  refine lv_iushr hx hb dX1_draw_21 rfl ?_
  refine lv_iload_n hx hb dX1_draw_22 rfl (lv_at hl 1 rfl) ?_
  obtain ⟨hz, hE⟩ := o_nz_some hE
  refine lv_irem hx hb dX1_draw_23 hz ?_
  exact wc_iret C hr hlocks hW hS hV hE dX1_draw_24
end CG4
