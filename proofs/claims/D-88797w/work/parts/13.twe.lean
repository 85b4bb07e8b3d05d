section TRG4
variable {p : Program} {l : Launch} {e : Env} {R : Room} {s : State} {m : MethodId} {args : Array Value} {below : List Frame} {meth : Method} {c : Code} {H : Heap} {locs : List Loc} {cells slots : Nat} {Q : State → Prop} {cc : ByteArray} {nL pc : Nat} {ls : Array Slot} {rest : List Value} {D : va_G} {dA : Nat → ClassId} {h : Nat} {H0 : Heap}
theorem tc_X7_noWho {a1 : Int32} {a2 : Int32} {a3 : Int32} {r : Int32} {u u1 : TS} {rm : Room} (C : TC p m c cc nL s args D dA) (hT : TW D dA h u H) (hS : va_S (TA h) H0 H locs) (hM : Met l yX7_noWho (ws_ yX7_noWho cX7_noWho 4 (some .int)) rm (va_Pc [.ref h, .int a1, .int a2, .int a3] (mt_B D dA h u)) (mt_Q D dA h (some (.int r)) u1) 0 0 (TA h)) (hrc : rm.cells = 0) (hrs : rm.slots = 0) (hR : rm.frames + 1 ≤ R.frames ∧ 8 + (4 + 11) + rm.locals ≤ R.locals) (hf : cells + 0 ≤ R.cells ∧ slots + 0 ≤ R.slots) (d : decode cc pc = .ok (.invokevirtual 329, 3)) (hsz : ls.size = nL) (hro : (rest.map fun v => v.category).sum ≤ 8) (kk : ∀ (H1 : Heap) (locs1 : List Loc), TW D dA h u1 H1 → va_S (TA h) H0 H1 locs1 → W p l e R s m args below meth c H1 locs1 cells slots Q (F0 m (pc + 3) ls (.int r :: rest))) : W p l e R s m args below meth c H locs cells slots Q (F0 m pc ls (.int a3 :: .int a2 :: .int a1 :: .ref h :: rest)) :=
  mt_call (v := (some (.int r))) (va_runV (As := [.int a1, .int a2, .int a3]) (rest := rest) C.1 hM (cwV 3 C.1.2.2.2.2 (lw_V q2028 q2030 qs135 q177 q2031) rfl hrc hrs (by decide +kernel) hR) (mt_preV C.2 hT _) rfl rfl hsz rfl (lv_room hro) d hf) hS (fun _ z => z) (fun H1 locs1 a b _ _ => kk H1 locs1 a b)
set_option maxHeartbeats 4000000 in
set_option maxRecDepth 100000 in
theorem kX7_noWho {l : Launch} {D : va_G} {dA : Nat → ClassId} {h N : Nat} {u u1 : TS} {a1 : Int32} {a2 : Int32} {a3 : Int32} {r : Int32} (hE : fX7_noWho N u a1 a2 a3 = some (r, u1)) : Met l yX7_noWho (ws_ yX7_noWho cX7_noWho 4 (some .int)) ({ frames := 2, cells := 0, slots := 0, locals := 43 }) (va_Pc [.ref h, .int a1, .int a2, .int a3] (mt_B D dA h u)) (mt_Q D dA h (some (.int r)) u1) 0 0 (TA h) := by
  refine mt_met (by decide) rfl rfl rfl ?_
  intro p e s m args below meth c ls C hr hlocks hT hS hl
  have hx := C.1.1
  have hb := C.1.2.1
  have w_51 : ∀ (u : TS) (y0 : Int32) (H : Heap) (locs : List Loc) (ls : Array Slot), fX7_noWho_51 N u y0 = some (r, u1) → TW D dA h u H → va_S (TA h) s.heap H locs → lv_has ls 4 [] → W p l e { frames := 2, cells := 0, slots := 0, locals := 43 } s m args below meth c H locs 0 0 (MQ below (mt_Q D dA h (some (.int r)) u1) args s 0 0 (TA h)) (F0 m 51 ls [.int y0]) := by
    intro u y0 H locs ls hE hT hS hl
    unfold fX7_noWho_51 at hE
    exact mt_iret C hr hlocks hT hS hE dX7_noWho_51
  have w_29 : ∀ (u : TS) (H : Heap) (locs : List Loc) (ls : Array Slot), fX7_noWho_29 N u = some (r, u1) → TW D dA h u H → va_S (TA h) s.heap H locs → lv_has ls 4 [] → W p l e { frames := 2, cells := 0, slots := 0, locals := 43 } s m args below meth c H locs 0 0 (MQ below (mt_Q D dA h (some (.int r)) u1) args s 0 0 (TA h)) (F0 m 29 ls []) := by
    intro u H locs ls hE hT hS hl
    unfold fX7_noWho_29 at hE
    refine lv_bipush (v := (-3 : Int32)) hx hb dX7_noWho_29 rfl ?_
    refine lv_goto (tgt := 51) hx hb dX7_noWho_31 (by decide) ?_
    exact w_51 _ _ _ _ _ hE hT hS (lv_sub hl [] rfl)
  have w_34 : ∀ (u : TS) (x3 : Int32) (H : Heap) (locs : List Loc) (ls : Array Slot), fX7_noWho_34 N u x3 = some (r, u1) → TW D dA h u H → va_S (TA h) s.heap H locs → lv_has ls 4 [(3, .int x3)] → W p l e { frames := 2, cells := 0, slots := 0, locals := 43 } s m args below meth c H locs 0 0 (MQ below (mt_Q D dA h (some (.int r)) u1) args s 0 0 (TA h)) (F0 m 34 ls []) := by
    intro u x3 H locs ls hE hT hS hl
    unfold fX7_noWho_34 at hE
    refine lv_iload_n hx hb dX7_noWho_34 rfl (lv_at hl 0 rfl) ?_
    refine lv_iconst (v := (0 : Int32)) hx hb dX7_noWho_35 rfl ?_
    refine lv_sipush (v := (399 : Int32)) hx hb dX7_noWho_36 rfl ?_
    obtain ⟨r1, hc, hE⟩ := o_bd_some hE
    refine sc_X7_in C.1 (kX7_in hc) rfl rfl ⟨Nat.le_of_ble_eq_true rfl, Nat.le_of_ble_eq_true rfl⟩ ⟨Nat.le_refl 0, Nat.le_refl 0⟩ dX7_noWho_39 hl.1 (Nat.le_of_ble_eq_true rfl) ?_
    refine lv_if_ne (tgt := 50) hx hb dX7_noWho_42 (by decide) (fun c2 => ?_) (fun c2 => ?_)
    · have hE := z_f c2 hE
      refine lv_iconst (v := (0 : Int32)) hx hb dX7_noWho_50 rfl ?_
      exact w_51 _ _ _ _ _ hE hT hS (lv_sub hl [] rfl)
    · have hE := z_t c2 hE
      refine lv_bipush (v := (-7 : Int32)) hx hb dX7_noWho_45 rfl ?_
      refine lv_goto (tgt := 51) hx hb dX7_noWho_47 (by decide) ?_
      exact w_51 _ _ _ _ _ hE hT hS (lv_sub hl [] rfl)
  unfold fX7_noWho at hE
  refine lv_iload_n hx hb dX7_noWho_0 rfl (lv_at hl 1 rfl) ?_
  refine lv_iconst (v := (0 : Int32)) hx hb dX7_noWho_1 rfl ?_
  refine lv_bipush (v := (7 : Int32)) hx hb dX7_noWho_2 rfl ?_
  obtain ⟨r3, hc, hE⟩ := o_bd_some hE
  refine sc_X7_in C.1 (kX7_in hc) rfl rfl ⟨Nat.le_of_ble_eq_true rfl, Nat.le_of_ble_eq_true rfl⟩ ⟨Nat.le_refl 0, Nat.le_refl 0⟩ dX7_noWho_4 hl.1 (Nat.le_of_ble_eq_true rfl) ?_
  refine lv_if_eq (tgt := 29) hx hb dX7_noWho_7 (by decide) (fun c4 => ?_) (fun c4 => ?_)
  · have hE := z_t c4 hE
    exact w_29 _ _ _ _ hE hT hS (lv_sub hl [] rfl)
  · have hE := z_f c4 hE
    refine lv_aload_n hx hb dX7_noWho_10 rfl (lv_at hl 0 rfl) ?_
    refine lv_iload_n hx hb dX7_noWho_11 rfl (lv_at hl 2 rfl) ?_
    obtain ⟨r6, u5, hc, hE⟩ := o_bd2_some hE
    refine tc_X7_isStand C hT hS (kX7_isStand hc) rfl rfl ⟨Nat.le_of_ble_eq_true rfl, Nat.le_of_ble_eq_true rfl⟩ ⟨Nat.le_refl 0, Nat.le_refl 0⟩ dX7_noWho_12 hl.1 (Nat.le_of_ble_eq_true rfl) (fun H locs hT hS => ?_)
    refine lv_if_ne (tgt := 34) hx hb dX7_noWho_15 (by decide) (fun c7 => ?_) (fun c7 => ?_)
    · have hE := z_f c7 hE
      exact w_34 _ _ _ _ _ hE hT hS (lv_sub hl [3] rfl)
    · have hE := z_t c7 hE
      refine lv_aload_n hx hb dX7_noWho_18 rfl (lv_at hl 0 rfl) ?_
      refine lv_iload_n hx hb dX7_noWho_19 rfl (lv_at hl 2 rfl) ?_
      refine lv_bipush (v := (100 : Int32)) hx hb dX7_noWho_20 rfl ?_
      refine lv_isub hx hb dX7_noWho_22 ?_
      obtain ⟨r9, u8, hc, hE⟩ := o_bd2_some hE
      refine tc_X7_isVillage C hT hS (kX7_isVillage hc) rfl rfl ⟨Nat.le_of_ble_eq_true rfl, Nat.le_of_ble_eq_true rfl⟩ ⟨Nat.le_refl 0, Nat.le_refl 0⟩ dX7_noWho_23 hl.1 (Nat.le_of_ble_eq_true rfl) (fun H locs hT hS => ?_)
      refine lv_if_ne (tgt := 34) hx hb dX7_noWho_26 (by decide) (fun c10 => ?_) (fun c10 => ?_)
      · have hE := z_f c10 hE
        exact w_34 _ _ _ _ _ hE hT hS (lv_sub hl [3] rfl)
      · have hE := z_t c10 hE
        exact w_29 _ _ _ _ hE hT hS (lv_sub hl [] rfl)
theorem sc_X7_defaultOf {a1 : Int32} {r : Int32} {rm : Room} (C : CallFix p m c cc nL s args lw_all RX7) (hM : Met l yX7_defaultOf (ws_ yX7_defaultOf cX7_defaultOf 1 (some .int)) rm (va_Pc [.int a1] (fun _ => True)) (s_Q (some (.int r))) 0 0 (fun _ => False)) (hrc : rm.cells = 0) (hrs : rm.slots = 0) (hR : rm.frames + 1 ≤ R.frames ∧ 8 + (1 + 11) + rm.locals ≤ R.locals) (hf : cells + 0 ≤ R.cells ∧ slots + 0 ≤ R.slots) (d : decode cc pc = .ok (.invokestatic 332, 3)) (hsz : ls.size = nL) (hro : (rest.map fun v => v.category).sum ≤ 8) (kk : W p l e R s m args below meth c H locs cells slots Q (F0 m (pc + 3) ls (.int r :: rest))) : W p l e R s m args below meth c H locs cells slots Q (F0 m pc ls (.int a1 :: rest)) :=
  s_call (v := (some (.int r))) (va_runS (As := [.int a1]) (rest := rest) C hM (va_cwS 1 C.2.2.2.2 (lw_S q2032 q2033 q177 q2034) rfl hrc hrs (by decide +kernel) hR) (s_pre _) rfl rfl hsz rfl (lv_room hro) d hf) kk
set_option maxHeartbeats 4000000 in
set_option maxRecDepth 100000 in
theorem kX7_defaultOf {l : Launch} {a1 : Int32} {r : Int32} (hE : fX7_defaultOf a1 = some r) : Met l yX7_defaultOf (ws_ yX7_defaultOf cX7_defaultOf 1 (some .int)) ({ frames := 0, cells := 0, slots := 0, locals := 0 }) (va_Pc [.int a1] (fun _ => True)) (s_Q (some (.int r))) 0 0 (fun _ => False) := by
  refine s_met (own := RX7) (by decide) rfl rfl rfl ?_
  intro p e s m args below meth c ls C hr hlocks hl
  have hx := C.1
  have hb := C.2.1
  have w_23 : ∀ (y0 : Int32) (ls : Array Slot), fX7_defaultOf_23 y0 = some r → lv_has ls 1 [] → W p l e { frames := 0, cells := 0, slots := 0, locals := 0 } s m args below meth c s.heap [] 0 0 (MQ below (s_Q (some (.int r))) args s 0 0 (fun _ => False)) (F0 m 23 ls [.int y0]) := by
    intro y0 ls hE hl
    unfold fX7_defaultOf_23 at hE
    exact s_iret C hr hlocks hE dX7_defaultOf_23
  unfold fX7_defaultOf at hE
  refine lv_iload_n hx hb dX7_defaultOf_0 rfl (lv_at hl 0 rfl) ?_
  refine lv_iconst (v := (1 : Int32)) hx hb dX7_defaultOf_1 rfl ?_
  refine lv_icmp_ne (tgt := 11) hx hb dX7_defaultOf_2 (by decide) (fun c1 => ?_) (fun c1 => ?_)
  · have hE := z_f c1 hE
    refine lv_iload_n hx hb dX7_defaultOf_11 rfl (lv_at hl 0 rfl) ?_
    refine lv_bipush (v := (7 : Int32)) hx hb dX7_defaultOf_12 rfl ?_
    refine lv_icmp_ne (tgt := 22) hx hb dX7_defaultOf_14 (by decide) (fun c2 => ?_) (fun c2 => ?_)
    · have hE := z_f c2 hE
      refine lv_iconst (v := (0 : Int32)) hx hb dX7_defaultOf_22 rfl ?_
      exact w_23 _ _ hE (lv_sub hl [] rfl)
    · have hE := z_t c2 hE
      refine lv_bipush (v := (99 : Int32)) hx hb dX7_defaultOf_17 rfl ?_
      refine lv_goto (tgt := 23) hx hb dX7_defaultOf_19 (by decide) ?_
      exact w_23 _ _ hE (lv_sub hl [] rfl)
  · have hE := z_t c1 hE
    refine lv_sipush (v := (9999 : Int32)) hx hb dX7_defaultOf_5 rfl ?_
    refine lv_goto (tgt := 23) hx hb dX7_defaultOf_8 (by decide) ?_
    exact w_23 _ _ hE (lv_sub hl [] rfl)
set_option maxHeartbeats 4000000 in
set_option maxRecDepth 100000 in
theorem kX7_says {l : Launch} {D : va_G} {dA : Nat → ClassId} {h N : Nat} {u u1 : TS} {a1 : Int32} {a2 : Int32} {a3 : Int32} {r : Int32} (hE : fX7_says N u a1 a2 a3 = some (r, u1)) : Met l yX7_says (ws_ yX7_says cX7_says 5 (some .int)) ({ frames := 71, cells := 0, slots := 0, locals := 2206 }) (va_Pc [.ref h, .int a1, .int a2, .int a3] (mt_B D dA h u)) (mt_Q D dA h (some (.int r)) u1) 0 0 (TA h) := by
  refine mt_met (by decide) rfl rfl rfl ?_
  intro p e s m args below meth c ls C hr hlocks hT hS hl
  have hx := C.1.1
  have hb := C.1.2.1
  have w_34 : ∀ (u : TS) (y0 : Int32) (H : Heap) (locs : List Loc) (ls : Array Slot), fX7_says_34 N u y0 = some (r, u1) → TW D dA h u H → va_S (TA h) s.heap H locs → lv_has ls 5 [] → W p l e { frames := 71, cells := 0, slots := 0, locals := 2206 } s m args below meth c H locs 0 0 (MQ below (mt_Q D dA h (some (.int r)) u1) args s 0 0 (TA h)) (F0 m 34 ls [.int y0]) := by
    intro u y0 H locs ls hE hT hS hl
    unfold fX7_says_34 at hE
    exact mt_iret C hr hlocks hT hS hE dX7_says_34
  unfold fX7_says at hE
  refine lv_aload_n hx hb dX7_says_0 rfl (lv_at hl 0 rfl) ?_
  refine lv_iload_n hx hb dX7_says_1 rfl (lv_at hl 1 rfl) ?_
  refine lv_iload_n hx hb dX7_says_2 rfl (lv_at hl 2 rfl) ?_
  refine lv_iload_n hx hb dX7_says_3 rfl (lv_at hl 3 rfl) ?_
  obtain ⟨r2, u1, hc, hE⟩ := o_bd2_some hE
  refine tc_X7_noWho C hT hS (kX7_noWho hc) rfl rfl ⟨Nat.le_of_ble_eq_true rfl, Nat.le_of_ble_eq_true rfl⟩ ⟨Nat.le_refl 0, Nat.le_refl 0⟩ dX7_says_4 hl.1 (Nat.le_of_ble_eq_true rfl) (fun H locs hT hS => ?_)
  refine lv_istore (lv' := [(4, .int r2), (0, .ref h), (1, .int a1), (2, .int a2), (3, .int a3)]) hx hb dX7_says_7 hl (by decide) rfl (fun ls hl => ?_)
  refine lv_iload hx hb dX7_says_9 (lv_at hl 0 rfl) ?_
  refine lv_if_ge (tgt := 23) hx hb dX7_says_11 (by decide) (fun c3 => ?_) (fun c3 => ?_)
  · have hE := z_t c3 hE
    refine lv_aload_n hx hb dX7_says_23 rfl (lv_at hl 1 rfl) ?_
    refine lv_iload_n hx hb dX7_says_24 rfl (lv_at hl 2 rfl) ?_
    refine lv_iload_n hx hb dX7_says_25 rfl (lv_at hl 3 rfl) ?_
    refine lv_iload_n hx hb dX7_says_26 rfl (lv_at hl 4 rfl) ?_
    refine lv_iload_n hx hb dX7_says_27 rfl (lv_at hl 2 rfl) ?_
    obtain ⟨r4, hc, hE⟩ := o_bd_some hE
    refine sc_X7_defaultOf C.1 (kX7_defaultOf hc) rfl rfl ⟨Nat.le_of_ble_eq_true rfl, Nat.le_of_ble_eq_true rfl⟩ ⟨Nat.le_refl 0, Nat.le_refl 0⟩ dX7_says_28 hl.1 (Nat.le_of_ble_eq_true rfl) ?_
    obtain ⟨r6, u5, hc, hE⟩ := o_bd2_some hE
    refine tc_X7_ruled C hT hS (kX7_ruled hc) rfl rfl ⟨Nat.le_of_ble_eq_true rfl, Nat.le_of_ble_eq_true rfl⟩ ⟨Nat.le_refl 0, Nat.le_refl 0⟩ dX7_says_31 hl.1 (Nat.le_of_ble_eq_true rfl) (fun H locs hT hS => ?_)
    exact w_34 _ _ _ _ _ hE hT hS (lv_sub hl [] rfl)
  · have hE := z_f c3 hE
    refine lv_aload_n hx hb dX7_says_14 rfl (lv_at hl 1 rfl) ?_
    refine lv_iload hx hb dX7_says_15 (lv_at hl 0 rfl) ?_
    obtain ⟨r8, u7, hc, hE⟩ := o_bd2_some hE
    refine tc_X7_hush C hT hS (kX7_hush hc) rfl rfl ⟨Nat.le_of_ble_eq_true rfl, Nat.le_of_ble_eq_true rfl⟩ ⟨Nat.le_refl 0, Nat.le_refl 0⟩ dX7_says_17 hl.1 (Nat.le_of_ble_eq_true rfl) (fun H locs hT hS => ?_)
    refine lv_goto (tgt := 34) hx hb dX7_says_20 (by decide) ?_
    exact w_34 _ _ _ _ _ hE hT hS (lv_sub hl [] rfl)
set_option maxHeartbeats 4000000 in
set_option maxRecDepth 100000 in
theorem kX7_why {l : Launch} {D : va_G} {dA : Nat → ClassId} {h N : Nat} {u u1 : TS} {a1 : Int32} {a2 : Int32} {a3 : Int32} {r : Int32} (hE : fX7_why N u a1 a2 a3 = some (r, u1)) : Met l yX7_why (ws_ yX7_why cX7_why 5 (some .int)) ({ frames := 70, cells := 0, slots := 0, locals := 2182 }) (va_Pc [.ref h, .int a1, .int a2, .int a3] (mt_B D dA h u)) (mt_Q D dA h (some (.int r)) u1) 0 0 (TA h) := by
  refine mt_met (by decide) rfl rfl rfl ?_
  intro p e s m args below meth c ls C hr hlocks hT hS hl
  have hx := C.1.1
  have hb := C.1.2.1
  have w_30 : ∀ (u : TS) (y0 : Int32) (H : Heap) (locs : List Loc) (ls : Array Slot), fX7_why_30 N u y0 = some (r, u1) → TW D dA h u H → va_S (TA h) s.heap H locs → lv_has ls 5 [] → W p l e { frames := 70, cells := 0, slots := 0, locals := 2182 } s m args below meth c H locs 0 0 (MQ below (mt_Q D dA h (some (.int r)) u1) args s 0 0 (TA h)) (F0 m 30 ls [.int y0]) := by
    intro u y0 H locs ls hE hT hS hl
    unfold fX7_why_30 at hE
    exact mt_iret C hr hlocks hT hS hE dX7_why_30
  unfold fX7_why at hE
  refine lv_aload_n hx hb dX7_why_0 rfl (lv_at hl 0 rfl) ?_
  refine lv_iload_n hx hb dX7_why_1 rfl (lv_at hl 1 rfl) ?_
  refine lv_iload_n hx hb dX7_why_2 rfl (lv_at hl 2 rfl) ?_
  refine lv_iload_n hx hb dX7_why_3 rfl (lv_at hl 3 rfl) ?_
  obtain ⟨r2, u1, hc, hE⟩ := o_bd2_some hE
  refine tc_X7_noWho C hT hS (kX7_noWho hc) rfl rfl ⟨Nat.le_of_ble_eq_true rfl, Nat.le_of_ble_eq_true rfl⟩ ⟨Nat.le_refl 0, Nat.le_refl 0⟩ dX7_why_4 hl.1 (Nat.le_of_ble_eq_true rfl) (fun H locs hT hS => ?_)
  refine lv_istore (lv' := [(4, .int r2), (0, .ref h), (1, .int a1), (2, .int a2), (3, .int a3)]) hx hb dX7_why_7 hl (by decide) rfl (fun ls hl => ?_)
  refine lv_iload hx hb dX7_why_9 (lv_at hl 0 rfl) ?_
  refine lv_if_ge (tgt := 23) hx hb dX7_why_11 (by decide) (fun c3 => ?_) (fun c3 => ?_)
  · have hE := z_t c3 hE
    refine lv_aload_n hx hb dX7_why_23 rfl (lv_at hl 1 rfl) ?_
    refine lv_iload_n hx hb dX7_why_24 rfl (lv_at hl 2 rfl) ?_
    refine lv_iload_n hx hb dX7_why_25 rfl (lv_at hl 3 rfl) ?_
    refine lv_iload_n hx hb dX7_why_26 rfl (lv_at hl 4 rfl) ?_
    obtain ⟨r5, u4, hc, hE⟩ := o_bd2_some hE
    refine tc_X7_rules C hT hS (kX7_rules hc) rfl rfl ⟨Nat.le_of_ble_eq_true rfl, Nat.le_of_ble_eq_true rfl⟩ ⟨Nat.le_refl 0, Nat.le_refl 0⟩ dX7_why_27 hl.1 (Nat.le_of_ble_eq_true rfl) (fun H locs hT hS => ?_)
    exact w_30 _ _ _ _ _ hE hT hS (lv_sub hl [] rfl)
  · have hE := z_f c3 hE
    refine lv_aload_n hx hb dX7_why_14 rfl (lv_at hl 1 rfl) ?_
    refine lv_iload hx hb dX7_why_15 (lv_at hl 0 rfl) ?_
    obtain ⟨r7, u6, hc, hE⟩ := o_bd2_some hE
    refine tc_X7_refuse C hT hS (kX7_refuse hc) rfl rfl ⟨Nat.le_of_ble_eq_true rfl, Nat.le_of_ble_eq_true rfl⟩ ⟨Nat.le_refl 0, Nat.le_refl 0⟩ dX7_why_17 hl.1 (Nat.le_of_ble_eq_true rfl) (fun H locs hT hS => ?_)
    refine lv_goto (tgt := 30) hx hb dX7_why_20 (by decide) ?_
    exact w_30 _ _ _ _ _ hE hT hS (lv_sub hl [] rfl)
theorem tc_X7_noOrder {a1 : Int32} {a2 : Int32} {a3 : Int32} {r : Int32} {u u1 : TS} {rm : Room} (C : TC p m c cc nL s args D dA) (hT : TW D dA h u H) (hS : va_S (TA h) H0 H locs) (hM : Met l yX7_noOrder (ws_ yX7_noOrder cX7_noOrder 4 (some .int)) rm (va_Pc [.ref h, .int a1, .int a2, .int a3] (mt_B D dA h u)) (mt_Q D dA h (some (.int r)) u1) 0 0 (TA h)) (hrc : rm.cells = 0) (hrs : rm.slots = 0) (hR : rm.frames + 1 ≤ R.frames ∧ 8 + (4 + 11) + rm.locals ≤ R.locals) (hf : cells + 0 ≤ R.cells ∧ slots + 0 ≤ R.slots) (d : decode cc pc = .ok (.invokevirtual 350, 3)) (hsz : ls.size = nL) (hro : (rest.map fun v => v.category).sum ≤ 8) (kk : ∀ (H1 : Heap) (locs1 : List Loc), TW D dA h u1 H1 → va_S (TA h) H0 H1 locs1 → W p l e R s m args below meth c H1 locs1 cells slots Q (F0 m (pc + 3) ls (.int r :: rest))) : W p l e R s m args below meth c H locs cells slots Q (F0 m pc ls (.int a3 :: .int a2 :: .int a1 :: .ref h :: rest)) :=
  mt_call (v := (some (.int r))) (va_runV (As := [.int a1, .int a2, .int a3]) (rest := rest) C.1 hM (cwV 3 C.1.2.2.2.2 (lw_V q2043 q2045 qs136 q177 q2046) rfl hrc hrs (by decide +kernel) hR) (mt_preV C.2 hT _) rfl rfl hsz rfl (lv_room hro) d hf) hS (fun _ z => z) (fun H1 locs1 a b _ _ => kk H1 locs1 a b)
set_option maxHeartbeats 4000000 in
set_option maxRecDepth 100000 in
theorem kX7_noOrder {l : Launch} {D : va_G} {dA : Nat → ClassId} {h N : Nat} {u u1 : TS} {a1 : Int32} {a2 : Int32} {a3 : Int32} {r : Int32} (hE : fX7_noOrder N u a1 a2 a3 = some (r, u1)) : Met l yX7_noOrder (ws_ yX7_noOrder cX7_noOrder 4 (some .int)) ({ frames := 2, cells := 0, slots := 0, locals := 43 }) (va_Pc [.ref h, .int a1, .int a2, .int a3] (mt_B D dA h u)) (mt_Q D dA h (some (.int r)) u1) 0 0 (TA h) := by
  refine mt_met (by decide) rfl rfl rfl ?_
  intro p e s m args below meth c ls C hr hlocks hT hS hl
  have hx := C.1.1
  have hb := C.1.2.1
  have w_60 : ∀ (u : TS) (y0 : Int32) (H : Heap) (locs : List Loc) (ls : Array Slot), fX7_noOrder_60 N u y0 = some (r, u1) → TW D dA h u H → va_S (TA h) s.heap H locs → lv_has ls 4 [] → W p l e { frames := 2, cells := 0, slots := 0, locals := 43 } s m args below meth c H locs 0 0 (MQ below (mt_Q D dA h (some (.int r)) u1) args s 0 0 (TA h)) (F0 m 60 ls [.int y0]) := by
    intro u y0 H locs ls hE hT hS hl
    unfold fX7_noOrder_60 at hE
    exact mt_iret C hr hlocks hT hS hE dX7_noOrder_60
  have w_48 : ∀ (u : TS) (y0 : Int32) (y1 : Int32) (y2 : Int32) (H : Heap) (locs : List Loc) (ls : Array Slot), fX7_noOrder_48 N u y0 y1 y2 = some (r, u1) → TW D dA h u H → va_S (TA h) s.heap H locs → lv_has ls 4 [] → W p l e { frames := 2, cells := 0, slots := 0, locals := 43 } s m args below meth c H locs 0 0 (MQ below (mt_Q D dA h (some (.int r)) u1) args s 0 0 (TA h)) (F0 m 48 ls [.int y2, .int y1, .int y0]) := by
    intro u y0 y1 y2 H locs ls hE hT hS hl
    unfold fX7_noOrder_48 at hE
    obtain ⟨r1, hc, hE⟩ := o_bd_some hE
    refine sc_X7_in C.1 (kX7_in hc) rfl rfl ⟨Nat.le_of_ble_eq_true rfl, Nat.le_of_ble_eq_true rfl⟩ ⟨Nat.le_refl 0, Nat.le_refl 0⟩ dX7_noOrder_48 hl.1 (Nat.le_of_ble_eq_true rfl) ?_
    refine lv_if_ne (tgt := 59) hx hb dX7_noOrder_51 (by decide) (fun c2 => ?_) (fun c2 => ?_)
    · have hE := z_f c2 hE
      refine lv_iconst (v := (0 : Int32)) hx hb dX7_noOrder_59 rfl ?_
      exact w_60 _ _ _ _ _ hE hT hS (lv_sub hl [] rfl)
    · have hE := z_t c2 hE
      refine lv_bipush (v := (-7 : Int32)) hx hb dX7_noOrder_54 rfl ?_
      refine lv_goto (tgt := 60) hx hb dX7_noOrder_56 (by decide) ?_
      exact w_60 _ _ _ _ _ hE hT hS (lv_sub hl [] rfl)
  unfold fX7_noOrder at hE
  refine lv_aload_n hx hb dX7_noOrder_0 rfl (lv_at hl 0 rfl) ?_
  refine lv_iload_n hx hb dX7_noOrder_1 rfl (lv_at hl 1 rfl) ?_
  obtain ⟨r4, u3, hc, hE⟩ := o_bd2_some hE
  refine tc_X7_isStand C hT hS (kX7_isStand hc) rfl rfl ⟨Nat.le_of_ble_eq_true rfl, Nat.le_of_ble_eq_true rfl⟩ ⟨Nat.le_refl 0, Nat.le_refl 0⟩ dX7_noOrder_2 hl.1 (Nat.le_of_ble_eq_true rfl) (fun H locs hT hS => ?_)
  refine lv_if_ne (tgt := 13) hx hb dX7_noOrder_5 (by decide) (fun c5 => ?_) (fun c5 => ?_)
  · have hE := z_f c5 hE
    refine lv_iload_n hx hb dX7_noOrder_13 rfl (lv_at hl 2 rfl) ?_
    refine lv_iconst (v := (0 : Int32)) hx hb dX7_noOrder_14 rfl ?_
    refine lv_iconst (v := (2 : Int32)) hx hb dX7_noOrder_15 rfl ?_
    obtain ⟨r6, hc, hE⟩ := o_bd_some hE
    refine sc_X7_in C.1 (kX7_in hc) rfl rfl ⟨Nat.le_of_ble_eq_true rfl, Nat.le_of_ble_eq_true rfl⟩ ⟨Nat.le_refl 0, Nat.le_refl 0⟩ dX7_noOrder_16 hl.1 (Nat.le_of_ble_eq_true rfl) ?_
    refine lv_if_ne (tgt := 27) hx hb dX7_noOrder_19 (by decide) (fun c7 => ?_) (fun c7 => ?_)
    · have hE := z_f c7 hE
      refine lv_iload_n hx hb dX7_noOrder_27 rfl (lv_at hl 3 rfl) ?_
      refine lv_iconst (v := (0 : Int32)) hx hb dX7_noOrder_28 rfl ?_
      refine lv_iload_n hx hb dX7_noOrder_29 rfl (lv_at hl 2 rfl) ?_
      refine lv_if_ne (tgt := 37) hx hb dX7_noOrder_30 (by decide) (fun c8 => ?_) (fun c8 => ?_)
      · have hE := z_f c8 hE
        refine lv_iload_n hx hb dX7_noOrder_37 rfl (lv_at hl 2 rfl) ?_
        refine lv_iconst (v := (1 : Int32)) hx hb dX7_noOrder_38 rfl ?_
        refine lv_icmp_ne (tgt := 47) hx hb dX7_noOrder_39 (by decide) (fun c9 => ?_) (fun c9 => ?_)
        · have hE := z_f c9 hE
          refine lv_iconst (v := (3 : Int32)) hx hb dX7_noOrder_47 rfl ?_
          exact w_48 _ _ _ _ _ _ _ hE hT hS (lv_sub hl [] rfl)
        · have hE := z_t c9 hE
          refine lv_bipush (v := (100 : Int32)) hx hb dX7_noOrder_42 rfl ?_
          refine lv_goto (tgt := 48) hx hb dX7_noOrder_44 (by decide) ?_
          exact w_48 _ _ _ _ _ _ _ hE hT hS (lv_sub hl [] rfl)
      · have hE := z_t c8 hE
        refine lv_iconst (v := (0 : Int32)) hx hb dX7_noOrder_33 rfl ?_
        refine lv_goto (tgt := 48) hx hb dX7_noOrder_34 (by decide) ?_
        exact w_48 _ _ _ _ _ _ _ hE hT hS (lv_sub hl [] rfl)
    · have hE := z_t c7 hE
      refine lv_bipush (v := (-5 : Int32)) hx hb dX7_noOrder_22 rfl ?_
      refine lv_goto (tgt := 60) hx hb dX7_noOrder_24 (by decide) ?_
      exact w_60 _ _ _ _ _ hE hT hS (lv_sub hl [] rfl)
  · have hE := z_t c5 hE
    refine lv_bipush (v := (-3 : Int32)) hx hb dX7_noOrder_8 rfl ?_
    refine lv_goto (tgt := 60) hx hb dX7_noOrder_10 (by decide) ?_
    exact w_60 _ _ _ _ _ hE hT hS (lv_sub hl [] rfl)
theorem tc_X7_od {a1 : Int32} {a2 : Int32} {r : Int32} {u u1 : TS} {rm : Room} (C : TC p m c cc nL s args D dA) (hT : TW D dA h u H) (hS : va_S (TA h) H0 H locs) (hM : Met l yX7_od (ws_ yX7_od cX7_od 3 (some .int)) rm (va_Pc [.ref h, .int a1, .int a2] (mt_B D dA h u)) (mt_Q D dA h (some (.int r)) u1) 0 0 (TA h)) (hrc : rm.cells = 0) (hrs : rm.slots = 0) (hR : rm.frames + 1 ≤ R.frames ∧ 8 + (3 + 11) + rm.locals ≤ R.locals) (hf : cells + 0 ≤ R.cells ∧ slots + 0 ≤ R.slots) (d : decode cc pc = .ok (.invokevirtual 335, 3)) (hsz : ls.size = nL) (hro : (rest.map fun v => v.category).sum ≤ 8) (kk : ∀ (H1 : Heap) (locs1 : List Loc), TW D dA h u1 H1 → va_S (TA h) H0 H1 locs1 → W p l e R s m args below meth c H1 locs1 cells slots Q (F0 m (pc + 3) ls (.int r :: rest))) : W p l e R s m args below meth c H locs cells slots Q (F0 m pc ls (.int a2 :: .int a1 :: .ref h :: rest)) :=
  mt_call (v := (some (.int r))) (va_runV (As := [.int a1, .int a2]) (rest := rest) C.1 hM (cwV 2 C.1.2.2.2.2 (lw_V q2055 q2057 qs139 q177 q2058) rfl hrc hrs (by decide +kernel) hR) (mt_preV C.2 hT _) rfl rfl hsz rfl (lv_room hro) d hf) hS (fun _ z => z) (fun H1 locs1 a b _ _ => kk H1 locs1 a b)
set_option maxHeartbeats 4000000 in
set_option maxRecDepth 100000 in
theorem kX7_od {l : Launch} {D : va_G} {dA : Nat → ClassId} {h N : Nat} {u u1 : TS} {a1 : Int32} {a2 : Int32} {r : Int32} (hE : fX7_od N u a1 a2 = some (r, u1)) : Met l yX7_od (ws_ yX7_od cX7_od 3 (some .int)) ({ frames := 0, cells := 0, slots := 0, locals := 0 }) (va_Pc [.ref h, .int a1, .int a2] (mt_B D dA h u)) (mt_Q D dA h (some (.int r)) u1) 0 0 (TA h) := by
  refine mt_met (by decide) rfl rfl rfl ?_
  intro p e s m args below meth c ls C hr hlocks hT hS hl
  have hx := C.1.1
  have hb := C.1.2.1
  unfold fX7_od at hE
  refine lv_aload_n hx hb dX7_od_0 rfl (lv_at hl 0 rfl) ?_
  refine tg_s C hT dX7_od_1 ?_
  refine lv_sipush (v := (3320 : Int32)) hx hb dX7_od_4 rfl ?_
  refine lv_iconst (v := (3 : Int32)) hx hb dX7_od_7 rfl ?_
  refine lv_iload_n hx hb dX7_od_8 rfl (lv_at hl 1 rfl) ?_
  refine lv_imul hx hb dX7_od_9 ?_
  refine lv_iadd hx hb dX7_od_10 ?_
  refine lv_iload_n hx hb dX7_od_11 rfl (lv_at hl 2 rfl) ?_
  refine lv_iadd hx hb dX7_od_12 ?_
  refine tl_s C hT hE dX7_od_13 (fun hE => ?_)
  refine z_nmi hE (fun v1 hE => ?_)
  exact mt_iret C hr hlocks hT hS hE dX7_od_14
theorem tc_X7_isOrdered {a1 : Int32} {a2 : Int32} {r : Int32} {u u1 : TS} {rm : Room} (C : TC p m c cc nL s args D dA) (hT : TW D dA h u H) (hS : va_S (TA h) H0 H locs) (hM : Met l yX7_isOrdered (ws_ yX7_isOrdered cX7_isOrdered 4 (some .boolean)) rm (va_Pc [.ref h, .int a1, .int a2] (mt_B D dA h u)) (mt_Q D dA h (some (.int r)) u1) 0 0 (TA h)) (hrc : rm.cells = 0) (hrs : rm.slots = 0) (hR : rm.frames + 1 ≤ R.frames ∧ 8 + (4 + 11) + rm.locals ≤ R.locals) (hf : cells + 0 ≤ R.cells ∧ slots + 0 ≤ R.slots) (d : decode cc pc = .ok (.invokevirtual 338, 3)) (hsz : ls.size = nL) (hro : (rest.map fun v => v.category).sum ≤ 8) (kk : ∀ (H1 : Heap) (locs1 : List Loc), TW D dA h u1 H1 → va_S (TA h) H0 H1 locs1 → W p l e R s m args below meth c H1 locs1 cells slots Q (F0 m (pc + 3) ls (.int r :: rest))) : W p l e R s m args below meth c H locs cells slots Q (F0 m pc ls (.int a2 :: .int a1 :: .ref h :: rest)) :=
  mt_call (v := (some (.int r))) (va_runV (As := [.int a1, .int a2]) (rest := rest) C.1 hM (cwV 2 C.1.2.2.2.2 (lw_V q2059 q2061 qs140 q177 q2062) rfl hrc hrs (by decide +kernel) hR) (mt_preV C.2 hT _) rfl rfl hsz rfl (lv_room hro) d hf) hS (fun _ z => z) (fun H1 locs1 a b _ _ => kk H1 locs1 a b)
set_option maxHeartbeats 4000000 in
set_option maxRecDepth 100000 in
theorem kX7_isOrdered {l : Launch} {D : va_G} {dA : Nat → ClassId} {h N : Nat} {u u1 : TS} {a1 : Int32} {a2 : Int32} {r : Int32} (hE : fX7_isOrdered N u a1 a2 = some (r, u1)) : Met l yX7_isOrdered (ws_ yX7_isOrdered cX7_isOrdered 4 (some .boolean)) ({ frames := 1, cells := 0, slots := 0, locals := 22 }) (va_Pc [.ref h, .int a1, .int a2] (mt_B D dA h u)) (mt_Q D dA h (some (.int r)) u1) 0 0 (TA h) := by
  refine mt_met (by decide) rfl rfl rfl ?_
  intro p e s m args below meth c ls C hr hlocks hT hS hl
  have hx := C.1.1
  have hb := C.1.2.1
  have w_34 : ∀ (ag2 : TS → Int32 → Int32 → Int32 → Option (Int32 × TS)) (hag2 : (∀ (u : TS) (x1 : Int32) (x2 : Int32) (x3 : Int32) (H : Heap) (locs : List Loc) (ls : Array Slot), ag2 u x1 x2 x3 = some (r, u1) → TW D dA h u H → va_S (TA h) s.heap H locs → lv_has ls 4 [(0, .ref h), (1, .int x1), (2, .int x2), (3, .int x3)] → W p l e { frames := 1, cells := 0, slots := 0, locals := 22 } s m args below meth c H locs 0 0 (MQ below (mt_Q D dA h (some (.int r)) u1) args s 0 0 (TA h)) (F0 m 2 ls []))) (u : TS) (x1 : Int32) (x2 : Int32) (x3 : Int32) (H : Heap) (locs : List Loc) (ls : Array Slot), fX7_isOrdered_34 N ag2 u x1 x2 x3 = some (r, u1) → TW D dA h u H → va_S (TA h) s.heap H locs → lv_has ls 4 [(0, .ref h), (1, .int x1), (2, .int x2), (3, .int x3)] → W p l e { frames := 1, cells := 0, slots := 0, locals := 22 } s m args below meth c H locs 0 0 (MQ below (mt_Q D dA h (some (.int r)) u1) args s 0 0 (TA h)) (F0 m 34 ls []) := by
    intro ag2 hag2 u x1 x2 x3 H locs ls hE hT hS hl
    unfold fX7_isOrdered_34 at hE
    refine z_iinc (v := (x3 + (1 : Int32))) (lw := (fun y_ => [(3, .int y_), (0, .ref h), (1, .int x1), (2, .int x2)])) hx hb dX7_isOrdered_34 hl hE (k := 3) rfl rfl (by decide) (fun _ => rfl) (fun z1 ls hE hl => ?_)
    refine lv_goto (tgt := 2) hx hb dX7_isOrdered_37 (by decide) ?_
    exact hag2 _ _ _ _ _ _ _ hE hT hS (lv_sub hl [1, 2, 3, 0] rfl)
  have w_2 : ∀ (n : Nat) (u : TS) (x1 : Int32) (x2 : Int32) (x3 : Int32) (H : Heap) (locs : List Loc) (ls : Array Slot), fX7_isOrdered_2 N n u x1 x2 x3 = some (r, u1) → TW D dA h u H → va_S (TA h) s.heap H locs → lv_has ls 4 [(0, .ref h), (1, .int x1), (2, .int x2), (3, .int x3)] → W p l e { frames := 1, cells := 0, slots := 0, locals := 22 } s m args below meth c H locs 0 0 (MQ below (mt_Q D dA h (some (.int r)) u1) args s 0 0 (TA h)) (F0 m 2 ls []) := by
    intro n
    induction n with
    | zero =>
      intro u x1 x2 x3 H locs ls hE hT hS hl
      cases (show (none : Option (Int32 × TS)) = some (r, u1) from hE)
    | succ n ih =>
      intro u x1 x2 x3 H locs ls hE hT hS hl
      rw [fX7_isOrdered_2] at hE
      refine lv_iload_n hx hb dX7_isOrdered_2 rfl (lv_at hl 3 rfl) ?_
      refine lv_aload_n hx hb dX7_isOrdered_3 rfl (lv_at hl 0 rfl) ?_
      refine tg_s C hT dX7_isOrdered_4 ?_
      refine lv_iconst (v := (5 : Int32)) hx hb dX7_isOrdered_7 rfl ?_
      refine tl_s C hT hE dX7_isOrdered_8 (fun hE => ?_)
      refine z_nmi hE (fun v2 hE => ?_)
      refine lv_icmp_ge (tgt := 40) hx hb dX7_isOrdered_9 (by decide) (fun c3 => ?_) (fun c3 => ?_)
      · have hE := z_t c3 hE
        refine lv_iconst (v := (0 : Int32)) hx hb dX7_isOrdered_40 rfl ?_
        exact mt_zret C hr hlocks hT hS (Or.inl rfl) hE dX7_isOrdered_41
      · have hE := z_f c3 hE
        refine lv_aload_n hx hb dX7_isOrdered_12 rfl (lv_at hl 0 rfl) ?_
        refine lv_iload_n hx hb dX7_isOrdered_13 rfl (lv_at hl 3 rfl) ?_
        refine lv_iconst (v := (0 : Int32)) hx hb dX7_isOrdered_14 rfl ?_
        obtain ⟨r5, u4, hc, hE⟩ := o_bd2_some hE
        refine tc_X7_od C hT hS (kX7_od hc) rfl rfl ⟨Nat.le_of_ble_eq_true rfl, Nat.le_of_ble_eq_true rfl⟩ ⟨Nat.le_refl 0, Nat.le_refl 0⟩ dX7_isOrdered_15 hl.1 (Nat.le_of_ble_eq_true rfl) (fun H locs hT hS => ?_)
        refine lv_iload_n hx hb dX7_isOrdered_18 rfl (lv_at hl 1 rfl) ?_
        refine lv_icmp_ne (tgt := 34) hx hb dX7_isOrdered_19 (by decide) (fun c6 => ?_) (fun c6 => ?_)
        · have hE := z_f c6 hE
          exact w_34 (fX7_isOrdered_2 N n) ih _ _ _ _ _ _ _ hE hT hS (lv_sub hl [0, 1, 2, 3] rfl)
        · have hE := z_t c6 hE
          refine lv_aload_n hx hb dX7_isOrdered_22 rfl (lv_at hl 0 rfl) ?_
          refine lv_iload_n hx hb dX7_isOrdered_23 rfl (lv_at hl 3 rfl) ?_
          refine lv_iconst (v := (1 : Int32)) hx hb dX7_isOrdered_24 rfl ?_
          obtain ⟨r8, u7, hc, hE⟩ := o_bd2_some hE
          refine tc_X7_od C hT hS (kX7_od hc) rfl rfl ⟨Nat.le_of_ble_eq_true rfl, Nat.le_of_ble_eq_true rfl⟩ ⟨Nat.le_refl 0, Nat.le_refl 0⟩ dX7_isOrdered_25 hl.1 (Nat.le_of_ble_eq_true rfl) (fun H locs hT hS => ?_)
          refine lv_iload_n hx hb dX7_isOrdered_28 rfl (lv_at hl 2 rfl) ?_
          refine lv_icmp_ne (tgt := 34) hx hb dX7_isOrdered_29 (by decide) (fun c9 => ?_) (fun c9 => ?_)
          · have hE := z_f c9 hE
            exact w_34 (fX7_isOrdered_2 N n) ih _ _ _ _ _ _ _ hE hT hS (lv_sub hl [0, 1, 2, 3] rfl)
          · have hE := z_t c9 hE
            refine lv_iconst (v := (1 : Int32)) hx hb dX7_isOrdered_32 rfl ?_
            exact mt_zret C hr hlocks hT hS (Or.inr rfl) hE dX7_isOrdered_33
  unfold fX7_isOrdered at hE
  refine lv_iconst (v := (0 : Int32)) hx hb dX7_isOrdered_0 rfl ?_
  refine lv_istore_n (lv' := [(3, .int (0 : Int32)), (0, .ref h), (1, .int a1), (2, .int a2)]) hx hb dX7_isOrdered_1 rfl hl (by decide) rfl (fun ls hl => ?_)
  exact w_2 N _ _ _ _ _ _ _ hE hT hS (lv_sub hl [1, 2, 3, 0] rfl)
theorem tc_X7_mayCut {a1 : Int32} {r : Int32} {u u1 : TS} {rm : Room} (C : TC p m c cc nL s args D dA) (hT : TW D dA h u H) (hS : va_S (TA h) H0 H locs) (hM : Met l yX7_mayCut (ws_ yX7_mayCut cX7_mayCut 6 (some .int)) rm (va_Pc [.ref h, .int a1] (mt_B D dA h u)) (mt_Q D dA h (some (.int r)) u1) 0 0 (TA h)) (hrc : rm.cells = 0) (hrs : rm.slots = 0) (hR : rm.frames + 1 ≤ R.frames ∧ 8 + (6 + 11) + rm.locals ≤ R.locals) (hf : cells + 0 ≤ R.cells ∧ slots + 0 ≤ R.slots) (d : decode cc pc = .ok (.invokevirtual 341, 3)) (hsz : ls.size = nL) (hro : (rest.map fun v => v.category).sum ≤ 8) (kk : ∀ (H1 : Heap) (locs1 : List Loc), TW D dA h u1 H1 → va_S (TA h) H0 H1 locs1 → W p l e R s m args below meth c H1 locs1 cells slots Q (F0 m (pc + 3) ls (.int r :: rest))) : W p l e R s m args below meth c H locs cells slots Q (F0 m pc ls (.int a1 :: .ref h :: rest)) :=
  mt_call (v := (some (.int r))) (va_runV (As := [.int a1]) (rest := rest) C.1 hM (cwV 1 C.1.2.2.2.2 (lw_V q2051 q2053 qs138 q177 q2054) rfl hrc hrs (by decide +kernel) hR) (mt_preV C.2 hT _) rfl rfl hsz rfl (lv_room hro) d hf) hS (fun _ z => z) (fun H1 locs1 a b _ _ => kk H1 locs1 a b)
set_option maxHeartbeats 4000000 in
set_option maxRecDepth 100000 in
theorem kX7_mayCut {l : Launch} {D : va_G} {dA : Nat → ClassId} {h N : Nat} {u u1 : TS} {a1 : Int32} {r : Int32} (hE : fX7_mayCut N u a1 = some (r, u1)) : Met l yX7_mayCut (ws_ yX7_mayCut cX7_mayCut 6 (some .int)) ({ frames := 71, cells := 0, slots := 0, locals := 2206 }) (va_Pc [.ref h, .int a1] (mt_B D dA h u)) (mt_Q D dA h (some (.int r)) u1) 0 0 (TA h) := by
  refine mt_met (by decide) rfl rfl rfl ?_
  intro p e s m args below meth c ls C hr hlocks hT hS hl
  have hx := C.1.1
  have hb := C.1.2.1
  have w_240 : ∀ (u : TS) (y0 : Int32) (H : Heap) (locs : List Loc) (ls : Array Slot), fX7_mayCut_240 N u y0 = some (r, u1) → TW D dA h u H → va_S (TA h) s.heap H locs → lv_has ls 6 [] → W p l e { frames := 71, cells := 0, slots := 0, locals := 2206 } s m args below meth c H locs 0 0 (MQ below (mt_Q D dA h (some (.int r)) u1) args s 0 0 (TA h)) (F0 m 240 ls [.int y0]) := by
    intro u y0 H locs ls hE hT hS hl
    unfold fX7_mayCut_240 at hE
    exact mt_iret C hr hlocks hT hS hE dX7_mayCut_240
  have w_220 : ∀ (ag155 : TS → Int32 → Int32 → Int32 → Option (Int32 × TS)) (hag155 : (∀ (u : TS) (x1 : Int32) (x4 : Int32) (x5 : Int32) (H : Heap) (locs : List Loc) (ls : Array Slot), ag155 u x1 x4 x5 = some (r, u1) → TW D dA h u H → va_S (TA h) s.heap H locs → lv_has ls 6 [(0, .ref h), (1, .int x1), (4, .int x4), (5, .int x5)] → W p l e { frames := 71, cells := 0, slots := 0, locals := 2206 } s m args below meth c H locs 0 0 (MQ below (mt_Q D dA h (some (.int r)) u1) args s 0 0 (TA h)) (F0 m 155 ls []))) (u : TS) (x1 : Int32) (x4 : Int32) (x5 : Int32) (H : Heap) (locs : List Loc) (ls : Array Slot), fX7_mayCut_220 N ag155 u x1 x4 x5 = some (r, u1) → TW D dA h u H → va_S (TA h) s.heap H locs → lv_has ls 6 [(0, .ref h), (1, .int x1), (4, .int x4), (5, .int x5)] → W p l e { frames := 71, cells := 0, slots := 0, locals := 2206 } s m args below meth c H locs 0 0 (MQ below (mt_Q D dA h (some (.int r)) u1) args s 0 0 (TA h)) (F0 m 220 ls []) := by
    intro ag155 hag155 u x1 x4 x5 H locs ls hE hT hS hl
    unfold fX7_mayCut_220 at hE
    refine z_iinc (v := (x5 + (1 : Int32))) (lw := (fun y_ => [(5, .int y_), (0, .ref h), (1, .int x1), (4, .int x4)])) hx hb dX7_mayCut_220 hl hE (k := 3) rfl rfl (by decide) (fun _ => rfl) (fun z1 ls hE hl => ?_)
    refine lv_goto (tgt := 155) hx hb dX7_mayCut_223 (by decide) ?_
    exact hag155 _ _ _ _ _ _ _ hE hT hS (lv_sub hl [1, 2, 3, 0] rfl)
  have w_218 : ∀ (u : TS) (H : Heap) (locs : List Loc) (ls : Array Slot), fX7_mayCut_218 N u = some (r, u1) → TW D dA h u H → va_S (TA h) s.heap H locs → lv_has ls 6 [] → W p l e { frames := 71, cells := 0, slots := 0, locals := 2206 } s m args below meth c H locs 0 0 (MQ below (mt_Q D dA h (some (.int r)) u1) args s 0 0 (TA h)) (F0 m 218 ls []) := by
    intro u H locs ls hE hT hS hl
    unfold fX7_mayCut_218 at hE
    refine lv_iconst (v := (4 : Int32)) hx hb dX7_mayCut_218 rfl ?_
    exact mt_iret C hr hlocks hT hS hE dX7_mayCut_219
  have w_155 : ∀ (n : Nat) (u : TS) (x1 : Int32) (x4 : Int32) (x5 : Int32) (H : Heap) (locs : List Loc) (ls : Array Slot), fX7_mayCut_155 N n u x1 x4 x5 = some (r, u1) → TW D dA h u H → va_S (TA h) s.heap H locs → lv_has ls 6 [(0, .ref h), (1, .int x1), (4, .int x4), (5, .int x5)] → W p l e { frames := 71, cells := 0, slots := 0, locals := 2206 } s m args below meth c H locs 0 0 (MQ below (mt_Q D dA h (some (.int r)) u1) args s 0 0 (TA h)) (F0 m 155 ls []) := by
    intro n
    induction n with
    | zero =>
      intro u x1 x4 x5 H locs ls hE hT hS hl
      cases (show (none : Option (Int32 × TS)) = some (r, u1) from hE)
    | succ n ih =>
      intro u x1 x4 x5 H locs ls hE hT hS hl
      rw [fX7_mayCut_155] at hE
      refine lv_iload hx hb dX7_mayCut_155 (lv_at hl 3 rfl) ?_
      refine lv_aload_n hx hb dX7_mayCut_157 rfl (lv_at hl 0 rfl) ?_
      refine tg_s C hT dX7_mayCut_158 ?_
      refine lv_iconst (v := (1 : Int32)) hx hb dX7_mayCut_161 rfl ?_
      refine tl_s C hT hE dX7_mayCut_162 (fun hE => ?_)
      refine z_nmi hE (fun v2 hE => ?_)
      refine lv_icmp_ge (tgt := 226) hx hb dX7_mayCut_163 (by decide) (fun c3 => ?_) (fun c3 => ?_)
      · have hE := z_t c3 hE
        refine lv_aload_n hx hb dX7_mayCut_226 rfl (lv_at hl 0 rfl) ?_
        refine lv_iload_n hx hb dX7_mayCut_227 rfl (lv_at hl 1 rfl) ?_
        refine lv_iconst (v := (1 : Int32)) hx hb dX7_mayCut_228 rfl ?_
        obtain ⟨r5, u4, hc, hE⟩ := o_bd2_some hE
        refine tc_X7_isOrdered C hT hS (kX7_isOrdered hc) rfl rfl ⟨Nat.le_of_ble_eq_true rfl, Nat.le_of_ble_eq_true rfl⟩ ⟨Nat.le_refl 0, Nat.le_refl 0⟩ dX7_mayCut_229 hl.1 (Nat.le_of_ble_eq_true rfl) (fun H locs hT hS => ?_)
        refine lv_if_eq (tgt := 239) hx hb dX7_mayCut_232 (by decide) (fun c6 => ?_) (fun c6 => ?_)
        · have hE := z_t c6 hE
          refine lv_iconst (v := (0 : Int32)) hx hb dX7_mayCut_239 rfl ?_
          exact w_240 _ _ _ _ _ hE hT hS (lv_sub hl [] rfl)
        · have hE := z_f c6 hE
          refine lv_iconst (v := (5 : Int32)) hx hb dX7_mayCut_235 rfl ?_
          refine lv_goto (tgt := 240) hx hb dX7_mayCut_236 (by decide) ?_
          exact w_240 _ _ _ _ _ hE hT hS (lv_sub hl [] rfl)
      · have hE := z_f c3 hE
        refine lv_aload_n hx hb dX7_mayCut_166 rfl (lv_at hl 0 rfl) ?_
        refine lv_iload_n hx hb dX7_mayCut_167 rfl (lv_at hl 1 rfl) ?_
        refine lv_iload hx hb dX7_mayCut_168 (lv_at hl 3 rfl) ?_
        obtain ⟨r8, u7, hc, hE⟩ := o_bd2_some hE
        refine tc_X7_areNear C hT hS (kX7_areNear hc) rfl rfl ⟨Nat.le_of_ble_eq_true rfl, Nat.le_of_ble_eq_true rfl⟩ ⟨Nat.le_refl 0, Nat.le_refl 0⟩ dX7_mayCut_170 hl.1 (Nat.le_of_ble_eq_true rfl) (fun H locs hT hS => ?_)
        refine lv_if_eq (tgt := 220) hx hb dX7_mayCut_173 (by decide) (fun c9 => ?_) (fun c9 => ?_)
        · have hE := z_t c9 hE
          exact w_220 (fX7_mayCut_155 N n) ih _ _ _ _ _ _ _ hE hT hS (lv_sub hl [0, 1, 2, 3] rfl)
        · have hE := z_f c9 hE
          refine lv_aload_n hx hb dX7_mayCut_176 rfl (lv_at hl 0 rfl) ?_
          refine lv_iload hx hb dX7_mayCut_177 (lv_at hl 3 rfl) ?_
          refine lv_iconst (v := (0 : Int32)) hx hb dX7_mayCut_179 rfl ?_
          obtain ⟨r11, u10, hc, hE⟩ := o_bd2_some hE
          refine tc_X7_isOrdered C hT hS (kX7_isOrdered hc) rfl rfl ⟨Nat.le_of_ble_eq_true rfl, Nat.le_of_ble_eq_true rfl⟩ ⟨Nat.le_refl 0, Nat.le_refl 0⟩ dX7_mayCut_180 hl.1 (Nat.le_of_ble_eq_true rfl) (fun H locs hT hS => ?_)
          refine lv_if_ne (tgt := 218) hx hb dX7_mayCut_183 (by decide) (fun c12 => ?_) (fun c12 => ?_)
          · have hE := z_f c12 hE
            exact w_218 _ _ _ _ hE hT hS (lv_sub hl [] rfl)
          · have hE := z_t c12 hE
            refine lv_aload_n hx hb dX7_mayCut_186 rfl (lv_at hl 0 rfl) ?_
            refine lv_iload hx hb dX7_mayCut_187 (lv_at hl 3 rfl) ?_
            refine lv_bipush (v := (9 : Int32)) hx hb dX7_mayCut_189 rfl ?_
            obtain ⟨r14, u13, hc, hE⟩ := o_bd2_some hE
            refine tc_X7_st C hT hS (kX7_st hc) rfl rfl ⟨Nat.le_of_ble_eq_true rfl, Nat.le_of_ble_eq_true rfl⟩ ⟨Nat.le_refl 0, Nat.le_refl 0⟩ dX7_mayCut_191 hl.1 (Nat.le_of_ble_eq_true rfl) (fun H locs hT hS => ?_)
            refine lv_iconst (v := (-1 : Int32)) hx hb dX7_mayCut_194 rfl ?_
            refine lv_icmp_eq (tgt := 220) hx hb dX7_mayCut_195 (by decide) (fun c15 => ?_) (fun c15 => ?_)
            · have hE := z_t c15 hE
              exact w_220 (fX7_mayCut_155 N n) ih _ _ _ _ _ _ _ hE hT hS (lv_sub hl [0, 1, 2, 3] rfl)
            · have hE := z_f c15 hE
              refine lv_aload_n hx hb dX7_mayCut_198 rfl (lv_at hl 0 rfl) ?_
              refine tg_s C hT dX7_mayCut_199 ?_
              refine lv_iconst (v := (0 : Int32)) hx hb dX7_mayCut_202 rfl ?_
              refine tl_s C hT hE dX7_mayCut_203 (fun hE => ?_)
              refine z_nmi hE (fun v16 hE => ?_)
              refine lv_aload_n hx hb dX7_mayCut_204 rfl (lv_at hl 0 rfl) ?_
              refine lv_iload hx hb dX7_mayCut_205 (lv_at hl 3 rfl) ?_
              refine lv_bipush (v := (9 : Int32)) hx hb dX7_mayCut_207 rfl ?_
              obtain ⟨r18, u17, hc, hE⟩ := o_bd2_some hE
              refine tc_X7_st C hT hS (kX7_st hc) rfl rfl ⟨Nat.le_of_ble_eq_true rfl, Nat.le_of_ble_eq_true rfl⟩ ⟨Nat.le_refl 0, Nat.le_refl 0⟩ dX7_mayCut_209 hl.1 (Nat.le_of_ble_eq_true rfl) (fun H locs hT hS => ?_)
              refine lv_isub hx hb dX7_mayCut_212 ?_
              refine lv_iload hx hb dX7_mayCut_213 (lv_at hl 2 rfl) ?_
              refine lv_icmp_ge (tgt := 220) hx hb dX7_mayCut_215 (by decide) (fun c19 => ?_) (fun c19 => ?_)
              · have hE := z_t c19 hE
                exact w_220 (fX7_mayCut_155 N n) ih _ _ _ _ _ _ _ hE hT hS (lv_sub hl [0, 1, 2, 3] rfl)
              · have hE := z_f c19 hE
                exact w_218 _ _ _ _ hE hT hS (lv_sub hl [] rfl)
  have w_108 : ∀ (ag45 : TS → Int32 → Int64 → Int32 → Option (Int32 × TS)) (hag45 : (∀ (u : TS) (x1 : Int32) (x2 : Int64) (x4 : Int32) (H : Heap) (locs : List Loc) (ls : Array Slot), ag45 u x1 x2 x4 = some (r, u1) → TW D dA h u H → va_S (TA h) s.heap H locs → lv_has ls 6 [(0, .ref h), (1, .int x1), (2, .long x2), (4, .int x4)] → W p l e { frames := 71, cells := 0, slots := 0, locals := 2206 } s m args below meth c H locs 0 0 (MQ below (mt_Q D dA h (some (.int r)) u1) args s 0 0 (TA h)) (F0 m 45 ls []))) (u : TS) (x1 : Int32) (x2 : Int64) (x4 : Int32) (H : Heap) (locs : List Loc) (ls : Array Slot), fX7_mayCut_108 N ag45 u x1 x2 x4 = some (r, u1) → TW D dA h u H → va_S (TA h) s.heap H locs → lv_has ls 6 [(0, .ref h), (1, .int x1), (2, .long x2), (4, .int x4)] → W p l e { frames := 71, cells := 0, slots := 0, locals := 2206 } s m args below meth c H locs 0 0 (MQ below (mt_Q D dA h (some (.int r)) u1) args s 0 0 (TA h)) (F0 m 108 ls []) := by
    intro ag45 hag45 u x1 x2 x4 H locs ls hE hT hS hl
    unfold fX7_mayCut_108 at hE
    refine z_iinc (v := (x4 + (1 : Int32))) (lw := (fun y_ => [(4, .int y_), (0, .ref h), (1, .int x1), (2, .long x2)])) hx hb dX7_mayCut_108 hl hE (k := 3) rfl rfl (by decide) (fun _ => rfl) (fun z20 ls hE hl => ?_)
    refine lv_goto (tgt := 45) hx hb dX7_mayCut_111 (by decide) ?_
    exact hag45 _ _ _ _ _ _ _ hE hT hS (lv_sub hl [1, 2, 3, 0] rfl)
  have w_45 : ∀ (n : Nat) (u : TS) (x1 : Int32) (x2 : Int64) (x4 : Int32) (H : Heap) (locs : List Loc) (ls : Array Slot), fX7_mayCut_45 N n u x1 x2 x4 = some (r, u1) → TW D dA h u H → va_S (TA h) s.heap H locs → lv_has ls 6 [(0, .ref h), (1, .int x1), (2, .long x2), (4, .int x4)] → W p l e { frames := 71, cells := 0, slots := 0, locals := 2206 } s m args below meth c H locs 0 0 (MQ below (mt_Q D dA h (some (.int r)) u1) args s 0 0 (TA h)) (F0 m 45 ls []) := by
    intro n
    induction n with
    | zero =>
      intro u x1 x2 x4 H locs ls hE hT hS hl
      cases (show (none : Option (Int32 × TS)) = some (r, u1) from hE)
    | succ n ih =>
      intro u x1 x2 x4 H locs ls hE hT hS hl
      rw [fX7_mayCut_45] at hE
      refine lv_iload hx hb dX7_mayCut_45 (lv_at hl 3 rfl) ?_
      refine lv_aload_n hx hb dX7_mayCut_47 rfl (lv_at hl 0 rfl) ?_
      refine tg_s C hT dX7_mayCut_48 ?_
      refine lv_iconst (v := (5 : Int32)) hx hb dX7_mayCut_51 rfl ?_
      refine tl_s C hT hE dX7_mayCut_52 (fun hE => ?_)
      refine z_nmi hE (fun v21 hE => ?_)
      refine lv_icmp_ge (tgt := 114) hx hb dX7_mayCut_53 (by decide) (fun c22 => ?_) (fun c22 => ?_)
      · have hE := z_t c22 hE
        refine lv_lload_n hx hb dX7_mayCut_114 rfl (lv_at hl 2 rfl) ?_
        refine lv_aload_n hx hb dX7_mayCut_115 rfl (lv_at hl 0 rfl) ?_
        refine lv_iconst (v := (1 : Int32)) hx hb dX7_mayCut_116 rfl ?_
        refine lv_iload_n hx hb dX7_mayCut_117 rfl (lv_at hl 1 rfl) ?_
        refine lv_aload_n hx hb dX7_mayCut_118 rfl (lv_at hl 0 rfl) ?_
        refine tg_s C hT dX7_mayCut_119 ?_
        refine lv_iconst (v := (0 : Int32)) hx hb dX7_mayCut_122 rfl ?_
        refine tl_s C hT hE dX7_mayCut_123 (fun hE => ?_)
        refine z_nmi hE (fun v23 hE => ?_)
        refine lv_sipush (v := (9999 : Int32)) hx hb dX7_mayCut_124 rfl ?_
        obtain ⟨r25, u24, hc, hE⟩ := o_bd2_some hE
        refine tc_X7_ruled C hT hS (kX7_ruled hc) rfl rfl ⟨Nat.le_of_ble_eq_true rfl, Nat.le_of_ble_eq_true rfl⟩ ⟨Nat.le_refl 0, Nat.le_refl 0⟩ dX7_mayCut_127 hl.1 (Nat.le_of_ble_eq_true rfl) (fun H locs hT hS => ?_)
        refine lv_i2l hx hb dX7_mayCut_130 rfl ?_
        refine W.lcmp hx hb dX7_mayCut_131 ?_
        refine lv_if_le (tgt := 137) hx hb dX7_mayCut_132 (by decide) (fun c26 => ?_) (fun c26 => ?_)
        · have hE := z_t c26 hE
          refine lv_aload_n hx hb dX7_mayCut_137 rfl (lv_at hl 0 rfl) ?_
          refine lv_iconst (v := (2 : Int32)) hx hb dX7_mayCut_138 rfl ?_
          refine lv_iload_n hx hb dX7_mayCut_139 rfl (lv_at hl 1 rfl) ?_
          refine lv_aload_n hx hb dX7_mayCut_140 rfl (lv_at hl 0 rfl) ?_
          refine tg_s C hT dX7_mayCut_141 ?_
          refine lv_iconst (v := (0 : Int32)) hx hb dX7_mayCut_144 rfl ?_
          refine tl_s C hT hE dX7_mayCut_145 (fun hE => ?_)
          refine z_nmi hE (fun v27 hE => ?_)
          refine lv_iconst (v := (0 : Int32)) hx hb dX7_mayCut_146 rfl ?_
          obtain ⟨r29, u28, hc, hE⟩ := o_bd2_some hE
          refine tc_X7_ruled C hT hS (kX7_ruled hc) rfl rfl ⟨Nat.le_of_ble_eq_true rfl, Nat.le_of_ble_eq_true rfl⟩ ⟨Nat.le_refl 0, Nat.le_refl 0⟩ dX7_mayCut_147 hl.1 (Nat.le_of_ble_eq_true rfl) (fun H locs hT hS => ?_)
          refine lv_istore (lv' := [(4, .int r29), (0, .ref h), (1, .int x1), (2, .long x2)]) hx hb dX7_mayCut_150 hl (by decide) rfl (fun ls hl => ?_)
          refine lv_iconst (v := (0 : Int32)) hx hb dX7_mayCut_152 rfl ?_
          refine lv_istore (lv' := [(5, .int (0 : Int32)), (4, .int r29), (0, .ref h), (1, .int x1), (2, .long x2)]) hx hb dX7_mayCut_153 hl (by decide) rfl (fun ls hl => ?_)
          exact w_155 N _ _ _ _ _ _ _ hE hT hS (lv_sub hl [2, 3, 1, 0] rfl)
        · have hE := z_f c26 hE
          refine lv_iconst (v := (3 : Int32)) hx hb dX7_mayCut_135 rfl ?_
          exact mt_iret C hr hlocks hT hS hE dX7_mayCut_136
      · have hE := z_f c22 hE
        refine lv_aload_n hx hb dX7_mayCut_56 rfl (lv_at hl 0 rfl) ?_
        refine lv_iload hx hb dX7_mayCut_57 (lv_at hl 3 rfl) ?_
        refine lv_iconst (v := (0 : Int32)) hx hb dX7_mayCut_59 rfl ?_
        obtain ⟨r31, u30, hc, hE⟩ := o_bd2_some hE
        refine tc_X7_od C hT hS (kX7_od hc) rfl rfl ⟨Nat.le_of_ble_eq_true rfl, Nat.le_of_ble_eq_true rfl⟩ ⟨Nat.le_refl 0, Nat.le_refl 0⟩ dX7_mayCut_60 hl.1 (Nat.le_of_ble_eq_true rfl) (fun H locs hT hS => ?_)
        refine lv_istore (lv' := [(5, .int r31), (0, .ref h), (1, .int x1), (2, .long x2), (4, .int x4)]) hx hb dX7_mayCut_63 hl (by decide) rfl (fun ls hl => ?_)
        refine lv_aload_n hx hb dX7_mayCut_65 rfl (lv_at hl 1 rfl) ?_
        refine lv_iload hx hb dX7_mayCut_66 (lv_at hl 4 rfl) ?_
        refine lv_iconst (v := (1 : Int32)) hx hb dX7_mayCut_68 rfl ?_
        obtain ⟨r33, u32, hc, hE⟩ := o_bd2_some hE
        refine tc_X7_od C hT hS (kX7_od hc) rfl rfl ⟨Nat.le_of_ble_eq_true rfl, Nat.le_of_ble_eq_true rfl⟩ ⟨Nat.le_refl 0, Nat.le_refl 0⟩ dX7_mayCut_69 hl.1 (Nat.le_of_ble_eq_true rfl) (fun H locs hT hS => ?_)
        refine lv_if_ne (tgt := 108) hx hb dX7_mayCut_72 (by decide) (fun c34 => ?_) (fun c34 => ?_)
        · have hE := z_f c34 hE
          exact w_108 (fX7_mayCut_45 N n) ih _ _ _ _ _ _ _ hE hT hS (lv_sub hl [1, 2, 3, 4] rfl)
        · have hE := z_t c34 hE
          refine lv_iload hx hb dX7_mayCut_75 (lv_at hl 0 rfl) ?_
          refine lv_iload_n hx hb dX7_mayCut_77 rfl (lv_at hl 2 rfl) ?_
          refine lv_icmp_eq (tgt := 108) hx hb dX7_mayCut_78 (by decide) (fun c35 => ?_) (fun c35 => ?_)
          · have hE := z_t c35 hE
            exact w_108 (fX7_mayCut_45 N n) ih _ _ _ _ _ _ _ hE hT hS (lv_sub hl [1, 2, 3, 4] rfl)
          · have hE := z_f c35 hE
            refine lv_aload_n hx hb dX7_mayCut_81 rfl (lv_at hl 1 rfl) ?_
            refine lv_iload hx hb dX7_mayCut_82 (lv_at hl 0 rfl) ?_
            refine lv_iconst (v := (0 : Int32)) hx hb dX7_mayCut_84 rfl ?_
            obtain ⟨r37, u36, hc, hE⟩ := o_bd2_some hE
            refine tc_X7_st C hT hS (kX7_st hc) rfl rfl ⟨Nat.le_of_ble_eq_true rfl, Nat.le_of_ble_eq_true rfl⟩ ⟨Nat.le_refl 0, Nat.le_refl 0⟩ dX7_mayCut_85 hl.1 (Nat.le_of_ble_eq_true rfl) (fun H locs hT hS => ?_)
            refine lv_aload_n hx hb dX7_mayCut_88 rfl (lv_at hl 1 rfl) ?_
            refine lv_iload_n hx hb dX7_mayCut_89 rfl (lv_at hl 2 rfl) ?_
            refine lv_iconst (v := (0 : Int32)) hx hb dX7_mayCut_90 rfl ?_
            obtain ⟨r39, u38, hc, hE⟩ := o_bd2_some hE
            refine tc_X7_st C hT hS (kX7_st hc) rfl rfl ⟨Nat.le_of_ble_eq_true rfl, Nat.le_of_ble_eq_true rfl⟩ ⟨Nat.le_refl 0, Nat.le_refl 0⟩ dX7_mayCut_91 hl.1 (Nat.le_of_ble_eq_true rfl) (fun H locs hT hS => ?_)
            refine lv_icmp_ne (tgt := 108) hx hb dX7_mayCut_94 (by decide) (fun c40 => ?_) (fun c40 => ?_)
            · have hE := z_f c40 hE
              exact w_108 (fX7_mayCut_45 N n) ih _ _ _ _ _ _ _ hE hT hS (lv_sub hl [1, 2, 3, 4] rfl)
            · have hE := z_t c40 hE
              refine lv_lload_n hx hb dX7_mayCut_97 rfl (lv_at hl 3 rfl) ?_
              refine lv_aload_n hx hb dX7_mayCut_98 rfl (lv_at hl 1 rfl) ?_
              refine lv_iload hx hb dX7_mayCut_99 (lv_at hl 0 rfl) ?_
              refine lv_iconst (v := (4 : Int32)) hx hb dX7_mayCut_101 rfl ?_
              obtain ⟨r42, u41, hc, hE⟩ := o_bd2_some hE
              refine tc_X7_st C hT hS (kX7_st hc) rfl rfl ⟨Nat.le_of_ble_eq_true rfl, Nat.le_of_ble_eq_true rfl⟩ ⟨Nat.le_refl 0, Nat.le_refl 0⟩ dX7_mayCut_102 hl.1 (Nat.le_of_ble_eq_true rfl) (fun H locs hT hS => ?_)
              refine lv_i2l hx hb dX7_mayCut_105 rfl ?_
              refine lv_ladd hx hb dX7_mayCut_106 ?_
              refine z_nml hE (fun z43 hE => ?_)
              refine lv_lstore_n (lv' := [(2, .long z43), (5, .int r31), (0, .ref h), (1, .int x1), (4, .int x4)]) hx hb dX7_mayCut_107 rfl hl (by decide) rfl (fun ls hl => ?_)
              exact w_108 (fX7_mayCut_45 N n) ih _ _ _ _ _ _ _ hE hT hS (lv_sub hl [2, 3, 0, 4] rfl)
  unfold fX7_mayCut at hE
  refine lv_aload_n hx hb dX7_mayCut_0 rfl (lv_at hl 0 rfl) ?_
  refine lv_iload_n hx hb dX7_mayCut_1 rfl (lv_at hl 1 rfl) ?_
  obtain ⟨r45, u44, hc, hE⟩ := o_bd2_some hE
  refine tc_X7_isBare C hT hS (kX7_isBare hc) rfl rfl ⟨Nat.le_of_ble_eq_true rfl, Nat.le_of_ble_eq_true rfl⟩ ⟨Nat.le_refl 0, Nat.le_refl 0⟩ dX7_mayCut_2 hl.1 (Nat.le_of_ble_eq_true rfl) (fun H locs hT hS => ?_)
  refine lv_if_eq (tgt := 10) hx hb dX7_mayCut_5 (by decide) (fun c46 => ?_) (fun c46 => ?_)
  · have hE := z_t c46 hE
    refine lv_aload_n hx hb dX7_mayCut_10 rfl (lv_at hl 0 rfl) ?_
    refine lv_iload_n hx hb dX7_mayCut_11 rfl (lv_at hl 1 rfl) ?_
    refine lv_iconst (v := (5 : Int32)) hx hb dX7_mayCut_12 rfl ?_
    obtain ⟨r48, u47, hc, hE⟩ := o_bd2_some hE
    refine tc_X7_st C hT hS (kX7_st hc) rfl rfl ⟨Nat.le_of_ble_eq_true rfl, Nat.le_of_ble_eq_true rfl⟩ ⟨Nat.le_refl 0, Nat.le_refl 0⟩ dX7_mayCut_13 hl.1 (Nat.le_of_ble_eq_true rfl) (fun H locs hT hS => ?_)
    refine lv_aload_n hx hb dX7_mayCut_16 rfl (lv_at hl 0 rfl) ?_
    refine lv_iconst (v := (0 : Int32)) hx hb dX7_mayCut_17 rfl ?_
    refine lv_iload_n hx hb dX7_mayCut_18 rfl (lv_at hl 1 rfl) ?_
    refine lv_aload_n hx hb dX7_mayCut_19 rfl (lv_at hl 0 rfl) ?_
    refine tg_s C hT dX7_mayCut_20 ?_
    refine lv_iconst (v := (0 : Int32)) hx hb dX7_mayCut_23 rfl ?_
    refine tl_s C hT hE dX7_mayCut_24 (fun hE => ?_)
    refine z_nmi hE (fun v49 hE => ?_)
    refine lv_iconst (v := (0 : Int32)) hx hb dX7_mayCut_25 rfl ?_
    obtain ⟨r51, u50, hc, hE⟩ := o_bd2_some hE
    refine tc_X7_ruled C hT hS (kX7_ruled hc) rfl rfl ⟨Nat.le_of_ble_eq_true rfl, Nat.le_of_ble_eq_true rfl⟩ ⟨Nat.le_refl 0, Nat.le_refl 0⟩ dX7_mayCut_26 hl.1 (Nat.le_of_ble_eq_true rfl) (fun H locs hT hS => ?_)
    refine lv_icmp_ge (tgt := 34) hx hb dX7_mayCut_29 (by decide) (fun c52 => ?_) (fun c52 => ?_)
    · have hE := z_t c52 hE
      refine lv_aload_n hx hb dX7_mayCut_34 rfl (lv_at hl 0 rfl) ?_
      refine lv_iload_n hx hb dX7_mayCut_35 rfl (lv_at hl 1 rfl) ?_
      refine lv_iconst (v := (4 : Int32)) hx hb dX7_mayCut_36 rfl ?_
      obtain ⟨r54, u53, hc, hE⟩ := o_bd2_some hE
      refine tc_X7_st C hT hS (kX7_st hc) rfl rfl ⟨Nat.le_of_ble_eq_true rfl, Nat.le_of_ble_eq_true rfl⟩ ⟨Nat.le_refl 0, Nat.le_refl 0⟩ dX7_mayCut_37 hl.1 (Nat.le_of_ble_eq_true rfl) (fun H locs hT hS => ?_)
      refine lv_i2l hx hb dX7_mayCut_40 rfl ?_
      refine z_nml hE (fun z55 hE => ?_)
      refine lv_lstore_n (lv' := [(2, .long z55), (0, .ref h), (1, .int a1)]) hx hb dX7_mayCut_41 rfl hl (by decide) rfl (fun ls hl => ?_)
      refine lv_iconst (v := (0 : Int32)) hx hb dX7_mayCut_42 rfl ?_
      refine lv_istore (lv' := [(4, .int (0 : Int32)), (2, .long z55), (0, .ref h), (1, .int a1)]) hx hb dX7_mayCut_43 hl (by decide) rfl (fun ls hl => ?_)
      exact w_45 N _ _ _ _ _ _ _ hE hT hS (lv_sub hl [2, 3, 1, 0] rfl)
    · have hE := z_f c52 hE
      refine lv_iconst (v := (2 : Int32)) hx hb dX7_mayCut_32 rfl ?_
      exact mt_iret C hr hlocks hT hS hE dX7_mayCut_33
  · have hE := z_f c46 hE
    refine lv_iconst (v := (1 : Int32)) hx hb dX7_mayCut_8 rfl ?_
    exact mt_iret C hr hlocks hT hS hE dX7_mayCut_9
theorem tc_X7_mayThin {a1 : Int32} {a2 : Int32} {r : Int32} {u u1 : TS} {rm : Room} (C : TC p m c cc nL s args D dA) (hT : TW D dA h u H) (hS : va_S (TA h) H0 H locs) (hM : Met l yX7_mayThin (ws_ yX7_mayThin cX7_mayThin 3 (some .int)) rm (va_Pc [.ref h, .int a1, .int a2] (mt_B D dA h u)) (mt_Q D dA h (some (.int r)) u1) 0 0 (TA h)) (hrc : rm.cells = 0) (hrs : rm.slots = 0) (hR : rm.frames + 1 ≤ R.frames ∧ 8 + (3 + 11) + rm.locals ≤ R.locals) (hf : cells + 0 ≤ R.cells ∧ slots + 0 ≤ R.slots) (d : decode cc pc = .ok (.invokevirtual 344, 3)) (hsz : ls.size = nL) (hro : (rest.map fun v => v.category).sum ≤ 8) (kk : ∀ (H1 : Heap) (locs1 : List Loc), TW D dA h u1 H1 → va_S (TA h) H0 H1 locs1 → W p l e R s m args below meth c H1 locs1 cells slots Q (F0 m (pc + 3) ls (.int r :: rest))) : W p l e R s m args below meth c H locs cells slots Q (F0 m pc ls (.int a2 :: .int a1 :: .ref h :: rest)) :=
  mt_call (v := (some (.int r))) (va_runV (As := [.int a1, .int a2]) (rest := rest) C.1 hM (cwV 2 C.1.2.2.2.2 (lw_V q2063 q2065 qs141 q177 q2066) rfl hrc hrs (by decide +kernel) hR) (mt_preV C.2 hT _) rfl rfl hsz rfl (lv_room hro) d hf) hS (fun _ z => z) (fun H1 locs1 a b _ _ => kk H1 locs1 a b)
set_option maxHeartbeats 4000000 in
set_option maxRecDepth 100000 in
theorem kX7_mayThin {l : Launch} {D : va_G} {dA : Nat → ClassId} {h N : Nat} {u u1 : TS} {a1 : Int32} {a2 : Int32} {r : Int32} (hE : fX7_mayThin N u a1 a2 = some (r, u1)) : Met l yX7_mayThin (ws_ yX7_mayThin cX7_mayThin 3 (some .int)) ({ frames := 71, cells := 0, slots := 0, locals := 2206 }) (va_Pc [.ref h, .int a1, .int a2] (mt_B D dA h u)) (mt_Q D dA h (some (.int r)) u1) 0 0 (TA h) := by
  refine mt_met (by decide) rfl rfl rfl ?_
  intro p e s m args below meth c ls C hr hlocks hT hS hl
  have hx := C.1.1
  have hb := C.1.2.1
  have w_45 : ∀ (u : TS) (H : Heap) (locs : List Loc) (ls : Array Slot), fX7_mayThin_45 N u = some (r, u1) → TW D dA h u H → va_S (TA h) s.heap H locs → lv_has ls 3 [] → W p l e { frames := 71, cells := 0, slots := 0, locals := 2206 } s m args below meth c H locs 0 0 (MQ below (mt_Q D dA h (some (.int r)) u1) args s 0 0 (TA h)) (F0 m 45 ls []) := by
    intro u H locs ls hE hT hS hl
    unfold fX7_mayThin_45 at hE
    refine lv_iconst (v := (3 : Int32)) hx hb dX7_mayThin_45 rfl ?_
    exact mt_iret C hr hlocks hT hS hE dX7_mayThin_46
  have w_61 : ∀ (u : TS) (y0 : Int32) (H : Heap) (locs : List Loc) (ls : Array Slot), fX7_mayThin_61 N u y0 = some (r, u1) → TW D dA h u H → va_S (TA h) s.heap H locs → lv_has ls 3 [] → W p l e { frames := 71, cells := 0, slots := 0, locals := 2206 } s m args below meth c H locs 0 0 (MQ below (mt_Q D dA h (some (.int r)) u1) args s 0 0 (TA h)) (F0 m 61 ls [.int y0]) := by
    intro u y0 H locs ls hE hT hS hl
    unfold fX7_mayThin_61 at hE
    exact mt_iret C hr hlocks hT hS hE dX7_mayThin_61
  unfold fX7_mayThin at hE
  refine lv_aload_n hx hb dX7_mayThin_0 rfl (lv_at hl 0 rfl) ?_
  refine lv_iload_n hx hb dX7_mayThin_1 rfl (lv_at hl 1 rfl) ?_
  obtain ⟨r2, u1, hc, hE⟩ := o_bd2_some hE
  refine tc_X7_isBare C hT hS (kX7_isBare hc) rfl rfl ⟨Nat.le_of_ble_eq_true rfl, Nat.le_of_ble_eq_true rfl⟩ ⟨Nat.le_refl 0, Nat.le_refl 0⟩ dX7_mayThin_2 hl.1 (Nat.le_of_ble_eq_true rfl) (fun H locs hT hS => ?_)
  refine lv_if_eq (tgt := 10) hx hb dX7_mayThin_5 (by decide) (fun c3 => ?_) (fun c3 => ?_)
  · have hE := z_t c3 hE
    refine lv_aload_n hx hb dX7_mayThin_10 rfl (lv_at hl 0 rfl) ?_
    refine lv_iload_n hx hb dX7_mayThin_11 rfl (lv_at hl 1 rfl) ?_
    refine lv_bipush (v := (6 : Int32)) hx hb dX7_mayThin_12 rfl ?_
    obtain ⟨r5, u4, hc, hE⟩ := o_bd2_some hE
    refine tc_X7_st C hT hS (kX7_st hc) rfl rfl ⟨Nat.le_of_ble_eq_true rfl, Nat.le_of_ble_eq_true rfl⟩ ⟨Nat.le_refl 0, Nat.le_refl 0⟩ dX7_mayThin_14 hl.1 (Nat.le_of_ble_eq_true rfl) (fun H locs hT hS => ?_)
    refine lv_iload_n hx hb dX7_mayThin_17 rfl (lv_at hl 2 rfl) ?_
    refine lv_icmp_gt (tgt := 23) hx hb dX7_mayThin_18 (by decide) (fun c6 => ?_) (fun c6 => ?_)
    · have hE := z_t c6 hE
      refine lv_iload_n hx hb dX7_mayThin_23 rfl (lv_at hl 2 rfl) ?_
      refine lv_iconst (v := (1 : Int32)) hx hb dX7_mayThin_24 rfl ?_
      refine lv_icmp_lt (tgt := 45) hx hb dX7_mayThin_25 (by decide) (fun c7 => ?_) (fun c7 => ?_)
      · have hE := z_t c7 hE
        exact w_45 _ _ _ _ hE hT hS (lv_sub hl [] rfl)
      · have hE := z_f c7 hE
        refine lv_iload_n hx hb dX7_mayThin_28 rfl (lv_at hl 2 rfl) ?_
        refine lv_aload_n hx hb dX7_mayThin_29 rfl (lv_at hl 0 rfl) ?_
        refine lv_iconst (v := (3 : Int32)) hx hb dX7_mayThin_30 rfl ?_
        refine lv_iload_n hx hb dX7_mayThin_31 rfl (lv_at hl 1 rfl) ?_
        refine lv_aload_n hx hb dX7_mayThin_32 rfl (lv_at hl 0 rfl) ?_
        refine tg_s C hT dX7_mayThin_33 ?_
        refine lv_iconst (v := (0 : Int32)) hx hb dX7_mayThin_36 rfl ?_
        refine tl_s C hT hE dX7_mayThin_37 (fun hE => ?_)
        refine z_nmi hE (fun v8 hE => ?_)
        refine lv_iconst (v := (0 : Int32)) hx hb dX7_mayThin_38 rfl ?_
        obtain ⟨r10, u9, hc, hE⟩ := o_bd2_some hE
        refine tc_X7_ruled C hT hS (kX7_ruled hc) rfl rfl ⟨Nat.le_of_ble_eq_true rfl, Nat.le_of_ble_eq_true rfl⟩ ⟨Nat.le_refl 0, Nat.le_refl 0⟩ dX7_mayThin_39 hl.1 (Nat.le_of_ble_eq_true rfl) (fun H locs hT hS => ?_)
        refine lv_icmp_ge (tgt := 47) hx hb dX7_mayThin_42 (by decide) (fun c11 => ?_) (fun c11 => ?_)
        · have hE := z_t c11 hE
          refine lv_aload_n hx hb dX7_mayThin_47 rfl (lv_at hl 0 rfl) ?_
          refine lv_iload_n hx hb dX7_mayThin_48 rfl (lv_at hl 1 rfl) ?_
          refine lv_iconst (v := (0 : Int32)) hx hb dX7_mayThin_49 rfl ?_
          obtain ⟨r13, u12, hc, hE⟩ := o_bd2_some hE
          refine tc_X7_isOrdered C hT hS (kX7_isOrdered hc) rfl rfl ⟨Nat.le_of_ble_eq_true rfl, Nat.le_of_ble_eq_true rfl⟩ ⟨Nat.le_refl 0, Nat.le_refl 0⟩ dX7_mayThin_50 hl.1 (Nat.le_of_ble_eq_true rfl) (fun H locs hT hS => ?_)
          refine lv_if_eq (tgt := 60) hx hb dX7_mayThin_53 (by decide) (fun c14 => ?_) (fun c14 => ?_)
          · have hE := z_t c14 hE
            refine lv_iconst (v := (0 : Int32)) hx hb dX7_mayThin_60 rfl ?_
            exact w_61 _ _ _ _ _ hE hT hS (lv_sub hl [] rfl)
          · have hE := z_f c14 hE
            refine lv_iconst (v := (4 : Int32)) hx hb dX7_mayThin_56 rfl ?_
            refine lv_goto (tgt := 61) hx hb dX7_mayThin_57 (by decide) ?_
            exact w_61 _ _ _ _ _ hE hT hS (lv_sub hl [] rfl)
        · have hE := z_f c11 hE
          exact w_45 _ _ _ _ hE hT hS (lv_sub hl [] rfl)
    · have hE := z_f c6 hE
      refine lv_iconst (v := (2 : Int32)) hx hb dX7_mayThin_21 rfl ?_
      exact mt_iret C hr hlocks hT hS hE dX7_mayThin_22
  · have hE := z_f c3 hE
    refine lv_iconst (v := (1 : Int32)) hx hb dX7_mayThin_8 rfl ?_
    exact mt_iret C hr hlocks hT hS hE dX7_mayThin_9
theorem tc_X7_mayPlant {a1 : Int32} {a2 : Int32} {r : Int32} {u u1 : TS} {rm : Room} (C : TC p m c cc nL s args D dA) (hT : TW D dA h u H) (hS : va_S (TA h) H0 H locs) (hM : Met l yX7_mayPlant (ws_ yX7_mayPlant cX7_mayPlant 5 (some .int)) rm (va_Pc [.ref h, .int a1, .int a2] (mt_B D dA h u)) (mt_Q D dA h (some (.int r)) u1) 0 0 (TA h)) (hrc : rm.cells = 0) (hrs : rm.slots = 0) (hR : rm.frames + 1 ≤ R.frames ∧ 8 + (5 + 11) + rm.locals ≤ R.locals) (hf : cells + 0 ≤ R.cells ∧ slots + 0 ≤ R.slots) (d : decode cc pc = .ok (.invokevirtual 347, 3)) (hsz : ls.size = nL) (hro : (rest.map fun v => v.category).sum ≤ 8) (kk : ∀ (H1 : Heap) (locs1 : List Loc), TW D dA h u1 H1 → va_S (TA h) H0 H1 locs1 → W p l e R s m args below meth c H1 locs1 cells slots Q (F0 m (pc + 3) ls (.int r :: rest))) : W p l e R s m args below meth c H locs cells slots Q (F0 m pc ls (.int a2 :: .int a1 :: .ref h :: rest)) :=
  mt_call (v := (some (.int r))) (va_runV (As := [.int a1, .int a2]) (rest := rest) C.1 hM (cwV 2 C.1.2.2.2.2 (lw_V q2067 q2069 qs142 q177 q2070) rfl hrc hrs (by decide +kernel) hR) (mt_preV C.2 hT _) rfl rfl hsz rfl (lv_room hro) d hf) hS (fun _ z => z) (fun H1 locs1 a b _ _ => kk H1 locs1 a b)
set_option maxHeartbeats 4000000 in
set_option maxRecDepth 100000 in
theorem kX7_mayPlant {l : Launch} {D : va_G} {dA : Nat → ClassId} {h N : Nat} {u u1 : TS} {a1 : Int32} {a2 : Int32} {r : Int32} (hE : fX7_mayPlant N u a1 a2 = some (r, u1)) : Met l yX7_mayPlant (ws_ yX7_mayPlant cX7_mayPlant 5 (some .int)) ({ frames := 2, cells := 0, slots := 0, locals := 45 }) (va_Pc [.ref h, .int a1, .int a2] (mt_B D dA h u)) (mt_Q D dA h (some (.int r)) u1) 0 0 (TA h) := by
  refine mt_met (by decide) rfl rfl rfl ?_
  intro p e s m args below meth c ls C hr hlocks hT hS hl
  have hx := C.1.1
  have hb := C.1.2.1
  have w_119 : ∀ (u : TS) (y0 : Int32) (H : Heap) (locs : List Loc) (ls : Array Slot), fX7_mayPlant_119 N u y0 = some (r, u1) → TW D dA h u H → va_S (TA h) s.heap H locs → lv_has ls 5 [] → W p l e { frames := 2, cells := 0, slots := 0, locals := 45 } s m args below meth c H locs 0 0 (MQ below (mt_Q D dA h (some (.int r)) u1) args s 0 0 (TA h)) (F0 m 119 ls [.int y0]) := by
    intro u y0 H locs ls hE hT hS hl
    unfold fX7_mayPlant_119 at hE
    exact mt_iret C hr hlocks hT hS hE dX7_mayPlant_119
  have w_96 : ∀ (ag35 : TS → Int32 → Int32 → Int32 → Int32 → Option (Int32 × TS)) (hag35 : (∀ (u : TS) (x1 : Int32) (x2 : Int32) (x3 : Int32) (x4 : Int32) (H : Heap) (locs : List Loc) (ls : Array Slot), ag35 u x1 x2 x3 x4 = some (r, u1) → TW D dA h u H → va_S (TA h) s.heap H locs → lv_has ls 5 [(0, .ref h), (1, .int x1), (2, .int x2), (3, .int x3), (4, .int x4)] → W p l e { frames := 2, cells := 0, slots := 0, locals := 45 } s m args below meth c H locs 0 0 (MQ below (mt_Q D dA h (some (.int r)) u1) args s 0 0 (TA h)) (F0 m 35 ls []))) (u : TS) (x1 : Int32) (x2 : Int32) (x4 : Int32) (y0 : Int32) (y1 : Int32) (H : Heap) (locs : List Loc) (ls : Array Slot), fX7_mayPlant_96 N ag35 u x1 x2 x4 y0 y1 = some (r, u1) → TW D dA h u H → va_S (TA h) s.heap H locs → lv_has ls 5 [(0, .ref h), (1, .int x1), (2, .int x2), (4, .int x4)] → W p l e { frames := 2, cells := 0, slots := 0, locals := 45 } s m args below meth c H locs 0 0 (MQ below (mt_Q D dA h (some (.int r)) u1) args s 0 0 (TA h)) (F0 m 96 ls [.int y1, .int y0]) := by
    intro ag35 hag35 u x1 x2 x4 y0 y1 H locs ls hE hT hS hl
    unfold fX7_mayPlant_96 at hE
    refine lv_isub hx hb dX7_mayPlant_96 ?_
    refine z_nmi hE (fun z1 hE => ?_)
    refine lv_istore_n (lv' := [(3, .int z1), (0, .ref h), (1, .int x1), (2, .int x2), (4, .int x4)]) hx hb dX7_mayPlant_97 rfl hl (by decide) rfl (fun ls hl => ?_)
    refine z_iinc (v := (x4 + (1 : Int32))) (lw := (fun y_ => [(4, .int y_), (3, .int z1), (0, .ref h), (1, .int x1), (2, .int x2)])) hx hb dX7_mayPlant_98 hl hE (k := 4) rfl rfl (by decide) (fun _ => rfl) (fun z2 ls hE hl => ?_)
    refine lv_goto (tgt := 35) hx hb dX7_mayPlant_101 (by decide) ?_
    exact hag35 _ _ _ _ _ _ _ _ hE hT hS (lv_sub hl [2, 3, 4, 1, 0] rfl)
  have w_95 : ∀ (ag35 : TS → Int32 → Int32 → Int32 → Int32 → Option (Int32 × TS)) (hag35 : (∀ (u : TS) (x1 : Int32) (x2 : Int32) (x3 : Int32) (x4 : Int32) (H : Heap) (locs : List Loc) (ls : Array Slot), ag35 u x1 x2 x3 x4 = some (r, u1) → TW D dA h u H → va_S (TA h) s.heap H locs → lv_has ls 5 [(0, .ref h), (1, .int x1), (2, .int x2), (3, .int x3), (4, .int x4)] → W p l e { frames := 2, cells := 0, slots := 0, locals := 45 } s m args below meth c H locs 0 0 (MQ below (mt_Q D dA h (some (.int r)) u1) args s 0 0 (TA h)) (F0 m 35 ls []))) (u : TS) (x1 : Int32) (x2 : Int32) (x4 : Int32) (y0 : Int32) (H : Heap) (locs : List Loc) (ls : Array Slot), fX7_mayPlant_95 N ag35 u x1 x2 x4 y0 = some (r, u1) → TW D dA h u H → va_S (TA h) s.heap H locs → lv_has ls 5 [(0, .ref h), (1, .int x1), (2, .int x2), (4, .int x4)] → W p l e { frames := 2, cells := 0, slots := 0, locals := 45 } s m args below meth c H locs 0 0 (MQ below (mt_Q D dA h (some (.int r)) u1) args s 0 0 (TA h)) (F0 m 95 ls [.int y0]) := by
    intro ag35 hag35 u x1 x2 x4 y0 H locs ls hE hT hS hl
    unfold fX7_mayPlant_95 at hE
    refine lv_iconst (v := (0 : Int32)) hx hb dX7_mayPlant_95 rfl ?_
    exact w_96 ag35 hag35 _ _ _ _ _ _ _ _ _ hE hT hS (lv_sub hl [0, 1, 2, 3] rfl)
  have w_35 : ∀ (n : Nat) (u : TS) (x1 : Int32) (x2 : Int32) (x3 : Int32) (x4 : Int32) (H : Heap) (locs : List Loc) (ls : Array Slot), fX7_mayPlant_35 N n u x1 x2 x3 x4 = some (r, u1) → TW D dA h u H → va_S (TA h) s.heap H locs → lv_has ls 5 [(0, .ref h), (1, .int x1), (2, .int x2), (3, .int x3), (4, .int x4)] → W p l e { frames := 2, cells := 0, slots := 0, locals := 45 } s m args below meth c H locs 0 0 (MQ below (mt_Q D dA h (some (.int r)) u1) args s 0 0 (TA h)) (F0 m 35 ls []) := by
    intro n
    induction n with
    | zero =>
      intro u x1 x2 x3 x4 H locs ls hE hT hS hl
      cases (show (none : Option (Int32 × TS)) = some (r, u1) from hE)
    | succ n ih =>
      intro u x1 x2 x3 x4 H locs ls hE hT hS hl
      rw [fX7_mayPlant_35] at hE
      refine lv_iload hx hb dX7_mayPlant_35 (lv_at hl 4 rfl) ?_
      refine lv_aload_n hx hb dX7_mayPlant_37 rfl (lv_at hl 0 rfl) ?_
      refine tg_s C hT dX7_mayPlant_38 ?_
      refine lv_iconst (v := (5 : Int32)) hx hb dX7_mayPlant_41 rfl ?_
      refine tl_s C hT hE dX7_mayPlant_42 (fun hE => ?_)
      refine z_nmi hE (fun v3 hE => ?_)
      refine lv_icmp_ge (tgt := 104) hx hb dX7_mayPlant_43 (by decide) (fun c4 => ?_) (fun c4 => ?_)
      · have hE := z_t c4 hE
        refine lv_iload_n hx hb dX7_mayPlant_104 rfl (lv_at hl 3 rfl) ?_
        refine lv_aload_n hx hb dX7_mayPlant_105 rfl (lv_at hl 0 rfl) ?_
        refine lv_iload_n hx hb dX7_mayPlant_106 rfl (lv_at hl 1 rfl) ?_
        refine lv_iconst (v := (4 : Int32)) hx hb dX7_mayPlant_107 rfl ?_
        obtain ⟨r6, u5, hc, hE⟩ := o_bd2_some hE
        refine tc_X7_st C hT hS (kX7_st hc) rfl rfl ⟨Nat.le_of_ble_eq_true rfl, Nat.le_of_ble_eq_true rfl⟩ ⟨Nat.le_refl 0, Nat.le_refl 0⟩ dX7_mayPlant_108 hl.1 (Nat.le_of_ble_eq_true rfl) (fun H locs hT hS => ?_)
        refine lv_icmp_ge (tgt := 118) hx hb dX7_mayPlant_111 (by decide) (fun c7 => ?_) (fun c7 => ?_)
        · have hE := z_t c7 hE
          refine lv_iconst (v := (0 : Int32)) hx hb dX7_mayPlant_118 rfl ?_
          exact w_119 _ _ _ _ _ hE hT hS (lv_sub hl [] rfl)
        · have hE := z_f c7 hE
          refine lv_iconst (v := (2 : Int32)) hx hb dX7_mayPlant_114 rfl ?_
          refine lv_goto (tgt := 119) hx hb dX7_mayPlant_115 (by decide) ?_
          exact w_119 _ _ _ _ _ hE hT hS (lv_sub hl [] rfl)
      · have hE := z_f c4 hE
        refine lv_iload_n hx hb dX7_mayPlant_46 rfl (lv_at hl 3 rfl) ?_
        refine lv_aload_n hx hb dX7_mayPlant_47 rfl (lv_at hl 0 rfl) ?_
        refine lv_iload hx hb dX7_mayPlant_48 (lv_at hl 4 rfl) ?_
        refine lv_iconst (v := (1 : Int32)) hx hb dX7_mayPlant_50 rfl ?_
        obtain ⟨r9, u8, hc, hE⟩ := o_bd2_some hE
        refine tc_X7_od C hT hS (kX7_od hc) rfl rfl ⟨Nat.le_of_ble_eq_true rfl, Nat.le_of_ble_eq_true rfl⟩ ⟨Nat.le_refl 0, Nat.le_refl 0⟩ dX7_mayPlant_51 hl.1 (Nat.le_of_ble_eq_true rfl) (fun H locs hT hS => ?_)
        refine lv_iconst (v := (2 : Int32)) hx hb dX7_mayPlant_54 rfl ?_
        refine lv_icmp_ne (tgt := 95) hx hb dX7_mayPlant_55 (by decide) (fun c10 => ?_) (fun c10 => ?_)
        · have hE := z_f c10 hE
          exact w_95 (fX7_mayPlant_35 N n) ih _ _ _ _ _ _ _ _ hE hT hS (lv_sub hl [0, 1, 2, 4] rfl)
        · have hE := z_t c10 hE
          refine lv_aload_n hx hb dX7_mayPlant_58 rfl (lv_at hl 0 rfl) ?_
          refine lv_iload hx hb dX7_mayPlant_59 (lv_at hl 4 rfl) ?_
          refine lv_iconst (v := (2 : Int32)) hx hb dX7_mayPlant_61 rfl ?_
          obtain ⟨r12, u11, hc, hE⟩ := o_bd2_some hE
          refine tc_X7_od C hT hS (kX7_od hc) rfl rfl ⟨Nat.le_of_ble_eq_true rfl, Nat.le_of_ble_eq_true rfl⟩ ⟨Nat.le_refl 0, Nat.le_refl 0⟩ dX7_mayPlant_62 hl.1 (Nat.le_of_ble_eq_true rfl) (fun H locs hT hS => ?_)
          refine lv_iload_n hx hb dX7_mayPlant_65 rfl (lv_at hl 2 rfl) ?_
          refine lv_icmp_ne (tgt := 95) hx hb dX7_mayPlant_66 (by decide) (fun c13 => ?_) (fun c13 => ?_)
          · have hE := z_f c13 hE
            exact w_95 (fX7_mayPlant_35 N n) ih _ _ _ _ _ _ _ _ hE hT hS (lv_sub hl [0, 1, 2, 4] rfl)
          · have hE := z_t c13 hE
            refine lv_aload_n hx hb dX7_mayPlant_69 rfl (lv_at hl 0 rfl) ?_
            refine lv_iload hx hb dX7_mayPlant_70 (lv_at hl 4 rfl) ?_
            refine lv_iconst (v := (0 : Int32)) hx hb dX7_mayPlant_72 rfl ?_
            obtain ⟨r15, u14, hc, hE⟩ := o_bd2_some hE
            refine tc_X7_od C hT hS (kX7_od hc) rfl rfl ⟨Nat.le_of_ble_eq_true rfl, Nat.le_of_ble_eq_true rfl⟩ ⟨Nat.le_refl 0, Nat.le_refl 0⟩ dX7_mayPlant_73 hl.1 (Nat.le_of_ble_eq_true rfl) (fun H locs hT hS => ?_)
            refine lv_iload_n hx hb dX7_mayPlant_76 rfl (lv_at hl 1 rfl) ?_
            refine lv_icmp_eq (tgt := 95) hx hb dX7_mayPlant_77 (by decide) (fun c16 => ?_) (fun c16 => ?_)
            · have hE := z_t c16 hE
              exact w_95 (fX7_mayPlant_35 N n) ih _ _ _ _ _ _ _ _ hE hT hS (lv_sub hl [0, 1, 2, 4] rfl)
            · have hE := z_f c16 hE
              refine lv_aload_n hx hb dX7_mayPlant_80 rfl (lv_at hl 0 rfl) ?_
              refine lv_aload_n hx hb dX7_mayPlant_81 rfl (lv_at hl 0 rfl) ?_
              refine lv_iload hx hb dX7_mayPlant_82 (lv_at hl 4 rfl) ?_
              refine lv_iconst (v := (0 : Int32)) hx hb dX7_mayPlant_84 rfl ?_
              obtain ⟨r18, u17, hc, hE⟩ := o_bd2_some hE
              refine tc_X7_od C hT hS (kX7_od hc) rfl rfl ⟨Nat.le_of_ble_eq_true rfl, Nat.le_of_ble_eq_true rfl⟩ ⟨Nat.le_refl 0, Nat.le_refl 0⟩ dX7_mayPlant_85 hl.1 (Nat.le_of_ble_eq_true rfl) (fun H locs hT hS => ?_)
              refine lv_iconst (v := (4 : Int32)) hx hb dX7_mayPlant_88 rfl ?_
              obtain ⟨r20, u19, hc, hE⟩ := o_bd2_some hE
              refine tc_X7_st C hT hS (kX7_st hc) rfl rfl ⟨Nat.le_of_ble_eq_true rfl, Nat.le_of_ble_eq_true rfl⟩ ⟨Nat.le_refl 0, Nat.le_refl 0⟩ dX7_mayPlant_89 hl.1 (Nat.le_of_ble_eq_true rfl) (fun H locs hT hS => ?_)
              refine lv_goto (tgt := 96) hx hb dX7_mayPlant_92 (by decide) ?_
              exact w_96 (fX7_mayPlant_35 N n) ih _ _ _ _ _ _ _ _ _ hE hT hS (lv_sub hl [0, 1, 2, 4] rfl)
  have w_19 : ∀ (u : TS) (x1 : Int32) (x2 : Int32) (H : Heap) (locs : List Loc) (ls : Array Slot), fX7_mayPlant_19 N u x1 x2 = some (r, u1) → TW D dA h u H → va_S (TA h) s.heap H locs → lv_has ls 5 [(0, .ref h), (1, .int x1), (2, .int x2)] → W p l e { frames := 2, cells := 0, slots := 0, locals := 45 } s m args below meth c H locs 0 0 (MQ below (mt_Q D dA h (some (.int r)) u1) args s 0 0 (TA h)) (F0 m 19 ls []) := by
    intro u x1 x2 H locs ls hE hT hS hl
    unfold fX7_mayPlant_19 at hE
    refine lv_aload_n hx hb dX7_mayPlant_19 rfl (lv_at hl 0 rfl) ?_
    refine tg_s C hT dX7_mayPlant_20 ?_
    refine lv_sipush (v := (3446 : Int32)) hx hb dX7_mayPlant_23 rfl ?_
    refine lv_iconst (v := (3 : Int32)) hx hb dX7_mayPlant_26 rfl ?_
    refine lv_iload_n hx hb dX7_mayPlant_27 rfl (lv_at hl 2 rfl) ?_
    refine lv_imul hx hb dX7_mayPlant_28 ?_
    refine lv_iadd hx hb dX7_mayPlant_29 ?_
    refine tl_s C hT hE dX7_mayPlant_30 (fun hE => ?_)
    refine z_nmi hE (fun v21 hE => ?_)
    refine lv_istore_n (lv' := [(3, .int v21), (0, .ref h), (1, .int x1), (2, .int x2)]) hx hb dX7_mayPlant_31 rfl hl (by decide) rfl (fun ls hl => ?_)
    refine lv_iconst (v := (0 : Int32)) hx hb dX7_mayPlant_32 rfl ?_
    refine lv_istore (lv' := [(4, .int (0 : Int32)), (3, .int v21), (0, .ref h), (1, .int x1), (2, .int x2)]) hx hb dX7_mayPlant_33 hl (by decide) rfl (fun ls hl => ?_)
    exact w_35 N _ _ _ _ _ _ _ _ hE hT hS (lv_sub hl [2, 3, 4, 1, 0] rfl)
  unfold fX7_mayPlant at hE
  refine lv_aload_n hx hb dX7_mayPlant_0 rfl (lv_at hl 0 rfl) ?_
  refine lv_iload_n hx hb dX7_mayPlant_1 rfl (lv_at hl 1 rfl) ?_
  obtain ⟨r23, u22, hc, hE⟩ := o_bd2_some hE
  refine tc_X7_isBare C hT hS (kX7_isBare hc) rfl rfl ⟨Nat.le_of_ble_eq_true rfl, Nat.le_of_ble_eq_true rfl⟩ ⟨Nat.le_refl 0, Nat.le_refl 0⟩ dX7_mayPlant_2 hl.1 (Nat.le_of_ble_eq_true rfl) (fun H locs hT hS => ?_)
  refine lv_if_ne (tgt := 19) hx hb dX7_mayPlant_5 (by decide) (fun c24 => ?_) (fun c24 => ?_)
  · have hE := z_f c24 hE
    exact w_19 _ _ _ _ _ _ hE hT hS (lv_sub hl [0, 1, 2] rfl)
  · have hE := z_t c24 hE
    refine lv_aload_n hx hb dX7_mayPlant_8 rfl (lv_at hl 0 rfl) ?_
    refine lv_iload_n hx hb dX7_mayPlant_9 rfl (lv_at hl 1 rfl) ?_
    refine lv_iconst (v := (0 : Int32)) hx hb dX7_mayPlant_10 rfl ?_
    obtain ⟨r26, u25, hc, hE⟩ := o_bd2_some hE
    refine tc_X7_isOrdered C hT hS (kX7_isOrdered hc) rfl rfl ⟨Nat.le_of_ble_eq_true rfl, Nat.le_of_ble_eq_true rfl⟩ ⟨Nat.le_refl 0, Nat.le_refl 0⟩ dX7_mayPlant_11 hl.1 (Nat.le_of_ble_eq_true rfl) (fun H locs hT hS => ?_)
    refine lv_if_ne (tgt := 19) hx hb dX7_mayPlant_14 (by decide) (fun c27 => ?_) (fun c27 => ?_)
    · have hE := z_f c27 hE
      exact w_19 _ _ _ _ _ _ hE hT hS (lv_sub hl [0, 1, 2] rfl)
    · have hE := z_t c27 hE
      refine lv_iconst (v := (1 : Int32)) hx hb dX7_mayPlant_17 rfl ?_
      exact mt_iret C hr hlocks hT hS hE dX7_mayPlant_18
theorem tc_X7_mayBe {a1 : Int32} {a2 : Int32} {a3 : Int32} {r : Int32} {u u1 : TS} {rm : Room} (C : TC p m c cc nL s args D dA) (hT : TW D dA h u H) (hS : va_S (TA h) H0 H locs) (hM : Met l yX7_mayBe (ws_ yX7_mayBe cX7_mayBe 4 (some .int)) rm (va_Pc [.ref h, .int a1, .int a2, .int a3] (mt_B D dA h u)) (mt_Q D dA h (some (.int r)) u1) 0 0 (TA h)) (hrc : rm.cells = 0) (hrs : rm.slots = 0) (hR : rm.frames + 1 ≤ R.frames ∧ 8 + (4 + 11) + rm.locals ≤ R.locals) (hf : cells + 0 ≤ R.cells ∧ slots + 0 ≤ R.slots) (d : decode cc pc = .ok (.invokevirtual 353, 3)) (hsz : ls.size = nL) (hro : (rest.map fun v => v.category).sum ≤ 8) (kk : ∀ (H1 : Heap) (locs1 : List Loc), TW D dA h u1 H1 → va_S (TA h) H0 H1 locs1 → W p l e R s m args below meth c H1 locs1 cells slots Q (F0 m (pc + 3) ls (.int r :: rest))) : W p l e R s m args below meth c H locs cells slots Q (F0 m pc ls (.int a3 :: .int a2 :: .int a1 :: .ref h :: rest)) :=
  mt_call (v := (some (.int r))) (va_runV (As := [.int a1, .int a2, .int a3]) (rest := rest) C.1 hM (cwV 3 C.1.2.2.2.2 (lw_V q2047 q2049 qs137 q177 q2050) rfl hrc hrs (by decide +kernel) hR) (mt_preV C.2 hT _) rfl rfl hsz rfl (lv_room hro) d hf) hS (fun _ z => z) (fun H1 locs1 a b _ _ => kk H1 locs1 a b)
set_option maxHeartbeats 4000000 in
set_option maxRecDepth 100000 in
theorem kX7_mayBe {l : Launch} {D : va_G} {dA : Nat → ClassId} {h N : Nat} {u u1 : TS} {a1 : Int32} {a2 : Int32} {a3 : Int32} {r : Int32} (hE : fX7_mayBe N u a1 a2 a3 = some (r, u1)) : Met l yX7_mayBe (ws_ yX7_mayBe cX7_mayBe 4 (some .int)) ({ frames := 72, cells := 0, slots := 0, locals := 2231 }) (va_Pc [.ref h, .int a1, .int a2, .int a3] (mt_B D dA h u)) (mt_Q D dA h (some (.int r)) u1) 0 0 (TA h) := by
  refine mt_met (by decide) rfl rfl rfl ?_
  intro p e s m args below meth c ls C hr hlocks hT hS hl
  have hx := C.1.1
  have hb := C.1.2.1
  have w_32 : ∀ (u : TS) (y0 : Int32) (H : Heap) (locs : List Loc) (ls : Array Slot), fX7_mayBe_32 N u y0 = some (r, u1) → TW D dA h u H → va_S (TA h) s.heap H locs → lv_has ls 4 [] → W p l e { frames := 72, cells := 0, slots := 0, locals := 2231 } s m args below meth c H locs 0 0 (MQ below (mt_Q D dA h (some (.int r)) u1) args s 0 0 (TA h)) (F0 m 32 ls [.int y0]) := by
    intro u y0 H locs ls hE hT hS hl
    unfold fX7_mayBe_32 at hE
    exact mt_iret C hr hlocks hT hS hE dX7_mayBe_32
  unfold fX7_mayBe at hE
  refine lv_iload_n hx hb dX7_mayBe_0 rfl (lv_at hl 2 rfl) ?_
  refine lv_if_ne (tgt := 12) hx hb dX7_mayBe_1 (by decide) (fun c1 => ?_) (fun c1 => ?_)
  · have hE := z_f c1 hE
    refine lv_iload_n hx hb dX7_mayBe_12 rfl (lv_at hl 2 rfl) ?_
    refine lv_iconst (v := (1 : Int32)) hx hb dX7_mayBe_13 rfl ?_
    refine lv_icmp_ne (tgt := 26) hx hb dX7_mayBe_14 (by decide) (fun c2 => ?_) (fun c2 => ?_)
    · have hE := z_f c2 hE
      refine lv_aload_n hx hb dX7_mayBe_26 rfl (lv_at hl 0 rfl) ?_
      refine lv_iload_n hx hb dX7_mayBe_27 rfl (lv_at hl 1 rfl) ?_
      refine lv_iload_n hx hb dX7_mayBe_28 rfl (lv_at hl 3 rfl) ?_
      obtain ⟨r4, u3, hc, hE⟩ := o_bd2_some hE
      refine tc_X7_mayPlant C hT hS (kX7_mayPlant hc) rfl rfl ⟨Nat.le_of_ble_eq_true rfl, Nat.le_of_ble_eq_true rfl⟩ ⟨Nat.le_refl 0, Nat.le_refl 0⟩ dX7_mayBe_29 hl.1 (Nat.le_of_ble_eq_true rfl) (fun H locs hT hS => ?_)
      exact w_32 _ _ _ _ _ hE hT hS (lv_sub hl [] rfl)
    · have hE := z_t c2 hE
      refine lv_aload_n hx hb dX7_mayBe_17 rfl (lv_at hl 0 rfl) ?_
      refine lv_iload_n hx hb dX7_mayBe_18 rfl (lv_at hl 1 rfl) ?_
      refine lv_iload_n hx hb dX7_mayBe_19 rfl (lv_at hl 3 rfl) ?_
      obtain ⟨r6, u5, hc, hE⟩ := o_bd2_some hE
      refine tc_X7_mayThin C hT hS (kX7_mayThin hc) rfl rfl ⟨Nat.le_of_ble_eq_true rfl, Nat.le_of_ble_eq_true rfl⟩ ⟨Nat.le_refl 0, Nat.le_refl 0⟩ dX7_mayBe_20 hl.1 (Nat.le_of_ble_eq_true rfl) (fun H locs hT hS => ?_)
      refine lv_goto (tgt := 32) hx hb dX7_mayBe_23 (by decide) ?_
      exact w_32 _ _ _ _ _ hE hT hS (lv_sub hl [] rfl)
  · have hE := z_t c1 hE
    refine lv_aload_n hx hb dX7_mayBe_4 rfl (lv_at hl 0 rfl) ?_
    refine lv_iload_n hx hb dX7_mayBe_5 rfl (lv_at hl 1 rfl) ?_
    obtain ⟨r8, u7, hc, hE⟩ := o_bd2_some hE
    refine tc_X7_mayCut C hT hS (kX7_mayCut hc) rfl rfl ⟨Nat.le_of_ble_eq_true rfl, Nat.le_of_ble_eq_true rfl⟩ ⟨Nat.le_refl 0, Nat.le_refl 0⟩ dX7_mayBe_6 hl.1 (Nat.le_of_ble_eq_true rfl) (fun H locs hT hS => ?_)
    refine lv_goto (tgt := 32) hx hb dX7_mayBe_9 (by decide) ?_
    exact w_32 _ _ _ _ _ hE hT hS (lv_sub hl [] rfl)
set_option maxHeartbeats 4000000 in
set_option maxRecDepth 100000 in
theorem kX7_may {l : Launch} {D : va_G} {dA : Nat → ClassId} {h N : Nat} {u u1 : TS} {a1 : Int32} {a2 : Int32} {a3 : Int32} {r : Int32} (hE : fX7_may N u a1 a2 a3 = some (r, u1)) : Met l yX7_may (ws_ yX7_may cX7_may 5 (some .int)) ({ frames := 73, cells := 0, slots := 0, locals := 2254 }) (va_Pc [.ref h, .int a1, .int a2, .int a3] (mt_B D dA h u)) (mt_Q D dA h (some (.int r)) u1) 0 0 (TA h) := by
  refine mt_met (by decide) rfl rfl rfl ?_
  intro p e s m args below meth c ls C hr hlocks hT hS hl
  have hx := C.1.1
  have hb := C.1.2.1
  have w_30 : ∀ (u : TS) (y0 : Int32) (H : Heap) (locs : List Loc) (ls : Array Slot), fX7_may_30 N u y0 = some (r, u1) → TW D dA h u H → va_S (TA h) s.heap H locs → lv_has ls 5 [] → W p l e { frames := 73, cells := 0, slots := 0, locals := 2254 } s m args below meth c H locs 0 0 (MQ below (mt_Q D dA h (some (.int r)) u1) args s 0 0 (TA h)) (F0 m 30 ls [.int y0]) := by
    intro u y0 H locs ls hE hT hS hl
    unfold fX7_may_30 at hE
    exact mt_iret C hr hlocks hT hS hE dX7_may_30
  unfold fX7_may at hE
  refine lv_aload_n hx hb dX7_may_0 rfl (lv_at hl 0 rfl) ?_
  refine lv_iload_n hx hb dX7_may_1 rfl (lv_at hl 1 rfl) ?_
  refine lv_iload_n hx hb dX7_may_2 rfl (lv_at hl 2 rfl) ?_
  refine lv_iload_n hx hb dX7_may_3 rfl (lv_at hl 3 rfl) ?_
  obtain ⟨r2, u1, hc, hE⟩ := o_bd2_some hE
  refine tc_X7_noOrder C hT hS (kX7_noOrder hc) rfl rfl ⟨Nat.le_of_ble_eq_true rfl, Nat.le_of_ble_eq_true rfl⟩ ⟨Nat.le_refl 0, Nat.le_refl 0⟩ dX7_may_4 hl.1 (Nat.le_of_ble_eq_true rfl) (fun H locs hT hS => ?_)
  refine lv_istore (lv' := [(4, .int r2), (0, .ref h), (1, .int a1), (2, .int a2), (3, .int a3)]) hx hb dX7_may_7 hl (by decide) rfl (fun ls hl => ?_)
  refine lv_iload hx hb dX7_may_9 (lv_at hl 0 rfl) ?_
  refine lv_if_ge (tgt := 23) hx hb dX7_may_11 (by decide) (fun c3 => ?_) (fun c3 => ?_)
  · have hE := z_t c3 hE
    refine lv_aload_n hx hb dX7_may_23 rfl (lv_at hl 1 rfl) ?_
    refine lv_iload_n hx hb dX7_may_24 rfl (lv_at hl 2 rfl) ?_
    refine lv_iload_n hx hb dX7_may_25 rfl (lv_at hl 3 rfl) ?_
    refine lv_iload_n hx hb dX7_may_26 rfl (lv_at hl 4 rfl) ?_
    obtain ⟨r5, u4, hc, hE⟩ := o_bd2_some hE
    refine tc_X7_mayBe C hT hS (kX7_mayBe hc) rfl rfl ⟨Nat.le_of_ble_eq_true rfl, Nat.le_of_ble_eq_true rfl⟩ ⟨Nat.le_refl 0, Nat.le_refl 0⟩ dX7_may_27 hl.1 (Nat.le_of_ble_eq_true rfl) (fun H locs hT hS => ?_)
    exact w_30 _ _ _ _ _ hE hT hS (lv_sub hl [] rfl)
  · have hE := z_f c3 hE
    refine lv_aload_n hx hb dX7_may_14 rfl (lv_at hl 1 rfl) ?_
    refine lv_iload hx hb dX7_may_15 (lv_at hl 0 rfl) ?_
    obtain ⟨r7, u6, hc, hE⟩ := o_bd2_some hE
    refine tc_X7_refuse C hT hS (kX7_refuse hc) rfl rfl ⟨Nat.le_of_ble_eq_true rfl, Nat.le_of_ble_eq_true rfl⟩ ⟨Nat.le_refl 0, Nat.le_refl 0⟩ dX7_may_17 hl.1 (Nat.le_of_ble_eq_true rfl) (fun H locs hT hS => ?_)
    refine lv_goto (tgt := 30) hx hb dX7_may_20 (by decide) ?_
    exact w_30 _ _ _ _ _ hE hT hS (lv_sub hl [] rfl)
set_option maxHeartbeats 4000000 in
set_option maxRecDepth 100000 in
theorem kX7_order {l : Launch} {D : va_G} {dA : Nat → ClassId} {h N : Nat} {u u1 : TS} {a1 : Int32} {a2 : Int32} {a3 : Int32} {r : Int32} (hE : fX7_order N u a1 a2 a3 = some (r, u1)) : Met l yX7_order (ws_ yX7_order cX7_order 6 (some .int)) ({ frames := 73, cells := 0, slots := 0, locals := 2254 }) (va_Pc [.ref h, .int a1, .int a2, .int a3] (mt_B D dA h u)) (mt_Q D dA h (some (.int r)) u1) 0 0 (TA h) := by
  refine mt_met (by decide) rfl rfl rfl ?_
  intro p e s m args below meth c ls C hr hlocks hT hS hl
  have hx := C.1.1
  have hb := C.1.2.1
  have w_40 : ∀ (u : TS) (H : Heap) (locs : List Loc) (ls : Array Slot), fX7_order_40 N u = some (r, u1) → TW D dA h u H → va_S (TA h) s.heap H locs → lv_has ls 6 [(0, .ref h)] → W p l e { frames := 73, cells := 0, slots := 0, locals := 2254 } s m args below meth c H locs 0 0 (MQ below (mt_Q D dA h (some (.int r)) u1) args s 0 0 (TA h)) (F0 m 40 ls []) := by
    intro u H locs ls hE hT hS hl
    unfold fX7_order_40 at hE
    refine lv_aload_n hx hb dX7_order_40 rfl (lv_at hl 0 rfl) ?_
    refine lv_bipush (v := (-7 : Int32)) hx hb dX7_order_41 rfl ?_
    obtain ⟨r2, u1, hc, hE⟩ := o_bd2_some hE
    refine tc_X7_refuse C hT hS (kX7_refuse hc) rfl rfl ⟨Nat.le_of_ble_eq_true rfl, Nat.le_of_ble_eq_true rfl⟩ ⟨Nat.le_refl 0, Nat.le_refl 0⟩ dX7_order_43 hl.1 (Nat.le_of_ble_eq_true rfl) (fun H locs hT hS => ?_)
    exact mt_iret C hr hlocks hT hS hE dX7_order_46
  unfold fX7_order at hE
  refine lv_aload_n hx hb dX7_order_0 rfl (lv_at hl 0 rfl) ?_
  refine lv_iload_n hx hb dX7_order_1 rfl (lv_at hl 1 rfl) ?_
  refine lv_iload_n hx hb dX7_order_2 rfl (lv_at hl 2 rfl) ?_
  refine lv_iload_n hx hb dX7_order_3 rfl (lv_at hl 3 rfl) ?_
  obtain ⟨r4, u3, hc, hE⟩ := o_bd2_some hE
  refine tc_X7_noOrder C hT hS (kX7_noOrder hc) rfl rfl ⟨Nat.le_of_ble_eq_true rfl, Nat.le_of_ble_eq_true rfl⟩ ⟨Nat.le_refl 0, Nat.le_refl 0⟩ dX7_order_4 hl.1 (Nat.le_of_ble_eq_true rfl) (fun H locs hT hS => ?_)
  refine lv_istore (lv' := [(4, .int r4), (0, .ref h), (1, .int a1), (2, .int a2), (3, .int a3)]) hx hb dX7_order_7 hl (by decide) rfl (fun ls hl => ?_)
  refine lv_iload hx hb dX7_order_9 (lv_at hl 0 rfl) ?_
  refine lv_if_ge (tgt := 21) hx hb dX7_order_11 (by decide) (fun c5 => ?_) (fun c5 => ?_)
  · have hE := z_t c5 hE
    refine lv_aload_n hx hb dX7_order_21 rfl (lv_at hl 1 rfl) ?_
    refine lv_iload_n hx hb dX7_order_22 rfl (lv_at hl 2 rfl) ?_
    refine lv_iload_n hx hb dX7_order_23 rfl (lv_at hl 3 rfl) ?_
    refine lv_iload_n hx hb dX7_order_24 rfl (lv_at hl 4 rfl) ?_
    obtain ⟨r7, u6, hc, hE⟩ := o_bd2_some hE
    refine tc_X7_mayBe C hT hS (kX7_mayBe hc) rfl rfl ⟨Nat.le_of_ble_eq_true rfl, Nat.le_of_ble_eq_true rfl⟩ ⟨Nat.le_refl 0, Nat.le_refl 0⟩ dX7_order_25 hl.1 (Nat.le_of_ble_eq_true rfl) (fun H locs hT hS => ?_)
    refine lv_if_ne (tgt := 40) hx hb dX7_order_28 (by decide) (fun c8 => ?_) (fun c8 => ?_)
    · have hE := z_f c8 hE
      exact w_40 _ _ _ _ hE hT hS (lv_sub hl [1] rfl)
    · have hE := z_t c8 hE
      refine lv_aload_n hx hb dX7_order_31 rfl (lv_at hl 1 rfl) ?_
      refine lv_iload_n hx hb dX7_order_32 rfl (lv_at hl 2 rfl) ?_
      refine lv_iload_n hx hb dX7_order_33 rfl (lv_at hl 3 rfl) ?_
      obtain ⟨r10, u9, hc, hE⟩ := o_bd2_some hE
      refine tc_X7_isOrdered C hT hS (kX7_isOrdered hc) rfl rfl ⟨Nat.le_of_ble_eq_true rfl, Nat.le_of_ble_eq_true rfl⟩ ⟨Nat.le_refl 0, Nat.le_refl 0⟩ dX7_order_34 hl.1 (Nat.le_of_ble_eq_true rfl) (fun H locs hT hS => ?_)
      refine lv_if_eq (tgt := 47) hx hb dX7_order_37 (by decide) (fun c11 => ?_) (fun c11 => ?_)
      · have hE := z_t c11 hE
        refine lv_aload_n hx hb dX7_order_47 rfl (lv_at hl 1 rfl) ?_
        refine tg_s C hT dX7_order_48 ?_
        refine lv_iconst (v := (5 : Int32)) hx hb dX7_order_51 rfl ?_
        refine tl_s C hT hE dX7_order_52 (fun hE => ?_)
        refine z_nmi hE (fun v12 hE => ?_)
        refine lv_bipush (v := (30 : Int32)) hx hb dX7_order_53 rfl ?_
        refine lv_icmp_ne (tgt := 65) hx hb dX7_order_55 (by decide) (fun c13 => ?_) (fun c13 => ?_)
        · have hE := z_f c13 hE
          refine lv_sipush (v := (3320 : Int32)) hx hb dX7_order_65 rfl ?_
          refine lv_iconst (v := (3 : Int32)) hx hb dX7_order_68 rfl ?_
          refine lv_aload_n hx hb dX7_order_69 rfl (lv_at hl 1 rfl) ?_
          refine tg_s C hT dX7_order_70 ?_
          refine lv_iconst (v := (5 : Int32)) hx hb dX7_order_73 rfl ?_
          refine tl_s C hT hE dX7_order_74 (fun hE => ?_)
          refine z_nmi hE (fun v14 hE => ?_)
          refine lv_imul hx hb dX7_order_75 ?_
          refine lv_iadd hx hb dX7_order_76 ?_
          refine z_nmi hE (fun z15 hE => ?_)
          refine lv_istore (lv' := [(5, .int z15), (4, .int r4), (0, .ref h), (1, .int a1), (2, .int a2), (3, .int a3)]) hx hb dX7_order_77 hl (by decide) rfl (fun ls hl => ?_)
          refine lv_aload_n hx hb dX7_order_79 rfl (lv_at hl 2 rfl) ?_
          refine tg_s C hT dX7_order_80 ?_
          refine lv_iload hx hb dX7_order_83 (lv_at hl 0 rfl) ?_
          refine lv_iload_n hx hb dX7_order_85 rfl (lv_at hl 3 rfl) ?_
          refine ts_s C hT hS hE dX7_order_86 (fun u16 H locs hE hT hS => ?_)
          refine lv_aload_n hx hb dX7_order_87 rfl (lv_at hl 2 rfl) ?_
          refine tg_s C hT dX7_order_88 ?_
          refine lv_iload hx hb dX7_order_91 (lv_at hl 0 rfl) ?_
          refine lv_iconst (v := (1 : Int32)) hx hb dX7_order_93 rfl ?_
          refine lv_iadd hx hb dX7_order_94 ?_
          refine lv_iload_n hx hb dX7_order_95 rfl (lv_at hl 4 rfl) ?_
          refine ts_s C hT hS hE dX7_order_96 (fun u17 H locs hE hT hS => ?_)
          refine lv_aload_n hx hb dX7_order_97 rfl (lv_at hl 2 rfl) ?_
          refine tg_s C hT dX7_order_98 ?_
          refine lv_iload hx hb dX7_order_101 (lv_at hl 0 rfl) ?_
          refine lv_iconst (v := (2 : Int32)) hx hb dX7_order_103 rfl ?_
          refine lv_iadd hx hb dX7_order_104 ?_
          refine lv_iload_n hx hb dX7_order_105 rfl (lv_at hl 5 rfl) ?_
          refine ts_s C hT hS hE dX7_order_106 (fun u18 H locs hE hT hS => ?_)
          refine lv_aload_n hx hb dX7_order_107 rfl (lv_at hl 2 rfl) ?_
          refine tg_s C hT dX7_order_108 ?_
          refine lv_iconst (v := (5 : Int32)) hx hb dX7_order_111 rfl ?_
          refine lv_dup2_11 hx hb dX7_order_112 rfl rfl ?_
          refine tl_s C hT hE dX7_order_113 (fun hE => ?_)
          refine z_nmi hE (fun v19 hE => ?_)
          refine lv_iconst (v := (1 : Int32)) hx hb dX7_order_114 rfl ?_
          refine lv_iadd hx hb dX7_order_115 ?_
          refine ts_s C hT hS hE dX7_order_116 (fun u20 H locs hE hT hS => ?_)
          refine lv_aload_n hx hb dX7_order_117 rfl (lv_at hl 2 rfl) ?_
          refine tg_s C hT dX7_order_118 ?_
          refine lv_iconst (v := (5 : Int32)) hx hb dX7_order_121 rfl ?_
          refine tl_s C hT hE dX7_order_122 (fun hE => ?_)
          refine z_nmi hE (fun v21 hE => ?_)
          exact mt_iret C hr hlocks hT hS hE dX7_order_123
        · have hE := z_t c13 hE
          refine lv_aload_n hx hb dX7_order_58 rfl (lv_at hl 1 rfl) ?_
          refine lv_bipush (v := (-8 : Int32)) hx hb dX7_order_59 rfl ?_
          obtain ⟨r23, u22, hc, hE⟩ := o_bd2_some hE
          refine tc_X7_refuse C hT hS (kX7_refuse hc) rfl rfl ⟨Nat.le_of_ble_eq_true rfl, Nat.le_of_ble_eq_true rfl⟩ ⟨Nat.le_refl 0, Nat.le_refl 0⟩ dX7_order_61 hl.1 (Nat.le_of_ble_eq_true rfl) (fun H locs hT hS => ?_)
          exact mt_iret C hr hlocks hT hS hE dX7_order_64
      · have hE := z_f c11 hE
        exact w_40 _ _ _ _ hE hT hS (lv_sub hl [1] rfl)
  · have hE := z_f c5 hE
    refine lv_aload_n hx hb dX7_order_14 rfl (lv_at hl 1 rfl) ?_
    refine lv_iload hx hb dX7_order_15 (lv_at hl 0 rfl) ?_
    obtain ⟨r25, u24, hc, hE⟩ := o_bd2_some hE
    refine tc_X7_refuse C hT hS (kX7_refuse hc) rfl rfl ⟨Nat.le_of_ble_eq_true rfl, Nat.le_of_ble_eq_true rfl⟩ ⟨Nat.le_refl 0, Nat.le_refl 0⟩ dX7_order_17 hl.1 (Nat.le_of_ble_eq_true rfl) (fun H locs hT hS => ?_)
    exact mt_iret C hr hlocks hT hS hE dX7_order_20
set_option maxHeartbeats 4000000 in
set_option maxRecDepth 100000 in
theorem kX7_cancel {l : Launch} {D : va_G} {dA : Nat → ClassId} {h N : Nat} {u u1 : TS} {a1 : Int32} {r : Int32} (hE : fX7_cancel N u a1 = some (r, u1)) : Met l yX7_cancel (ws_ yX7_cancel cX7_cancel 3 (some .int)) ({ frames := 1, cells := 0, slots := 0, locals := 22 }) (va_Pc [.ref h, .int a1] (mt_B D dA h u)) (mt_Q D dA h (some (.int r)) u1) 0 0 (TA h) := by
  refine mt_met (by decide) rfl rfl rfl ?_
  intro p e s m args below meth c ls C hr hlocks hT hS hl
  have hx := C.1.1
  have hb := C.1.2.1
  have w_41 : ∀ (n : Nat) (u : TS) (x2 : Int32) (H : Heap) (locs : List Loc) (ls : Array Slot), fX7_cancel_41 N n u x2 = some (r, u1) → TW D dA h u H → va_S (TA h) s.heap H locs → lv_has ls 3 [(0, .ref h), (2, .int x2)] → W p l e { frames := 1, cells := 0, slots := 0, locals := 22 } s m args below meth c H locs 0 0 (MQ below (mt_Q D dA h (some (.int r)) u1) args s 0 0 (TA h)) (F0 m 41 ls []) := by
    intro n
    induction n with
    | zero =>
      intro u x2 H locs ls hE hT hS hl
      cases (show (none : Option (Int32 × TS)) = some (r, u1) from hE)
    | succ n ih =>
      intro u x2 H locs ls hE hT hS hl
      rw [fX7_cancel_41] at hE
      refine lv_iload_n hx hb dX7_cancel_41 rfl (lv_at hl 1 rfl) ?_
      refine lv_sipush (v := (3320 : Int32)) hx hb dX7_cancel_42 rfl ?_
      refine lv_iconst (v := (3 : Int32)) hx hb dX7_cancel_45 rfl ?_
      refine lv_aload_n hx hb dX7_cancel_46 rfl (lv_at hl 0 rfl) ?_
      refine tg_s C hT dX7_cancel_47 ?_
      refine lv_iconst (v := (5 : Int32)) hx hb dX7_cancel_50 rfl ?_
      refine tl_s C hT hE dX7_cancel_51 (fun hE => ?_)
      refine z_nmi hE (fun v1 hE => ?_)
      refine lv_imul hx hb dX7_cancel_52 ?_
      refine lv_iadd hx hb dX7_cancel_53 ?_
      refine lv_icmp_ge (tgt := 77) hx hb dX7_cancel_54 (by decide) (fun c2 => ?_) (fun c2 => ?_)
      · have hE := z_t c2 hE
        refine lv_aload_n hx hb dX7_cancel_77 rfl (lv_at hl 0 rfl) ?_
        refine tg_s C hT dX7_cancel_78 ?_
        refine lv_iconst (v := (5 : Int32)) hx hb dX7_cancel_81 rfl ?_
        refine tl_s C hT hE dX7_cancel_82 (fun hE => ?_)
        refine z_nmi hE (fun v3 hE => ?_)
        exact mt_iret C hr hlocks hT hS hE dX7_cancel_83
      · have hE := z_f c2 hE
        refine lv_aload_n hx hb dX7_cancel_57 rfl (lv_at hl 0 rfl) ?_
        refine tg_s C hT dX7_cancel_58 ?_
        refine lv_iload_n hx hb dX7_cancel_61 rfl (lv_at hl 1 rfl) ?_
        refine lv_aload_n hx hb dX7_cancel_62 rfl (lv_at hl 0 rfl) ?_
        refine tg_s C hT dX7_cancel_63 ?_
        refine lv_iload_n hx hb dX7_cancel_66 rfl (lv_at hl 1 rfl) ?_
        refine lv_iconst (v := (3 : Int32)) hx hb dX7_cancel_67 rfl ?_
        refine lv_iadd hx hb dX7_cancel_68 ?_
        refine tl_s C hT hE dX7_cancel_69 (fun hE => ?_)
        refine z_nmi hE (fun v4 hE => ?_)
        refine ts_s C hT hS hE dX7_cancel_70 (fun u5 H locs hE hT hS => ?_)
        refine z_iinc (v := (x2 + (1 : Int32))) (lw := (fun y_ => [(2, .int y_), (0, .ref h)])) hx hb dX7_cancel_71 hl hE (k := 1) rfl rfl (by decide) (fun _ => rfl) (fun z6 ls hE hl => ?_)
        refine lv_goto (tgt := 41) hx hb dX7_cancel_74 (by decide) ?_
        exact ih _ _ _ _ _ hE hT hS (lv_sub hl [1, 0] rfl)
  unfold fX7_cancel at hE
  refine lv_iload_n hx hb dX7_cancel_0 rfl (lv_at hl 1 rfl) ?_
  refine lv_iconst (v := (0 : Int32)) hx hb dX7_cancel_1 rfl ?_
  refine lv_aload_n hx hb dX7_cancel_2 rfl (lv_at hl 0 rfl) ?_
  refine tg_s C hT dX7_cancel_3 ?_
  refine lv_iconst (v := (5 : Int32)) hx hb dX7_cancel_6 rfl ?_
  refine tl_s C hT hE dX7_cancel_7 (fun hE => ?_)
  refine z_nmi hE (fun v7 hE => ?_)
  refine lv_iconst (v := (1 : Int32)) hx hb dX7_cancel_8 rfl ?_
  refine lv_isub hx hb dX7_cancel_9 ?_
  obtain ⟨r8, hc, hE⟩ := o_bd_some hE
  refine sc_X7_in C.1 (kX7_in hc) rfl rfl ⟨Nat.le_of_ble_eq_true rfl, Nat.le_of_ble_eq_true rfl⟩ ⟨Nat.le_refl 0, Nat.le_refl 0⟩ dX7_cancel_10 hl.1 (Nat.le_of_ble_eq_true rfl) ?_
  refine lv_if_ne (tgt := 23) hx hb dX7_cancel_13 (by decide) (fun c9 => ?_) (fun c9 => ?_)
  · have hE := z_f c9 hE
    refine lv_aload_n hx hb dX7_cancel_23 rfl (lv_at hl 0 rfl) ?_
    refine tg_s C hT dX7_cancel_24 ?_
    refine lv_iconst (v := (5 : Int32)) hx hb dX7_cancel_27 rfl ?_
    refine lv_dup2_11 hx hb dX7_cancel_28 rfl rfl ?_
    refine tl_s C hT hE dX7_cancel_29 (fun hE => ?_)
    refine z_nmi hE (fun v10 hE => ?_)
    refine lv_iconst (v := (1 : Int32)) hx hb dX7_cancel_30 rfl ?_
    refine lv_isub hx hb dX7_cancel_31 ?_
    refine ts_s C hT hS hE dX7_cancel_32 (fun u11 H locs hE hT hS => ?_)
    refine lv_sipush (v := (3320 : Int32)) hx hb dX7_cancel_33 rfl ?_
    refine lv_iconst (v := (3 : Int32)) hx hb dX7_cancel_36 rfl ?_
    refine lv_iload_n hx hb dX7_cancel_37 rfl (lv_at hl 1 rfl) ?_
    refine lv_imul hx hb dX7_cancel_38 ?_
    refine lv_iadd hx hb dX7_cancel_39 ?_
    refine z_nmi hE (fun z12 hE => ?_)
    refine lv_istore_n (lv' := [(2, .int z12), (0, .ref h), (1, .int a1)]) hx hb dX7_cancel_40 rfl hl (by decide) rfl (fun ls hl => ?_)
    exact w_41 N _ _ _ _ _ hE hT hS (lv_sub hl [1, 0] rfl)
  · have hE := z_t c9 hE
    refine lv_aload_n hx hb dX7_cancel_16 rfl (lv_at hl 0 rfl) ?_
    refine lv_bipush (v := (-3 : Int32)) hx hb dX7_cancel_17 rfl ?_
    obtain ⟨r14, u13, hc, hE⟩ := o_bd2_some hE
    refine tc_X7_refuse C hT hS (kX7_refuse hc) rfl rfl ⟨Nat.le_of_ble_eq_true rfl, Nat.le_of_ble_eq_true rfl⟩ ⟨Nat.le_refl 0, Nat.le_refl 0⟩ dX7_cancel_19 hl.1 (Nat.le_of_ble_eq_true rfl) (fun H locs hT hS => ?_)
    exact mt_iret C hr hlocks hT hS hE dX7_cancel_22
set_option maxHeartbeats 4000000 in
set_option maxRecDepth 100000 in
theorem kX7_ordered {l : Launch} {D : va_G} {dA : Nat → ClassId} {h N : Nat} {u u1 : TS} {a1 : Int32} {a2 : Int32} {r : Int32} (hE : fX7_ordered N u a1 a2 = some (r, u1)) : Met l yX7_ordered (ws_ yX7_ordered cX7_ordered 3 (some .int)) ({ frames := 1, cells := 0, slots := 0, locals := 22 }) (va_Pc [.ref h, .int a1, .int a2] (mt_B D dA h u)) (mt_Q D dA h (some (.int r)) u1) 0 0 (TA h) := by
  refine mt_met (by decide) rfl rfl rfl ?_
  intro p e s m args below meth c ls C hr hlocks hT hS hl
  have hx := C.1.1
  have hb := C.1.2.1
  have w_47 : ∀ (u : TS) (y0 : Int32) (H : Heap) (locs : List Loc) (ls : Array Slot), fX7_ordered_47 N u y0 = some (r, u1) → TW D dA h u H → va_S (TA h) s.heap H locs → lv_has ls 3 [] → W p l e { frames := 1, cells := 0, slots := 0, locals := 22 } s m args below meth c H locs 0 0 (MQ below (mt_Q D dA h (some (.int r)) u1) args s 0 0 (TA h)) (F0 m 47 ls [.int y0]) := by
    intro u y0 H locs ls hE hT hS hl
    unfold fX7_ordered_47 at hE
    exact mt_iret C hr hlocks hT hS hE dX7_ordered_47
  unfold fX7_ordered at hE
  refine lv_iload_n hx hb dX7_ordered_0 rfl (lv_at hl 1 rfl) ?_
  refine lv_iconst (v := (0 : Int32)) hx hb dX7_ordered_1 rfl ?_
  refine lv_aload_n hx hb dX7_ordered_2 rfl (lv_at hl 0 rfl) ?_
  refine tg_s C hT dX7_ordered_3 ?_
  refine lv_iconst (v := (5 : Int32)) hx hb dX7_ordered_6 rfl ?_
  refine tl_s C hT hE dX7_ordered_7 (fun hE => ?_)
  refine z_nmi hE (fun v1 hE => ?_)
  refine lv_iconst (v := (1 : Int32)) hx hb dX7_ordered_8 rfl ?_
  refine lv_isub hx hb dX7_ordered_9 ?_
  obtain ⟨r2, hc, hE⟩ := o_bd_some hE
  refine sc_X7_in C.1 (kX7_in hc) rfl rfl ⟨Nat.le_of_ble_eq_true rfl, Nat.le_of_ble_eq_true rfl⟩ ⟨Nat.le_refl 0, Nat.le_refl 0⟩ dX7_ordered_10 hl.1 (Nat.le_of_ble_eq_true rfl) ?_
  refine lv_if_ne (tgt := 23) hx hb dX7_ordered_13 (by decide) (fun c3 => ?_) (fun c3 => ?_)
  · have hE := z_f c3 hE
    refine lv_iload_n hx hb dX7_ordered_23 rfl (lv_at hl 2 rfl) ?_
    refine lv_iconst (v := (0 : Int32)) hx hb dX7_ordered_24 rfl ?_
    refine lv_iconst (v := (2 : Int32)) hx hb dX7_ordered_25 rfl ?_
    obtain ⟨r4, hc, hE⟩ := o_bd_some hE
    refine sc_X7_in C.1 (kX7_in hc) rfl rfl ⟨Nat.le_of_ble_eq_true rfl, Nat.le_of_ble_eq_true rfl⟩ ⟨Nat.le_refl 0, Nat.le_refl 0⟩ dX7_ordered_26 hl.1 (Nat.le_of_ble_eq_true rfl) ?_
    refine lv_if_eq (tgt := 41) hx hb dX7_ordered_29 (by decide) (fun c5 => ?_) (fun c5 => ?_)
    · have hE := z_t c5 hE
      refine lv_aload_n hx hb dX7_ordered_41 rfl (lv_at hl 0 rfl) ?_
      refine lv_bipush (v := (-7 : Int32)) hx hb dX7_ordered_42 rfl ?_
      obtain ⟨r7, u6, hc, hE⟩ := o_bd2_some hE
      refine tc_X7_refuse C hT hS (kX7_refuse hc) rfl rfl ⟨Nat.le_of_ble_eq_true rfl, Nat.le_of_ble_eq_true rfl⟩ ⟨Nat.le_refl 0, Nat.le_refl 0⟩ dX7_ordered_44 hl.1 (Nat.le_of_ble_eq_true rfl) (fun H locs hT hS => ?_)
      exact w_47 _ _ _ _ _ hE hT hS (lv_sub hl [] rfl)
    · have hE := z_f c5 hE
      refine lv_aload_n hx hb dX7_ordered_32 rfl (lv_at hl 0 rfl) ?_
      refine lv_iload_n hx hb dX7_ordered_33 rfl (lv_at hl 1 rfl) ?_
      refine lv_iload_n hx hb dX7_ordered_34 rfl (lv_at hl 2 rfl) ?_
      obtain ⟨r9, u8, hc, hE⟩ := o_bd2_some hE
      refine tc_X7_od C hT hS (kX7_od hc) rfl rfl ⟨Nat.le_of_ble_eq_true rfl, Nat.le_of_ble_eq_true rfl⟩ ⟨Nat.le_refl 0, Nat.le_refl 0⟩ dX7_ordered_35 hl.1 (Nat.le_of_ble_eq_true rfl) (fun H locs hT hS => ?_)
      refine lv_goto (tgt := 47) hx hb dX7_ordered_38 (by decide) ?_
      exact w_47 _ _ _ _ _ hE hT hS (lv_sub hl [] rfl)
  · have hE := z_t c3 hE
    refine lv_aload_n hx hb dX7_ordered_16 rfl (lv_at hl 0 rfl) ?_
    refine lv_bipush (v := (-3 : Int32)) hx hb dX7_ordered_17 rfl ?_
    obtain ⟨r11, u10, hc, hE⟩ := o_bd2_some hE
    refine tc_X7_refuse C hT hS (kX7_refuse hc) rfl rfl ⟨Nat.le_of_ble_eq_true rfl, Nat.le_of_ble_eq_true rfl⟩ ⟨Nat.le_refl 0, Nat.le_refl 0⟩ dX7_ordered_19 hl.1 (Nat.le_of_ble_eq_true rfl) (fun H locs hT hS => ?_)
    exact mt_iret C hr hlocks hT hS hE dX7_ordered_22
set_option maxHeartbeats 4000000 in
set_option maxRecDepth 100000 in
theorem kX7_sow {l : Launch} {D : va_G} {dA : Nat → ClassId} {h N : Nat} {u u1 : TS} {a1 : Int32} {a2 : Int32} {r : Int32} (hE : fX7_sow N u a1 a2 = some (r, u1)) : Met l yX7_sow (ws_ yX7_sow cX7_sow 5 (some .int)) ({ frames := 1, cells := 0, slots := 0, locals := 22 }) (va_Pc [.ref h, .int a1, .int a2] (mt_B D dA h u)) (mt_Q D dA h (some (.int r)) u1) 0 0 (TA h) := by
  refine mt_met (by decide) rfl rfl rfl ?_
  intro p e s m args below meth c ls C hr hlocks hT hS hl
  have hx := C.1.1
  have hb := C.1.2.1
  unfold fX7_sow at hE
  refine lv_iload_n hx hb dX7_sow_0 rfl (lv_at hl 1 rfl) ?_
  refine lv_iconst (v := (0 : Int32)) hx hb dX7_sow_1 rfl ?_
  refine lv_iconst (v := (3 : Int32)) hx hb dX7_sow_2 rfl ?_
  obtain ⟨r1, hc, hE⟩ := o_bd_some hE
  refine sc_X7_in C.1 (kX7_in hc) rfl rfl ⟨Nat.le_of_ble_eq_true rfl, Nat.le_of_ble_eq_true rfl⟩ ⟨Nat.le_refl 0, Nat.le_refl 0⟩ dX7_sow_3 hl.1 (Nat.le_of_ble_eq_true rfl) ?_
  refine lv_if_ne (tgt := 16) hx hb dX7_sow_6 (by decide) (fun c2 => ?_) (fun c2 => ?_)
  · have hE := z_f c2 hE
    refine lv_iload_n hx hb dX7_sow_16 rfl (lv_at hl 2 rfl) ?_
    refine lv_iconst (v := (1 : Int32)) hx hb dX7_sow_17 rfl ?_
    refine lv_sipush (v := (999 : Int32)) hx hb dX7_sow_18 rfl ?_
    obtain ⟨r3, hc, hE⟩ := o_bd_some hE
    refine sc_X7_in C.1 (kX7_in hc) rfl rfl ⟨Nat.le_of_ble_eq_true rfl, Nat.le_of_ble_eq_true rfl⟩ ⟨Nat.le_refl 0, Nat.le_refl 0⟩ dX7_sow_21 hl.1 (Nat.le_of_ble_eq_true rfl) ?_
    refine lv_if_ne (tgt := 34) hx hb dX7_sow_24 (by decide) (fun c4 => ?_) (fun c4 => ?_)
    · have hE := z_f c4 hE
      refine lv_sipush (v := (3446 : Int32)) hx hb dX7_sow_34 rfl ?_
      refine lv_iconst (v := (3 : Int32)) hx hb dX7_sow_37 rfl ?_
      refine lv_iload_n hx hb dX7_sow_38 rfl (lv_at hl 1 rfl) ?_
      refine lv_imul hx hb dX7_sow_39 ?_
      refine lv_iadd hx hb dX7_sow_40 ?_
      refine z_nmi hE (fun z5 hE => ?_)
      refine lv_istore_n (lv' := [(3, .int z5), (0, .ref h), (1, .int a1), (2, .int a2)]) hx hb dX7_sow_41 rfl hl (by decide) rfl (fun ls hl => ?_)
      refine lv_aload_n hx hb dX7_sow_42 rfl (lv_at hl 1 rfl) ?_
      refine tg_s C hT dX7_sow_43 ?_
      refine lv_iload_n hx hb dX7_sow_46 rfl (lv_at hl 0 rfl) ?_
      refine tl_s C hT hE dX7_sow_47 (fun hE => ?_)
      refine z_nmi hE (fun v6 hE => ?_)
      refine lv_aload_n hx hb dX7_sow_48 rfl (lv_at hl 1 rfl) ?_
      refine tg_s C hT dX7_sow_49 ?_
      refine lv_iload_n hx hb dX7_sow_52 rfl (lv_at hl 0 rfl) ?_
      refine lv_iconst (v := (1 : Int32)) hx hb dX7_sow_53 rfl ?_
      refine lv_iadd hx hb dX7_sow_54 ?_
      refine tl_s C hT hE dX7_sow_55 (fun hE => ?_)
      refine z_nmi hE (fun v7 hE => ?_)
      refine lv_iadd hx hb dX7_sow_56 ?_
      refine lv_aload_n hx hb dX7_sow_57 rfl (lv_at hl 1 rfl) ?_
      refine tg_s C hT dX7_sow_58 ?_
      refine lv_iload_n hx hb dX7_sow_61 rfl (lv_at hl 0 rfl) ?_
      refine lv_iconst (v := (2 : Int32)) hx hb dX7_sow_62 rfl ?_
      refine lv_iadd hx hb dX7_sow_63 ?_
      refine tl_s C hT hE dX7_sow_64 (fun hE => ?_)
      refine z_nmi hE (fun v8 hE => ?_)
      refine lv_iadd hx hb dX7_sow_65 ?_
      refine lv_iload_n hx hb dX7_sow_66 rfl (lv_at hl 3 rfl) ?_
      refine lv_iadd hx hb dX7_sow_67 ?_
      refine z_nmi hE (fun z9 hE => ?_)
      refine lv_istore (lv' := [(4, .int z9), (3, .int z5), (0, .ref h), (1, .int a1), (2, .int a2)]) hx hb dX7_sow_68 hl (by decide) rfl (fun ls hl => ?_)
      refine lv_iload hx hb dX7_sow_70 (lv_at hl 0 rfl) ?_
      refine lv_sipush (v := (9999 : Int32)) hx hb dX7_sow_72 rfl ?_
      refine lv_icmp_le (tgt := 85) hx hb dX7_sow_75 (by decide) (fun c10 => ?_) (fun c10 => ?_)
      · have hE := z_t c10 hE
        refine lv_aload_n hx hb dX7_sow_85 rfl (lv_at hl 2 rfl) ?_
        refine tg_s C hT dX7_sow_86 ?_
        refine lv_iload_n hx hb dX7_sow_89 rfl (lv_at hl 1 rfl) ?_
        refine lv_iconst (v := (2 : Int32)) hx hb dX7_sow_90 rfl ?_
        refine lv_iadd hx hb dX7_sow_91 ?_
        refine lv_dup2_11 hx hb dX7_sow_92 rfl rfl ?_
        refine tl_s C hT hE dX7_sow_93 (fun hE => ?_)
        refine z_nmi hE (fun v11 hE => ?_)
        refine lv_iload_n hx hb dX7_sow_94 rfl (lv_at hl 4 rfl) ?_
        refine lv_iadd hx hb dX7_sow_95 ?_
        refine ts_s C hT hS hE dX7_sow_96 (fun u12 H locs hE hT hS => ?_)
        refine lv_iload hx hb dX7_sow_97 (lv_at hl 0 rfl) ?_
        exact mt_iret C hr hlocks hT hS hE dX7_sow_99
      · have hE := z_f c10 hE
        refine lv_aload_n hx hb dX7_sow_78 rfl (lv_at hl 2 rfl) ?_
        refine lv_bipush (v := (-8 : Int32)) hx hb dX7_sow_79 rfl ?_
        obtain ⟨r14, u13, hc, hE⟩ := o_bd2_some hE
        refine tc_X7_refuse C hT hS (kX7_refuse hc) rfl rfl ⟨Nat.le_of_ble_eq_true rfl, Nat.le_of_ble_eq_true rfl⟩ ⟨Nat.le_refl 0, Nat.le_refl 0⟩ dX7_sow_81 hl.1 (Nat.le_of_ble_eq_true rfl) (fun H locs hT hS => ?_)
        exact mt_iret C hr hlocks hT hS hE dX7_sow_84
    · have hE := z_t c4 hE
      refine lv_aload_n hx hb dX7_sow_27 rfl (lv_at hl 0 rfl) ?_
      refine lv_bipush (v := (-7 : Int32)) hx hb dX7_sow_28 rfl ?_
      obtain ⟨r16, u15, hc, hE⟩ := o_bd2_some hE
      refine tc_X7_refuse C hT hS (kX7_refuse hc) rfl rfl ⟨Nat.le_of_ble_eq_true rfl, Nat.le_of_ble_eq_true rfl⟩ ⟨Nat.le_refl 0, Nat.le_refl 0⟩ dX7_sow_30 hl.1 (Nat.le_of_ble_eq_true rfl) (fun H locs hT hS => ?_)
      exact mt_iret C hr hlocks hT hS hE dX7_sow_33
  · have hE := z_t c2 hE
    refine lv_aload_n hx hb dX7_sow_9 rfl (lv_at hl 0 rfl) ?_
    refine lv_bipush (v := (-5 : Int32)) hx hb dX7_sow_10 rfl ?_
    obtain ⟨r18, u17, hc, hE⟩ := o_bd2_some hE
    refine tc_X7_refuse C hT hS (kX7_refuse hc) rfl rfl ⟨Nat.le_of_ble_eq_true rfl, Nat.le_of_ble_eq_true rfl⟩ ⟨Nat.le_refl 0, Nat.le_refl 0⟩ dX7_sow_12 hl.1 (Nat.le_of_ble_eq_true rfl) (fun H locs hT hS => ?_)
    exact mt_iret C hr hlocks hT hS hE dX7_sow_15
set_option maxHeartbeats 4000000 in
set_option maxRecDepth 100000 in
theorem kX7_nursery {l : Launch} {D : va_G} {dA : Nat → ClassId} {h N : Nat} {u u1 : TS} {a1 : Int32} {a2 : Int32} {r : Int32} (hE : fX7_nursery N u a1 a2 = some (r, u1)) : Met l yX7_nursery (ws_ yX7_nursery cX7_nursery 3 (some .int)) ({ frames := 1, cells := 0, slots := 0, locals := 22 }) (va_Pc [.ref h, .int a1, .int a2] (mt_B D dA h u)) (mt_Q D dA h (some (.int r)) u1) 0 0 (TA h) := by
  refine mt_met (by decide) rfl rfl rfl ?_
  intro p e s m args below meth c ls C hr hlocks hT hS hl
  have hx := C.1.1
  have hb := C.1.2.1
  have w_48 : ∀ (u : TS) (y0 : Int32) (H : Heap) (locs : List Loc) (ls : Array Slot), fX7_nursery_48 N u y0 = some (r, u1) → TW D dA h u H → va_S (TA h) s.heap H locs → lv_has ls 3 [] → W p l e { frames := 1, cells := 0, slots := 0, locals := 22 } s m args below meth c H locs 0 0 (MQ below (mt_Q D dA h (some (.int r)) u1) args s 0 0 (TA h)) (F0 m 48 ls [.int y0]) := by
    intro u y0 H locs ls hE hT hS hl
    unfold fX7_nursery_48 at hE
    exact mt_iret C hr hlocks hT hS hE dX7_nursery_48
  unfold fX7_nursery at hE
  refine lv_iload_n hx hb dX7_nursery_0 rfl (lv_at hl 1 rfl) ?_
  refine lv_iconst (v := (0 : Int32)) hx hb dX7_nursery_1 rfl ?_
  refine lv_iconst (v := (3 : Int32)) hx hb dX7_nursery_2 rfl ?_
  obtain ⟨r1, hc, hE⟩ := o_bd_some hE
  refine sc_X7_in C.1 (kX7_in hc) rfl rfl ⟨Nat.le_of_ble_eq_true rfl, Nat.le_of_ble_eq_true rfl⟩ ⟨Nat.le_refl 0, Nat.le_refl 0⟩ dX7_nursery_3 hl.1 (Nat.le_of_ble_eq_true rfl) ?_
  refine lv_if_ne (tgt := 16) hx hb dX7_nursery_6 (by decide) (fun c2 => ?_) (fun c2 => ?_)
  · have hE := z_f c2 hE
    refine lv_iload_n hx hb dX7_nursery_16 rfl (lv_at hl 2 rfl) ?_
    refine lv_iconst (v := (0 : Int32)) hx hb dX7_nursery_17 rfl ?_
    refine lv_iconst (v := (2 : Int32)) hx hb dX7_nursery_18 rfl ?_
    obtain ⟨r3, hc, hE⟩ := o_bd_some hE
    refine sc_X7_in C.1 (kX7_in hc) rfl rfl ⟨Nat.le_of_ble_eq_true rfl, Nat.le_of_ble_eq_true rfl⟩ ⟨Nat.le_refl 0, Nat.le_refl 0⟩ dX7_nursery_19 hl.1 (Nat.le_of_ble_eq_true rfl) ?_
    refine lv_if_eq (tgt := 42) hx hb dX7_nursery_22 (by decide) (fun c4 => ?_) (fun c4 => ?_)
    · have hE := z_t c4 hE
      refine lv_aload_n hx hb dX7_nursery_42 rfl (lv_at hl 0 rfl) ?_
      refine lv_bipush (v := (-7 : Int32)) hx hb dX7_nursery_43 rfl ?_
      obtain ⟨r6, u5, hc, hE⟩ := o_bd2_some hE
      refine tc_X7_refuse C hT hS (kX7_refuse hc) rfl rfl ⟨Nat.le_of_ble_eq_true rfl, Nat.le_of_ble_eq_true rfl⟩ ⟨Nat.le_refl 0, Nat.le_refl 0⟩ dX7_nursery_45 hl.1 (Nat.le_of_ble_eq_true rfl) (fun H locs hT hS => ?_)
      exact w_48 _ _ _ _ _ hE hT hS (lv_sub hl [] rfl)
    · have hE := z_f c4 hE
      refine lv_aload_n hx hb dX7_nursery_25 rfl (lv_at hl 0 rfl) ?_
      refine tg_s C hT dX7_nursery_26 ?_
      refine lv_sipush (v := (3446 : Int32)) hx hb dX7_nursery_29 rfl ?_
      refine lv_iconst (v := (3 : Int32)) hx hb dX7_nursery_32 rfl ?_
      refine lv_iload_n hx hb dX7_nursery_33 rfl (lv_at hl 1 rfl) ?_
      refine lv_imul hx hb dX7_nursery_34 ?_
      refine lv_iadd hx hb dX7_nursery_35 ?_
      refine lv_iload_n hx hb dX7_nursery_36 rfl (lv_at hl 2 rfl) ?_
      refine lv_iadd hx hb dX7_nursery_37 ?_
      refine tl_s C hT hE dX7_nursery_38 (fun hE => ?_)
      refine z_nmi hE (fun v7 hE => ?_)
      refine lv_goto (tgt := 48) hx hb dX7_nursery_39 (by decide) ?_
      exact w_48 _ _ _ _ _ hE hT hS (lv_sub hl [] rfl)
  · have hE := z_t c2 hE
    refine lv_aload_n hx hb dX7_nursery_9 rfl (lv_at hl 0 rfl) ?_
    refine lv_bipush (v := (-5 : Int32)) hx hb dX7_nursery_10 rfl ?_
    obtain ⟨r9, u8, hc, hE⟩ := o_bd2_some hE
    refine tc_X7_refuse C hT hS (kX7_refuse hc) rfl rfl ⟨Nat.le_of_ble_eq_true rfl, Nat.le_of_ble_eq_true rfl⟩ ⟨Nat.le_refl 0, Nat.le_refl 0⟩ dX7_nursery_12 hl.1 (Nat.le_of_ble_eq_true rfl) (fun H locs hT hS => ?_)
    exact mt_iret C hr hlocks hT hS hE dX7_nursery_15
set_option maxHeartbeats 4000000 in
set_option maxRecDepth 100000 in
theorem kX7_wind {l : Launch} {D : va_G} {dA : Nat → ClassId} {h N : Nat} {u u1 : TS} {a1 : Int32} {a2 : Int32} {r : Int32} (hE : fX7_wind N u a1 a2 = some (r, u1)) : Met l yX7_wind (ws_ yX7_wind cX7_wind 4 (some .int)) ({ frames := 1, cells := 0, slots := 0, locals := 22 }) (va_Pc [.ref h, .int a1, .int a2] (mt_B D dA h u)) (mt_Q D dA h (some (.int r)) u1) 0 0 (TA h) := by
  refine mt_met (by decide) rfl rfl rfl ?_
  intro p e s m args below meth c ls C hr hlocks hT hS hl
  have hx := C.1.1
  have hb := C.1.2.1
  unfold fX7_wind at hE
  refine lv_iload_n hx hb dX7_wind_0 rfl (lv_at hl 1 rfl) ?_
  refine lv_iconst (v := (0 : Int32)) hx hb dX7_wind_1 rfl ?_
  refine lv_bipush (v := (99 : Int32)) hx hb dX7_wind_2 rfl ?_
  obtain ⟨r1, hc, hE⟩ := o_bd_some hE
  refine sc_X7_in C.1 (kX7_in hc) rfl rfl ⟨Nat.le_of_ble_eq_true rfl, Nat.le_of_ble_eq_true rfl⟩ ⟨Nat.le_refl 0, Nat.le_refl 0⟩ dX7_wind_4 hl.1 (Nat.le_of_ble_eq_true rfl) ?_
  refine lv_if_ne (tgt := 17) hx hb dX7_wind_7 (by decide) (fun c2 => ?_) (fun c2 => ?_)
  · have hE := z_f c2 hE
    refine lv_iload_n hx hb dX7_wind_17 rfl (lv_at hl 2 rfl) ?_
    refine lv_iconst (v := (-1 : Int32)) hx hb dX7_wind_18 rfl ?_
    refine lv_bipush (v := (99 : Int32)) hx hb dX7_wind_19 rfl ?_
    obtain ⟨r3, hc, hE⟩ := o_bd_some hE
    refine sc_X7_in C.1 (kX7_in hc) rfl rfl ⟨Nat.le_of_ble_eq_true rfl, Nat.le_of_ble_eq_true rfl⟩ ⟨Nat.le_refl 0, Nat.le_refl 0⟩ dX7_wind_21 hl.1 (Nat.le_of_ble_eq_true rfl) ?_
    refine lv_if_ne (tgt := 34) hx hb dX7_wind_24 (by decide) (fun c4 => ?_) (fun c4 => ?_)
    · have hE := z_f c4 hE
      refine lv_aload_n hx hb dX7_wind_34 rfl (lv_at hl 0 rfl) ?_
      refine tg_s C hT dX7_wind_35 ?_
      refine lv_sipush (v := (3458 : Int32)) hx hb dX7_wind_38 rfl ?_
      refine lv_iload_n hx hb dX7_wind_41 rfl (lv_at hl 1 rfl) ?_
      refine lv_iadd hx hb dX7_wind_42 ?_
      refine tl_s C hT hE dX7_wind_43 (fun hE => ?_)
      refine z_nmi hE (fun v5 hE => ?_)
      refine lv_istore_n (lv' := [(3, .int v5), (0, .ref h), (1, .int a1), (2, .int a2)]) hx hb dX7_wind_44 rfl hl (by decide) rfl (fun ls hl => ?_)
      refine lv_aload_n hx hb dX7_wind_45 rfl (lv_at hl 1 rfl) ?_
      refine tg_s C hT dX7_wind_46 ?_
      refine lv_sipush (v := (3458 : Int32)) hx hb dX7_wind_49 rfl ?_
      refine lv_iload_n hx hb dX7_wind_52 rfl (lv_at hl 2 rfl) ?_
      refine lv_iadd hx hb dX7_wind_53 ?_
      refine lv_iload_n hx hb dX7_wind_54 rfl (lv_at hl 3 rfl) ?_
      refine ts_s C hT hS hE dX7_wind_55 (fun u6 H locs hE hT hS => ?_)
      refine lv_iload_n hx hb dX7_wind_56 rfl (lv_at hl 0 rfl) ?_
      exact mt_iret C hr hlocks hT hS hE dX7_wind_57
    · have hE := z_t c4 hE
      refine lv_aload_n hx hb dX7_wind_27 rfl (lv_at hl 0 rfl) ?_
      refine lv_bipush (v := (-7 : Int32)) hx hb dX7_wind_28 rfl ?_
      obtain ⟨r8, u7, hc, hE⟩ := o_bd2_some hE
      refine tc_X7_hush C hT hS (kX7_hush hc) rfl rfl ⟨Nat.le_of_ble_eq_true rfl, Nat.le_of_ble_eq_true rfl⟩ ⟨Nat.le_refl 0, Nat.le_refl 0⟩ dX7_wind_30 hl.1 (Nat.le_of_ble_eq_true rfl) (fun H locs hT hS => ?_)
      exact mt_iret C hr hlocks hT hS hE dX7_wind_33
  · have hE := z_t c2 hE
    refine lv_aload_n hx hb dX7_wind_10 rfl (lv_at hl 0 rfl) ?_
    refine lv_bipush (v := (-3 : Int32)) hx hb dX7_wind_11 rfl ?_
    obtain ⟨r10, u9, hc, hE⟩ := o_bd2_some hE
    refine tc_X7_hush C hT hS (kX7_hush hc) rfl rfl ⟨Nat.le_of_ble_eq_true rfl, Nat.le_of_ble_eq_true rfl⟩ ⟨Nat.le_refl 0, Nat.le_refl 0⟩ dX7_wind_13 hl.1 (Nat.le_of_ble_eq_true rfl) (fun H locs hT hS => ?_)
    exact mt_iret C hr hlocks hT hS hE dX7_wind_16
end TRG4
