section TRG8
variable {p : Program} {l : Launch} {e : Env} {R : Room} {s : State} {m : MethodId} {args : Array Value} {below : List Frame} {meth : Method} {c : Code} {H : Heap} {locs : List Loc} {cells slots : Nat} {Q : State → Prop} {cc : ByteArray} {nL pc : Nat} {ls : Array Slot} {rest : List Value} {D : va_G} {dA : Nat → ClassId} {h : Nat} {H0 : Heap}
set_option maxHeartbeats 4000000 in
set_option maxRecDepth 100000 in
theorem kX7_planned {l : Launch} {D : va_G} {dA : Nat → ClassId} {h N : Nat} {u u1 : TS} {a1 : Int32} {r : Int32} (hE : fX7_planned N u a1 = some (r, u1)) : Met l yX7_planned (ws_ yX7_planned cX7_planned 2 (some .int)) ({ frames := 2, cells := 0, slots := 0, locals := 43 }) (va_Pc [.ref h, .int a1] (mt_B D dA h u)) (mt_Q D dA h (some (.int r)) u1) 0 0 (TA h) := by
  refine mt_met (by decide) rfl rfl rfl ?_
  intro p e s m args below meth c ls C hr hlocks hT hS hl
  have hx := C.1.1
  have hb := C.1.2.1
  have w_55 : ∀ (u : TS) (y0 : Int32) (H : Heap) (locs : List Loc) (ls : Array Slot), fX7_planned_55 N u y0 = some (r, u1) → TW D dA h u H → va_S (TA h) s.heap H locs → lv_has ls 2 [] → W p l e { frames := 2, cells := 0, slots := 0, locals := 43 } s m args below meth c H locs 0 0 (MQ below (mt_Q D dA h (some (.int r)) u1) args s 0 0 (TA h)) (F0 m 55 ls [.int y0]) := by
    intro u y0 H locs ls hE hT hS hl
    unfold fX7_planned_55 at hE
    exact mt_iret C hr hlocks hT hS hE dX7_planned_55
  have w_39 : ∀ (u : TS) (H : Heap) (locs : List Loc) (ls : Array Slot), fX7_planned_39 N u = some (r, u1) → TW D dA h u H → va_S (TA h) s.heap H locs → lv_has ls 2 [(0, .ref h)] → W p l e { frames := 2, cells := 0, slots := 0, locals := 43 } s m args below meth c H locs 0 0 (MQ below (mt_Q D dA h (some (.int r)) u1) args s 0 0 (TA h)) (F0 m 39 ls []) := by
    intro u H locs ls hE hT hS hl
    unfold fX7_planned_39 at hE
    refine lv_aload_n hx hb dX7_planned_39 rfl (lv_at hl 0 rfl) ?_
    refine lv_bipush (v := (-3 : Int32)) hx hb dX7_planned_40 rfl ?_
    obtain ⟨r2, u1, hc, hE⟩ := o_bd2_some hE
    refine tc_X7_refuse C hT hS (kX7_refuse hc) rfl rfl ⟨Nat.le_of_ble_eq_true rfl, Nat.le_of_ble_eq_true rfl⟩ ⟨Nat.le_refl 0, Nat.le_refl 0⟩ dX7_planned_42 hl.1 (Nat.le_of_ble_eq_true rfl) (fun H locs hT hS => ?_)
    refine lv_goto (tgt := 55) hx hb dX7_planned_45 (by decide) ?_
    exact w_55 _ _ _ _ _ hE hT hS (lv_sub hl [] rfl)
  unfold fX7_planned at hE
  refine lv_aload_n hx hb dX7_planned_0 rfl (lv_at hl 0 rfl) ?_
  refine tg_s C hT dX7_planned_1 ?_
  refine lv_bipush (v := (8 : Int32)) hx hb dX7_planned_4 rfl ?_
  refine tl_s C hT hE dX7_planned_6 (fun hE => ?_)
  refine z_nmi hE (fun v3 hE => ?_)
  refine lv_if_ne (tgt := 17) hx hb dX7_planned_7 (by decide) (fun c4 => ?_) (fun c4 => ?_)
  · have hE := z_f c4 hE
    refine lv_aload_n hx hb dX7_planned_17 rfl (lv_at hl 0 rfl) ?_
    refine lv_iload_n hx hb dX7_planned_18 rfl (lv_at hl 1 rfl) ?_
    obtain ⟨r6, u5, hc, hE⟩ := o_bd2_some hE
    refine tc_X7_isStand C hT hS (kX7_isStand hc) rfl rfl ⟨Nat.le_of_ble_eq_true rfl, Nat.le_of_ble_eq_true rfl⟩ ⟨Nat.le_refl 0, Nat.le_refl 0⟩ dX7_planned_19 hl.1 (Nat.le_of_ble_eq_true rfl) (fun H locs hT hS => ?_)
    refine lv_if_eq (tgt := 39) hx hb dX7_planned_22 (by decide) (fun c7 => ?_) (fun c7 => ?_)
    · have hE := z_t c7 hE
      exact w_39 _ _ _ _ hE hT hS (lv_sub hl [0] rfl)
    · have hE := z_f c7 hE
      refine lv_aload_n hx hb dX7_planned_25 rfl (lv_at hl 0 rfl) ?_
      refine tg_s C hT dX7_planned_26 ?_
      refine lv_bipush (v := (9 : Int32)) hx hb dX7_planned_29 rfl ?_
      refine tl_s C hT hE dX7_planned_31 (fun hE => ?_)
      refine z_nmi hE (fun v8 hE => ?_)
      refine lv_iload_n hx hb dX7_planned_32 rfl (lv_at hl 1 rfl) ?_
      refine lv_ishr hx hb dX7_planned_33 ?_
      refine lv_iconst (v := (1 : Int32)) hx hb dX7_planned_34 rfl ?_
      refine lv_iand hx hb dX7_planned_35 ?_
      refine lv_if_ne (tgt := 48) hx hb dX7_planned_36 (by decide) (fun c9 => ?_) (fun c9 => ?_)
      · have hE := z_f c9 hE
        refine lv_aload_n hx hb dX7_planned_48 rfl (lv_at hl 0 rfl) ?_
        refine lv_iload_n hx hb dX7_planned_49 rfl (lv_at hl 1 rfl) ?_
        refine lv_bipush (v := (12 : Int32)) hx hb dX7_planned_50 rfl ?_
        obtain ⟨r11, u10, hc, hE⟩ := o_bd2_some hE
        refine tc_X7_st C hT hS (kX7_st hc) rfl rfl ⟨Nat.le_of_ble_eq_true rfl, Nat.le_of_ble_eq_true rfl⟩ ⟨Nat.le_refl 0, Nat.le_refl 0⟩ dX7_planned_52 hl.1 (Nat.le_of_ble_eq_true rfl) (fun H locs hT hS => ?_)
        exact w_55 _ _ _ _ _ hE hT hS (lv_sub hl [] rfl)
      · have hE := z_t c9 hE
        exact w_39 _ _ _ _ hE hT hS (lv_sub hl [0] rfl)
  · have hE := z_t c4 hE
    refine lv_aload_n hx hb dX7_planned_10 rfl (lv_at hl 0 rfl) ?_
    refine lv_bipush (v := (-2 : Int32)) hx hb dX7_planned_11 rfl ?_
    obtain ⟨r13, u12, hc, hE⟩ := o_bd2_some hE
    refine tc_X7_refuse C hT hS (kX7_refuse hc) rfl rfl ⟨Nat.le_of_ble_eq_true rfl, Nat.le_of_ble_eq_true rfl⟩ ⟨Nat.le_refl 0, Nat.le_refl 0⟩ dX7_planned_13 hl.1 (Nat.le_of_ble_eq_true rfl) (fun H locs hT hS => ?_)
    exact mt_iret C hr hlocks hT hS hE dX7_planned_16
theorem tc_X7_noRow {a1 : Int32} {a2 : Int32} {r : Int32} {u u1 : TS} {rm : Room} (C : TC p m c cc nL s args D dA) (hT : TW D dA h u H) (hS : va_S (TA h) H0 H locs) (hM : Met l yX7_noRow (ws_ yX7_noRow cX7_noRow 4 (some .int)) rm (va_Pc [.ref h, .int a1, .int a2] (mt_B D dA h u)) (mt_Q D dA h (some (.int r)) u1) 0 0 (TA h)) (hrc : rm.cells = 0) (hrs : rm.slots = 0) (hR : rm.frames + 1 ≤ R.frames ∧ 8 + (4 + 11) + rm.locals ≤ R.locals) (hf : cells + 0 ≤ R.cells ∧ slots + 0 ≤ R.slots) (d : decode cc pc = .ok (.invokevirtual 433, 3)) (hsz : ls.size = nL) (hro : (rest.map fun v => v.category).sum ≤ 8) (kk : ∀ (H1 : Heap) (locs1 : List Loc), TW D dA h u1 H1 → va_S (TA h) H0 H1 locs1 → W p l e R s m args below meth c H1 locs1 cells slots Q (F0 m (pc + 3) ls (.int r :: rest))) : W p l e R s m args below meth c H locs cells slots Q (F0 m pc ls (.int a2 :: .int a1 :: .ref h :: rest)) :=
  mt_call (v := (some (.int r))) (va_runV (As := [.int a1, .int a2]) (rest := rest) C.1 hM (cwV 2 C.1.2.2.2.2 (lw_V q2208 q2210 qs161 q177 q2211) rfl hrc hrs (by decide +kernel) hR) (mt_preV C.2 hT _) rfl rfl hsz rfl (lv_room hro) d hf) hS (fun _ z => z) (fun H1 locs1 a b _ _ => kk H1 locs1 a b)
set_option maxHeartbeats 4000000 in
set_option maxRecDepth 100000 in
theorem kX7_noRow {l : Launch} {D : va_G} {dA : Nat → ClassId} {h N : Nat} {u u1 : TS} {a1 : Int32} {a2 : Int32} {r : Int32} (hE : fX7_noRow N u a1 a2 = some (r, u1)) : Met l yX7_noRow (ws_ yX7_noRow cX7_noRow 4 (some .int)) ({ frames := 72, cells := 0, slots := 0, locals := 2232 }) (va_Pc [.ref h, .int a1, .int a2] (mt_B D dA h u)) (mt_Q D dA h (some (.int r)) u1) 0 0 (TA h) := by
  refine mt_met (by decide) rfl rfl rfl ?_
  intro p e s m args below meth c ls C hr hlocks hT hS hl
  have hx := C.1.1
  have hb := C.1.2.1
  have w_46 : ∀ (u : TS) (y0 : Int32) (H : Heap) (locs : List Loc) (ls : Array Slot), fX7_noRow_46 N u y0 = some (r, u1) → TW D dA h u H → va_S (TA h) s.heap H locs → lv_has ls 4 [] → W p l e { frames := 72, cells := 0, slots := 0, locals := 2232 } s m args below meth c H locs 0 0 (MQ below (mt_Q D dA h (some (.int r)) u1) args s 0 0 (TA h)) (F0 m 46 ls [.int y0]) := by
    intro u y0 H locs ls hE hT hS hl
    unfold fX7_noRow_46 at hE
    exact mt_iret C hr hlocks hT hS hE dX7_noRow_46
  unfold fX7_noRow at hE
  refine lv_aload_n hx hb dX7_noRow_0 rfl (lv_at hl 0 rfl) ?_
  refine lv_iload_n hx hb dX7_noRow_1 rfl (lv_at hl 1 rfl) ?_
  refine lv_iload_n hx hb dX7_noRow_2 rfl (lv_at hl 2 rfl) ?_
  obtain ⟨r2, u1, hc, hE⟩ := o_bd2_some hE
  refine tc_X7_noSet C hT hS (kX7_noSet hc) rfl rfl ⟨Nat.le_of_ble_eq_true rfl, Nat.le_of_ble_eq_true rfl⟩ ⟨Nat.le_refl 0, Nat.le_refl 0⟩ dX7_noRow_3 hl.1 (Nat.le_of_ble_eq_true rfl) (fun H locs hT hS => ?_)
  refine lv_istore_n (lv' := [(3, .int r2), (0, .ref h), (1, .int a1), (2, .int a2)]) hx hb dX7_noRow_6 rfl hl (by decide) rfl (fun ls hl => ?_)
  refine lv_iload_n hx hb dX7_noRow_7 rfl (lv_at hl 0 rfl) ?_
  refine lv_if_ge (tgt := 13) hx hb dX7_noRow_8 (by decide) (fun c3 => ?_) (fun c3 => ?_)
  · have hE := z_t c3 hE
    refine lv_aload_n hx hb dX7_noRow_13 rfl (lv_at hl 1 rfl) ?_
    refine tg_isRow C hT dX7_noRow_14 ?_
    refine lv_if_ne (tgt := 23) hx hb dX7_noRow_17 (by decide) (fun c4 => ?_) (fun c4 => ?_)
    · have hE := z_f c4 hE
      refine lv_aload_n hx hb dX7_noRow_23 rfl (lv_at hl 1 rfl) ?_
      refine lv_iload_n hx hb dX7_noRow_24 rfl (lv_at hl 2 rfl) ?_
      refine lv_iload_n hx hb dX7_noRow_25 rfl (lv_at hl 3 rfl) ?_
      obtain ⟨u5, hc, hE⟩ := o_bd_some hE
      refine tc_X7_layOut C hT hS (kX7_layOut hc) rfl rfl ⟨Nat.le_of_ble_eq_true rfl, Nat.le_of_ble_eq_true rfl⟩ ⟨Nat.le_refl 0, Nat.le_refl 0⟩ dX7_noRow_26 hl.1 (Nat.le_of_ble_eq_true rfl) (fun H locs hT hS => ?_)
      refine lv_aload_n hx hb dX7_noRow_29 rfl (lv_at hl 1 rfl) ?_
      refine tg_rowSize C hT dX7_noRow_30 ?_
      refine lv_aload_n hx hb dX7_noRow_33 rfl (lv_at hl 1 rfl) ?_
      refine tg_many C hT dX7_noRow_34 ?_
      refine lv_icmp_eq (tgt := 45) hx hb dX7_noRow_37 (by decide) (fun c6 => ?_) (fun c6 => ?_)
      · have hE := z_t c6 hE
        refine lv_iconst (v := (0 : Int32)) hx hb dX7_noRow_45 rfl ?_
        exact w_46 _ _ _ _ _ hE hT hS (lv_sub hl [] rfl)
      · have hE := z_f c6 hE
        refine lv_bipush (v := (-5 : Int32)) hx hb dX7_noRow_40 rfl ?_
        refine lv_goto (tgt := 46) hx hb dX7_noRow_42 (by decide) ?_
        exact w_46 _ _ _ _ _ hE hT hS (lv_sub hl [] rfl)
    · have hE := z_t c4 hE
      refine lv_bipush (v := (-2 : Int32)) hx hb dX7_noRow_20 rfl ?_
      exact mt_iret C hr hlocks hT hS hE dX7_noRow_22
  · have hE := z_f c3 hE
    refine lv_iload_n hx hb dX7_noRow_11 rfl (lv_at hl 0 rfl) ?_
    exact mt_iret C hr hlocks hT hS hE dX7_noRow_12
theorem tc_X7_takesRow {r : Int32} {u u1 : TS} {rm : Room} (C : TC p m c cc nL s args D dA) (hT : TW D dA h u H) (hS : va_S (TA h) H0 H locs) (hM : Met l yX7_takesRow (ws_ yX7_takesRow cX7_takesRow 3 (some .boolean)) rm (va_Pc [.ref h] (mt_B D dA h u)) (mt_Q D dA h (some (.int r)) u1) 0 0 (TA h)) (hrc : rm.cells = 0) (hrs : rm.slots = 0) (hR : rm.frames + 1 ≤ R.frames ∧ 8 + (3 + 11) + rm.locals ≤ R.locals) (hf : cells + 0 ≤ R.cells ∧ slots + 0 ≤ R.slots) (d : decode cc pc = .ok (.invokevirtual 436, 3)) (hsz : ls.size = nL) (hro : (rest.map fun v => v.category).sum ≤ 8) (kk : ∀ (H1 : Heap) (locs1 : List Loc), TW D dA h u1 H1 → va_S (TA h) H0 H1 locs1 → W p l e R s m args below meth c H1 locs1 cells slots Q (F0 m (pc + 3) ls (.int r :: rest))) : W p l e R s m args below meth c H locs cells slots Q (F0 m pc ls (.ref h :: rest)) :=
  mt_call (v := (some (.int r))) (va_runV (As := []) (rest := rest) C.1 hM (cwV 0 C.1.2.2.2.2 (lw_V q2212 q2214 qs162 q177 q2215) rfl hrc hrs (by decide +kernel) hR) (mt_preV C.2 hT _) rfl rfl hsz rfl (lv_room hro) d hf) hS (fun _ z => z) (fun H1 locs1 a b _ _ => kk H1 locs1 a b)
set_option maxHeartbeats 4000000 in
set_option maxRecDepth 100000 in
theorem kX7_takesRow {l : Launch} {D : va_G} {dA : Nat → ClassId} {h N : Nat} {u u1 : TS} {r : Int32} (hE : fX7_takesRow N u = some (r, u1)) : Met l yX7_takesRow (ws_ yX7_takesRow cX7_takesRow 3 (some .boolean)) ({ frames := 1, cells := 0, slots := 0, locals := 22 }) (va_Pc [.ref h] (mt_B D dA h u)) (mt_Q D dA h (some (.int r)) u1) 0 0 (TA h) := by
  refine mt_met (by decide) rfl rfl rfl ?_
  intro p e s m args below meth c ls C hr hlocks hT hS hl
  have hx := C.1.1
  have hb := C.1.2.1
  have w_38 : ∀ (ag4 : TS → Int32 → Int32 → Option (Int32 × TS)) (hag4 : (∀ (u : TS) (x1 : Int32) (x2 : Int32) (H : Heap) (locs : List Loc) (ls : Array Slot), ag4 u x1 x2 = some (r, u1) → TW D dA h u H → va_S (TA h) s.heap H locs → lv_has ls 3 [(0, .ref h), (1, .int x1), (2, .int x2)] → W p l e { frames := 1, cells := 0, slots := 0, locals := 22 } s m args below meth c H locs 0 0 (MQ below (mt_Q D dA h (some (.int r)) u1) args s 0 0 (TA h)) (F0 m 4 ls []))) (u : TS) (x2 : Int32) (y0 : Int32) (H : Heap) (locs : List Loc) (ls : Array Slot), fX7_takesRow_38 N ag4 u x2 y0 = some (r, u1) → TW D dA h u H → va_S (TA h) s.heap H locs → lv_has ls 3 [(0, .ref h), (2, .int x2)] → W p l e { frames := 1, cells := 0, slots := 0, locals := 22 } s m args below meth c H locs 0 0 (MQ below (mt_Q D dA h (some (.int r)) u1) args s 0 0 (TA h)) (F0 m 38 ls [.int y0]) := by
    intro ag4 hag4 u x2 y0 H locs ls hE hT hS hl
    unfold fX7_takesRow_38 at hE
    refine lv_istore_n (lv' := [(1, .int y0), (0, .ref h), (2, .int x2)]) hx hb dX7_takesRow_38 rfl hl (by decide) rfl (fun ls hl => ?_)
    refine lv_aload_n hx hb dX7_takesRow_39 rfl (lv_at hl 1 rfl) ?_
    refine tg_ten C hT dX7_takesRow_40 ?_
    refine lv_iload_n hx hb dX7_takesRow_43 rfl (lv_at hl 2 rfl) ?_
    refine lv_aload_n hx hb dX7_takesRow_44 rfl (lv_at hl 1 rfl) ?_
    refine tg_row C hT dX7_takesRow_45 ?_
    refine lv_iload_n hx hb dX7_takesRow_48 rfl (lv_at hl 2 rfl) ?_
    refine tl_row C hT hE dX7_takesRow_49 (fun hE => ?_)
    refine z_nmi hE (fun v1 hE => ?_)
    refine ts_ten C hT hS hE dX7_takesRow_50 (fun u2 H locs hE hT hS => ?_)
    refine z_iinc (v := (x2 + (1 : Int32))) (lw := (fun y_ => [(2, .int y_), (1, .int y0), (0, .ref h)])) hx hb dX7_takesRow_51 hl hE (k := 2) rfl rfl (by decide) (fun _ => rfl) (fun z3 ls hE hl => ?_)
    refine lv_goto (tgt := 4) hx hb dX7_takesRow_54 (by decide) ?_
    exact hag4 _ _ _ _ _ _ hE hT hS (lv_sub hl [2, 1, 0] rfl)
  have w_37 : ∀ (ag4 : TS → Int32 → Int32 → Option (Int32 × TS)) (hag4 : (∀ (u : TS) (x1 : Int32) (x2 : Int32) (H : Heap) (locs : List Loc) (ls : Array Slot), ag4 u x1 x2 = some (r, u1) → TW D dA h u H → va_S (TA h) s.heap H locs → lv_has ls 3 [(0, .ref h), (1, .int x1), (2, .int x2)] → W p l e { frames := 1, cells := 0, slots := 0, locals := 22 } s m args below meth c H locs 0 0 (MQ below (mt_Q D dA h (some (.int r)) u1) args s 0 0 (TA h)) (F0 m 4 ls []))) (u : TS) (x2 : Int32) (H : Heap) (locs : List Loc) (ls : Array Slot), fX7_takesRow_37 N ag4 u x2 = some (r, u1) → TW D dA h u H → va_S (TA h) s.heap H locs → lv_has ls 3 [(0, .ref h), (2, .int x2)] → W p l e { frames := 1, cells := 0, slots := 0, locals := 22 } s m args below meth c H locs 0 0 (MQ below (mt_Q D dA h (some (.int r)) u1) args s 0 0 (TA h)) (F0 m 37 ls []) := by
    intro ag4 hag4 u x2 H locs ls hE hT hS hl
    unfold fX7_takesRow_37 at hE
    refine lv_iconst (v := (0 : Int32)) hx hb dX7_takesRow_37 rfl ?_
    exact w_38 ag4 hag4 _ _ _ _ _ _ hE hT hS (lv_sub hl [0, 1] rfl)
  have w_4 : ∀ (n : Nat) (u : TS) (x1 : Int32) (x2 : Int32) (H : Heap) (locs : List Loc) (ls : Array Slot), fX7_takesRow_4 N n u x1 x2 = some (r, u1) → TW D dA h u H → va_S (TA h) s.heap H locs → lv_has ls 3 [(0, .ref h), (1, .int x1), (2, .int x2)] → W p l e { frames := 1, cells := 0, slots := 0, locals := 22 } s m args below meth c H locs 0 0 (MQ below (mt_Q D dA h (some (.int r)) u1) args s 0 0 (TA h)) (F0 m 4 ls []) := by
    intro n
    induction n with
    | zero =>
      intro u x1 x2 H locs ls hE hT hS hl
      cases (show (none : Option (Int32 × TS)) = some (r, u1) from hE)
    | succ n ih =>
      intro u x1 x2 H locs ls hE hT hS hl
      rw [fX7_takesRow_4] at hE
      refine lv_iload_n hx hb dX7_takesRow_4 rfl (lv_at hl 2 rfl) ?_
      refine lv_aload_n hx hb dX7_takesRow_5 rfl (lv_at hl 0 rfl) ?_
      refine tg_many C hT dX7_takesRow_6 ?_
      refine lv_icmp_ge (tgt := 57) hx hb dX7_takesRow_9 (by decide) (fun c4 => ?_) (fun c4 => ?_)
      · have hE := z_t c4 hE
        refine lv_iload_n hx hb dX7_takesRow_57 rfl (lv_at hl 1 rfl) ?_
        obtain ⟨hb1, hE⟩ := o_bl_some hE
        exact mt_zret C hr hlocks hT hS hb1 hE dX7_takesRow_58
      · have hE := z_f c4 hE
        refine lv_iload_n hx hb dX7_takesRow_12 rfl (lv_at hl 1 rfl) ?_
        refine lv_if_eq (tgt := 37) hx hb dX7_takesRow_13 (by decide) (fun c5 => ?_) (fun c5 => ?_)
        · have hE := z_t c5 hE
          exact w_37 (fX7_takesRow_4 N n) ih _ _ _ _ _ hE hT hS (lv_sub hl [0, 2] rfl)
        · have hE := z_f c5 hE
          refine lv_aload_n hx hb dX7_takesRow_16 rfl (lv_at hl 0 rfl) ?_
          refine tg_row C hT dX7_takesRow_17 ?_
          refine lv_iload_n hx hb dX7_takesRow_20 rfl (lv_at hl 2 rfl) ?_
          refine tl_row C hT hE dX7_takesRow_21 (fun hE => ?_)
          refine z_nmi hE (fun v6 hE => ?_)
          refine lv_iconst (v := (0 : Int32)) hx hb dX7_takesRow_22 rfl ?_
          refine lv_aload_n hx hb dX7_takesRow_23 rfl (lv_at hl 0 rfl) ?_
          refine tg_tens C hT dX7_takesRow_24 ?_
          obtain ⟨r7, hc, hE⟩ := o_bd_some hE
          refine sc_X7_in C.1 (kX7_in hc) rfl rfl ⟨Nat.le_of_ble_eq_true rfl, Nat.le_of_ble_eq_true rfl⟩ ⟨Nat.le_refl 0, Nat.le_refl 0⟩ dX7_takesRow_27 hl.1 (Nat.le_of_ble_eq_true rfl) ?_
          refine lv_if_eq (tgt := 37) hx hb dX7_takesRow_30 (by decide) (fun c8 => ?_) (fun c8 => ?_)
          · have hE := z_t c8 hE
            exact w_37 (fX7_takesRow_4 N n) ih _ _ _ _ _ hE hT hS (lv_sub hl [0, 2] rfl)
          · have hE := z_f c8 hE
            refine lv_iconst (v := (1 : Int32)) hx hb dX7_takesRow_33 rfl ?_
            refine lv_goto (tgt := 38) hx hb dX7_takesRow_34 (by decide) ?_
            exact w_38 (fX7_takesRow_4 N n) ih _ _ _ _ _ _ hE hT hS (lv_sub hl [0, 2] rfl)
  unfold fX7_takesRow at hE
  refine lv_iconst (v := (1 : Int32)) hx hb dX7_takesRow_0 rfl ?_
  refine lv_istore_n (lv' := [(1, .int (1 : Int32)), (0, .ref h)]) hx hb dX7_takesRow_1 rfl hl (by decide) rfl (fun ls hl => ?_)
  refine lv_iconst (v := (0 : Int32)) hx hb dX7_takesRow_2 rfl ?_
  refine lv_istore_n (lv' := [(2, .int (0 : Int32)), (1, .int (1 : Int32)), (0, .ref h)]) hx hb dX7_takesRow_3 rfl hl (by decide) rfl (fun ls hl => ?_)
  exact w_4 N _ _ _ _ _ _ hE hT hS (lv_sub hl [2, 1, 0] rfl)
set_option maxHeartbeats 4000000 in
set_option maxRecDepth 100000 in
theorem kX7_judge {l : Launch} {D : va_G} {dA : Nat → ClassId} {h N : Nat} {u u1 : TS} {a1 : Int32} {a2 : Int32} {r : Int32} (hE : fX7_judge N u a1 a2 = some (r, u1)) : Met l yX7_judge (ws_ yX7_judge cX7_judge 4 (some .int)) ({ frames := 73, cells := 0, slots := 0, locals := 2255 }) (va_Pc [.ref h, .int a1, .int a2] (mt_B D dA h u)) (mt_Q D dA h (some (.int r)) u1) 0 0 (TA h) := by
  refine mt_met (by decide) rfl rfl rfl ?_
  intro p e s m args below meth c ls C hr hlocks hT hS hl
  have hx := C.1.1
  have hb := C.1.2.1
  have w_36 : ∀ (u : TS) (y0 : Int32) (H : Heap) (locs : List Loc) (ls : Array Slot), fX7_judge_36 N u y0 = some (r, u1) → TW D dA h u H → va_S (TA h) s.heap H locs → lv_has ls 4 [] → W p l e { frames := 73, cells := 0, slots := 0, locals := 2255 } s m args below meth c H locs 0 0 (MQ below (mt_Q D dA h (some (.int r)) u1) args s 0 0 (TA h)) (F0 m 36 ls [.int y0]) := by
    intro u y0 H locs ls hE hT hS hl
    unfold fX7_judge_36 at hE
    exact mt_iret C hr hlocks hT hS hE dX7_judge_36
  have w_35 : ∀ (u : TS) (H : Heap) (locs : List Loc) (ls : Array Slot), fX7_judge_35 N u = some (r, u1) → TW D dA h u H → va_S (TA h) s.heap H locs → lv_has ls 4 [] → W p l e { frames := 73, cells := 0, slots := 0, locals := 2255 } s m args below meth c H locs 0 0 (MQ below (mt_Q D dA h (some (.int r)) u1) args s 0 0 (TA h)) (F0 m 35 ls []) := by
    intro u H locs ls hE hT hS hl
    unfold fX7_judge_35 at hE
    refine lv_iconst (v := (0 : Int32)) hx hb dX7_judge_35 rfl ?_
    exact w_36 _ _ _ _ _ hE hT hS (lv_sub hl [] rfl)
  unfold fX7_judge at hE
  refine lv_aload_n hx hb dX7_judge_0 rfl (lv_at hl 0 rfl) ?_
  refine lv_iload_n hx hb dX7_judge_1 rfl (lv_at hl 1 rfl) ?_
  refine lv_iload_n hx hb dX7_judge_2 rfl (lv_at hl 2 rfl) ?_
  obtain ⟨r2, u1, hc, hE⟩ := o_bd2_some hE
  refine tc_X7_noRow C hT hS (kX7_noRow hc) rfl rfl ⟨Nat.le_of_ble_eq_true rfl, Nat.le_of_ble_eq_true rfl⟩ ⟨Nat.le_refl 0, Nat.le_refl 0⟩ dX7_judge_3 hl.1 (Nat.le_of_ble_eq_true rfl) (fun H locs hT hS => ?_)
  refine lv_istore_n (lv' := [(3, .int r2), (0, .ref h), (1, .int a1), (2, .int a2)]) hx hb dX7_judge_6 rfl hl (by decide) rfl (fun ls hl => ?_)
  refine lv_iload_n hx hb dX7_judge_7 rfl (lv_at hl 0 rfl) ?_
  refine lv_if_ge (tgt := 17) hx hb dX7_judge_8 (by decide) (fun c3 => ?_) (fun c3 => ?_)
  · have hE := z_t c3 hE
    refine lv_aload_n hx hb dX7_judge_17 rfl (lv_at hl 1 rfl) ?_
    obtain ⟨r5, u4, hc, hE⟩ := o_bd2_some hE
    refine tc_X7_takesRow C hT hS (kX7_takesRow hc) rfl rfl ⟨Nat.le_of_ble_eq_true rfl, Nat.le_of_ble_eq_true rfl⟩ ⟨Nat.le_refl 0, Nat.le_refl 0⟩ dX7_judge_18 hl.1 (Nat.le_of_ble_eq_true rfl) (fun H locs hT hS => ?_)
    refine lv_if_eq (tgt := 35) hx hb dX7_judge_21 (by decide) (fun c6 => ?_) (fun c6 => ?_)
    · have hE := z_t c6 hE
      exact w_35 _ _ _ _ hE hT hS (lv_sub hl [] rfl)
    · have hE := z_f c6 hE
      refine lv_aload_n hx hb dX7_judge_24 rfl (lv_at hl 1 rfl) ?_
      obtain ⟨r8, u7, hc, hE⟩ := o_bd2_some hE
      refine tc_X7_isAllowed C hT hS (kX7_isAllowed hc) rfl rfl ⟨Nat.le_of_ble_eq_true rfl, Nat.le_of_ble_eq_true rfl⟩ ⟨Nat.le_refl 0, Nat.le_refl 0⟩ dX7_judge_25 hl.1 (Nat.le_of_ble_eq_true rfl) (fun H locs hT hS => ?_)
      refine lv_if_eq (tgt := 35) hx hb dX7_judge_28 (by decide) (fun c9 => ?_) (fun c9 => ?_)
      · have hE := z_t c9 hE
        exact w_35 _ _ _ _ hE hT hS (lv_sub hl [] rfl)
      · have hE := z_f c9 hE
        refine lv_iconst (v := (1 : Int32)) hx hb dX7_judge_31 rfl ?_
        refine lv_goto (tgt := 36) hx hb dX7_judge_32 (by decide) ?_
        exact w_36 _ _ _ _ _ hE hT hS (lv_sub hl [] rfl)
  · have hE := z_f c3 hE
    refine lv_aload_n hx hb dX7_judge_11 rfl (lv_at hl 1 rfl) ?_
    refine lv_iload_n hx hb dX7_judge_12 rfl (lv_at hl 0 rfl) ?_
    obtain ⟨r11, u10, hc, hE⟩ := o_bd2_some hE
    refine tc_X7_refuse C hT hS (kX7_refuse hc) rfl rfl ⟨Nat.le_of_ble_eq_true rfl, Nat.le_of_ble_eq_true rfl⟩ ⟨Nat.le_refl 0, Nat.le_refl 0⟩ dX7_judge_13 hl.1 (Nat.le_of_ble_eq_true rfl) (fun H locs hT hS => ?_)
    exact mt_iret C hr hlocks hT hS hE dX7_judge_16
set_option maxHeartbeats 4000000 in
set_option maxRecDepth 100000 in
theorem kX7_worth {l : Launch} {D : va_G} {dA : Nat → ClassId} {h N : Nat} {u u1 : TS} {a1 : Int32} {a2 : Int32} {a3 : Int32} {r : Int64} (hE : fX7_worth N u a1 a2 a3 = some (r, u1)) : Met l yX7_worth (ws_ yX7_worth cX7_worth 5 (some .long)) ({ frames := 73, cells := 0, slots := 0, locals := 2255 }) (va_Pc [.ref h, .int a1, .int a2, .int a3] (mt_B D dA h u)) (mt_Q D dA h (some (.long r)) u1) 0 0 (TA h) := by
  refine mt_met (by decide) rfl rfl rfl ?_
  intro p e s m args below meth c ls C hr hlocks hT hS hl
  have hx := C.1.1
  have hb := C.1.2.1
  have w_55 : ∀ (u : TS) (y0 : Int64) (H : Heap) (locs : List Loc) (ls : Array Slot), fX7_worth_55 N u y0 = some (r, u1) → TW D dA h u H → va_S (TA h) s.heap H locs → lv_has ls 5 [] → W p l e { frames := 73, cells := 0, slots := 0, locals := 2255 } s m args below meth c H locs 0 0 (MQ below (mt_Q D dA h (some (.long r)) u1) args s 0 0 (TA h)) (F0 m 55 ls [.long y0]) := by
    intro u y0 H locs ls hE hT hS hl
    unfold fX7_worth_55 at hE
    exact mt_lret C hr hlocks hT hS hE dX7_worth_55
  unfold fX7_worth at hE
  refine lv_aload_n hx hb dX7_worth_0 rfl (lv_at hl 0 rfl) ?_
  refine lv_iload_n hx hb dX7_worth_1 rfl (lv_at hl 1 rfl) ?_
  refine lv_iload_n hx hb dX7_worth_2 rfl (lv_at hl 2 rfl) ?_
  obtain ⟨r2, u1, hc, hE⟩ := o_bd2_some hE
  refine tc_X7_noRow C hT hS (kX7_noRow hc) rfl rfl ⟨Nat.le_of_ble_eq_true rfl, Nat.le_of_ble_eq_true rfl⟩ ⟨Nat.le_refl 0, Nat.le_refl 0⟩ dX7_worth_3 hl.1 (Nat.le_of_ble_eq_true rfl) (fun H locs hT hS => ?_)
  refine lv_istore (lv' := [(4, .int r2), (0, .ref h), (1, .int a1), (2, .int a2), (3, .int a3)]) hx hb dX7_worth_6 hl (by decide) rfl (fun ls hl => ?_)
  refine lv_iload hx hb dX7_worth_8 (lv_at hl 0 rfl) ?_
  refine lv_if_ge (tgt := 21) hx hb dX7_worth_10 (by decide) (fun c3 => ?_) (fun c3 => ?_)
  · have hE := z_t c3 hE
    refine lv_aload_n hx hb dX7_worth_21 rfl (lv_at hl 1 rfl) ?_
    obtain ⟨r5, u4, hc, hE⟩ := o_bd2_some hE
    refine tc_X7_takesRow C hT hS (kX7_takesRow hc) rfl rfl ⟨Nat.le_of_ble_eq_true rfl, Nat.le_of_ble_eq_true rfl⟩ ⟨Nat.le_refl 0, Nat.le_refl 0⟩ dX7_worth_22 hl.1 (Nat.le_of_ble_eq_true rfl) (fun H locs hT hS => ?_)
    refine lv_if_ne (tgt := 36) hx hb dX7_worth_25 (by decide) (fun c6 => ?_) (fun c6 => ?_)
    · have hE := z_f c6 hE
      refine lv_aload_n hx hb dX7_worth_36 rfl (lv_at hl 1 rfl) ?_
      obtain ⟨u7, hc, hE⟩ := o_bd_some hE
      refine tc_X7_weigh C hT hS (kX7_weigh hc) rfl rfl ⟨Nat.le_of_ble_eq_true rfl, Nat.le_of_ble_eq_true rfl⟩ ⟨Nat.le_refl 0, Nat.le_refl 0⟩ dX7_worth_37 hl.1 (Nat.le_of_ble_eq_true rfl) (fun H locs hT hS => ?_)
      refine lv_iload_n hx hb dX7_worth_40 rfl (lv_at hl 4 rfl) ?_
      refine lv_if_eq (tgt := 51) hx hb dX7_worth_41 (by decide) (fun c8 => ?_) (fun c8 => ?_)
      · have hE := z_t c8 hE
        refine lv_aload_n hx hb dX7_worth_51 rfl (lv_at hl 1 rfl) ?_
        refine tg_least C hT dX7_worth_52 ?_
        exact w_55 _ _ _ _ _ hE hT hS (lv_sub hl [] rfl)
      · have hE := z_f c8 hE
        refine lv_aload_n hx hb dX7_worth_44 rfl (lv_at hl 1 rfl) ?_
        refine tg_all C hT dX7_worth_45 ?_
        refine lv_goto (tgt := 55) hx hb dX7_worth_48 (by decide) ?_
        exact w_55 _ _ _ _ _ hE hT hS (lv_sub hl [] rfl)
    · have hE := z_t c6 hE
      refine lv_aload_n hx hb dX7_worth_28 rfl (lv_at hl 1 rfl) ?_
      refine lv_bipush (v := (-7 : Int32)) hx hb dX7_worth_29 rfl ?_
      obtain ⟨r10, u9, hc, hE⟩ := o_bd2_some hE
      refine tc_X7_hush C hT hS (kX7_hush hc) rfl rfl ⟨Nat.le_of_ble_eq_true rfl, Nat.le_of_ble_eq_true rfl⟩ ⟨Nat.le_refl 0, Nat.le_refl 0⟩ dX7_worth_31 hl.1 (Nat.le_of_ble_eq_true rfl) (fun H locs hT hS => ?_)
      refine lv_i2l hx hb dX7_worth_34 rfl ?_
      exact mt_lret C hr hlocks hT hS hE dX7_worth_35
  · have hE := z_f c3 hE
    refine lv_aload_n hx hb dX7_worth_13 rfl (lv_at hl 1 rfl) ?_
    refine lv_iload hx hb dX7_worth_14 (lv_at hl 0 rfl) ?_
    obtain ⟨r12, u11, hc, hE⟩ := o_bd2_some hE
    refine tc_X7_hush C hT hS (kX7_hush hc) rfl rfl ⟨Nat.le_of_ble_eq_true rfl, Nat.le_of_ble_eq_true rfl⟩ ⟨Nat.le_refl 0, Nat.le_refl 0⟩ dX7_worth_16 hl.1 (Nat.le_of_ble_eq_true rfl) (fun H locs hT hS => ?_)
    refine lv_i2l hx hb dX7_worth_19 rfl ?_
    exact mt_lret C hr hlocks hT hS hE dX7_worth_20
theorem tc_X7_sum {a1 : Int32} {r : Int64} {u u1 : TS} {rm : Room} (C : TC p m c cc nL s args D dA) (hT : TW D dA h u H) (hS : va_S (TA h) H0 H locs) (hM : Met l yX7_sum (ws_ yX7_sum cX7_sum 5 (some .long)) rm (va_Pc [.ref h, .int a1] (mt_B D dA h u)) (mt_Q D dA h (some (.long r)) u1) 0 0 (TA h)) (hrc : rm.cells = 0) (hrs : rm.slots = 0) (hR : rm.frames + 1 ≤ R.frames ∧ 8 + (5 + 11) + rm.locals ≤ R.locals) (hf : cells + 0 ≤ R.cells ∧ slots + 0 ≤ R.slots) (d : decode cc pc = .ok (.invokevirtual 439, 3)) (hsz : ls.size = nL) (hro : (rest.map fun v => v.category).sum ≤ 8) (kk : ∀ (H1 : Heap) (locs1 : List Loc), TW D dA h u1 H1 → va_S (TA h) H0 H1 locs1 → W p l e R s m args below meth c H1 locs1 cells slots Q (F0 m (pc + 3) ls (.long r :: rest))) : W p l e R s m args below meth c H locs cells slots Q (F0 m pc ls (.int a1 :: .ref h :: rest)) :=
  mt_call (v := (some (.long r))) (va_runV (As := [.int a1]) (rest := rest) C.1 hM (cwV 1 C.1.2.2.2.2 (lw_V q2228 q2230 qs164 q177 q2231) rfl hrc hrs (by decide +kernel) hR) (mt_preV C.2 hT _) rfl rfl hsz rfl (lv_room hro) d hf) hS (fun _ z => z) (fun H1 locs1 a b _ _ => kk H1 locs1 a b)
set_option maxHeartbeats 4000000 in
set_option maxRecDepth 100000 in
theorem kX7_sum {l : Launch} {D : va_G} {dA : Nat → ClassId} {h N : Nat} {u u1 : TS} {a1 : Int32} {r : Int64} (hE : fX7_sum N u a1 = some (r, u1)) : Met l yX7_sum (ws_ yX7_sum cX7_sum 5 (some .long)) ({ frames := 3, cells := 0, slots := 0, locals := 72 }) (va_Pc [.ref h, .int a1] (mt_B D dA h u)) (mt_Q D dA h (some (.long r)) u1) 0 0 (TA h) := by
  refine mt_met (by decide) rfl rfl rfl ?_
  intro p e s m args below meth c ls C hr hlocks hT hS hl
  have hx := C.1.1
  have hb := C.1.2.1
  have w_40 : ∀ (ag5 : TS → Int32 → Int64 → Int32 → Option (Int64 × TS)) (hag5 : (∀ (u : TS) (x1 : Int32) (x2 : Int64) (x4 : Int32) (H : Heap) (locs : List Loc) (ls : Array Slot), ag5 u x1 x2 x4 = some (r, u1) → TW D dA h u H → va_S (TA h) s.heap H locs → lv_has ls 5 [(0, .ref h), (1, .int x1), (2, .long x2), (4, .int x4)] → W p l e { frames := 3, cells := 0, slots := 0, locals := 72 } s m args below meth c H locs 0 0 (MQ below (mt_Q D dA h (some (.long r)) u1) args s 0 0 (TA h)) (F0 m 5 ls []))) (u : TS) (x1 : Int32) (x4 : Int32) (y0 : Int64) (y1 : Int64) (H : Heap) (locs : List Loc) (ls : Array Slot), fX7_sum_40 N ag5 u x1 x4 y0 y1 = some (r, u1) → TW D dA h u H → va_S (TA h) s.heap H locs → lv_has ls 5 [(0, .ref h), (1, .int x1), (4, .int x4)] → W p l e { frames := 3, cells := 0, slots := 0, locals := 72 } s m args below meth c H locs 0 0 (MQ below (mt_Q D dA h (some (.long r)) u1) args s 0 0 (TA h)) (F0 m 40 ls [.long y1, .long y0]) := by
    intro ag5 hag5 u x1 x4 y0 y1 H locs ls hE hT hS hl
    unfold fX7_sum_40 at hE
    refine lv_ladd hx hb dX7_sum_40 ?_
    refine z_nml hE (fun z1 hE => ?_)
    refine lv_lstore_n (lv' := [(2, .long z1), (0, .ref h), (1, .int x1), (4, .int x4)]) hx hb dX7_sum_41 rfl hl (by decide) rfl (fun ls hl => ?_)
    refine z_iinc (v := (x4 + (1 : Int32))) (lw := (fun y_ => [(4, .int y_), (2, .long z1), (0, .ref h), (1, .int x1)])) hx hb dX7_sum_42 hl hE (k := 3) rfl rfl (by decide) (fun _ => rfl) (fun z2 ls hE hl => ?_)
    refine lv_goto (tgt := 5) hx hb dX7_sum_45 (by decide) ?_
    exact hag5 _ _ _ _ _ _ _ hE hT hS (lv_sub hl [2, 3, 1, 0] rfl)
  have w_5 : ∀ (n : Nat) (u : TS) (x1 : Int32) (x2 : Int64) (x4 : Int32) (H : Heap) (locs : List Loc) (ls : Array Slot), fX7_sum_5 N n u x1 x2 x4 = some (r, u1) → TW D dA h u H → va_S (TA h) s.heap H locs → lv_has ls 5 [(0, .ref h), (1, .int x1), (2, .long x2), (4, .int x4)] → W p l e { frames := 3, cells := 0, slots := 0, locals := 72 } s m args below meth c H locs 0 0 (MQ below (mt_Q D dA h (some (.long r)) u1) args s 0 0 (TA h)) (F0 m 5 ls []) := by
    intro n
    induction n with
    | zero =>
      intro u x1 x2 x4 H locs ls hE hT hS hl
      cases (show (none : Option (Int64 × TS)) = some (r, u1) from hE)
    | succ n ih =>
      intro u x1 x2 x4 H locs ls hE hT hS hl
      rw [fX7_sum_5] at hE
      refine lv_iload hx hb dX7_sum_5 (lv_at hl 3 rfl) ?_
      refine lv_aload_n hx hb dX7_sum_7 rfl (lv_at hl 0 rfl) ?_
      refine tg_s C hT dX7_sum_8 ?_
      refine lv_iconst (v := (1 : Int32)) hx hb dX7_sum_11 rfl ?_
      refine tl_s C hT hE dX7_sum_12 (fun hE => ?_)
      refine z_nmi hE (fun v3 hE => ?_)
      refine lv_icmp_ge (tgt := 48) hx hb dX7_sum_13 (by decide) (fun c4 => ?_) (fun c4 => ?_)
      · have hE := z_t c4 hE
        refine lv_lload_n hx hb dX7_sum_48 rfl (lv_at hl 2 rfl) ?_
        exact mt_lret C hr hlocks hT hS hE dX7_sum_49
      · have hE := z_f c4 hE
        refine lv_lload_n hx hb dX7_sum_16 rfl (lv_at hl 2 rfl) ?_
        refine lv_iload_n hx hb dX7_sum_17 rfl (lv_at hl 1 rfl) ?_
        refine lv_if_ne (tgt := 31) hx hb dX7_sum_18 (by decide) (fun c5 => ?_) (fun c5 => ?_)
        · have hE := z_f c5 hE
          refine lv_aload_n hx hb dX7_sum_31 rfl (lv_at hl 0 rfl) ?_
          refine lv_iload hx hb dX7_sum_32 (lv_at hl 3 rfl) ?_
          refine lv_bipush (v := (7 : Int32)) hx hb dX7_sum_34 rfl ?_
          obtain ⟨r7, u6, hc, hE⟩ := o_bd2_some hE
          refine tc_X7_st C hT hS (kX7_st hc) rfl rfl ⟨Nat.le_of_ble_eq_true rfl, Nat.le_of_ble_eq_true rfl⟩ ⟨Nat.le_refl 0, Nat.le_refl 0⟩ dX7_sum_36 hl.1 (Nat.le_of_ble_eq_true rfl) (fun H locs hT hS => ?_)
          refine lv_i2l hx hb dX7_sum_39 rfl ?_
          exact w_40 (fX7_sum_5 N n) ih _ _ _ _ _ _ _ _ hE hT hS (lv_sub hl [0, 1, 3] rfl)
        · have hE := z_t c5 hE
          refine lv_aload_n hx hb dX7_sum_21 rfl (lv_at hl 0 rfl) ?_
          refine lv_iload hx hb dX7_sum_22 (lv_at hl 3 rfl) ?_
          obtain ⟨r9, u8, hc, hE⟩ := o_bd2_some hE
          refine tc_X7_wood C hT hS (kX7_wood hc) rfl rfl ⟨Nat.le_of_ble_eq_true rfl, Nat.le_of_ble_eq_true rfl⟩ ⟨Nat.le_refl 0, Nat.le_refl 0⟩ dX7_sum_24 hl.1 (Nat.le_of_ble_eq_true rfl) (fun H locs hT hS => ?_)
          refine lv_i2l hx hb dX7_sum_27 rfl ?_
          refine lv_goto (tgt := 40) hx hb dX7_sum_28 (by decide) ?_
          exact w_40 (fX7_sum_5 N n) ih _ _ _ _ _ _ _ _ hE hT hS (lv_sub hl [0, 1, 3] rfl)
  unfold fX7_sum at hE
  refine lv_lconst (v := (0 : Int64)) hx hb dX7_sum_0 rfl ?_
  refine lv_lstore_n (lv' := [(2, .long (0 : Int64)), (0, .ref h), (1, .int a1)]) hx hb dX7_sum_1 rfl hl (by decide) rfl (fun ls hl => ?_)
  refine lv_iconst (v := (0 : Int32)) hx hb dX7_sum_2 rfl ?_
  refine lv_istore (lv' := [(4, .int (0 : Int32)), (2, .long (0 : Int64)), (0, .ref h), (1, .int a1)]) hx hb dX7_sum_3 hl (by decide) rfl (fun ls hl => ?_)
  exact w_5 N _ _ _ _ _ _ _ hE hT hS (lv_sub hl [2, 3, 1, 0] rfl)
theorem tc_X7_outcome {a1 : Int32} {r : Int64} {u u1 : TS} {rm : Room} (C : TC p m c cc nL s args D dA) (hT : TW D dA h u H) (hS : va_S (TA h) H0 H locs) (hM : Met l yX7_outcome (ws_ yX7_outcome cX7_outcome 5 (some .long)) rm (va_Pc [.ref h, .int a1] (mt_B D dA h u)) (mt_Q D dA h (some (.long r)) u1) 0 0 (TA h)) (hrc : rm.cells = 0) (hrs : rm.slots = 0) (hR : rm.frames + 1 ≤ R.frames ∧ 8 + (5 + 11) + rm.locals ≤ R.locals) (hf : cells + 0 ≤ R.cells ∧ slots + 0 ≤ R.slots) (d : decode cc pc = .ok (.invokevirtual 443, 3)) (hsz : ls.size = nL) (hro : (rest.map fun v => v.category).sum ≤ 8) (kk : ∀ (H1 : Heap) (locs1 : List Loc), TW D dA h u1 H1 → va_S (TA h) H0 H1 locs1 → W p l e R s m args below meth c H1 locs1 cells slots Q (F0 m (pc + 3) ls (.long r :: rest))) : W p l e R s m args below meth c H locs cells slots Q (F0 m pc ls (.int a1 :: .ref h :: rest)) :=
  mt_call (v := (some (.long r))) (va_runV (As := [.int a1]) (rest := rest) C.1 hM (cwV 1 C.1.2.2.2.2 (lw_V q2224 q2226 qs163 q177 q2227) rfl hrc hrs (by decide +kernel) hR) (mt_preV C.2 hT _) rfl rfl hsz rfl (lv_room hro) d hf) hS (fun _ z => z) (fun H1 locs1 a b _ _ => kk H1 locs1 a b)
set_option maxHeartbeats 4000000 in
set_option maxRecDepth 100000 in
theorem kX7_outcome {l : Launch} {D : va_G} {dA : Nat → ClassId} {h N : Nat} {u u1 : TS} {a1 : Int32} {r : Int64} (hE : fX7_outcome N u a1 = some (r, u1)) : Met l yX7_outcome (ws_ yX7_outcome cX7_outcome 5 (some .long)) ({ frames := 4, cells := 0, slots := 0, locals := 96 }) (va_Pc [.ref h, .int a1] (mt_B D dA h u)) (mt_Q D dA h (some (.long r)) u1) 0 0 (TA h) := by
  refine mt_met (by decide) rfl rfl rfl ?_
  intro p e s m args below meth c ls C hr hlocks hT hS hl
  have hx := C.1.1
  have hb := C.1.2.1
  have w_101 : ∀ (n : Nat) (u : TS) (x2 : Int64) (x4 : Int32) (H : Heap) (locs : List Loc) (ls : Array Slot), fX7_outcome_101 N n u x2 x4 = some (r, u1) → TW D dA h u H → va_S (TA h) s.heap H locs → lv_has ls 5 [(0, .ref h), (2, .long x2), (4, .int x4)] → W p l e { frames := 4, cells := 0, slots := 0, locals := 96 } s m args below meth c H locs 0 0 (MQ below (mt_Q D dA h (some (.long r)) u1) args s 0 0 (TA h)) (F0 m 101 ls []) := by
    intro n
    induction n with
    | zero =>
      intro u x2 x4 H locs ls hE hT hS hl
      cases (show (none : Option (Int64 × TS)) = some (r, u1) from hE)
    | succ n ih =>
      intro u x2 x4 H locs ls hE hT hS hl
      rw [fX7_outcome_101] at hE
      refine lv_iload hx hb dX7_outcome_101 (lv_at hl 2 rfl) ?_
      refine lv_aload_n hx hb dX7_outcome_103 rfl (lv_at hl 0 rfl) ?_
      refine tg_s C hT dX7_outcome_104 ?_
      refine lv_iconst (v := (3 : Int32)) hx hb dX7_outcome_107 rfl ?_
      refine tl_s C hT hE dX7_outcome_108 (fun hE => ?_)
      refine z_nmi hE (fun v1 hE => ?_)
      refine lv_icmp_ge (tgt := 137) hx hb dX7_outcome_109 (by decide) (fun c2 => ?_) (fun c2 => ?_)
      · have hE := z_t c2 hE
        refine lv_lload_n hx hb dX7_outcome_137 rfl (lv_at hl 1 rfl) ?_
        exact mt_lret C hr hlocks hT hS hE dX7_outcome_138
      · have hE := z_f c2 hE
        refine lv_lload_n hx hb dX7_outcome_112 rfl (lv_at hl 1 rfl) ?_
        refine lv_aload_n hx hb dX7_outcome_113 rfl (lv_at hl 0 rfl) ?_
        refine tg_s C hT dX7_outcome_114 ?_
        refine lv_sipush (v := (928 : Int32)) hx hb dX7_outcome_117 rfl ?_
        refine lv_iconst (v := (4 : Int32)) hx hb dX7_outcome_120 rfl ?_
        refine lv_iload hx hb dX7_outcome_121 (lv_at hl 2 rfl) ?_
        refine lv_imul hx hb dX7_outcome_123 ?_
        refine lv_iadd hx hb dX7_outcome_124 ?_
        refine lv_iconst (v := (3 : Int32)) hx hb dX7_outcome_125 rfl ?_
        refine lv_iadd hx hb dX7_outcome_126 ?_
        refine tl_s C hT hE dX7_outcome_127 (fun hE => ?_)
        refine z_nmi hE (fun v3 hE => ?_)
        refine lv_i2l hx hb dX7_outcome_128 rfl ?_
        refine lv_ladd hx hb dX7_outcome_129 ?_
        refine z_nml hE (fun z4 hE => ?_)
        refine lv_lstore_n (lv' := [(2, .long z4), (0, .ref h), (4, .int x4)]) hx hb dX7_outcome_130 rfl hl (by decide) rfl (fun ls hl => ?_)
        refine z_iinc (v := (x4 + (1 : Int32))) (lw := (fun y_ => [(4, .int y_), (2, .long z4), (0, .ref h)])) hx hb dX7_outcome_131 hl hE (k := 2) rfl rfl (by decide) (fun _ => rfl) (fun z5 ls hE hl => ?_)
        refine lv_goto (tgt := 101) hx hb dX7_outcome_134 (by decide) ?_
        exact ih _ _ _ _ _ _ hE hT hS (lv_sub hl [2, 1, 0] rfl)
  unfold fX7_outcome at hE
  refine lv_iload_n hx hb dX7_outcome_0 rfl (lv_at hl 1 rfl) ?_
  by_cases c6 : a1 = (0 : Int32)
  · have hE := z_t c6 hE
    refine lv_tableIn (tgt := 40) hx hb dX7_outcome_1 (by rw [c6]; decide) (by rw [c6]; decide) (by rw [c6]; rfl) (by decide) ?_
    refine lv_aload_n hx hb dX7_outcome_40 rfl (lv_at hl 0 rfl) ?_
    refine lv_iload_n hx hb dX7_outcome_41 rfl (lv_at hl 1 rfl) ?_
    obtain ⟨r8, u7, hc, hE⟩ := o_bd2_some hE
    refine tc_X7_sum C hT hS (kX7_sum hc) rfl rfl ⟨Nat.le_of_ble_eq_true rfl, Nat.le_of_ble_eq_true rfl⟩ ⟨Nat.le_refl 0, Nat.le_refl 0⟩ dX7_outcome_42 hl.1 (Nat.le_of_ble_eq_true rfl) (fun H locs hT hS => ?_)
    exact mt_lret C hr hlocks hT hS hE dX7_outcome_45
  have hE := z_f c6 hE
  by_cases c9 : a1 = (1 : Int32)
  · have hE := z_t c9 hE
    refine lv_tableIn (tgt := 40) hx hb dX7_outcome_1 (by rw [c9]; decide) (by rw [c9]; decide) (by rw [c9]; rfl) (by decide) ?_
    refine lv_aload_n hx hb dX7_outcome_40 rfl (lv_at hl 0 rfl) ?_
    refine lv_iload_n hx hb dX7_outcome_41 rfl (lv_at hl 1 rfl) ?_
    obtain ⟨r11, u10, hc, hE⟩ := o_bd2_some hE
    refine tc_X7_sum C hT hS (kX7_sum hc) rfl rfl ⟨Nat.le_of_ble_eq_true rfl, Nat.le_of_ble_eq_true rfl⟩ ⟨Nat.le_refl 0, Nat.le_refl 0⟩ dX7_outcome_42 hl.1 (Nat.le_of_ble_eq_true rfl) (fun H locs hT hS => ?_)
    exact mt_lret C hr hlocks hT hS hE dX7_outcome_45
  have hE := z_f c9 hE
  by_cases c12 : a1 = (2 : Int32)
  · have hE := z_t c12 hE
    refine lv_tableIn (tgt := 46) hx hb dX7_outcome_1 (by rw [c12]; decide) (by rw [c12]; decide) (by rw [c12]; rfl) (by decide) ?_
    refine lv_aload_n hx hb dX7_outcome_46 rfl (lv_at hl 0 rfl) ?_
    refine tg_books C hT dX7_outcome_47 ?_
    refine lv_iconst (v := (3 : Int32)) hx hb dX7_outcome_50 rfl ?_
    refine tl_books C hT hE dX7_outcome_51 (fun hE => ?_)
    refine z_nml hE (fun v13 hE => ?_)
    refine lv_aload_n hx hb dX7_outcome_52 rfl (lv_at hl 0 rfl) ?_
    refine tg_triedBooks C hT dX7_outcome_53 ?_
    refine lv_iconst (v := (3 : Int32)) hx hb dX7_outcome_56 rfl ?_
    refine tl_triedBooks C hT hE dX7_outcome_57 (fun hE => ?_)
    refine z_nml hE (fun v14 hE => ?_)
    refine lv_lsub hx hb dX7_outcome_58 ?_
    exact mt_lret C hr hlocks hT hS hE dX7_outcome_59
  have hE := z_f c12 hE
  by_cases c15 : a1 = (3 : Int32)
  · have hE := z_t c15 hE
    refine lv_tableIn (tgt := 60) hx hb dX7_outcome_1 (by rw [c15]; decide) (by rw [c15]; decide) (by rw [c15]; rfl) (by decide) ?_
    refine lv_aload_n hx hb dX7_outcome_60 rfl (lv_at hl 0 rfl) ?_
    refine tg_books C hT dX7_outcome_61 ?_
    refine lv_iconst (v := (5 : Int32)) hx hb dX7_outcome_64 rfl ?_
    refine tl_books C hT hE dX7_outcome_65 (fun hE => ?_)
    refine z_nml hE (fun v16 hE => ?_)
    refine lv_aload_n hx hb dX7_outcome_66 rfl (lv_at hl 0 rfl) ?_
    refine tg_triedBooks C hT dX7_outcome_67 ?_
    refine lv_iconst (v := (5 : Int32)) hx hb dX7_outcome_70 rfl ?_
    refine tl_triedBooks C hT hE dX7_outcome_71 (fun hE => ?_)
    refine z_nml hE (fun v17 hE => ?_)
    refine lv_lsub hx hb dX7_outcome_72 ?_
    exact mt_lret C hr hlocks hT hS hE dX7_outcome_73
  have hE := z_f c15 hE
  by_cases c18 : a1 = (4 : Int32)
  · have hE := z_t c18 hE
    refine lv_tableIn (tgt := 74) hx hb dX7_outcome_1 (by rw [c18]; decide) (by rw [c18]; decide) (by rw [c18]; rfl) (by decide) ?_
    refine lv_aload_n hx hb dX7_outcome_74 rfl (lv_at hl 0 rfl) ?_
    refine tg_books C hT dX7_outcome_75 ?_
    refine lv_bipush (v := (6 : Int32)) hx hb dX7_outcome_78 rfl ?_
    refine tl_books C hT hE dX7_outcome_80 (fun hE => ?_)
    refine z_nml hE (fun v19 hE => ?_)
    refine lv_aload_n hx hb dX7_outcome_81 rfl (lv_at hl 0 rfl) ?_
    refine tg_triedBooks C hT dX7_outcome_82 ?_
    refine lv_bipush (v := (6 : Int32)) hx hb dX7_outcome_85 rfl ?_
    refine tl_triedBooks C hT hE dX7_outcome_87 (fun hE => ?_)
    refine z_nml hE (fun v20 hE => ?_)
    refine lv_lsub hx hb dX7_outcome_88 ?_
    exact mt_lret C hr hlocks hT hS hE dX7_outcome_89
  have hE := z_f c18 hE
  by_cases c21 : a1 = (5 : Int32)
  · have hE := z_t c21 hE
    refine lv_tableIn (tgt := 90) hx hb dX7_outcome_1 (by rw [c21]; decide) (by rw [c21]; decide) (by rw [c21]; rfl) (by decide) ?_
    refine lv_aload_n hx hb dX7_outcome_90 rfl (lv_at hl 0 rfl) ?_
    obtain ⟨r23, u22, hc, hE⟩ := o_bd2_some hE
    refine tc_X7_bareMany C hT hS (kX7_bareMany hc) rfl rfl ⟨Nat.le_of_ble_eq_true rfl, Nat.le_of_ble_eq_true rfl⟩ ⟨Nat.le_refl 0, Nat.le_refl 0⟩ dX7_outcome_91 hl.1 (Nat.le_of_ble_eq_true rfl) (fun H locs hT hS => ?_)
    refine lv_i2l hx hb dX7_outcome_94 rfl ?_
    exact mt_lret C hr hlocks hT hS hE dX7_outcome_95
  have hE := z_f c21 hE
  refine lv_tableOut (tgt := 96) hx hb dX7_outcome_1 (z_swOut (fun k_ h1_ h2_ => ?_)) (by decide) ?_
  · rcases (show k_ = 0 ∨ k_ = 1 ∨ k_ = 2 ∨ k_ = 3 ∨ k_ = 4 ∨ k_ = 5 by omega) with rfl | rfl | rfl | rfl | rfl | rfl
    · exact c6
    · exact c9
    · exact c12
    · exact c15
    · exact c18
    · exact c21
  refine lv_lconst (v := (0 : Int64)) hx hb dX7_outcome_96 rfl ?_
  refine lv_lstore_n (lv' := [(2, .long (0 : Int64)), (0, .ref h), (1, .int a1)]) hx hb dX7_outcome_97 rfl hl (by decide) rfl (fun ls hl => ?_)
  refine lv_iconst (v := (0 : Int32)) hx hb dX7_outcome_98 rfl ?_
  refine lv_istore (lv' := [(4, .int (0 : Int32)), (2, .long (0 : Int64)), (0, .ref h), (1, .int a1)]) hx hb dX7_outcome_99 hl (by decide) rfl (fun ls hl => ?_)
  exact w_101 N _ _ _ _ _ _ hE hT hS (lv_sub hl [2, 1, 0] rfl)
set_option maxHeartbeats 4000000 in
set_option maxRecDepth 100000 in
theorem kX7_attempt {l : Launch} {D : va_G} {dA : Nat → ClassId} {h N : Nat} {u u1 : TS} {a1 : Int32} {a2 : Int32} {r : Int64} (hE : fX7_attempt N u a1 a2 = some (r, u1)) : Met l yX7_attempt (ws_ yX7_attempt cX7_attempt 6 (some .long)) ({ frames := 73, cells := 0, slots := 0, locals := 2254 }) (va_Pc [.ref h, .int a1, .int a2] (mt_B D dA h u)) (mt_Q D dA h (some (.long r)) u1) 0 0 (TA h) := by
  refine mt_met (by decide) rfl rfl rfl ?_
  intro p e s m args below meth c ls C hr hlocks hT hS hl
  have hx := C.1.1
  have hb := C.1.2.1
  have w_168 : ∀ (n : Nat) (u : TS) (x3 : Int64) (x5 : Int32) (H : Heap) (locs : List Loc) (ls : Array Slot), fX7_attempt_168 N n u x3 x5 = some (r, u1) → TW D dA h u H → va_S (TA h) s.heap H locs → lv_has ls 6 [(0, .ref h), (3, .long x3), (5, .int x5)] → W p l e { frames := 73, cells := 0, slots := 0, locals := 2254 } s m args below meth c H locs 0 0 (MQ below (mt_Q D dA h (some (.long r)) u1) args s 0 0 (TA h)) (F0 m 168 ls []) := by
    intro n
    induction n with
    | zero =>
      intro u x3 x5 H locs ls hE hT hS hl
      cases (show (none : Option (Int64 × TS)) = some (r, u1) from hE)
    | succ n ih =>
      intro u x3 x5 H locs ls hE hT hS hl
      rw [fX7_attempt_168] at hE
      refine lv_iload hx hb dX7_attempt_168 (lv_at hl 2 rfl) ?_
      refine lv_bipush (v := (8 : Int32)) hx hb dX7_attempt_170 rfl ?_
      refine lv_icmp_ge (tgt := 195) hx hb dX7_attempt_172 (by decide) (fun c1 => ?_) (fun c1 => ?_)
      · have hE := z_t c1 hE
        refine lv_lload_n hx hb dX7_attempt_195 rfl (lv_at hl 1 rfl) ?_
        exact mt_lret C hr hlocks hT hS hE dX7_attempt_196
      · have hE := z_f c1 hE
        refine lv_aload_n hx hb dX7_attempt_175 rfl (lv_at hl 0 rfl) ?_
        refine tg_books C hT dX7_attempt_176 ?_
        refine lv_iload hx hb dX7_attempt_179 (lv_at hl 2 rfl) ?_
        refine lv_aload_n hx hb dX7_attempt_181 rfl (lv_at hl 0 rfl) ?_
        refine tg_triedBooks C hT dX7_attempt_182 ?_
        refine lv_iload hx hb dX7_attempt_185 (lv_at hl 2 rfl) ?_
        refine tl_triedBooks C hT hE dX7_attempt_187 (fun hE => ?_)
        refine z_nml hE (fun v2 hE => ?_)
        refine ts_books C hT hS hE dX7_attempt_188 (fun u3 H locs hE hT hS => ?_)
        refine z_iinc (v := (x5 + (1 : Int32))) (lw := (fun y_ => [(5, .int y_), (0, .ref h), (3, .long x3)])) hx hb dX7_attempt_189 hl hE (k := 2) rfl rfl (by decide) (fun _ => rfl) (fun z4 ls hE hl => ?_)
        refine lv_goto (tgt := 168) hx hb dX7_attempt_192 (by decide) ?_
        exact ih _ _ _ _ _ _ hE hT hS (lv_sub hl [1, 2, 0] rfl)
  have w_137 : ∀ (n : Nat) (u : TS) (x3 : Int64) (x5 : Int32) (H : Heap) (locs : List Loc) (ls : Array Slot), fX7_attempt_137 N n u x3 x5 = some (r, u1) → TW D dA h u H → va_S (TA h) s.heap H locs → lv_has ls 6 [(0, .ref h), (3, .long x3), (5, .int x5)] → W p l e { frames := 73, cells := 0, slots := 0, locals := 2254 } s m args below meth c H locs 0 0 (MQ below (mt_Q D dA h (some (.long r)) u1) args s 0 0 (TA h)) (F0 m 137 ls []) := by
    intro n
    induction n with
    | zero =>
      intro u x3 x5 H locs ls hE hT hS hl
      cases (show (none : Option (Int64 × TS)) = some (r, u1) from hE)
    | succ n ih =>
      intro u x3 x5 H locs ls hE hT hS hl
      rw [fX7_attempt_137] at hE
      refine lv_iload hx hb dX7_attempt_137 (lv_at hl 2 rfl) ?_
      refine lv_sipush (v := (4536 : Int32)) hx hb dX7_attempt_139 rfl ?_
      refine lv_icmp_ge (tgt := 165) hx hb dX7_attempt_142 (by decide) (fun c5 => ?_) (fun c5 => ?_)
      · have hE := z_t c5 hE
        refine lv_iconst (v := (0 : Int32)) hx hb dX7_attempt_165 rfl ?_
        refine lv_istore (lv' := [(5, .int (0 : Int32)), (0, .ref h), (3, .long x3)]) hx hb dX7_attempt_166 hl (by decide) rfl (fun ls hl => ?_)
        exact w_168 N _ _ _ _ _ _ hE hT hS (lv_sub hl [1, 2, 0] rfl)
      · have hE := z_f c5 hE
        refine lv_aload_n hx hb dX7_attempt_145 rfl (lv_at hl 0 rfl) ?_
        refine tg_s C hT dX7_attempt_146 ?_
        refine lv_iload hx hb dX7_attempt_149 (lv_at hl 2 rfl) ?_
        refine lv_aload_n hx hb dX7_attempt_151 rfl (lv_at hl 0 rfl) ?_
        refine tg_tried C hT dX7_attempt_152 ?_
        refine lv_iload hx hb dX7_attempt_155 (lv_at hl 2 rfl) ?_
        refine tl_tried C hT hE dX7_attempt_157 (fun hE => ?_)
        refine z_nmi hE (fun v6 hE => ?_)
        refine ts_s C hT hS hE dX7_attempt_158 (fun u7 H locs hE hT hS => ?_)
        refine z_iinc (v := (x5 + (1 : Int32))) (lw := (fun y_ => [(5, .int y_), (0, .ref h), (3, .long x3)])) hx hb dX7_attempt_159 hl hE (k := 2) rfl rfl (by decide) (fun _ => rfl) (fun z8 ls hE hl => ?_)
        refine lv_goto (tgt := 137) hx hb dX7_attempt_162 (by decide) ?_
        exact ih _ _ _ _ _ _ hE hT hS (lv_sub hl [1, 2, 0] rfl)
  have w_113 : ∀ (n : Nat) (u : TS) (x1 : Int32) (x2 : Int32) (x3 : Int32) (H : Heap) (locs : List Loc) (ls : Array Slot), fX7_attempt_113 N n u x1 x2 x3 = some (r, u1) → TW D dA h u H → va_S (TA h) s.heap H locs → lv_has ls 6 [(0, .ref h), (1, .int x1), (2, .int x2), (3, .int x3)] → W p l e { frames := 73, cells := 0, slots := 0, locals := 2254 } s m args below meth c H locs 0 0 (MQ below (mt_Q D dA h (some (.long r)) u1) args s 0 0 (TA h)) (F0 m 113 ls []) := by
    intro n
    induction n with
    | zero =>
      intro u x1 x2 x3 H locs ls hE hT hS hl
      cases (show (none : Option (Int64 × TS)) = some (r, u1) from hE)
    | succ n ih =>
      intro u x1 x2 x3 H locs ls hE hT hS hl
      rw [fX7_attempt_113] at hE
      refine lv_iload_n hx hb dX7_attempt_113 rfl (lv_at hl 3 rfl) ?_
      refine lv_iload_n hx hb dX7_attempt_114 rfl (lv_at hl 1 rfl) ?_
      refine lv_icmp_ge (tgt := 128) hx hb dX7_attempt_115 (by decide) (fun c9 => ?_) (fun c9 => ?_)
      · have hE := z_t c9 hE
        refine lv_aload_n hx hb dX7_attempt_128 rfl (lv_at hl 0 rfl) ?_
        refine lv_iload_n hx hb dX7_attempt_129 rfl (lv_at hl 2 rfl) ?_
        obtain ⟨r11, u10, hc, hE⟩ := o_bd2_some hE
        refine tc_X7_outcome C hT hS (kX7_outcome hc) rfl rfl ⟨Nat.le_of_ble_eq_true rfl, Nat.le_of_ble_eq_true rfl⟩ ⟨Nat.le_refl 0, Nat.le_refl 0⟩ dX7_attempt_130 hl.1 (Nat.le_of_ble_eq_true rfl) (fun H locs hT hS => ?_)
        refine lv_lstore_n (lv' := [(3, .long r11), (0, .ref h), (1, .int x1), (2, .int x2)]) hx hb dX7_attempt_133 rfl hl (by decide) rfl (fun ls hl => ?_)
        refine lv_iconst (v := (0 : Int32)) hx hb dX7_attempt_134 rfl ?_
        refine lv_istore (lv' := [(5, .int (0 : Int32)), (3, .long r11), (0, .ref h), (1, .int x1), (2, .int x2)]) hx hb dX7_attempt_135 hl (by decide) rfl (fun ls hl => ?_)
        exact w_137 N _ _ _ _ _ _ hE hT hS (lv_sub hl [2, 1, 0] rfl)
      · have hE := z_f c9 hE
        refine lv_aload_n hx hb dX7_attempt_118 rfl (lv_at hl 0 rfl) ?_
        obtain ⟨u12, hc, hE⟩ := o_bd_some hE
        refine tc_X7_close C hT hS (kX7_close hc) rfl rfl ⟨Nat.le_of_ble_eq_true rfl, Nat.le_of_ble_eq_true rfl⟩ ⟨Nat.le_refl 0, Nat.le_refl 0⟩ dX7_attempt_119 hl.1 (Nat.le_of_ble_eq_true rfl) (fun H locs hT hS => ?_)
        refine z_iinc (v := (x3 + (1 : Int32))) (lw := (fun y_ => [(3, .int y_), (0, .ref h), (1, .int x1), (2, .int x2)])) hx hb dX7_attempt_122 hl hE (k := 3) rfl rfl (by decide) (fun _ => rfl) (fun z13 ls hE hl => ?_)
        refine lv_goto (tgt := 113) hx hb dX7_attempt_125 (by decide) ?_
        exact ih _ _ _ _ _ _ _ hE hT hS (lv_sub hl [1, 2, 3, 0] rfl)
  have w_87 : ∀ (n : Nat) (u : TS) (x1 : Int32) (x2 : Int32) (x3 : Int32) (H : Heap) (locs : List Loc) (ls : Array Slot), fX7_attempt_87 N n u x1 x2 x3 = some (r, u1) → TW D dA h u H → va_S (TA h) s.heap H locs → lv_has ls 6 [(0, .ref h), (1, .int x1), (2, .int x2), (3, .int x3)] → W p l e { frames := 73, cells := 0, slots := 0, locals := 2254 } s m args below meth c H locs 0 0 (MQ below (mt_Q D dA h (some (.long r)) u1) args s 0 0 (TA h)) (F0 m 87 ls []) := by
    intro n
    induction n with
    | zero =>
      intro u x1 x2 x3 H locs ls hE hT hS hl
      cases (show (none : Option (Int64 × TS)) = some (r, u1) from hE)
    | succ n ih =>
      intro u x1 x2 x3 H locs ls hE hT hS hl
      rw [fX7_attempt_87] at hE
      refine lv_iload_n hx hb dX7_attempt_87 rfl (lv_at hl 3 rfl) ?_
      refine lv_bipush (v := (8 : Int32)) hx hb dX7_attempt_88 rfl ?_
      refine lv_icmp_ge (tgt := 111) hx hb dX7_attempt_90 (by decide) (fun c14 => ?_) (fun c14 => ?_)
      · have hE := z_t c14 hE
        refine lv_iconst (v := (0 : Int32)) hx hb dX7_attempt_111 rfl ?_
        refine lv_istore_n (lv' := [(3, .int (0 : Int32)), (0, .ref h), (1, .int x1), (2, .int x2)]) hx hb dX7_attempt_112 rfl hl (by decide) rfl (fun ls hl => ?_)
        exact w_113 N _ _ _ _ _ _ _ hE hT hS (lv_sub hl [1, 2, 3, 0] rfl)
      · have hE := z_f c14 hE
        refine lv_aload_n hx hb dX7_attempt_93 rfl (lv_at hl 0 rfl) ?_
        refine tg_triedBooks C hT dX7_attempt_94 ?_
        refine lv_iload_n hx hb dX7_attempt_97 rfl (lv_at hl 3 rfl) ?_
        refine lv_aload_n hx hb dX7_attempt_98 rfl (lv_at hl 0 rfl) ?_
        refine tg_books C hT dX7_attempt_99 ?_
        refine lv_iload_n hx hb dX7_attempt_102 rfl (lv_at hl 3 rfl) ?_
        refine tl_books C hT hE dX7_attempt_103 (fun hE => ?_)
        refine z_nml hE (fun v15 hE => ?_)
        refine ts_triedBooks C hT hS hE dX7_attempt_104 (fun u16 H locs hE hT hS => ?_)
        refine z_iinc (v := (x3 + (1 : Int32))) (lw := (fun y_ => [(3, .int y_), (0, .ref h), (1, .int x1), (2, .int x2)])) hx hb dX7_attempt_105 hl hE (k := 3) rfl rfl (by decide) (fun _ => rfl) (fun z17 ls hE hl => ?_)
        refine lv_goto (tgt := 87) hx hb dX7_attempt_108 (by decide) ?_
        exact ih _ _ _ _ _ _ _ hE hT hS (lv_sub hl [1, 2, 3, 0] rfl)
  have w_60 : ∀ (n : Nat) (u : TS) (x1 : Int32) (x2 : Int32) (x3 : Int32) (H : Heap) (locs : List Loc) (ls : Array Slot), fX7_attempt_60 N n u x1 x2 x3 = some (r, u1) → TW D dA h u H → va_S (TA h) s.heap H locs → lv_has ls 6 [(0, .ref h), (1, .int x1), (2, .int x2), (3, .int x3)] → W p l e { frames := 73, cells := 0, slots := 0, locals := 2254 } s m args below meth c H locs 0 0 (MQ below (mt_Q D dA h (some (.long r)) u1) args s 0 0 (TA h)) (F0 m 60 ls []) := by
    intro n
    induction n with
    | zero =>
      intro u x1 x2 x3 H locs ls hE hT hS hl
      cases (show (none : Option (Int64 × TS)) = some (r, u1) from hE)
    | succ n ih =>
      intro u x1 x2 x3 H locs ls hE hT hS hl
      rw [fX7_attempt_60] at hE
      refine lv_iload_n hx hb dX7_attempt_60 rfl (lv_at hl 3 rfl) ?_
      refine lv_sipush (v := (4536 : Int32)) hx hb dX7_attempt_61 rfl ?_
      refine lv_icmp_ge (tgt := 85) hx hb dX7_attempt_64 (by decide) (fun c18 => ?_) (fun c18 => ?_)
      · have hE := z_t c18 hE
        refine lv_iconst (v := (0 : Int32)) hx hb dX7_attempt_85 rfl ?_
        refine lv_istore_n (lv' := [(3, .int (0 : Int32)), (0, .ref h), (1, .int x1), (2, .int x2)]) hx hb dX7_attempt_86 rfl hl (by decide) rfl (fun ls hl => ?_)
        exact w_87 N _ _ _ _ _ _ _ hE hT hS (lv_sub hl [1, 2, 3, 0] rfl)
      · have hE := z_f c18 hE
        refine lv_aload_n hx hb dX7_attempt_67 rfl (lv_at hl 0 rfl) ?_
        refine tg_tried C hT dX7_attempt_68 ?_
        refine lv_iload_n hx hb dX7_attempt_71 rfl (lv_at hl 3 rfl) ?_
        refine lv_aload_n hx hb dX7_attempt_72 rfl (lv_at hl 0 rfl) ?_
        refine tg_s C hT dX7_attempt_73 ?_
        refine lv_iload_n hx hb dX7_attempt_76 rfl (lv_at hl 3 rfl) ?_
        refine tl_s C hT hE dX7_attempt_77 (fun hE => ?_)
        refine z_nmi hE (fun v19 hE => ?_)
        refine ts_tried C hT hS hE dX7_attempt_78 (fun u20 H locs hE hT hS => ?_)
        refine z_iinc (v := (x3 + (1 : Int32))) (lw := (fun y_ => [(3, .int y_), (0, .ref h), (1, .int x1), (2, .int x2)])) hx hb dX7_attempt_79 hl hE (k := 3) rfl rfl (by decide) (fun _ => rfl) (fun z21 ls hE hl => ?_)
        refine lv_goto (tgt := 60) hx hb dX7_attempt_82 (by decide) ?_
        exact ih _ _ _ _ _ _ _ hE hT hS (lv_sub hl [1, 2, 3, 0] rfl)
  unfold fX7_attempt at hE
  refine lv_iload_n hx hb dX7_attempt_0 rfl (lv_at hl 2 rfl) ?_
  refine lv_iconst (v := (0 : Int32)) hx hb dX7_attempt_1 rfl ?_
  refine lv_bipush (v := (6 : Int32)) hx hb dX7_attempt_2 rfl ?_
  obtain ⟨r22, hc, hE⟩ := o_bd_some hE
  refine sc_X7_in C.1 (kX7_in hc) rfl rfl ⟨Nat.le_of_ble_eq_true rfl, Nat.le_of_ble_eq_true rfl⟩ ⟨Nat.le_refl 0, Nat.le_refl 0⟩ dX7_attempt_4 hl.1 (Nat.le_of_ble_eq_true rfl) ?_
  refine lv_if_ne (tgt := 18) hx hb dX7_attempt_7 (by decide) (fun c23 => ?_) (fun c23 => ?_)
  · have hE := z_f c23 hE
    refine lv_iload_n hx hb dX7_attempt_18 rfl (lv_at hl 1 rfl) ?_
    refine lv_iconst (v := (1 : Int32)) hx hb dX7_attempt_19 rfl ?_
    refine lv_bipush (v := (30 : Int32)) hx hb dX7_attempt_20 rfl ?_
    obtain ⟨r24, hc, hE⟩ := o_bd_some hE
    refine sc_X7_in C.1 (kX7_in hc) rfl rfl ⟨Nat.le_of_ble_eq_true rfl, Nat.le_of_ble_eq_true rfl⟩ ⟨Nat.le_refl 0, Nat.le_refl 0⟩ dX7_attempt_22 hl.1 (Nat.le_of_ble_eq_true rfl) ?_
    refine lv_if_ne (tgt := 36) hx hb dX7_attempt_25 (by decide) (fun c25 => ?_) (fun c25 => ?_)
    · have hE := z_f c25 hE
      refine lv_aload_n hx hb dX7_attempt_36 rfl (lv_at hl 0 rfl) ?_
      refine tg_s C hT dX7_attempt_37 ?_
      refine lv_iconst (v := (0 : Int32)) hx hb dX7_attempt_40 rfl ?_
      refine tl_s C hT hE dX7_attempt_41 (fun hE => ?_)
      refine z_nmi hE (fun v26 hE => ?_)
      refine lv_iload_n hx hb dX7_attempt_42 rfl (lv_at hl 1 rfl) ?_
      refine lv_iadd hx hb dX7_attempt_43 ?_
      refine lv_sipush (v := (400 : Int32)) hx hb dX7_attempt_44 rfl ?_
      refine lv_icmp_le (tgt := 58) hx hb dX7_attempt_47 (by decide) (fun c27 => ?_) (fun c27 => ?_)
      · have hE := z_t c27 hE
        refine lv_iconst (v := (0 : Int32)) hx hb dX7_attempt_58 rfl ?_
        refine lv_istore_n (lv' := [(3, .int (0 : Int32)), (0, .ref h), (1, .int a1), (2, .int a2)]) hx hb dX7_attempt_59 rfl hl (by decide) rfl (fun ls hl => ?_)
        exact w_60 N _ _ _ _ _ _ _ hE hT hS (lv_sub hl [1, 2, 3, 0] rfl)
      · have hE := z_f c27 hE
        refine lv_aload_n hx hb dX7_attempt_50 rfl (lv_at hl 0 rfl) ?_
        refine lv_bipush (v := (-8 : Int32)) hx hb dX7_attempt_51 rfl ?_
        obtain ⟨r29, u28, hc, hE⟩ := o_bd2_some hE
        refine tc_X7_hush C hT hS (kX7_hush hc) rfl rfl ⟨Nat.le_of_ble_eq_true rfl, Nat.le_of_ble_eq_true rfl⟩ ⟨Nat.le_refl 0, Nat.le_refl 0⟩ dX7_attempt_53 hl.1 (Nat.le_of_ble_eq_true rfl) (fun H locs hT hS => ?_)
        refine lv_i2l hx hb dX7_attempt_56 rfl ?_
        exact mt_lret C hr hlocks hT hS hE dX7_attempt_57
    · have hE := z_t c25 hE
      refine lv_aload_n hx hb dX7_attempt_28 rfl (lv_at hl 0 rfl) ?_
      refine lv_bipush (v := (-7 : Int32)) hx hb dX7_attempt_29 rfl ?_
      obtain ⟨r31, u30, hc, hE⟩ := o_bd2_some hE
      refine tc_X7_hush C hT hS (kX7_hush hc) rfl rfl ⟨Nat.le_of_ble_eq_true rfl, Nat.le_of_ble_eq_true rfl⟩ ⟨Nat.le_refl 0, Nat.le_refl 0⟩ dX7_attempt_31 hl.1 (Nat.le_of_ble_eq_true rfl) (fun H locs hT hS => ?_)
      refine lv_i2l hx hb dX7_attempt_34 rfl ?_
      exact mt_lret C hr hlocks hT hS hE dX7_attempt_35
  · have hE := z_t c23 hE
    refine lv_aload_n hx hb dX7_attempt_10 rfl (lv_at hl 0 rfl) ?_
    refine lv_bipush (v := (-3 : Int32)) hx hb dX7_attempt_11 rfl ?_
    obtain ⟨r33, u32, hc, hE⟩ := o_bd2_some hE
    refine tc_X7_hush C hT hS (kX7_hush hc) rfl rfl ⟨Nat.le_of_ble_eq_true rfl, Nat.le_of_ble_eq_true rfl⟩ ⟨Nat.le_refl 0, Nat.le_refl 0⟩ dX7_attempt_13 hl.1 (Nat.le_of_ble_eq_true rfl) (fun H locs hT hS => ?_)
    refine lv_i2l hx hb dX7_attempt_16 rfl ?_
    exact mt_lret C hr hlocks hT hS hE dX7_attempt_17
set_option maxHeartbeats 4000000 in
set_option maxRecDepth 100000 in
theorem kX7_image {l : Launch} {D : va_G} {dA : Nat → ClassId} {h N : Nat} {u u1 : TS} {r : Int32} (hE : fX7_image N u = some (r, u1)) : Met l yX7_image (ws_ yX7_image cX7_image 2 (some .int)) ({ frames := 0, cells := 0, slots := 0, locals := 0 }) (va_Pc [.ref h] (mt_B D dA h u)) (mt_Q D dA h (some (.int r)) u1) 0 0 (TA h) := by
  refine mt_met (by decide) rfl rfl rfl ?_
  intro p e s m args below meth c ls C hr hlocks hT hS hl
  have hx := C.1.1
  have hb := C.1.2.1
  have w_29 : ∀ (n : Nat) (u : TS) (x1 : Int32) (H : Heap) (locs : List Loc) (ls : Array Slot), fX7_image_29 N n u x1 = some (r, u1) → TW D dA h u H → va_S (TA h) s.heap H locs → lv_has ls 2 [(0, .ref h), (1, .int x1)] → W p l e { frames := 0, cells := 0, slots := 0, locals := 0 } s m args below meth c H locs 0 0 (MQ below (mt_Q D dA h (some (.int r)) u1) args s 0 0 (TA h)) (F0 m 29 ls []) := by
    intro n
    induction n with
    | zero =>
      intro u x1 H locs ls hE hT hS hl
      cases (show (none : Option (Int32 × TS)) = some (r, u1) from hE)
    | succ n ih =>
      intro u x1 H locs ls hE hT hS hl
      rw [fX7_image_29] at hE
      refine lv_iload_n hx hb dX7_image_29 rfl (lv_at hl 1 rfl) ?_
      refine lv_bipush (v := (8 : Int32)) hx hb dX7_image_30 rfl ?_
      refine lv_icmp_ge (tgt := 53) hx hb dX7_image_32 (by decide) (fun c1 => ?_) (fun c1 => ?_)
      · have hE := z_t c1 hE
        refine lv_aload_n hx hb dX7_image_53 rfl (lv_at hl 0 rfl) ?_
        refine lv_iconst (v := (1 : Int32)) hx hb dX7_image_54 rfl ?_
        refine tp_hasImage C hT hS (Or.inr rfl) hE dX7_image_55 (fun u2 H locs hE hT hS => ?_)
        refine lv_aload_n hx hb dX7_image_58 rfl (lv_at hl 0 rfl) ?_
        refine tg_s C hT dX7_image_59 ?_
        refine lv_iconst (v := (0 : Int32)) hx hb dX7_image_62 rfl ?_
        refine tl_s C hT hE dX7_image_63 (fun hE => ?_)
        refine z_nmi hE (fun v3 hE => ?_)
        exact mt_iret C hr hlocks hT hS hE dX7_image_64
      · have hE := z_f c1 hE
        refine lv_aload_n hx hb dX7_image_35 rfl (lv_at hl 0 rfl) ?_
        refine tg_imageBooks C hT dX7_image_36 ?_
        refine lv_iload_n hx hb dX7_image_39 rfl (lv_at hl 1 rfl) ?_
        refine lv_aload_n hx hb dX7_image_40 rfl (lv_at hl 0 rfl) ?_
        refine tg_books C hT dX7_image_41 ?_
        refine lv_iload_n hx hb dX7_image_44 rfl (lv_at hl 1 rfl) ?_
        refine tl_books C hT hE dX7_image_45 (fun hE => ?_)
        refine z_nml hE (fun v4 hE => ?_)
        refine ts_imageBooks C hT hS hE dX7_image_46 (fun u5 H locs hE hT hS => ?_)
        refine z_iinc (v := (x1 + (1 : Int32))) (lw := (fun y_ => [(1, .int y_), (0, .ref h)])) hx hb dX7_image_47 hl hE (k := 1) rfl rfl (by decide) (fun _ => rfl) (fun z6 ls hE hl => ?_)
        refine lv_goto (tgt := 29) hx hb dX7_image_50 (by decide) ?_
        exact ih _ _ _ _ _ hE hT hS (lv_sub hl [1, 0] rfl)
  have w_2 : ∀ (n : Nat) (u : TS) (x1 : Int32) (H : Heap) (locs : List Loc) (ls : Array Slot), fX7_image_2 N n u x1 = some (r, u1) → TW D dA h u H → va_S (TA h) s.heap H locs → lv_has ls 2 [(0, .ref h), (1, .int x1)] → W p l e { frames := 0, cells := 0, slots := 0, locals := 0 } s m args below meth c H locs 0 0 (MQ below (mt_Q D dA h (some (.int r)) u1) args s 0 0 (TA h)) (F0 m 2 ls []) := by
    intro n
    induction n with
    | zero =>
      intro u x1 H locs ls hE hT hS hl
      cases (show (none : Option (Int32 × TS)) = some (r, u1) from hE)
    | succ n ih =>
      intro u x1 H locs ls hE hT hS hl
      rw [fX7_image_2] at hE
      refine lv_iload_n hx hb dX7_image_2 rfl (lv_at hl 1 rfl) ?_
      refine lv_sipush (v := (4536 : Int32)) hx hb dX7_image_3 rfl ?_
      refine lv_icmp_ge (tgt := 27) hx hb dX7_image_6 (by decide) (fun c7 => ?_) (fun c7 => ?_)
      · have hE := z_t c7 hE
        refine lv_iconst (v := (0 : Int32)) hx hb dX7_image_27 rfl ?_
        refine lv_istore_n (lv' := [(1, .int (0 : Int32)), (0, .ref h)]) hx hb dX7_image_28 rfl hl (by decide) rfl (fun ls hl => ?_)
        exact w_29 N _ _ _ _ _ hE hT hS (lv_sub hl [1, 0] rfl)
      · have hE := z_f c7 hE
        refine lv_aload_n hx hb dX7_image_9 rfl (lv_at hl 0 rfl) ?_
        refine tg_image C hT dX7_image_10 ?_
        refine lv_iload_n hx hb dX7_image_13 rfl (lv_at hl 1 rfl) ?_
        refine lv_aload_n hx hb dX7_image_14 rfl (lv_at hl 0 rfl) ?_
        refine tg_s C hT dX7_image_15 ?_
        refine lv_iload_n hx hb dX7_image_18 rfl (lv_at hl 1 rfl) ?_
        refine tl_s C hT hE dX7_image_19 (fun hE => ?_)
        refine z_nmi hE (fun v8 hE => ?_)
        refine ts_image C hT hS hE dX7_image_20 (fun u9 H locs hE hT hS => ?_)
        refine z_iinc (v := (x1 + (1 : Int32))) (lw := (fun y_ => [(1, .int y_), (0, .ref h)])) hx hb dX7_image_21 hl hE (k := 1) rfl rfl (by decide) (fun _ => rfl) (fun z10 ls hE hl => ?_)
        refine lv_goto (tgt := 2) hx hb dX7_image_24 (by decide) ?_
        exact ih _ _ _ _ _ hE hT hS (lv_sub hl [1, 0] rfl)
  unfold fX7_image at hE
  refine lv_iconst (v := (0 : Int32)) hx hb dX7_image_0 rfl ?_
  refine lv_istore_n (lv' := [(1, .int (0 : Int32)), (0, .ref h)]) hx hb dX7_image_1 rfl hl (by decide) rfl (fun ls hl => ?_)
  exact w_2 N _ _ _ _ _ hE hT hS (lv_sub hl [1, 0] rfl)
set_option maxHeartbeats 4000000 in
set_option maxRecDepth 100000 in
theorem kX7_back {l : Launch} {D : va_G} {dA : Nat → ClassId} {h N : Nat} {u u1 : TS} {r : Int32} (hE : fX7_back N u = some (r, u1)) : Met l yX7_back (ws_ yX7_back cX7_back 2 (some .int)) ({ frames := 1, cells := 0, slots := 0, locals := 21 }) (va_Pc [.ref h] (mt_B D dA h u)) (mt_Q D dA h (some (.int r)) u1) 0 0 (TA h) := by
  refine mt_met (by decide) rfl rfl rfl ?_
  intro p e s m args below meth c ls C hr hlocks hT hS hl
  have hx := C.1.1
  have hb := C.1.2.1
  have w_43 : ∀ (n : Nat) (u : TS) (x1 : Int32) (H : Heap) (locs : List Loc) (ls : Array Slot), fX7_back_43 N n u x1 = some (r, u1) → TW D dA h u H → va_S (TA h) s.heap H locs → lv_has ls 2 [(0, .ref h), (1, .int x1)] → W p l e { frames := 1, cells := 0, slots := 0, locals := 21 } s m args below meth c H locs 0 0 (MQ below (mt_Q D dA h (some (.int r)) u1) args s 0 0 (TA h)) (F0 m 43 ls []) := by
    intro n
    induction n with
    | zero =>
      intro u x1 H locs ls hE hT hS hl
      cases (show (none : Option (Int32 × TS)) = some (r, u1) from hE)
    | succ n ih =>
      intro u x1 H locs ls hE hT hS hl
      rw [fX7_back_43] at hE
      refine lv_iload_n hx hb dX7_back_43 rfl (lv_at hl 1 rfl) ?_
      refine lv_bipush (v := (8 : Int32)) hx hb dX7_back_44 rfl ?_
      refine lv_icmp_ge (tgt := 67) hx hb dX7_back_46 (by decide) (fun c1 => ?_) (fun c1 => ?_)
      · have hE := z_t c1 hE
        refine lv_aload_n hx hb dX7_back_67 rfl (lv_at hl 0 rfl) ?_
        refine tg_s C hT dX7_back_68 ?_
        refine lv_iconst (v := (0 : Int32)) hx hb dX7_back_71 rfl ?_
        refine tl_s C hT hE dX7_back_72 (fun hE => ?_)
        refine z_nmi hE (fun v2 hE => ?_)
        exact mt_iret C hr hlocks hT hS hE dX7_back_73
      · have hE := z_f c1 hE
        refine lv_aload_n hx hb dX7_back_49 rfl (lv_at hl 0 rfl) ?_
        refine tg_books C hT dX7_back_50 ?_
        refine lv_iload_n hx hb dX7_back_53 rfl (lv_at hl 1 rfl) ?_
        refine lv_aload_n hx hb dX7_back_54 rfl (lv_at hl 0 rfl) ?_
        refine tg_imageBooks C hT dX7_back_55 ?_
        refine lv_iload_n hx hb dX7_back_58 rfl (lv_at hl 1 rfl) ?_
        refine tl_imageBooks C hT hE dX7_back_59 (fun hE => ?_)
        refine z_nml hE (fun v3 hE => ?_)
        refine ts_books C hT hS hE dX7_back_60 (fun u4 H locs hE hT hS => ?_)
        refine z_iinc (v := (x1 + (1 : Int32))) (lw := (fun y_ => [(1, .int y_), (0, .ref h)])) hx hb dX7_back_61 hl hE (k := 1) rfl rfl (by decide) (fun _ => rfl) (fun z5 ls hE hl => ?_)
        refine lv_goto (tgt := 43) hx hb dX7_back_64 (by decide) ?_
        exact ih _ _ _ _ _ hE hT hS (lv_sub hl [1, 0] rfl)
  have w_16 : ∀ (n : Nat) (u : TS) (x1 : Int32) (H : Heap) (locs : List Loc) (ls : Array Slot), fX7_back_16 N n u x1 = some (r, u1) → TW D dA h u H → va_S (TA h) s.heap H locs → lv_has ls 2 [(0, .ref h), (1, .int x1)] → W p l e { frames := 1, cells := 0, slots := 0, locals := 21 } s m args below meth c H locs 0 0 (MQ below (mt_Q D dA h (some (.int r)) u1) args s 0 0 (TA h)) (F0 m 16 ls []) := by
    intro n
    induction n with
    | zero =>
      intro u x1 H locs ls hE hT hS hl
      cases (show (none : Option (Int32 × TS)) = some (r, u1) from hE)
    | succ n ih =>
      intro u x1 H locs ls hE hT hS hl
      rw [fX7_back_16] at hE
      refine lv_iload_n hx hb dX7_back_16 rfl (lv_at hl 1 rfl) ?_
      refine lv_sipush (v := (4536 : Int32)) hx hb dX7_back_17 rfl ?_
      refine lv_icmp_ge (tgt := 41) hx hb dX7_back_20 (by decide) (fun c6 => ?_) (fun c6 => ?_)
      · have hE := z_t c6 hE
        refine lv_iconst (v := (0 : Int32)) hx hb dX7_back_41 rfl ?_
        refine lv_istore_n (lv' := [(1, .int (0 : Int32)), (0, .ref h)]) hx hb dX7_back_42 rfl hl (by decide) rfl (fun ls hl => ?_)
        exact w_43 N _ _ _ _ _ hE hT hS (lv_sub hl [1, 0] rfl)
      · have hE := z_f c6 hE
        refine lv_aload_n hx hb dX7_back_23 rfl (lv_at hl 0 rfl) ?_
        refine tg_s C hT dX7_back_24 ?_
        refine lv_iload_n hx hb dX7_back_27 rfl (lv_at hl 1 rfl) ?_
        refine lv_aload_n hx hb dX7_back_28 rfl (lv_at hl 0 rfl) ?_
        refine tg_image C hT dX7_back_29 ?_
        refine lv_iload_n hx hb dX7_back_32 rfl (lv_at hl 1 rfl) ?_
        refine tl_image C hT hE dX7_back_33 (fun hE => ?_)
        refine z_nmi hE (fun v7 hE => ?_)
        refine ts_s C hT hS hE dX7_back_34 (fun u8 H locs hE hT hS => ?_)
        refine z_iinc (v := (x1 + (1 : Int32))) (lw := (fun y_ => [(1, .int y_), (0, .ref h)])) hx hb dX7_back_35 hl hE (k := 1) rfl rfl (by decide) (fun _ => rfl) (fun z9 ls hE hl => ?_)
        refine lv_goto (tgt := 16) hx hb dX7_back_38 (by decide) ?_
        exact ih _ _ _ _ _ hE hT hS (lv_sub hl [1, 0] rfl)
  unfold fX7_back at hE
  refine lv_aload_n hx hb dX7_back_0 rfl (lv_at hl 0 rfl) ?_
  refine tg_hasImage C hT dX7_back_1 ?_
  refine lv_if_ne (tgt := 14) hx hb dX7_back_4 (by decide) (fun c10 => ?_) (fun c10 => ?_)
  · have hE := z_f c10 hE
    refine lv_iconst (v := (0 : Int32)) hx hb dX7_back_14 rfl ?_
    refine lv_istore_n (lv' := [(1, .int (0 : Int32)), (0, .ref h)]) hx hb dX7_back_15 rfl hl (by decide) rfl (fun ls hl => ?_)
    exact w_16 N _ _ _ _ _ hE hT hS (lv_sub hl [1, 0] rfl)
  · have hE := z_t c10 hE
    refine lv_aload_n hx hb dX7_back_7 rfl (lv_at hl 0 rfl) ?_
    refine lv_bipush (v := (-2 : Int32)) hx hb dX7_back_8 rfl ?_
    obtain ⟨r12, u11, hc, hE⟩ := o_bd2_some hE
    refine tc_X7_refuse C hT hS (kX7_refuse hc) rfl rfl ⟨Nat.le_of_ble_eq_true rfl, Nat.le_of_ble_eq_true rfl⟩ ⟨Nat.le_refl 0, Nat.le_refl 0⟩ dX7_back_10 hl.1 (Nat.le_of_ble_eq_true rfl) (fun H locs hT hS => ?_)
    exact mt_iret C hr hlocks hT hS hE dX7_back_13
set_option maxHeartbeats 4000000 in
set_option maxRecDepth 100000 in
theorem kX7_tally {l : Launch} {D : va_G} {dA : Nat → ClassId} {h N : Nat} {u u1 : TS} {a1 : Int32} {r : Int32} (hE : fX7_tally N u a1 = some (r, u1)) : Met l yX7_tally (ws_ yX7_tally cX7_tally 4 (some .int)) ({ frames := 72, cells := 0, slots := 0, locals := 2227 }) (va_Pc [.ref h, .int a1] (mt_B D dA h u)) (mt_Q D dA h (some (.int r)) u1) 0 0 (TA h) := by
  refine mt_met (by decide) rfl rfl rfl ?_
  intro p e s m args below meth c ls C hr hlocks hT hS hl
  have hx := C.1.1
  have hb := C.1.2.1
  have w_90 : ∀ (n : Nat) (u : TS) (x2 : Int32) (x3 : Int32) (H : Heap) (locs : List Loc) (ls : Array Slot), fX7_tally_90 N n u x2 x3 = some (r, u1) → TW D dA h u H → va_S (TA h) s.heap H locs → lv_has ls 4 [(0, .ref h), (2, .int x2), (3, .int x3)] → W p l e { frames := 72, cells := 0, slots := 0, locals := 2227 } s m args below meth c H locs 0 0 (MQ below (mt_Q D dA h (some (.int r)) u1) args s 0 0 (TA h)) (F0 m 90 ls []) := by
    intro n
    induction n with
    | zero =>
      intro u x2 x3 H locs ls hE hT hS hl
      cases (show (none : Option (Int32 × TS)) = some (r, u1) from hE)
    | succ n ih =>
      intro u x2 x3 H locs ls hE hT hS hl
      rw [fX7_tally_90] at hE
      refine lv_iload_n hx hb dX7_tally_90 rfl (lv_at hl 2 rfl) ?_
      refine lv_bipush (v := (60 : Int32)) hx hb dX7_tally_91 rfl ?_
      refine lv_icmp_ge (tgt := 111) hx hb dX7_tally_93 (by decide) (fun c1 => ?_) (fun c1 => ?_)
      · have hE := z_t c1 hE
        refine lv_iload_n hx hb dX7_tally_111 rfl (lv_at hl 1 rfl) ?_
        exact mt_iret C hr hlocks hT hS hE dX7_tally_112
      · have hE := z_f c1 hE
        refine lv_iload_n hx hb dX7_tally_96 rfl (lv_at hl 1 rfl) ?_
        refine lv_aload_n hx hb dX7_tally_97 rfl (lv_at hl 0 rfl) ?_
        refine lv_iload_n hx hb dX7_tally_98 rfl (lv_at hl 2 rfl) ?_
        refine lv_iconst (v := (0 : Int32)) hx hb dX7_tally_99 rfl ?_
        obtain ⟨r3, u2, hc, hE⟩ := o_bd2_some hE
        refine tc_X7_pc C hT hS (kX7_pc hc) rfl rfl ⟨Nat.le_of_ble_eq_true rfl, Nat.le_of_ble_eq_true rfl⟩ ⟨Nat.le_refl 0, Nat.le_refl 0⟩ dX7_tally_100 hl.1 (Nat.le_of_ble_eq_true rfl) (fun H locs hT hS => ?_)
        refine lv_iadd hx hb dX7_tally_103 ?_
        refine z_nmi hE (fun z4 hE => ?_)
        refine lv_istore_n (lv' := [(2, .int z4), (0, .ref h), (3, .int x3)]) hx hb dX7_tally_104 rfl hl (by decide) rfl (fun ls hl => ?_)
        refine z_iinc (v := (x3 + (1 : Int32))) (lw := (fun y_ => [(3, .int y_), (2, .int z4), (0, .ref h)])) hx hb dX7_tally_105 hl hE (k := 2) rfl rfl (by decide) (fun _ => rfl) (fun z5 ls hE hl => ?_)
        refine lv_goto (tgt := 90) hx hb dX7_tally_108 (by decide) ?_
        exact ih _ _ _ _ _ _ hE hT hS (lv_sub hl [2, 1, 0] rfl)
  have w_171 : ∀ (ag147 : TS → Int32 → Int32 → Option (Int32 × TS)) (hag147 : (∀ (u : TS) (x2 : Int32) (x3 : Int32) (H : Heap) (locs : List Loc) (ls : Array Slot), ag147 u x2 x3 = some (r, u1) → TW D dA h u H → va_S (TA h) s.heap H locs → lv_has ls 4 [(0, .ref h), (2, .int x2), (3, .int x3)] → W p l e { frames := 72, cells := 0, slots := 0, locals := 2227 } s m args below meth c H locs 0 0 (MQ below (mt_Q D dA h (some (.int r)) u1) args s 0 0 (TA h)) (F0 m 147 ls []))) (u : TS) (x3 : Int32) (y0 : Int32) (y1 : Int32) (H : Heap) (locs : List Loc) (ls : Array Slot), fX7_tally_171 N ag147 u x3 y0 y1 = some (r, u1) → TW D dA h u H → va_S (TA h) s.heap H locs → lv_has ls 4 [(0, .ref h), (3, .int x3)] → W p l e { frames := 72, cells := 0, slots := 0, locals := 2227 } s m args below meth c H locs 0 0 (MQ below (mt_Q D dA h (some (.int r)) u1) args s 0 0 (TA h)) (F0 m 171 ls [.int y1, .int y0]) := by
    intro ag147 hag147 u x3 y0 y1 H locs ls hE hT hS hl
    unfold fX7_tally_171 at hE
    refine lv_iadd hx hb dX7_tally_171 ?_
    refine z_nmi hE (fun z6 hE => ?_)
    refine lv_istore_n (lv' := [(2, .int z6), (0, .ref h), (3, .int x3)]) hx hb dX7_tally_172 rfl hl (by decide) rfl (fun ls hl => ?_)
    refine z_iinc (v := (x3 + (1 : Int32))) (lw := (fun y_ => [(3, .int y_), (2, .int z6), (0, .ref h)])) hx hb dX7_tally_173 hl hE (k := 2) rfl rfl (by decide) (fun _ => rfl) (fun z7 ls hE hl => ?_)
    refine lv_goto (tgt := 147) hx hb dX7_tally_176 (by decide) ?_
    exact hag147 _ _ _ _ _ _ hE hT hS (lv_sub hl [2, 1, 0] rfl)
  have w_147 : ∀ (n : Nat) (u : TS) (x2 : Int32) (x3 : Int32) (H : Heap) (locs : List Loc) (ls : Array Slot), fX7_tally_147 N n u x2 x3 = some (r, u1) → TW D dA h u H → va_S (TA h) s.heap H locs → lv_has ls 4 [(0, .ref h), (2, .int x2), (3, .int x3)] → W p l e { frames := 72, cells := 0, slots := 0, locals := 2227 } s m args below meth c H locs 0 0 (MQ below (mt_Q D dA h (some (.int r)) u1) args s 0 0 (TA h)) (F0 m 147 ls []) := by
    intro n
    induction n with
    | zero =>
      intro u x2 x3 H locs ls hE hT hS hl
      cases (show (none : Option (Int32 × TS)) = some (r, u1) from hE)
    | succ n ih =>
      intro u x2 x3 H locs ls hE hT hS hl
      rw [fX7_tally_147] at hE
      refine lv_iload_n hx hb dX7_tally_147 rfl (lv_at hl 2 rfl) ?_
      refine lv_aload_n hx hb dX7_tally_148 rfl (lv_at hl 0 rfl) ?_
      refine tg_s C hT dX7_tally_149 ?_
      refine lv_iconst (v := (1 : Int32)) hx hb dX7_tally_152 rfl ?_
      refine tl_s C hT hE dX7_tally_153 (fun hE => ?_)
      refine z_nmi hE (fun v8 hE => ?_)
      refine lv_icmp_ge (tgt := 179) hx hb dX7_tally_154 (by decide) (fun c9 => ?_) (fun c9 => ?_)
      · have hE := z_t c9 hE
        refine lv_iload_n hx hb dX7_tally_179 rfl (lv_at hl 1 rfl) ?_
        exact mt_iret C hr hlocks hT hS hE dX7_tally_180
      · have hE := z_f c9 hE
        refine lv_iload_n hx hb dX7_tally_157 rfl (lv_at hl 1 rfl) ?_
        refine lv_aload_n hx hb dX7_tally_158 rfl (lv_at hl 0 rfl) ?_
        refine lv_iload_n hx hb dX7_tally_159 rfl (lv_at hl 2 rfl) ?_
        obtain ⟨r11, u10, hc, hE⟩ := o_bd2_some hE
        refine tc_X7_isLate C hT hS (kX7_isLate hc) rfl rfl ⟨Nat.le_of_ble_eq_true rfl, Nat.le_of_ble_eq_true rfl⟩ ⟨Nat.le_refl 0, Nat.le_refl 0⟩ dX7_tally_160 hl.1 (Nat.le_of_ble_eq_true rfl) (fun H locs hT hS => ?_)
        refine lv_if_eq (tgt := 170) hx hb dX7_tally_163 (by decide) (fun c12 => ?_) (fun c12 => ?_)
        · have hE := z_t c12 hE
          refine lv_iconst (v := (0 : Int32)) hx hb dX7_tally_170 rfl ?_
          exact w_171 (fX7_tally_147 N n) ih _ _ _ _ _ _ _ hE hT hS (lv_sub hl [0, 2] rfl)
        · have hE := z_f c12 hE
          refine lv_iconst (v := (1 : Int32)) hx hb dX7_tally_166 rfl ?_
          refine lv_goto (tgt := 171) hx hb dX7_tally_167 (by decide) ?_
          exact w_171 (fX7_tally_147 N n) ih _ _ _ _ _ _ _ hE hT hS (lv_sub hl [0, 2] rfl)
  unfold fX7_tally at hE
  refine lv_iconst (v := (0 : Int32)) hx hb dX7_tally_0 rfl ?_
  refine lv_istore_n (lv' := [(2, .int (0 : Int32)), (0, .ref h), (1, .int a1)]) hx hb dX7_tally_1 rfl hl (by decide) rfl (fun ls hl => ?_)
  refine lv_iload_n hx hb dX7_tally_2 rfl (lv_at hl 2 rfl) ?_
  by_cases c13 : a1 = (0 : Int32)
  · have hE := z_t c13 hE
    refine lv_tableIn (tgt := 60) hx hb dX7_tally_3 (by rw [c13]; decide) (by rw [c13]; decide) (by rw [c13]; rfl) (by decide) ?_
    refine lv_aload_n hx hb dX7_tally_60 rfl (lv_at hl 1 rfl) ?_
    refine tg_s C hT dX7_tally_61 ?_
    refine lv_iconst (v := (0 : Int32)) hx hb dX7_tally_64 rfl ?_
    refine tl_s C hT hE dX7_tally_65 (fun hE => ?_)
    refine z_nmi hE (fun v14 hE => ?_)
    exact mt_iret C hr hlocks hT hS hE dX7_tally_66
  have hE := z_f c13 hE
  by_cases c15 : a1 = (1 : Int32)
  · have hE := z_t c15 hE
    refine lv_tableIn (tgt := 67) hx hb dX7_tally_3 (by rw [c15]; decide) (by rw [c15]; decide) (by rw [c15]; rfl) (by decide) ?_
    refine lv_aload_n hx hb dX7_tally_67 rfl (lv_at hl 1 rfl) ?_
    refine tg_s C hT dX7_tally_68 ?_
    refine lv_iconst (v := (1 : Int32)) hx hb dX7_tally_71 rfl ?_
    refine tl_s C hT hE dX7_tally_72 (fun hE => ?_)
    refine z_nmi hE (fun v16 hE => ?_)
    exact mt_iret C hr hlocks hT hS hE dX7_tally_73
  have hE := z_f c15 hE
  by_cases c17 : a1 = (2 : Int32)
  · have hE := z_t c17 hE
    refine lv_tableIn (tgt := 74) hx hb dX7_tally_3 (by rw [c17]; decide) (by rw [c17]; decide) (by rw [c17]; rfl) (by decide) ?_
    refine lv_aload_n hx hb dX7_tally_74 rfl (lv_at hl 1 rfl) ?_
    refine tg_s C hT dX7_tally_75 ?_
    refine lv_iconst (v := (2 : Int32)) hx hb dX7_tally_78 rfl ?_
    refine tl_s C hT hE dX7_tally_79 (fun hE => ?_)
    refine z_nmi hE (fun v18 hE => ?_)
    exact mt_iret C hr hlocks hT hS hE dX7_tally_80
  have hE := z_f c17 hE
  by_cases c19 : a1 = (3 : Int32)
  · have hE := z_t c19 hE
    refine lv_tableIn (tgt := 81) hx hb dX7_tally_3 (by rw [c19]; decide) (by rw [c19]; decide) (by rw [c19]; rfl) (by decide) ?_
    refine lv_aload_n hx hb dX7_tally_81 rfl (lv_at hl 1 rfl) ?_
    refine tg_s C hT dX7_tally_82 ?_
    refine lv_iconst (v := (3 : Int32)) hx hb dX7_tally_85 rfl ?_
    refine tl_s C hT hE dX7_tally_86 (fun hE => ?_)
    refine z_nmi hE (fun v20 hE => ?_)
    exact mt_iret C hr hlocks hT hS hE dX7_tally_87
  have hE := z_f c19 hE
  by_cases c21 : a1 = (4 : Int32)
  · have hE := z_t c21 hE
    refine lv_tableIn (tgt := 88) hx hb dX7_tally_3 (by rw [c21]; decide) (by rw [c21]; decide) (by rw [c21]; rfl) (by decide) ?_
    refine lv_iconst (v := (0 : Int32)) hx hb dX7_tally_88 rfl ?_
    refine lv_istore_n (lv' := [(3, .int (0 : Int32)), (2, .int (0 : Int32)), (0, .ref h), (1, .int a1)]) hx hb dX7_tally_89 rfl hl (by decide) rfl (fun ls hl => ?_)
    exact w_90 N _ _ _ _ _ _ hE hT hS (lv_sub hl [2, 1, 0] rfl)
  have hE := z_f c21 hE
  by_cases c22 : a1 = (5 : Int32)
  · have hE := z_t c22 hE
    refine lv_tableIn (tgt := 113) hx hb dX7_tally_3 (by rw [c22]; decide) (by rw [c22]; decide) (by rw [c22]; rfl) (by decide) ?_
    refine lv_aload_n hx hb dX7_tally_113 rfl (lv_at hl 1 rfl) ?_
    refine tg_s C hT dX7_tally_114 ?_
    refine lv_iconst (v := (4 : Int32)) hx hb dX7_tally_117 rfl ?_
    refine tl_s C hT hE dX7_tally_118 (fun hE => ?_)
    refine z_nmi hE (fun v23 hE => ?_)
    exact mt_iret C hr hlocks hT hS hE dX7_tally_119
  have hE := z_f c22 hE
  by_cases c24 : a1 = (6 : Int32)
  · have hE := z_t c24 hE
    refine lv_tableIn (tgt := 120) hx hb dX7_tally_3 (by rw [c24]; decide) (by rw [c24]; decide) (by rw [c24]; rfl) (by decide) ?_
    refine lv_aload_n hx hb dX7_tally_120 rfl (lv_at hl 1 rfl) ?_
    refine tg_taped C hT dX7_tally_121 ?_
    exact mt_iret C hr hlocks hT hS hE dX7_tally_124
  have hE := z_f c24 hE
  by_cases c25 : a1 = (7 : Int32)
  · have hE := z_t c25 hE
    refine lv_tableIn (tgt := 125) hx hb dX7_tally_3 (by rw [c25]; decide) (by rw [c25]; decide) (by rw [c25]; rfl) (by decide) ?_
    refine lv_aload_n hx hb dX7_tally_125 rfl (lv_at hl 1 rfl) ?_
    refine tg_s C hT dX7_tally_126 ?_
    refine lv_iconst (v := (5 : Int32)) hx hb dX7_tally_129 rfl ?_
    refine tl_s C hT hE dX7_tally_130 (fun hE => ?_)
    refine z_nmi hE (fun v26 hE => ?_)
    exact mt_iret C hr hlocks hT hS hE dX7_tally_131
  have hE := z_f c25 hE
  by_cases c27 : a1 = (8 : Int32)
  · have hE := z_t c27 hE
    refine lv_tableIn (tgt := 132) hx hb dX7_tally_3 (by rw [c27]; decide) (by rw [c27]; decide) (by rw [c27]; rfl) (by decide) ?_
    refine lv_aload_n hx hb dX7_tally_132 rfl (lv_at hl 1 rfl) ?_
    refine tg_s C hT dX7_tally_133 ?_
    refine lv_bipush (v := (6 : Int32)) hx hb dX7_tally_136 rfl ?_
    refine tl_s C hT hE dX7_tally_138 (fun hE => ?_)
    refine z_nmi hE (fun v28 hE => ?_)
    exact mt_iret C hr hlocks hT hS hE dX7_tally_139
  have hE := z_f c27 hE
  by_cases c29 : a1 = (9 : Int32)
  · have hE := z_t c29 hE
    refine lv_tableIn (tgt := 140) hx hb dX7_tally_3 (by rw [c29]; decide) (by rw [c29]; decide) (by rw [c29]; rfl) (by decide) ?_
    refine lv_aload_n hx hb dX7_tally_140 rfl (lv_at hl 1 rfl) ?_
    obtain ⟨r31, u30, hc, hE⟩ := o_bd2_some hE
    refine tc_X7_bareMany C hT hS (kX7_bareMany hc) rfl rfl ⟨Nat.le_of_ble_eq_true rfl, Nat.le_of_ble_eq_true rfl⟩ ⟨Nat.le_refl 0, Nat.le_refl 0⟩ dX7_tally_141 hl.1 (Nat.le_of_ble_eq_true rfl) (fun H locs hT hS => ?_)
    exact mt_iret C hr hlocks hT hS hE dX7_tally_144
  have hE := z_f c29 hE
  by_cases c32 : a1 = (10 : Int32)
  · have hE := z_t c32 hE
    refine lv_tableIn (tgt := 145) hx hb dX7_tally_3 (by rw [c32]; decide) (by rw [c32]; decide) (by rw [c32]; rfl) (by decide) ?_
    refine lv_iconst (v := (0 : Int32)) hx hb dX7_tally_145 rfl ?_
    refine lv_istore_n (lv' := [(3, .int (0 : Int32)), (2, .int (0 : Int32)), (0, .ref h), (1, .int a1)]) hx hb dX7_tally_146 rfl hl (by decide) rfl (fun ls hl => ?_)
    exact w_147 N _ _ _ _ _ _ hE hT hS (lv_sub hl [2, 1, 0] rfl)
  have hE := z_f c32 hE
  refine lv_tableOut (tgt := 181) hx hb dX7_tally_3 (z_swOut (fun k_ h1_ h2_ => ?_)) (by decide) ?_
  · rcases (show k_ = 0 ∨ k_ = 1 ∨ k_ = 2 ∨ k_ = 3 ∨ k_ = 4 ∨ k_ = 5 ∨ k_ = 6 ∨ k_ = 7 ∨ k_ = 8 ∨ k_ = 9 ∨ k_ = 10 by omega) with rfl | rfl | rfl | rfl | rfl | rfl | rfl | rfl | rfl | rfl | rfl
    · exact c13
    · exact c15
    · exact c17
    · exact c19
    · exact c21
    · exact c22
    · exact c24
    · exact c25
    · exact c27
    · exact c29
    · exact c32
  refine lv_aload_n hx hb dX7_tally_181 rfl (lv_at hl 1 rfl) ?_
  refine lv_bipush (v := (-7 : Int32)) hx hb dX7_tally_182 rfl ?_
  obtain ⟨r34, u33, hc, hE⟩ := o_bd2_some hE
  refine tc_X7_refuse C hT hS (kX7_refuse hc) rfl rfl ⟨Nat.le_of_ble_eq_true rfl, Nat.le_of_ble_eq_true rfl⟩ ⟨Nat.le_refl 0, Nat.le_refl 0⟩ dX7_tally_184 hl.1 (Nat.le_of_ble_eq_true rfl) (fun H locs hT hS => ?_)
  exact mt_iret C hr hlocks hT hS hE dX7_tally_187
set_option maxHeartbeats 4000000 in
set_option maxRecDepth 100000 in
theorem kX7_lay {l : Launch} {D : va_G} {dA : Nat → ClassId} {h N : Nat} {u u1 : TS} {a1 : Int32} {r : Int32} (hE : fX7_lay N u a1 = some (r, u1)) : Met l yX7_lay (ws_ yX7_lay cX7_lay 3 (some .int)) ({ frames := 1, cells := 0, slots := 0, locals := 21 }) (va_Pc [.ref h, .int a1] (mt_B D dA h u)) (mt_Q D dA h (some (.int r)) u1) 0 0 (TA h) := by
  refine mt_met (by decide) rfl rfl rfl ?_
  intro p e s m args below meth c ls C hr hlocks hT hS hl
  have hx := C.1.1
  have hb := C.1.2.1
  have w_36 : ∀ (n : Nat) (u : TS) (x1 : Int32) (x2 : Int32) (H : Heap) (locs : List Loc) (ls : Array Slot), fX7_lay_36 N n u x1 x2 = some (r, u1) → TW D dA h u H → va_S (TA h) s.heap H locs → lv_has ls 3 [(0, .ref h), (1, .int x1), (2, .int x2)] → W p l e { frames := 1, cells := 0, slots := 0, locals := 21 } s m args below meth c H locs 0 0 (MQ below (mt_Q D dA h (some (.int r)) u1) args s 0 0 (TA h)) (F0 m 36 ls []) := by
    intro n
    induction n with
    | zero =>
      intro u x1 x2 H locs ls hE hT hS hl
      cases (show (none : Option (Int32 × TS)) = some (r, u1) from hE)
    | succ n ih =>
      intro u x1 x2 H locs ls hE hT hS hl
      rw [fX7_lay_36] at hE
      refine lv_iload_n hx hb dX7_lay_36 rfl (lv_at hl 2 rfl) ?_
      refine lv_iload_n hx hb dX7_lay_37 rfl (lv_at hl 1 rfl) ?_
      refine lv_icmp_ge (tgt := 54) hx hb dX7_lay_38 (by decide) (fun c1 => ?_) (fun c1 => ?_)
      · have hE := z_t c1 hE
        refine lv_iload_n hx hb dX7_lay_54 rfl (lv_at hl 1 rfl) ?_
        exact mt_iret C hr hlocks hT hS hE dX7_lay_55
      · have hE := z_f c1 hE
        refine lv_aload_n hx hb dX7_lay_41 rfl (lv_at hl 0 rfl) ?_
        refine tg_row C hT dX7_lay_42 ?_
        refine lv_iload_n hx hb dX7_lay_45 rfl (lv_at hl 2 rfl) ?_
        refine lv_iconst (v := (0 : Int32)) hx hb dX7_lay_46 rfl ?_
        refine ts_row C hT hS hE dX7_lay_47 (fun u2 H locs hE hT hS => ?_)
        refine z_iinc (v := (x2 + (1 : Int32))) (lw := (fun y_ => [(2, .int y_), (0, .ref h), (1, .int x1)])) hx hb dX7_lay_48 hl hE (k := 2) rfl rfl (by decide) (fun _ => rfl) (fun z3 ls hE hl => ?_)
        refine lv_goto (tgt := 36) hx hb dX7_lay_51 (by decide) ?_
        exact ih _ _ _ _ _ _ hE hT hS (lv_sub hl [1, 2, 0] rfl)
  unfold fX7_lay at hE
  refine lv_iload_n hx hb dX7_lay_0 rfl (lv_at hl 1 rfl) ?_
  refine lv_if_ge (tgt := 11) hx hb dX7_lay_1 (by decide) (fun c4 => ?_) (fun c4 => ?_)
  · have hE := z_t c4 hE
    refine lv_iload_n hx hb dX7_lay_11 rfl (lv_at hl 1 rfl) ?_
    refine lv_bipush (v := (100 : Int32)) hx hb dX7_lay_12 rfl ?_
    refine lv_icmp_le (tgt := 24) hx hb dX7_lay_14 (by decide) (fun c5 => ?_) (fun c5 => ?_)
    · have hE := z_t c5 hE
      refine lv_aload_n hx hb dX7_lay_24 rfl (lv_at hl 0 rfl) ?_
      refine lv_iconst (v := (1 : Int32)) hx hb dX7_lay_25 rfl ?_
      refine tp_isRow C hT hS (Or.inr rfl) hE dX7_lay_26 (fun u6 H locs hE hT hS => ?_)
      refine lv_aload_n hx hb dX7_lay_29 rfl (lv_at hl 0 rfl) ?_
      refine lv_iload_n hx hb dX7_lay_30 rfl (lv_at hl 1 rfl) ?_
      refine tp_rowSize C hT hS hE dX7_lay_31 (fun u7 H locs hE hT hS => ?_)
      refine lv_iconst (v := (0 : Int32)) hx hb dX7_lay_34 rfl ?_
      refine lv_istore_n (lv' := [(2, .int (0 : Int32)), (0, .ref h), (1, .int a1)]) hx hb dX7_lay_35 rfl hl (by decide) rfl (fun ls hl => ?_)
      exact w_36 N _ _ _ _ _ _ hE hT hS (lv_sub hl [1, 2, 0] rfl)
    · have hE := z_f c5 hE
      refine lv_aload_n hx hb dX7_lay_17 rfl (lv_at hl 0 rfl) ?_
      refine lv_bipush (v := (-7 : Int32)) hx hb dX7_lay_18 rfl ?_
      obtain ⟨r9, u8, hc, hE⟩ := o_bd2_some hE
      refine tc_X7_refuse C hT hS (kX7_refuse hc) rfl rfl ⟨Nat.le_of_ble_eq_true rfl, Nat.le_of_ble_eq_true rfl⟩ ⟨Nat.le_refl 0, Nat.le_refl 0⟩ dX7_lay_20 hl.1 (Nat.le_of_ble_eq_true rfl) (fun H locs hT hS => ?_)
      exact mt_iret C hr hlocks hT hS hE dX7_lay_23
  · have hE := z_f c4 hE
    refine lv_aload_n hx hb dX7_lay_4 rfl (lv_at hl 0 rfl) ?_
    refine lv_bipush (v := (-4 : Int32)) hx hb dX7_lay_5 rfl ?_
    obtain ⟨r11, u10, hc, hE⟩ := o_bd2_some hE
    refine tc_X7_refuse C hT hS (kX7_refuse hc) rfl rfl ⟨Nat.le_of_ble_eq_true rfl, Nat.le_of_ble_eq_true rfl⟩ ⟨Nat.le_refl 0, Nat.le_refl 0⟩ dX7_lay_7 hl.1 (Nat.le_of_ble_eq_true rfl) (fun H locs hT hS => ?_)
    exact mt_iret C hr hlocks hT hS hE dX7_lay_10
set_option maxHeartbeats 4000000 in
set_option maxRecDepth 100000 in
theorem kX7_set {l : Launch} {D : va_G} {dA : Nat → ClassId} {h N : Nat} {u u1 : TS} {a1 : Int32} {a2 : Int32} {r : Int32} (hE : fX7_set N u a1 a2 = some (r, u1)) : Met l yX7_set (ws_ yX7_set cX7_set 4 (some .int)) ({ frames := 1, cells := 0, slots := 0, locals := 22 }) (va_Pc [.ref h, .int a1, .int a2] (mt_B D dA h u)) (mt_Q D dA h (some (.int r)) u1) 0 0 (TA h) := by
  refine mt_met (by decide) rfl rfl rfl ?_
  intro p e s m args below meth c ls C hr hlocks hT hS hl
  have hx := C.1.1
  have hb := C.1.2.1
  unfold fX7_set at hE
  refine lv_aload_n hx hb dX7_set_0 rfl (lv_at hl 0 rfl) ?_
  refine tg_isRow C hT dX7_set_1 ?_
  refine lv_if_ne (tgt := 14) hx hb dX7_set_4 (by decide) (fun c1 => ?_) (fun c1 => ?_)
  · have hE := z_f c1 hE
    refine lv_iload_n hx hb dX7_set_14 rfl (lv_at hl 1 rfl) ?_
    refine lv_iconst (v := (0 : Int32)) hx hb dX7_set_15 rfl ?_
    refine lv_aload_n hx hb dX7_set_16 rfl (lv_at hl 0 rfl) ?_
    refine tg_rowSize C hT dX7_set_17 ?_
    refine lv_iconst (v := (1 : Int32)) hx hb dX7_set_20 rfl ?_
    refine lv_isub hx hb dX7_set_21 ?_
    obtain ⟨r2, hc, hE⟩ := o_bd_some hE
    refine sc_X7_in C.1 (kX7_in hc) rfl rfl ⟨Nat.le_of_ble_eq_true rfl, Nat.le_of_ble_eq_true rfl⟩ ⟨Nat.le_refl 0, Nat.le_refl 0⟩ dX7_set_22 hl.1 (Nat.le_of_ble_eq_true rfl) ?_
    refine lv_if_ne (tgt := 35) hx hb dX7_set_25 (by decide) (fun c3 => ?_) (fun c3 => ?_)
    · have hE := z_f c3 hE
      refine lv_aload_n hx hb dX7_set_35 rfl (lv_at hl 0 rfl) ?_
      refine tg_row C hT dX7_set_36 ?_
      refine lv_iload_n hx hb dX7_set_39 rfl (lv_at hl 1 rfl) ?_
      refine tl_row C hT hE dX7_set_40 (fun hE => ?_)
      refine z_nmi hE (fun v4 hE => ?_)
      refine lv_istore_n (lv' := [(3, .int v4), (0, .ref h), (1, .int a1), (2, .int a2)]) hx hb dX7_set_41 rfl hl (by decide) rfl (fun ls hl => ?_)
      refine lv_aload_n hx hb dX7_set_42 rfl (lv_at hl 1 rfl) ?_
      refine tg_row C hT dX7_set_43 ?_
      refine lv_iload_n hx hb dX7_set_46 rfl (lv_at hl 2 rfl) ?_
      refine lv_iload_n hx hb dX7_set_47 rfl (lv_at hl 3 rfl) ?_
      refine ts_row C hT hS hE dX7_set_48 (fun u5 H locs hE hT hS => ?_)
      refine lv_iload_n hx hb dX7_set_49 rfl (lv_at hl 0 rfl) ?_
      exact mt_iret C hr hlocks hT hS hE dX7_set_50
    · have hE := z_t c3 hE
      refine lv_aload_n hx hb dX7_set_28 rfl (lv_at hl 0 rfl) ?_
      refine lv_bipush (v := (-3 : Int32)) hx hb dX7_set_29 rfl ?_
      obtain ⟨r7, u6, hc, hE⟩ := o_bd2_some hE
      refine tc_X7_hush C hT hS (kX7_hush hc) rfl rfl ⟨Nat.le_of_ble_eq_true rfl, Nat.le_of_ble_eq_true rfl⟩ ⟨Nat.le_refl 0, Nat.le_refl 0⟩ dX7_set_31 hl.1 (Nat.le_of_ble_eq_true rfl) (fun H locs hT hS => ?_)
      exact mt_iret C hr hlocks hT hS hE dX7_set_34
  · have hE := z_t c1 hE
    refine lv_aload_n hx hb dX7_set_7 rfl (lv_at hl 0 rfl) ?_
    refine lv_bipush (v := (-2 : Int32)) hx hb dX7_set_8 rfl ?_
    obtain ⟨r9, u8, hc, hE⟩ := o_bd2_some hE
    refine tc_X7_hush C hT hS (kX7_hush hc) rfl rfl ⟨Nat.le_of_ble_eq_true rfl, Nat.le_of_ble_eq_true rfl⟩ ⟨Nat.le_refl 0, Nat.le_refl 0⟩ dX7_set_10 hl.1 (Nat.le_of_ble_eq_true rfl) (fun H locs hT hS => ?_)
    exact mt_iret C hr hlocks hT hS hE dX7_set_13
set_option maxHeartbeats 4000000 in
set_option maxRecDepth 100000 in
theorem kX7_tear {l : Launch} {D : va_G} {dA : Nat → ClassId} {h N : Nat} {u u1 : TS} {r : Int32} (hE : fX7_tear N u = some (r, u1)) : Met l yX7_tear (ws_ yX7_tear cX7_tear 2 (some .int)) ({ frames := 0, cells := 0, slots := 0, locals := 0 }) (va_Pc [.ref h] (mt_B D dA h u)) (mt_Q D dA h (some (.int r)) u1) 0 0 (TA h) := by
  refine mt_met (by decide) rfl rfl rfl ?_
  intro p e s m args below meth c ls C hr hlocks hT hS hl
  have hx := C.1.1
  have hb := C.1.2.1
  have w_12 : ∀ (u : TS) (y0 : Int32) (H : Heap) (locs : List Loc) (ls : Array Slot), fX7_tear_12 N u y0 = some (r, u1) → TW D dA h u H → va_S (TA h) s.heap H locs → lv_has ls 2 [(0, .ref h)] → W p l e { frames := 0, cells := 0, slots := 0, locals := 0 } s m args below meth c H locs 0 0 (MQ below (mt_Q D dA h (some (.int r)) u1) args s 0 0 (TA h)) (F0 m 12 ls [.int y0]) := by
    intro u y0 H locs ls hE hT hS hl
    unfold fX7_tear_12 at hE
    refine lv_istore_n (lv' := [(1, .int y0), (0, .ref h)]) hx hb dX7_tear_12 rfl hl (by decide) rfl (fun ls hl => ?_)
    refine lv_aload_n hx hb dX7_tear_13 rfl (lv_at hl 1 rfl) ?_
    refine lv_iconst (v := (0 : Int32)) hx hb dX7_tear_14 rfl ?_
    refine tp_isRow C hT hS (Or.inl rfl) hE dX7_tear_15 (fun u1 H locs hE hT hS => ?_)
    refine lv_iload_n hx hb dX7_tear_18 rfl (lv_at hl 0 rfl) ?_
    exact mt_iret C hr hlocks hT hS hE dX7_tear_19
  unfold fX7_tear at hE
  refine lv_aload_n hx hb dX7_tear_0 rfl (lv_at hl 0 rfl) ?_
  refine tg_isRow C hT dX7_tear_1 ?_
  refine lv_if_eq (tgt := 11) hx hb dX7_tear_4 (by decide) (fun c2 => ?_) (fun c2 => ?_)
  · have hE := z_t c2 hE
    refine lv_iconst (v := (0 : Int32)) hx hb dX7_tear_11 rfl ?_
    exact w_12 _ _ _ _ _ hE hT hS (lv_sub hl [0] rfl)
  · have hE := z_f c2 hE
    refine lv_iconst (v := (1 : Int32)) hx hb dX7_tear_7 rfl ?_
    refine lv_goto (tgt := 12) hx hb dX7_tear_8 (by decide) ?_
    exact w_12 _ _ _ _ _ hE hT hS (lv_sub hl [0] rfl)
set_option maxHeartbeats 4000000 in
set_option maxRecDepth 100000 in
theorem kX7_row {l : Launch} {D : va_G} {dA : Nat → ClassId} {h N : Nat} {u u1 : TS} {a1 : Int32} {r : Int32} (hE : fX7_row N u a1 = some (r, u1)) : Met l yX7_row (ws_ yX7_row cX7_row 2 (some .int)) ({ frames := 1, cells := 0, slots := 0, locals := 22 }) (va_Pc [.ref h, .int a1] (mt_B D dA h u)) (mt_Q D dA h (some (.int r)) u1) 0 0 (TA h) := by
  refine mt_met (by decide) rfl rfl rfl ?_
  intro p e s m args below meth c ls C hr hlocks hT hS hl
  have hx := C.1.1
  have hb := C.1.2.1
  have w_43 : ∀ (u : TS) (y0 : Int32) (H : Heap) (locs : List Loc) (ls : Array Slot), fX7_row_43 N u y0 = some (r, u1) → TW D dA h u H → va_S (TA h) s.heap H locs → lv_has ls 2 [] → W p l e { frames := 1, cells := 0, slots := 0, locals := 22 } s m args below meth c H locs 0 0 (MQ below (mt_Q D dA h (some (.int r)) u1) args s 0 0 (TA h)) (F0 m 43 ls [.int y0]) := by
    intro u y0 H locs ls hE hT hS hl
    unfold fX7_row_43 at hE
    exact mt_iret C hr hlocks hT hS hE dX7_row_43
  unfold fX7_row at hE
  refine lv_aload_n hx hb dX7_row_0 rfl (lv_at hl 0 rfl) ?_
  refine tg_isRow C hT dX7_row_1 ?_
  refine lv_if_ne (tgt := 14) hx hb dX7_row_4 (by decide) (fun c1 => ?_) (fun c1 => ?_)
  · have hE := z_f c1 hE
    refine lv_iload_n hx hb dX7_row_14 rfl (lv_at hl 1 rfl) ?_
    refine lv_iconst (v := (0 : Int32)) hx hb dX7_row_15 rfl ?_
    refine lv_aload_n hx hb dX7_row_16 rfl (lv_at hl 0 rfl) ?_
    refine tg_rowSize C hT dX7_row_17 ?_
    refine lv_iconst (v := (1 : Int32)) hx hb dX7_row_20 rfl ?_
    refine lv_isub hx hb dX7_row_21 ?_
    obtain ⟨r2, hc, hE⟩ := o_bd_some hE
    refine sc_X7_in C.1 (kX7_in hc) rfl rfl ⟨Nat.le_of_ble_eq_true rfl, Nat.le_of_ble_eq_true rfl⟩ ⟨Nat.le_refl 0, Nat.le_refl 0⟩ dX7_row_22 hl.1 (Nat.le_of_ble_eq_true rfl) ?_
    refine lv_if_eq (tgt := 37) hx hb dX7_row_25 (by decide) (fun c3 => ?_) (fun c3 => ?_)
    · have hE := z_t c3 hE
      refine lv_aload_n hx hb dX7_row_37 rfl (lv_at hl 0 rfl) ?_
      refine lv_bipush (v := (-3 : Int32)) hx hb dX7_row_38 rfl ?_
      obtain ⟨r5, u4, hc, hE⟩ := o_bd2_some hE
      refine tc_X7_hush C hT hS (kX7_hush hc) rfl rfl ⟨Nat.le_of_ble_eq_true rfl, Nat.le_of_ble_eq_true rfl⟩ ⟨Nat.le_refl 0, Nat.le_refl 0⟩ dX7_row_40 hl.1 (Nat.le_of_ble_eq_true rfl) (fun H locs hT hS => ?_)
      exact w_43 _ _ _ _ _ hE hT hS (lv_sub hl [] rfl)
    · have hE := z_f c3 hE
      refine lv_aload_n hx hb dX7_row_28 rfl (lv_at hl 0 rfl) ?_
      refine tg_row C hT dX7_row_29 ?_
      refine lv_iload_n hx hb dX7_row_32 rfl (lv_at hl 1 rfl) ?_
      refine tl_row C hT hE dX7_row_33 (fun hE => ?_)
      refine z_nmi hE (fun v6 hE => ?_)
      refine lv_goto (tgt := 43) hx hb dX7_row_34 (by decide) ?_
      exact w_43 _ _ _ _ _ hE hT hS (lv_sub hl [] rfl)
  · have hE := z_t c1 hE
    refine lv_aload_n hx hb dX7_row_7 rfl (lv_at hl 0 rfl) ?_
    refine lv_bipush (v := (-2 : Int32)) hx hb dX7_row_8 rfl ?_
    obtain ⟨r8, u7, hc, hE⟩ := o_bd2_some hE
    refine tc_X7_hush C hT hS (kX7_hush hc) rfl rfl ⟨Nat.le_of_ble_eq_true rfl, Nat.le_of_ble_eq_true rfl⟩ ⟨Nat.le_refl 0, Nat.le_refl 0⟩ dX7_row_10 hl.1 (Nat.le_of_ble_eq_true rfl) (fun H locs hT hS => ?_)
    exact mt_iret C hr hlocks hT hS hE dX7_row_13
end TRG8
