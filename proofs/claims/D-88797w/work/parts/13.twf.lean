section TRG5
variable {p : Program} {l : Launch} {e : Env} {R : Room} {s : State} {m : MethodId} {args : Array Value} {below : List Frame} {meth : Method} {c : Code} {H : Heap} {locs : List Loc} {cells slots : Nat} {Q : State → Prop} {cc : ByteArray} {nL pc : Nat} {ls : Array Slot} {rest : List Value} {D : va_G} {dA : Nat → ClassId} {h : Nat} {H0 : Heap}
set_option maxHeartbeats 4000000 in
set_option maxRecDepth 100000 in
theorem kX7_read {l : Launch} {D : va_G} {dA : Nat → ClassId} {h N : Nat} {u u1 : TS} {r : Int32} (hE : fX7_read N u = some (r, u1)) : Met l yX7_read (ws_ yX7_read cX7_read 4 (some .int)) ({ frames := 1, cells := 0, slots := 0, locals := 22 }) (va_Pc [.ref h] (mt_B D dA h u)) (mt_Q D dA h (some (.int r)) u1) 0 0 (TA h) := by
  refine mt_met (by decide) rfl rfl rfl ?_
  intro p e s m args below meth c ls C hr hlocks hT hS hl
  have hx := C.1.1
  have hb := C.1.2.1
  have w_73 : ∀ (ag18 : TS → Int32 → Int32 → Option (Int32 × TS)) (hag18 : (∀ (u : TS) (x1 : Int32) (x2 : Int32) (H : Heap) (locs : List Loc) (ls : Array Slot), ag18 u x1 x2 = some (r, u1) → TW D dA h u H → va_S (TA h) s.heap H locs → lv_has ls 4 [(0, .ref h), (1, .int x1), (2, .int x2)] → W p l e { frames := 1, cells := 0, slots := 0, locals := 22 } s m args below meth c H locs 0 0 (MQ below (mt_Q D dA h (some (.int r)) u1) args s 0 0 (TA h)) (F0 m 18 ls []))) (u : TS) (x2 : Int32) (y0 : Int32) (y1 : Int32) (H : Heap) (locs : List Loc) (ls : Array Slot), fX7_read_73 N ag18 u x2 y0 y1 = some (r, u1) → TW D dA h u H → va_S (TA h) s.heap H locs → lv_has ls 4 [(0, .ref h), (2, .int x2)] → W p l e { frames := 1, cells := 0, slots := 0, locals := 22 } s m args below meth c H locs 0 0 (MQ below (mt_Q D dA h (some (.int r)) u1) args s 0 0 (TA h)) (F0 m 73 ls [.int y1, .int y0]) := by
    intro ag18 hag18 u x2 y0 y1 H locs ls hE hT hS hl
    unfold fX7_read_73 at hE
    refine lv_iadd hx hb dX7_read_73 ?_
    refine z_nmi hE (fun z1 hE => ?_)
    refine lv_istore_n (lv' := [(1, .int z1), (0, .ref h), (2, .int x2)]) hx hb dX7_read_74 rfl hl (by decide) rfl (fun ls hl => ?_)
    refine z_iinc (v := (x2 + (1 : Int32))) (lw := (fun y_ => [(2, .int y_), (1, .int z1), (0, .ref h)])) hx hb dX7_read_75 hl hE (k := 2) rfl rfl (by decide) (fun _ => rfl) (fun z2 ls hE hl => ?_)
    refine lv_goto (tgt := 18) hx hb dX7_read_78 (by decide) ?_
    exact hag18 _ _ _ _ _ _ hE hT hS (lv_sub hl [2, 1, 0] rfl)
  have w_62 : ∀ (ag18 : TS → Int32 → Int32 → Option (Int32 × TS)) (hag18 : (∀ (u : TS) (x1 : Int32) (x2 : Int32) (H : Heap) (locs : List Loc) (ls : Array Slot), ag18 u x1 x2 = some (r, u1) → TW D dA h u H → va_S (TA h) s.heap H locs → lv_has ls 4 [(0, .ref h), (1, .int x1), (2, .int x2)] → W p l e { frames := 1, cells := 0, slots := 0, locals := 22 } s m args below meth c H locs 0 0 (MQ below (mt_Q D dA h (some (.int r)) u1) args s 0 0 (TA h)) (F0 m 18 ls []))) (u : TS) (x1 : Int32) (x2 : Int32) (x3 : Int32) (y1 : Int32) (y2 : Int32) (H : Heap) (locs : List Loc) (ls : Array Slot), fX7_read_62 N ag18 u x1 x2 x3 y1 y2 = some (r, u1) → TW D dA h u H → va_S (TA h) s.heap H locs → lv_has ls 4 [(0, .ref h), (1, .int x1), (2, .int x2), (3, .int x3)] → W p l e { frames := 1, cells := 0, slots := 0, locals := 22 } s m args below meth c H locs 0 0 (MQ below (mt_Q D dA h (some (.int r)) u1) args s 0 0 (TA h)) (F0 m 62 ls [.int y2, .int y1, .ref (h + 1)]) := by
    intro ag18 hag18 u x1 x2 x3 y1 y2 H locs ls hE hT hS hl
    unfold fX7_read_62 at hE
    refine ts_s C hT hS hE dX7_read_62 (fun u3 H locs hE hT hS => ?_)
    refine lv_iload_n hx hb dX7_read_63 rfl (lv_at hl 1 rfl) ?_
    refine lv_iload_n hx hb dX7_read_64 rfl (lv_at hl 3 rfl) ?_
    refine lv_if_eq (tgt := 72) hx hb dX7_read_65 (by decide) (fun c4 => ?_) (fun c4 => ?_)
    · have hE := z_t c4 hE
      refine lv_iconst (v := (0 : Int32)) hx hb dX7_read_72 rfl ?_
      exact w_73 ag18 hag18 _ _ _ _ _ _ _ hE hT hS (lv_sub hl [0, 2] rfl)
    · have hE := z_f c4 hE
      refine lv_iconst (v := (1 : Int32)) hx hb dX7_read_68 rfl ?_
      refine lv_goto (tgt := 73) hx hb dX7_read_69 (by decide) ?_
      exact w_73 ag18 hag18 _ _ _ _ _ _ _ hE hT hS (lv_sub hl [0, 2] rfl)
  have w_18 : ∀ (n : Nat) (u : TS) (x1 : Int32) (x2 : Int32) (H : Heap) (locs : List Loc) (ls : Array Slot), fX7_read_18 N n u x1 x2 = some (r, u1) → TW D dA h u H → va_S (TA h) s.heap H locs → lv_has ls 4 [(0, .ref h), (1, .int x1), (2, .int x2)] → W p l e { frames := 1, cells := 0, slots := 0, locals := 22 } s m args below meth c H locs 0 0 (MQ below (mt_Q D dA h (some (.int r)) u1) args s 0 0 (TA h)) (F0 m 18 ls []) := by
    intro n
    induction n with
    | zero =>
      intro u x1 x2 H locs ls hE hT hS hl
      cases (show (none : Option (Int32 × TS)) = some (r, u1) from hE)
    | succ n ih =>
      intro u x1 x2 H locs ls hE hT hS hl
      rw [fX7_read_18] at hE
      refine lv_iload_n hx hb dX7_read_18 rfl (lv_at hl 2 rfl) ?_
      refine lv_aload_n hx hb dX7_read_19 rfl (lv_at hl 0 rfl) ?_
      refine tg_rowSize C hT dX7_read_20 ?_
      refine lv_icmp_ge (tgt := 81) hx hb dX7_read_23 (by decide) (fun c5 => ?_) (fun c5 => ?_)
      · have hE := z_t c5 hE
        refine lv_iload_n hx hb dX7_read_81 rfl (lv_at hl 1 rfl) ?_
        exact mt_iret C hr hlocks hT hS hE dX7_read_82
      · have hE := z_f c5 hE
        refine lv_aload_n hx hb dX7_read_26 rfl (lv_at hl 0 rfl) ?_
        refine tg_row C hT dX7_read_27 ?_
        refine lv_iload_n hx hb dX7_read_30 rfl (lv_at hl 2 rfl) ?_
        refine tl_row C hT hE dX7_read_31 (fun hE => ?_)
        refine z_nmi hE (fun v6 hE => ?_)
        refine lv_iconst (v := (0 : Int32)) hx hb dX7_read_32 rfl ?_
        refine lv_bipush (v := (99 : Int32)) hx hb dX7_read_33 rfl ?_
        obtain ⟨r7, hc, hE⟩ := o_bd_some hE
        refine sc_X7_in C.1 (kX7_in hc) rfl rfl ⟨Nat.le_of_ble_eq_true rfl, Nat.le_of_ble_eq_true rfl⟩ ⟨Nat.le_refl 0, Nat.le_refl 0⟩ dX7_read_35 hl.1 (Nat.le_of_ble_eq_true rfl) ?_
        refine lv_istore_n (lv' := [(3, .int r7), (0, .ref h), (1, .int x1), (2, .int x2)]) hx hb dX7_read_38 rfl hl (by decide) rfl (fun ls hl => ?_)
        refine lv_aload_n hx hb dX7_read_39 rfl (lv_at hl 1 rfl) ?_
        refine tg_s C hT dX7_read_40 ?_
        refine lv_sipush (v := (3458 : Int32)) hx hb dX7_read_43 rfl ?_
        refine lv_iload_n hx hb dX7_read_46 rfl (lv_at hl 3 rfl) ?_
        refine lv_iadd hx hb dX7_read_47 ?_
        refine lv_iload_n hx hb dX7_read_48 rfl (lv_at hl 0 rfl) ?_
        refine lv_if_eq (tgt := 61) hx hb dX7_read_49 (by decide) (fun c8 => ?_) (fun c8 => ?_)
        · have hE := z_t c8 hE
          refine lv_iconst (v := (-1 : Int32)) hx hb dX7_read_61 rfl ?_
          exact w_62 (fX7_read_18 N n) ih _ _ _ _ _ _ _ _ _ hE hT hS (lv_sub hl [1, 2, 3, 0] rfl)
        · have hE := z_f c8 hE
          refine lv_aload_n hx hb dX7_read_52 rfl (lv_at hl 1 rfl) ?_
          refine tg_row C hT dX7_read_53 ?_
          refine lv_iload_n hx hb dX7_read_56 rfl (lv_at hl 3 rfl) ?_
          refine tl_row C hT hE dX7_read_57 (fun hE => ?_)
          refine z_nmi hE (fun v9 hE => ?_)
          refine lv_goto (tgt := 62) hx hb dX7_read_58 (by decide) ?_
          exact w_62 (fX7_read_18 N n) ih _ _ _ _ _ _ _ _ _ hE hT hS (lv_sub hl [1, 2, 3, 0] rfl)
  unfold fX7_read at hE
  refine lv_aload_n hx hb dX7_read_0 rfl (lv_at hl 0 rfl) ?_
  refine tg_isRow C hT dX7_read_1 ?_
  refine lv_if_ne (tgt := 14) hx hb dX7_read_4 (by decide) (fun c10 => ?_) (fun c10 => ?_)
  · have hE := z_f c10 hE
    refine lv_iconst (v := (0 : Int32)) hx hb dX7_read_14 rfl ?_
    refine lv_istore_n (lv' := [(1, .int (0 : Int32)), (0, .ref h)]) hx hb dX7_read_15 rfl hl (by decide) rfl (fun ls hl => ?_)
    refine lv_iconst (v := (0 : Int32)) hx hb dX7_read_16 rfl ?_
    refine lv_istore_n (lv' := [(2, .int (0 : Int32)), (1, .int (0 : Int32)), (0, .ref h)]) hx hb dX7_read_17 rfl hl (by decide) rfl (fun ls hl => ?_)
    exact w_18 N _ _ _ _ _ _ hE hT hS (lv_sub hl [2, 1, 0] rfl)
  · have hE := z_t c10 hE
    refine lv_aload_n hx hb dX7_read_7 rfl (lv_at hl 0 rfl) ?_
    refine lv_bipush (v := (-2 : Int32)) hx hb dX7_read_8 rfl ?_
    obtain ⟨r12, u11, hc, hE⟩ := o_bd2_some hE
    refine tc_X7_refuse C hT hS (kX7_refuse hc) rfl rfl ⟨Nat.le_of_ble_eq_true rfl, Nat.le_of_ble_eq_true rfl⟩ ⟨Nat.le_refl 0, Nat.le_refl 0⟩ dX7_read_10 hl.1 (Nat.le_of_ble_eq_true rfl) (fun H locs hT hS => ?_)
    exact mt_iret C hr hlocks hT hS hE dX7_read_13
set_option maxHeartbeats 4000000 in
set_option maxRecDepth 100000 in
theorem kX7_watch {l : Launch} {D : va_G} {dA : Nat → ClassId} {h N : Nat} {u u1 : TS} {a1 : Int32} {a2 : Int32} {a3 : Int32} {r : Int32} (hE : fX7_watch N u a1 a2 a3 = some (r, u1)) : Met l yX7_watch (ws_ yX7_watch cX7_watch 5 (some .int)) ({ frames := 2, cells := 0, slots := 0, locals := 42 }) (va_Pc [.ref h, .int a1, .int a2, .int a3] (mt_B D dA h u)) (mt_Q D dA h (some (.int r)) u1) 0 0 (TA h) := by
  refine mt_met (by decide) rfl rfl rfl ?_
  intro p e s m args below meth c ls C hr hlocks hT hS hl
  have hx := C.1.1
  have hb := C.1.2.1
  have w_35 : ∀ (u : TS) (H : Heap) (locs : List Loc) (ls : Array Slot), fX7_watch_35 N u = some (r, u1) → TW D dA h u H → va_S (TA h) s.heap H locs → lv_has ls 5 [(0, .ref h)] → W p l e { frames := 2, cells := 0, slots := 0, locals := 42 } s m args below meth c H locs 0 0 (MQ below (mt_Q D dA h (some (.int r)) u1) args s 0 0 (TA h)) (F0 m 35 ls []) := by
    intro u H locs ls hE hT hS hl
    unfold fX7_watch_35 at hE
    refine lv_aload_n hx hb dX7_watch_35 rfl (lv_at hl 0 rfl) ?_
    refine lv_bipush (v := (-7 : Int32)) hx hb dX7_watch_36 rfl ?_
    obtain ⟨r2, u1, hc, hE⟩ := o_bd2_some hE
    refine tc_X7_refuse C hT hS (kX7_refuse hc) rfl rfl ⟨Nat.le_of_ble_eq_true rfl, Nat.le_of_ble_eq_true rfl⟩ ⟨Nat.le_refl 0, Nat.le_refl 0⟩ dX7_watch_38 hl.1 (Nat.le_of_ble_eq_true rfl) (fun H locs hT hS => ?_)
    exact mt_iret C hr hlocks hT hS hE dX7_watch_41
  unfold fX7_watch at hE
  refine lv_iload_n hx hb dX7_watch_0 rfl (lv_at hl 1 rfl) ?_
  obtain ⟨r3, hc, hE⟩ := o_bd_some hE
  refine sc_X7_isBlock C.1 (kX7_isBlock hc) rfl rfl ⟨Nat.le_of_ble_eq_true rfl, Nat.le_of_ble_eq_true rfl⟩ ⟨Nat.le_refl 0, Nat.le_refl 0⟩ dX7_watch_1 hl.1 (Nat.le_of_ble_eq_true rfl) ?_
  refine lv_if_ne (tgt := 14) hx hb dX7_watch_4 (by decide) (fun c4 => ?_) (fun c4 => ?_)
  · have hE := z_f c4 hE
    refine lv_iload_n hx hb dX7_watch_14 rfl (lv_at hl 2 rfl) ?_
    refine lv_iconst (v := (0 : Int32)) hx hb dX7_watch_15 rfl ?_
    refine lv_sipush (v := (999 : Int32)) hx hb dX7_watch_16 rfl ?_
    obtain ⟨r5, hc, hE⟩ := o_bd_some hE
    refine sc_X7_in C.1 (kX7_in hc) rfl rfl ⟨Nat.le_of_ble_eq_true rfl, Nat.le_of_ble_eq_true rfl⟩ ⟨Nat.le_refl 0, Nat.le_refl 0⟩ dX7_watch_19 hl.1 (Nat.le_of_ble_eq_true rfl) ?_
    refine lv_if_eq (tgt := 35) hx hb dX7_watch_22 (by decide) (fun c6 => ?_) (fun c6 => ?_)
    · have hE := z_t c6 hE
      exact w_35 _ _ _ _ hE hT hS (lv_sub hl [0] rfl)
    · have hE := z_f c6 hE
      refine lv_iload_n hx hb dX7_watch_25 rfl (lv_at hl 3 rfl) ?_
      refine lv_iconst (v := (0 : Int32)) hx hb dX7_watch_26 rfl ?_
      refine lv_bipush (v := (99 : Int32)) hx hb dX7_watch_27 rfl ?_
      obtain ⟨r7, hc, hE⟩ := o_bd_some hE
      refine sc_X7_in C.1 (kX7_in hc) rfl rfl ⟨Nat.le_of_ble_eq_true rfl, Nat.le_of_ble_eq_true rfl⟩ ⟨Nat.le_refl 0, Nat.le_refl 0⟩ dX7_watch_29 hl.1 (Nat.le_of_ble_eq_true rfl) ?_
      refine lv_if_ne (tgt := 42) hx hb dX7_watch_32 (by decide) (fun c8 => ?_) (fun c8 => ?_)
      · have hE := z_f c8 hE
        refine lv_aload_n hx hb dX7_watch_42 rfl (lv_at hl 0 rfl) ?_
        refine tg_s C hT dX7_watch_43 ?_
        refine lv_sipush (v := (3558 : Int32)) hx hb dX7_watch_46 rfl ?_
        refine lv_iconst (v := (2 : Int32)) hx hb dX7_watch_49 rfl ?_
        refine lv_iload_n hx hb dX7_watch_50 rfl (lv_at hl 1 rfl) ?_
        refine lv_imul hx hb dX7_watch_51 ?_
        refine lv_iadd hx hb dX7_watch_52 ?_
        refine tl_s C hT hE dX7_watch_53 (fun hE => ?_)
        refine z_nmi hE (fun v9 hE => ?_)
        refine lv_istore (lv' := [(4, .int v9), (0, .ref h), (1, .int a1), (2, .int a2), (3, .int a3)]) hx hb dX7_watch_54 hl (by decide) rfl (fun ls hl => ?_)
        refine lv_aload_n hx hb dX7_watch_56 rfl (lv_at hl 1 rfl) ?_
        refine tg_s C hT dX7_watch_57 ?_
        refine lv_sipush (v := (3558 : Int32)) hx hb dX7_watch_60 rfl ?_
        refine lv_iconst (v := (2 : Int32)) hx hb dX7_watch_63 rfl ?_
        refine lv_iload_n hx hb dX7_watch_64 rfl (lv_at hl 2 rfl) ?_
        refine lv_imul hx hb dX7_watch_65 ?_
        refine lv_iadd hx hb dX7_watch_66 ?_
        refine lv_iload_n hx hb dX7_watch_67 rfl (lv_at hl 3 rfl) ?_
        refine ts_s C hT hS hE dX7_watch_68 (fun u10 H locs hE hT hS => ?_)
        refine lv_aload_n hx hb dX7_watch_69 rfl (lv_at hl 1 rfl) ?_
        refine tg_s C hT dX7_watch_70 ?_
        refine lv_sipush (v := (3558 : Int32)) hx hb dX7_watch_73 rfl ?_
        refine lv_iconst (v := (2 : Int32)) hx hb dX7_watch_76 rfl ?_
        refine lv_iload_n hx hb dX7_watch_77 rfl (lv_at hl 2 rfl) ?_
        refine lv_imul hx hb dX7_watch_78 ?_
        refine lv_iadd hx hb dX7_watch_79 ?_
        refine lv_iconst (v := (1 : Int32)) hx hb dX7_watch_80 rfl ?_
        refine lv_iadd hx hb dX7_watch_81 ?_
        refine lv_iload_n hx hb dX7_watch_82 rfl (lv_at hl 4 rfl) ?_
        refine ts_s C hT hS hE dX7_watch_83 (fun u11 H locs hE hT hS => ?_)
        refine lv_iload hx hb dX7_watch_84 (lv_at hl 0 rfl) ?_
        exact mt_iret C hr hlocks hT hS hE dX7_watch_86
      · have hE := z_t c8 hE
        exact w_35 _ _ _ _ hE hT hS (lv_sub hl [0] rfl)
  · have hE := z_t c4 hE
    refine lv_aload_n hx hb dX7_watch_7 rfl (lv_at hl 0 rfl) ?_
    refine lv_bipush (v := (-3 : Int32)) hx hb dX7_watch_8 rfl ?_
    obtain ⟨r13, u12, hc, hE⟩ := o_bd2_some hE
    refine tc_X7_refuse C hT hS (kX7_refuse hc) rfl rfl ⟨Nat.le_of_ble_eq_true rfl, Nat.le_of_ble_eq_true rfl⟩ ⟨Nat.le_refl 0, Nat.le_refl 0⟩ dX7_watch_10 hl.1 (Nat.le_of_ble_eq_true rfl) (fun H locs hT hS => ?_)
    exact mt_iret C hr hlocks hT hS hE dX7_watch_13
theorem tc_X7_rights {u u1 : TS} {rm : Room} (C : TC p m c cc nL s args D dA) (hT : TW D dA h u H) (hS : va_S (TA h) H0 H locs) (hM : Met l yX7_rights (ws_ yX7_rights cX7_rights 7 none) rm (va_Pc [.ref h] (mt_B D dA h u)) (mt_Q D dA h none u1) 0 0 (TA h)) (hrc : rm.cells = 0) (hrs : rm.slots = 0) (hR : rm.frames + 1 ≤ R.frames ∧ 8 + (7 + 11) + rm.locals ≤ R.locals) (hf : cells + 0 ≤ R.cells ∧ slots + 0 ≤ R.slots) (d : decode cc pc = .ok (.invokevirtual 368, 3)) (hsz : ls.size = nL) (hro : (rest.map fun v => v.category).sum ≤ 8) (kk : ∀ (H1 : Heap) (locs1 : List Loc), TW D dA h u1 H1 → va_S (TA h) H0 H1 locs1 → W p l e R s m args below meth c H1 locs1 cells slots Q (F0 m (pc + 3) ls (rest))) : W p l e R s m args below meth c H locs cells slots Q (F0 m pc ls (.ref h :: rest)) :=
  mt_call (v := none) (va_runV (As := []) (rest := rest) C.1 hM (cwV 0 C.1.2.2.2.2 (lw_V q2111 q2113 qs144 q177 q2114) rfl hrc hrs (by decide +kernel) hR) (mt_preV C.2 hT _) rfl rfl hsz rfl (lv_room hro) d hf) hS (fun _ z => z) (fun H1 locs1 a b _ _ => kk H1 locs1 a b)
set_option maxHeartbeats 4000000 in
set_option maxRecDepth 100000 in
theorem kX7_rights {l : Launch} {D : va_G} {dA : Nat → ClassId} {h N : Nat} {u u_ : TS} (hE : fX7_rights N u = some u_) : Met l yX7_rights (ws_ yX7_rights cX7_rights 7 none) ({ frames := 71, cells := 0, slots := 0, locals := 2206 }) (va_Pc [.ref h] (mt_B D dA h u)) (mt_Q D dA h none u_) 0 0 (TA h) := by
  refine mt_met (by decide) rfl rfl rfl ?_
  intro p e s m args below meth c ls C hr hlocks hT hS hl
  have hx := C.1.1
  have hb := C.1.2.1
  have w_209 : ∀ (ag2 : TS → Int32 → Option (TS)) (hag2 : (∀ (u : TS) (x1 : Int32) (H : Heap) (locs : List Loc) (ls : Array Slot), ag2 u x1 = some u_ → TW D dA h u H → va_S (TA h) s.heap H locs → lv_has ls 7 [(0, .ref h), (1, .int x1)] → W p l e { frames := 71, cells := 0, slots := 0, locals := 2206 } s m args below meth c H locs 0 0 (MQ below (mt_Q D dA h none u_) args s 0 0 (TA h)) (F0 m 2 ls []))) (ag65 : TS → Int32 → Int32 → Int32 → Option (TS)) (hag65 : (∀ (u : TS) (x1 : Int32) (x2 : Int32) (x3 : Int32) (H : Heap) (locs : List Loc) (ls : Array Slot), ag65 u x1 x2 x3 = some u_ → TW D dA h u H → va_S (TA h) s.heap H locs → lv_has ls 7 [(0, .ref h), (1, .int x1), (2, .int x2), (3, .int x3)] → W p l e { frames := 71, cells := 0, slots := 0, locals := 2206 } s m args below meth c H locs 0 0 (MQ below (mt_Q D dA h none u_) args s 0 0 (TA h)) (F0 m 65 ls []))) (u : TS) (x1 : Int32) (x2 : Int32) (x3 : Int32) (H : Heap) (locs : List Loc) (ls : Array Slot), fX7_rights_209 N ag2 ag65 u x1 x2 x3 = some u_ → TW D dA h u H → va_S (TA h) s.heap H locs → lv_has ls 7 [(0, .ref h), (1, .int x1), (2, .int x2), (3, .int x3)] → W p l e { frames := 71, cells := 0, slots := 0, locals := 2206 } s m args below meth c H locs 0 0 (MQ below (mt_Q D dA h none u_) args s 0 0 (TA h)) (F0 m 209 ls []) := by
    intro ag2 hag2 ag65 hag65 u x1 x2 x3 H locs ls hE hT hS hl
    unfold fX7_rights_209 at hE
    refine z_iinc (v := (x3 + (1 : Int32))) (lw := (fun y_ => [(3, .int y_), (0, .ref h), (1, .int x1), (2, .int x2)])) hx hb dX7_rights_209 hl hE (k := 3) rfl rfl (by decide) (fun _ => rfl) (fun z1 ls hE hl => ?_)
    refine lv_goto (tgt := 65) hx hb dX7_rights_212 (by decide) ?_
    exact hag65 _ _ _ _ _ _ _ hE hT hS (lv_sub hl [1, 2, 3, 0] rfl)
  have w_171 : ∀ (ag2 : TS → Int32 → Option (TS)) (hag2 : (∀ (u : TS) (x1 : Int32) (H : Heap) (locs : List Loc) (ls : Array Slot), ag2 u x1 = some u_ → TW D dA h u H → va_S (TA h) s.heap H locs → lv_has ls 7 [(0, .ref h), (1, .int x1)] → W p l e { frames := 71, cells := 0, slots := 0, locals := 2206 } s m args below meth c H locs 0 0 (MQ below (mt_Q D dA h none u_) args s 0 0 (TA h)) (F0 m 2 ls []))) (ag65 : TS → Int32 → Int32 → Int32 → Option (TS)) (hag65 : (∀ (u : TS) (x1 : Int32) (x2 : Int32) (x3 : Int32) (H : Heap) (locs : List Loc) (ls : Array Slot), ag65 u x1 x2 x3 = some u_ → TW D dA h u H → va_S (TA h) s.heap H locs → lv_has ls 7 [(0, .ref h), (1, .int x1), (2, .int x2), (3, .int x3)] → W p l e { frames := 71, cells := 0, slots := 0, locals := 2206 } s m args below meth c H locs 0 0 (MQ below (mt_Q D dA h none u_) args s 0 0 (TA h)) (F0 m 65 ls []))) (u : TS) (x1 : Int32) (x2 : Int32) (x3 : Int32) (x4 : Int32) (y0 : Int32) (H : Heap) (locs : List Loc) (ls : Array Slot), fX7_rights_171 N ag2 ag65 u x1 x2 x3 x4 y0 = some u_ → TW D dA h u H → va_S (TA h) s.heap H locs → lv_has ls 7 [(0, .ref h), (1, .int x1), (2, .int x2), (3, .int x3), (4, .int x4)] → W p l e { frames := 71, cells := 0, slots := 0, locals := 2206 } s m args below meth c H locs 0 0 (MQ below (mt_Q D dA h none u_) args s 0 0 (TA h)) (F0 m 171 ls [.int y0]) := by
    intro ag2 hag2 ag65 hag65 u x1 x2 x3 x4 y0 H locs ls hE hT hS hl
    unfold fX7_rights_171 at hE
    refine lv_istore (lv' := [(5, .int y0), (0, .ref h), (1, .int x1), (2, .int x2), (3, .int x3), (4, .int x4)]) hx hb dX7_rights_171 hl (by decide) rfl (fun ls hl => ?_)
    refine lv_aload_n hx hb dX7_rights_173 rfl (lv_at hl 1 rfl) ?_
    refine tg_s C hT dX7_rights_174 ?_
    refine lv_iload hx hb dX7_rights_177 (lv_at hl 5 rfl) ?_
    refine lv_dup2_11 hx hb dX7_rights_179 rfl rfl ?_
    refine tl_s C hT hE dX7_rights_180 (fun hE => ?_)
    refine z_nmi hE (fun v2 hE => ?_)
    refine lv_iload hx hb dX7_rights_181 (lv_at hl 0 rfl) ?_
    refine lv_isub hx hb dX7_rights_183 ?_
    refine ts_s C hT hS hE dX7_rights_184 (fun u3 H locs hE hT hS => ?_)
    refine lv_aload_n hx hb dX7_rights_185 rfl (lv_at hl 1 rfl) ?_
    refine tg_s C hT dX7_rights_186 ?_
    refine lv_iload_n hx hb dX7_rights_189 rfl (lv_at hl 3 rfl) ?_
    refine lv_iconst (v := (3 : Int32)) hx hb dX7_rights_190 rfl ?_
    refine lv_iadd hx hb dX7_rights_191 ?_
    refine lv_dup2_11 hx hb dX7_rights_192 rfl rfl ?_
    refine tl_s C hT hE dX7_rights_193 (fun hE => ?_)
    refine z_nmi hE (fun v4 hE => ?_)
    refine lv_iload hx hb dX7_rights_194 (lv_at hl 0 rfl) ?_
    refine lv_isub hx hb dX7_rights_196 ?_
    refine ts_s C hT hS hE dX7_rights_197 (fun u5 H locs hE hT hS => ?_)
    refine lv_aload_n hx hb dX7_rights_198 rfl (lv_at hl 1 rfl) ?_
    refine lv_iconst (v := (1 : Int32)) hx hb dX7_rights_199 rfl ?_
    refine lv_iload hx hb dX7_rights_200 (lv_at hl 0 rfl) ?_
    refine lv_iload_n hx hb dX7_rights_202 rfl (lv_at hl 4 rfl) ?_
    refine lv_iload_n hx hb dX7_rights_203 rfl (lv_at hl 2 rfl) ?_
    obtain ⟨r7, u6, hc, hE⟩ := o_bd2_some hE
    refine tc_X7_makes C hT hS (kX7_makes hc) rfl rfl ⟨Nat.le_of_ble_eq_true rfl, Nat.le_of_ble_eq_true rfl⟩ ⟨Nat.le_refl 0, Nat.le_refl 0⟩ dX7_rights_204 hl.1 (Nat.le_of_ble_eq_true rfl) (fun H locs hT hS => ?_)
    refine lv_istore (lv' := [(6, .int r7), (5, .int y0), (0, .ref h), (1, .int x1), (2, .int x2), (3, .int x3), (4, .int x4)]) hx hb dX7_rights_207 hl (by decide) rfl (fun ls hl => ?_)
    exact w_209 ag2 hag2 ag65 hag65 _ _ _ _ _ _ _ hE hT hS (lv_sub hl [2, 3, 4, 5] rfl)
  have w_65 : ∀ (ag2 : TS → Int32 → Option (TS)) (hag2 : (∀ (u : TS) (x1 : Int32) (H : Heap) (locs : List Loc) (ls : Array Slot), ag2 u x1 = some u_ → TW D dA h u H → va_S (TA h) s.heap H locs → lv_has ls 7 [(0, .ref h), (1, .int x1)] → W p l e { frames := 71, cells := 0, slots := 0, locals := 2206 } s m args below meth c H locs 0 0 (MQ below (mt_Q D dA h none u_) args s 0 0 (TA h)) (F0 m 2 ls []))) (n : Nat) (u : TS) (x1 : Int32) (x2 : Int32) (x3 : Int32) (H : Heap) (locs : List Loc) (ls : Array Slot), fX7_rights_65 N ag2 n u x1 x2 x3 = some u_ → TW D dA h u H → va_S (TA h) s.heap H locs → lv_has ls 7 [(0, .ref h), (1, .int x1), (2, .int x2), (3, .int x3)] → W p l e { frames := 71, cells := 0, slots := 0, locals := 2206 } s m args below meth c H locs 0 0 (MQ below (mt_Q D dA h none u_) args s 0 0 (TA h)) (F0 m 65 ls []) := by
    intro ag2 hag2 n
    induction n with
    | zero =>
      intro u x1 x2 x3 H locs ls hE hT hS hl
      cases (show (none : Option (TS)) = some u_ from hE)
    | succ n ih =>
      intro u x1 x2 x3 H locs ls hE hT hS hl
      rw [fX7_rights_65] at hE
      refine lv_iload_n hx hb dX7_rights_65 rfl (lv_at hl 3 rfl) ?_
      refine lv_aload_n hx hb dX7_rights_66 rfl (lv_at hl 0 rfl) ?_
      refine tg_s C hT dX7_rights_67 ?_
      refine lv_iconst (v := (1 : Int32)) hx hb dX7_rights_70 rfl ?_
      refine tl_s C hT hE dX7_rights_71 (fun hE => ?_)
      refine z_nmi hE (fun v8 hE => ?_)
      refine lv_icmp_ge (tgt := 215) hx hb dX7_rights_72 (by decide) (fun c9 => ?_) (fun c9 => ?_)
      · have hE := z_t c9 hE
        refine z_iinc (v := (x1 + (1 : Int32))) (lw := (fun y_ => [(1, .int y_), (0, .ref h), (2, .int x2), (3, .int x3)])) hx hb dX7_rights_215 hl hE (k := 1) rfl rfl (by decide) (fun _ => rfl) (fun z10 ls hE hl => ?_)
        refine lv_goto (tgt := 2) hx hb dX7_rights_218 (by decide) ?_
        exact hag2 _ _ _ _ _ hE hT hS (lv_sub hl [1, 0] rfl)
      · have hE := z_f c9 hE
        refine lv_bipush (v := (16 : Int32)) hx hb dX7_rights_75 rfl ?_
        refine lv_bipush (v := (14 : Int32)) hx hb dX7_rights_77 rfl ?_
        refine lv_iload_n hx hb dX7_rights_79 rfl (lv_at hl 3 rfl) ?_
        refine lv_imul hx hb dX7_rights_80 ?_
        refine lv_iadd hx hb dX7_rights_81 ?_
        refine lv_bipush (v := (7 : Int32)) hx hb dX7_rights_82 rfl ?_
        refine lv_iadd hx hb dX7_rights_84 ?_
        refine z_nmi hE (fun z11 hE => ?_)
        refine lv_istore (lv' := [(4, .int z11), (0, .ref h), (1, .int x1), (2, .int x2), (3, .int x3)]) hx hb dX7_rights_85 hl (by decide) rfl (fun ls hl => ?_)
        refine lv_aload_n hx hb dX7_rights_87 rfl (lv_at hl 1 rfl) ?_
        refine lv_iload_n hx hb dX7_rights_88 rfl (lv_at hl 4 rfl) ?_
        refine lv_iconst (v := (0 : Int32)) hx hb dX7_rights_89 rfl ?_
        obtain ⟨r13, u12, hc, hE⟩ := o_bd2_some hE
        refine tc_X7_st C hT hS (kX7_st hc) rfl rfl ⟨Nat.le_of_ble_eq_true rfl, Nat.le_of_ble_eq_true rfl⟩ ⟨Nat.le_refl 0, Nat.le_refl 0⟩ dX7_rights_90 hl.1 (Nat.le_of_ble_eq_true rfl) (fun H locs hT hS => ?_)
        refine lv_aload_n hx hb dX7_rights_93 rfl (lv_at hl 1 rfl) ?_
        refine tg_s C hT dX7_rights_94 ?_
        refine lv_iload_n hx hb dX7_rights_97 rfl (lv_at hl 3 rfl) ?_
        refine tl_s C hT hE dX7_rights_98 (fun hE => ?_)
        refine z_nmi hE (fun v14 hE => ?_)
        refine lv_icmp_ne (tgt := 209) hx hb dX7_rights_99 (by decide) (fun c15 => ?_) (fun c15 => ?_)
        · have hE := z_f c15 hE
          exact w_209 ag2 hag2 (fX7_rights_65 N ag2 n) ih _ _ _ _ _ _ _ hE hT hS (lv_sub hl [1, 2, 3, 4] rfl)
        · have hE := z_t c15 hE
          refine lv_aload_n hx hb dX7_rights_102 rfl (lv_at hl 1 rfl) ?_
          refine tg_s C hT dX7_rights_103 ?_
          refine lv_iload hx hb dX7_rights_106 (lv_at hl 0 rfl) ?_
          refine tl_s C hT hE dX7_rights_108 (fun hE => ?_)
          refine z_nmi hE (fun v16 hE => ?_)
          refine lv_if_eq (tgt := 209) hx hb dX7_rights_109 (by decide) (fun c17 => ?_) (fun c17 => ?_)
          · have hE := z_t c17 hE
            exact w_209 ag2 hag2 (fX7_rights_65 N ag2 n) ih _ _ _ _ _ _ _ hE hT hS (lv_sub hl [1, 2, 3, 4] rfl)
          · have hE := z_f c17 hE
            refine lv_aload_n hx hb dX7_rights_112 rfl (lv_at hl 1 rfl) ?_
            refine tg_s C hT dX7_rights_113 ?_
            refine lv_iload_n hx hb dX7_rights_116 rfl (lv_at hl 3 rfl) ?_
            refine lv_iconst (v := (3 : Int32)) hx hb dX7_rights_117 rfl ?_
            refine lv_iadd hx hb dX7_rights_118 ?_
            refine tl_s C hT hE dX7_rights_119 (fun hE => ?_)
            refine z_nmi hE (fun v18 hE => ?_)
            refine lv_if_eq (tgt := 209) hx hb dX7_rights_120 (by decide) (fun c19 => ?_) (fun c19 => ?_)
            · have hE := z_t c19 hE
              exact w_209 ag2 hag2 (fX7_rights_65 N ag2 n) ih _ _ _ _ _ _ _ hE hT hS (lv_sub hl [1, 2, 3, 4] rfl)
            · have hE := z_f c19 hE
              refine lv_aload_n hx hb dX7_rights_123 rfl (lv_at hl 1 rfl) ?_
              obtain ⟨r21, u20, hc, hE⟩ := o_bd2_some hE
              refine tc_X7_free C hT hS (kX7_free hc) rfl rfl ⟨Nat.le_of_ble_eq_true rfl, Nat.le_of_ble_eq_true rfl⟩ ⟨Nat.le_refl 0, Nat.le_refl 0⟩ dX7_rights_124 hl.1 (Nat.le_of_ble_eq_true rfl) (fun H locs hT hS => ?_)
              refine lv_bipush (v := (60 : Int32)) hx hb dX7_rights_127 rfl ?_
              refine lv_icmp_ne (tgt := 135) hx hb dX7_rights_129 (by decide) (fun c22 => ?_) (fun c22 => ?_)
              · have hE := z_f c22 hE
                refine lv_aload_n hx hb dX7_rights_135 rfl (lv_at hl 1 rfl) ?_
                refine tg_s C hT dX7_rights_136 ?_
                refine lv_iload hx hb dX7_rights_139 (lv_at hl 0 rfl) ?_
                refine tl_s C hT hE dX7_rights_141 (fun hE => ?_)
                refine z_nmi hE (fun v23 hE => ?_)
                refine lv_aload_n hx hb dX7_rights_142 rfl (lv_at hl 1 rfl) ?_
                refine tg_s C hT dX7_rights_143 ?_
                refine lv_iload_n hx hb dX7_rights_146 rfl (lv_at hl 3 rfl) ?_
                refine lv_iconst (v := (3 : Int32)) hx hb dX7_rights_147 rfl ?_
                refine lv_iadd hx hb dX7_rights_148 ?_
                refine tl_s C hT hE dX7_rights_149 (fun hE => ?_)
                refine z_nmi hE (fun v24 hE => ?_)
                refine lv_icmp_ge (tgt := 163) hx hb dX7_rights_150 (by decide) (fun c25 => ?_) (fun c25 => ?_)
                · have hE := z_t c25 hE
                  refine lv_aload_n hx hb dX7_rights_163 rfl (lv_at hl 1 rfl) ?_
                  refine tg_s C hT dX7_rights_164 ?_
                  refine lv_iload_n hx hb dX7_rights_167 rfl (lv_at hl 3 rfl) ?_
                  refine lv_iconst (v := (3 : Int32)) hx hb dX7_rights_168 rfl ?_
                  refine lv_iadd hx hb dX7_rights_169 ?_
                  refine tl_s C hT hE dX7_rights_170 (fun hE => ?_)
                  refine z_nmi hE (fun v26 hE => ?_)
                  exact w_171 ag2 hag2 (fX7_rights_65 N ag2 n) ih _ _ _ _ _ _ _ _ _ hE hT hS (lv_sub hl [1, 2, 3, 4, 0] rfl)
                · have hE := z_f c25 hE
                  refine lv_aload_n hx hb dX7_rights_153 rfl (lv_at hl 1 rfl) ?_
                  refine tg_s C hT dX7_rights_154 ?_
                  refine lv_iload hx hb dX7_rights_157 (lv_at hl 0 rfl) ?_
                  refine tl_s C hT hE dX7_rights_159 (fun hE => ?_)
                  refine z_nmi hE (fun v27 hE => ?_)
                  refine lv_goto (tgt := 171) hx hb dX7_rights_160 (by decide) ?_
                  exact w_171 ag2 hag2 (fX7_rights_65 N ag2 n) ih _ _ _ _ _ _ _ _ _ hE hT hS (lv_sub hl [1, 2, 3, 4, 0] rfl)
              · have hE := z_t c22 hE
                refine lv_goto (tgt := 209) hx hb dX7_rights_132 (by decide) ?_
                exact w_209 ag2 hag2 (fX7_rights_65 N ag2 n) ih _ _ _ _ _ _ _ hE hT hS (lv_sub hl [1, 2, 3, 4] rfl)
  have w_2 : ∀ (n : Nat) (u : TS) (x1 : Int32) (H : Heap) (locs : List Loc) (ls : Array Slot), fX7_rights_2 N n u x1 = some u_ → TW D dA h u H → va_S (TA h) s.heap H locs → lv_has ls 7 [(0, .ref h), (1, .int x1)] → W p l e { frames := 71, cells := 0, slots := 0, locals := 2206 } s m args below meth c H locs 0 0 (MQ below (mt_Q D dA h none u_) args s 0 0 (TA h)) (F0 m 2 ls []) := by
    intro n
    induction n with
    | zero =>
      intro u x1 H locs ls hE hT hS hl
      cases (show (none : Option (TS)) = some u_ from hE)
    | succ n ih =>
      intro u x1 H locs ls hE hT hS hl
      rw [fX7_rights_2] at hE
      refine lv_iload_n hx hb dX7_rights_2 rfl (lv_at hl 1 rfl) ?_
      refine lv_aload_n hx hb dX7_rights_3 rfl (lv_at hl 0 rfl) ?_
      refine tg_s C hT dX7_rights_4 ?_
      refine lv_iconst (v := (3 : Int32)) hx hb dX7_rights_7 rfl ?_
      refine tl_s C hT hE dX7_rights_8 (fun hE => ?_)
      refine z_nmi hE (fun v28 hE => ?_)
      refine lv_icmp_ge (tgt := 221) hx hb dX7_rights_9 (by decide) (fun c29 => ?_) (fun c29 => ?_)
      · have hE := z_t c29 hE
        exact mt_vret C hr hlocks hT hS hE dX7_rights_221
      · have hE := z_f c29 hE
        refine lv_sipush (v := (928 : Int32)) hx hb dX7_rights_12 rfl ?_
        refine lv_iconst (v := (4 : Int32)) hx hb dX7_rights_15 rfl ?_
        refine lv_iload_n hx hb dX7_rights_16 rfl (lv_at hl 1 rfl) ?_
        refine lv_imul hx hb dX7_rights_17 ?_
        refine lv_iadd hx hb dX7_rights_18 ?_
        refine z_nmi hE (fun z30 hE => ?_)
        refine lv_istore_n (lv' := [(2, .int z30), (0, .ref h), (1, .int x1)]) hx hb dX7_rights_19 rfl hl (by decide) rfl (fun ls hl => ?_)
        refine lv_aload_n hx hb dX7_rights_20 rfl (lv_at hl 1 rfl) ?_
        refine tg_s C hT dX7_rights_21 ?_
        refine lv_iload_n hx hb dX7_rights_24 rfl (lv_at hl 0 rfl) ?_
        refine lv_iconst (v := (3 : Int32)) hx hb dX7_rights_25 rfl ?_
        refine lv_iadd hx hb dX7_rights_26 ?_
        refine lv_dup2_11 hx hb dX7_rights_27 rfl rfl ?_
        refine tl_s C hT hE dX7_rights_28 (fun hE => ?_)
        refine z_nmi hE (fun v31 hE => ?_)
        refine lv_aload_n hx hb dX7_rights_29 rfl (lv_at hl 1 rfl) ?_
        refine lv_iconst (v := (4 : Int32)) hx hb dX7_rights_30 rfl ?_
        refine lv_bipush (v := (100 : Int32)) hx hb dX7_rights_31 rfl ?_
        refine lv_iload_n hx hb dX7_rights_33 rfl (lv_at hl 2 rfl) ?_
        refine lv_iadd hx hb dX7_rights_34 ?_
        refine lv_aload_n hx hb dX7_rights_35 rfl (lv_at hl 1 rfl) ?_
        refine tg_s C hT dX7_rights_36 ?_
        refine lv_iconst (v := (0 : Int32)) hx hb dX7_rights_39 rfl ?_
        refine tl_s C hT hE dX7_rights_40 (fun hE => ?_)
        refine z_nmi hE (fun v32 hE => ?_)
        refine lv_iconst (v := (0 : Int32)) hx hb dX7_rights_41 rfl ?_
        obtain ⟨r34, u33, hc, hE⟩ := o_bd2_some hE
        refine tc_X7_ruled C hT hS (kX7_ruled hc) rfl rfl ⟨Nat.le_of_ble_eq_true rfl, Nat.le_of_ble_eq_true rfl⟩ ⟨Nat.le_refl 0, Nat.le_refl 0⟩ dX7_rights_42 hl.1 (Nat.le_of_ble_eq_true rfl) (fun H locs hT hS => ?_)
        refine lv_iconst (v := (0 : Int32)) hx hb dX7_rights_45 rfl ?_
        refine lv_sipush (v := (1000 : Int32)) hx hb dX7_rights_46 rfl ?_
        obtain ⟨r35, hc, hE⟩ := o_bd_some hE
        refine sc_X7_within C.1 (kX7_within hc) rfl rfl ⟨Nat.le_of_ble_eq_true rfl, Nat.le_of_ble_eq_true rfl⟩ ⟨Nat.le_refl 0, Nat.le_refl 0⟩ dX7_rights_49 hl.1 (Nat.le_of_ble_eq_true rfl) ?_
        refine lv_aload_n hx hb dX7_rights_52 rfl (lv_at hl 1 rfl) ?_
        refine tg_s C hT dX7_rights_53 ?_
        refine lv_iload_n hx hb dX7_rights_56 rfl (lv_at hl 0 rfl) ?_
        refine lv_iconst (v := (1 : Int32)) hx hb dX7_rights_57 rfl ?_
        refine lv_iadd hx hb dX7_rights_58 ?_
        refine tl_s C hT hE dX7_rights_59 (fun hE => ?_)
        refine z_nmi hE (fun v36 hE => ?_)
        refine lv_imul hx hb dX7_rights_60 ?_
        refine lv_iadd hx hb dX7_rights_61 ?_
        refine ts_s C hT hS hE dX7_rights_62 (fun u37 H locs hE hT hS => ?_)
        refine lv_iconst (v := (0 : Int32)) hx hb dX7_rights_63 rfl ?_
        refine lv_istore_n (lv' := [(3, .int (0 : Int32)), (2, .int z30), (0, .ref h), (1, .int x1)]) hx hb dX7_rights_64 rfl hl (by decide) rfl (fun ls hl => ?_)
        exact w_65 (fX7_rights_2 N n) ih N _ _ _ _ _ _ _ hE hT hS (lv_sub hl [2, 3, 1, 0] rfl)
  unfold fX7_rights at hE
  refine lv_iconst (v := (0 : Int32)) hx hb dX7_rights_0 rfl ?_
  refine lv_istore_n (lv' := [(1, .int (0 : Int32)), (0, .ref h)]) hx hb dX7_rights_1 rfl hl (by decide) rfl (fun ls hl => ?_)
  exact w_2 N _ _ _ _ _ hE hT hS (lv_sub hl [1, 0] rfl)
theorem tc_X7_thins {a1 : Int32} {a2 : Int32} {r : Int32} {u u1 : TS} {rm : Room} (C : TC p m c cc nL s args D dA) (hT : TW D dA h u H) (hS : va_S (TA h) H0 H locs) (hM : Met l yX7_thins (ws_ yX7_thins cX7_thins 4 (some .int)) rm (va_Pc [.ref h, .int a1, .int a2] (mt_B D dA h u)) (mt_Q D dA h (some (.int r)) u1) 0 0 (TA h)) (hrc : rm.cells = 0) (hrs : rm.slots = 0) (hR : rm.frames + 1 ≤ R.frames ∧ 8 + (4 + 11) + rm.locals ≤ R.locals) (hf : cells + 0 ≤ R.cells ∧ slots + 0 ≤ R.slots) (d : decode cc pc = .ok (.invokevirtual 362, 3)) (hsz : ls.size = nL) (hro : (rest.map fun v => v.category).sum ≤ 8) (kk : ∀ (H1 : Heap) (locs1 : List Loc), TW D dA h u1 H1 → va_S (TA h) H0 H1 locs1 → W p l e R s m args below meth c H1 locs1 cells slots Q (F0 m (pc + 3) ls (.int r :: rest))) : W p l e R s m args below meth c H locs cells slots Q (F0 m pc ls (.int a2 :: .int a1 :: .ref h :: rest)) :=
  mt_call (v := (some (.int r))) (va_runV (As := [.int a1, .int a2]) (rest := rest) C.1 hM (cwV 2 C.1.2.2.2.2 (lw_V q2119 q2121 qs146 q177 q2122) rfl hrc hrs (by decide +kernel) hR) (mt_preV C.2 hT _) rfl rfl hsz rfl (lv_room hro) d hf) hS (fun _ z => z) (fun H1 locs1 a b _ _ => kk H1 locs1 a b)
set_option maxHeartbeats 4000000 in
set_option maxRecDepth 100000 in
theorem kX7_thins {l : Launch} {D : va_G} {dA : Nat → ClassId} {h N : Nat} {u u1 : TS} {a1 : Int32} {a2 : Int32} {r : Int32} (hE : fX7_thins N u a1 a2 = some (r, u1)) : Met l yX7_thins (ws_ yX7_thins cX7_thins 4 (some .int)) ({ frames := 3, cells := 0, slots := 0, locals := 72 }) (va_Pc [.ref h, .int a1, .int a2] (mt_B D dA h u)) (mt_Q D dA h (some (.int r)) u1) 0 0 (TA h) := by
  refine mt_met (by decide) rfl rfl rfl ?_
  intro p e s m args below meth c ls C hr hlocks hT hS hl
  have hx := C.1.1
  have hb := C.1.2.1
  have w_41 : ∀ (u : TS) (x1 : Int32) (x3 : Int32) (H : Heap) (locs : List Loc) (ls : Array Slot), fX7_thins_41 N u x1 x3 = some (r, u1) → TW D dA h u H → va_S (TA h) s.heap H locs → lv_has ls 4 [(0, .ref h), (1, .int x1), (3, .int x3)] → W p l e { frames := 3, cells := 0, slots := 0, locals := 72 } s m args below meth c H locs 0 0 (MQ below (mt_Q D dA h (some (.int r)) u1) args s 0 0 (TA h)) (F0 m 41 ls []) := by
    intro u x1 x3 H locs ls hE hT hS hl
    unfold fX7_thins_41 at hE
    refine lv_iload_n hx hb dX7_thins_41 rfl (lv_at hl 2 rfl) ?_
    refine lv_aload_n hx hb dX7_thins_42 rfl (lv_at hl 0 rfl) ?_
    refine lv_iload_n hx hb dX7_thins_43 rfl (lv_at hl 1 rfl) ?_
    obtain ⟨r2, u1, hc, hE⟩ := o_bd2_some hE
    refine tc_X7_wood C hT hS (kX7_wood hc) rfl rfl ⟨Nat.le_of_ble_eq_true rfl, Nat.le_of_ble_eq_true rfl⟩ ⟨Nat.le_refl 0, Nat.le_refl 0⟩ dX7_thins_44 hl.1 (Nat.le_of_ble_eq_true rfl) (fun H locs hT hS => ?_)
    refine lv_isub hx hb dX7_thins_47 ?_
    exact mt_iret C hr hlocks hT hS hE dX7_thins_48
  unfold fX7_thins at hE
  refine lv_aload_n hx hb dX7_thins_0 rfl (lv_at hl 0 rfl) ?_
  refine lv_iload_n hx hb dX7_thins_1 rfl (lv_at hl 1 rfl) ?_
  obtain ⟨r4, u3, hc, hE⟩ := o_bd2_some hE
  refine tc_X7_wood C hT hS (kX7_wood hc) rfl rfl ⟨Nat.le_of_ble_eq_true rfl, Nat.le_of_ble_eq_true rfl⟩ ⟨Nat.le_refl 0, Nat.le_refl 0⟩ dX7_thins_2 hl.1 (Nat.le_of_ble_eq_true rfl) (fun H locs hT hS => ?_)
  refine lv_istore_n (lv' := [(3, .int r4), (0, .ref h), (1, .int a1), (2, .int a2)]) hx hb dX7_thins_5 rfl hl (by decide) rfl (fun ls hl => ?_)
  refine lv_aload_n hx hb dX7_thins_6 rfl (lv_at hl 1 rfl) ?_
  refine tg_s C hT dX7_thins_7 ?_
  refine lv_bipush (v := (16 : Int32)) hx hb dX7_thins_10 rfl ?_
  refine lv_bipush (v := (14 : Int32)) hx hb dX7_thins_12 rfl ?_
  refine lv_iload_n hx hb dX7_thins_14 rfl (lv_at hl 2 rfl) ?_
  refine lv_imul hx hb dX7_thins_15 ?_
  refine lv_iadd hx hb dX7_thins_16 ?_
  refine lv_bipush (v := (6 : Int32)) hx hb dX7_thins_17 rfl ?_
  refine lv_iadd hx hb dX7_thins_19 ?_
  refine lv_iload_n hx hb dX7_thins_20 rfl (lv_at hl 3 rfl) ?_
  refine ts_s C hT hS hE dX7_thins_21 (fun u5 H locs hE hT hS => ?_)
  refine lv_iload_n hx hb dX7_thins_22 rfl (lv_at hl 3 rfl) ?_
  refine lv_if_ne (tgt := 41) hx hb dX7_thins_23 (by decide) (fun c6 => ?_) (fun c6 => ?_)
  · have hE := z_f c6 hE
    exact w_41 _ _ _ _ _ _ hE hT hS (lv_sub hl [1, 2, 0] rfl)
  · have hE := z_t c6 hE
    refine lv_aload_n hx hb dX7_thins_26 rfl (lv_at hl 1 rfl) ?_
    refine tg_s C hT dX7_thins_27 ?_
    refine lv_bipush (v := (16 : Int32)) hx hb dX7_thins_30 rfl ?_
    refine lv_bipush (v := (14 : Int32)) hx hb dX7_thins_32 rfl ?_
    refine lv_iload_n hx hb dX7_thins_34 rfl (lv_at hl 2 rfl) ?_
    refine lv_imul hx hb dX7_thins_35 ?_
    refine lv_iadd hx hb dX7_thins_36 ?_
    refine lv_iconst (v := (5 : Int32)) hx hb dX7_thins_37 rfl ?_
    refine lv_iadd hx hb dX7_thins_38 ?_
    refine lv_iconst (v := (0 : Int32)) hx hb dX7_thins_39 rfl ?_
    refine ts_s C hT hS hE dX7_thins_40 (fun u7 H locs hE hT hS => ?_)
    exact w_41 _ _ _ _ _ _ hE hT hS (lv_sub hl [1, 2, 0] rfl)
theorem tc_X7_lots {a1 : Int32} {a2 : Int32} {u u1 : TS} {rm : Room} (C : TC p m c cc nL s args D dA) (hT : TW D dA h u H) (hS : va_S (TA h) H0 H locs) (hM : Met l yX7_lots (ws_ yX7_lots cX7_lots 4 none) rm (va_Pc [.ref h, .int a1, .int a2] (mt_B D dA h u)) (mt_Q D dA h none u1) 0 0 (TA h)) (hrc : rm.cells = 0) (hrs : rm.slots = 0) (hR : rm.frames + 1 ≤ R.frames ∧ 8 + (4 + 11) + rm.locals ≤ R.locals) (hf : cells + 0 ≤ R.cells ∧ slots + 0 ≤ R.slots) (d : decode cc pc = .ok (.invokevirtual 365, 3)) (hsz : ls.size = nL) (hro : (rest.map fun v => v.category).sum ≤ 8) (kk : ∀ (H1 : Heap) (locs1 : List Loc), TW D dA h u1 H1 → va_S (TA h) H0 H1 locs1 → W p l e R s m args below meth c H1 locs1 cells slots Q (F0 m (pc + 3) ls (rest))) : W p l e R s m args below meth c H locs cells slots Q (F0 m pc ls (.int a2 :: .int a1 :: .ref h :: rest)) :=
  mt_call (v := none) (va_runV (As := [.int a1, .int a2]) (rest := rest) C.1 hM (cwV 2 C.1.2.2.2.2 (lw_V q2123 q2125 qs147 q177 q2126) rfl hrc hrs (by decide +kernel) hR) (mt_preV C.2 hT _) rfl rfl hsz rfl (lv_room hro) d hf) hS (fun _ z => z) (fun H1 locs1 a b _ _ => kk H1 locs1 a b)
set_option maxHeartbeats 4000000 in
set_option maxRecDepth 100000 in
theorem kX7_lots {l : Launch} {D : va_G} {dA : Nat → ClassId} {h N : Nat} {u u_ : TS} {a1 : Int32} {a2 : Int32} (hE : fX7_lots N u a1 a2 = some u_) : Met l yX7_lots (ws_ yX7_lots cX7_lots 4 none) ({ frames := 3, cells := 0, slots := 0, locals := 69 }) (va_Pc [.ref h, .int a1, .int a2] (mt_B D dA h u)) (mt_Q D dA h none u_) 0 0 (TA h) := by
  refine mt_met (by decide) rfl rfl rfl ?_
  intro p e s m args below meth c ls C hr hlocks hT hS hl
  have hx := C.1.1
  have hb := C.1.2.1
  have w_48 : ∀ (u : TS) (H : Heap) (locs : List Loc) (ls : Array Slot), fX7_lots_48 N u = some u_ → TW D dA h u H → va_S (TA h) s.heap H locs → lv_has ls 4 [] → W p l e { frames := 3, cells := 0, slots := 0, locals := 69 } s m args below meth c H locs 0 0 (MQ below (mt_Q D dA h none u_) args s 0 0 (TA h)) (F0 m 48 ls []) := by
    intro u H locs ls hE hT hS hl
    unfold fX7_lots_48 at hE
    exact mt_vret C hr hlocks hT hS hE dX7_lots_48
  unfold fX7_lots at hE
  refine lv_aload_n hx hb dX7_lots_0 rfl (lv_at hl 0 rfl) ?_
  refine tg_books C hT dX7_lots_1 ?_
  refine lv_iconst (v := (0 : Int32)) hx hb dX7_lots_4 rfl ?_
  refine lv_dup2_11 hx hb dX7_lots_5 rfl rfl ?_
  refine tl_books C hT hE dX7_lots_6 (fun hE => ?_)
  refine z_nml hE (fun v1 hE => ?_)
  refine lv_iload_n hx hb dX7_lots_7 rfl (lv_at hl 2 rfl) ?_
  refine lv_i2l hx hb dX7_lots_8 rfl ?_
  refine lv_ladd hx hb dX7_lots_9 ?_
  refine ts_books C hT hS hE dX7_lots_10 (fun u2 H locs hE hT hS => ?_)
  refine lv_iload_n hx hb dX7_lots_11 rfl (lv_at hl 2 rfl) ?_
  refine lv_if_ne (tgt := 16) hx hb dX7_lots_12 (by decide) (fun c3 => ?_) (fun c3 => ?_)
  · have hE := z_f c3 hE
    refine lv_aload_n hx hb dX7_lots_16 rfl (lv_at hl 0 rfl) ?_
    obtain ⟨r5, u4, hc, hE⟩ := o_bd2_some hE
    refine tc_X7_free C hT hS (kX7_free hc) rfl rfl ⟨Nat.le_of_ble_eq_true rfl, Nat.le_of_ble_eq_true rfl⟩ ⟨Nat.le_refl 0, Nat.le_refl 0⟩ dX7_lots_17 hl.1 (Nat.le_of_ble_eq_true rfl) (fun H locs hT hS => ?_)
    refine lv_bipush (v := (60 : Int32)) hx hb dX7_lots_20 rfl ?_
    refine lv_icmp_ne (tgt := 39) hx hb dX7_lots_22 (by decide) (fun c6 => ?_) (fun c6 => ?_)
    · have hE := z_f c6 hE
      refine lv_aload_n hx hb dX7_lots_39 rfl (lv_at hl 0 rfl) ?_
      refine lv_iconst (v := (0 : Int32)) hx hb dX7_lots_40 rfl ?_
      refine lv_iload_n hx hb dX7_lots_41 rfl (lv_at hl 2 rfl) ?_
      refine lv_iload_n hx hb dX7_lots_42 rfl (lv_at hl 1 rfl) ?_
      refine lv_iconst (v := (-1 : Int32)) hx hb dX7_lots_43 rfl ?_
      obtain ⟨r8, u7, hc, hE⟩ := o_bd2_some hE
      refine tc_X7_makes C hT hS (kX7_makes hc) rfl rfl ⟨Nat.le_of_ble_eq_true rfl, Nat.le_of_ble_eq_true rfl⟩ ⟨Nat.le_refl 0, Nat.le_refl 0⟩ dX7_lots_44 hl.1 (Nat.le_of_ble_eq_true rfl) (fun H locs hT hS => ?_)
      refine lv_istore_n (lv' := [(3, .int r8), (0, .ref h), (1, .int a1), (2, .int a2)]) hx hb dX7_lots_47 rfl hl (by decide) rfl (fun ls hl => ?_)
      exact w_48 _ _ _ _ hE hT hS (lv_sub hl [] rfl)
    · have hE := z_t c6 hE
      refine lv_aload_n hx hb dX7_lots_25 rfl (lv_at hl 0 rfl) ?_
      refine tg_books C hT dX7_lots_26 ?_
      refine lv_iconst (v := (4 : Int32)) hx hb dX7_lots_29 rfl ?_
      refine lv_dup2_11 hx hb dX7_lots_30 rfl rfl ?_
      refine tl_books C hT hE dX7_lots_31 (fun hE => ?_)
      refine z_nml hE (fun v9 hE => ?_)
      refine lv_iload_n hx hb dX7_lots_32 rfl (lv_at hl 2 rfl) ?_
      refine lv_i2l hx hb dX7_lots_33 rfl ?_
      refine lv_ladd hx hb dX7_lots_34 ?_
      refine ts_books C hT hS hE dX7_lots_35 (fun u10 H locs hE hT hS => ?_)
      refine lv_goto (tgt := 48) hx hb dX7_lots_36 (by decide) ?_
      exact w_48 _ _ _ _ hE hT hS (lv_sub hl [] rfl)
  · have hE := z_t c3 hE
    exact mt_vret C hr hlocks hT hS hE dX7_lots_15
theorem tc_X7_obey {u u1 : TS} {rm : Room} (C : TC p m c cc nL s args D dA) (hT : TW D dA h u H) (hS : va_S (TA h) H0 H locs) (hM : Met l yX7_obey (ws_ yX7_obey cX7_obey 4 none) rm (va_Pc [.ref h] (mt_B D dA h u)) (mt_Q D dA h none u1) 0 0 (TA h)) (hrc : rm.cells = 0) (hrs : rm.slots = 0) (hR : rm.frames + 1 ≤ R.frames ∧ 8 + (4 + 11) + rm.locals ≤ R.locals) (hf : cells + 0 ≤ R.cells ∧ slots + 0 ≤ R.slots) (d : decode cc pc = .ok (.invokevirtual 371, 3)) (hsz : ls.size = nL) (hro : (rest.map fun v => v.category).sum ≤ 8) (kk : ∀ (H1 : Heap) (locs1 : List Loc), TW D dA h u1 H1 → va_S (TA h) H0 H1 locs1 → W p l e R s m args below meth c H1 locs1 cells slots Q (F0 m (pc + 3) ls (rest))) : W p l e R s m args below meth c H locs cells slots Q (F0 m pc ls (.ref h :: rest)) :=
  mt_call (v := none) (va_runV (As := []) (rest := rest) C.1 hM (cwV 0 C.1.2.2.2.2 (lw_V q2115 q2117 qs145 q177 q2118) rfl hrc hrs (by decide +kernel) hR) (mt_preV C.2 hT _) rfl rfl hsz rfl (lv_room hro) d hf) hS (fun _ z => z) (fun H1 locs1 a b _ _ => kk H1 locs1 a b)
set_option maxHeartbeats 4000000 in
set_option maxRecDepth 100000 in
theorem kX7_obey {l : Launch} {D : va_G} {dA : Nat → ClassId} {h N : Nat} {u u_ : TS} (hE : fX7_obey N u = some u_) : Met l yX7_obey (ws_ yX7_obey cX7_obey 4 none) ({ frames := 4, cells := 0, slots := 0, locals := 95 }) (va_Pc [.ref h] (mt_B D dA h u)) (mt_Q D dA h none u_) 0 0 (TA h) := by
  refine mt_met (by decide) rfl rfl rfl ?_
  intro p e s m args below meth c ls C hr hlocks hT hS hl
  have hx := C.1.1
  have hb := C.1.2.1
  have w_177 : ∀ (ag2 : TS → Int32 → Option (TS)) (hag2 : (∀ (u : TS) (x1 : Int32) (H : Heap) (locs : List Loc) (ls : Array Slot), ag2 u x1 = some u_ → TW D dA h u H → va_S (TA h) s.heap H locs → lv_has ls 4 [(0, .ref h), (1, .int x1)] → W p l e { frames := 4, cells := 0, slots := 0, locals := 95 } s m args below meth c H locs 0 0 (MQ below (mt_Q D dA h none u_) args s 0 0 (TA h)) (F0 m 2 ls []))) (u : TS) (x1 : Int32) (H : Heap) (locs : List Loc) (ls : Array Slot), fX7_obey_177 N ag2 u x1 = some u_ → TW D dA h u H → va_S (TA h) s.heap H locs → lv_has ls 4 [(0, .ref h), (1, .int x1)] → W p l e { frames := 4, cells := 0, slots := 0, locals := 95 } s m args below meth c H locs 0 0 (MQ below (mt_Q D dA h none u_) args s 0 0 (TA h)) (F0 m 177 ls []) := by
    intro ag2 hag2 u x1 H locs ls hE hT hS hl
    unfold fX7_obey_177 at hE
    refine z_iinc (v := (x1 + (1 : Int32))) (lw := (fun y_ => [(1, .int y_), (0, .ref h)])) hx hb dX7_obey_177 hl hE (k := 1) rfl rfl (by decide) (fun _ => rfl) (fun z1 ls hE hl => ?_)
    refine lv_goto (tgt := 2) hx hb dX7_obey_180 (by decide) ?_
    exact hag2 _ _ _ _ _ hE hT hS (lv_sub hl [1, 0] rfl)
  have w_2 : ∀ (n : Nat) (u : TS) (x1 : Int32) (H : Heap) (locs : List Loc) (ls : Array Slot), fX7_obey_2 N n u x1 = some u_ → TW D dA h u H → va_S (TA h) s.heap H locs → lv_has ls 4 [(0, .ref h), (1, .int x1)] → W p l e { frames := 4, cells := 0, slots := 0, locals := 95 } s m args below meth c H locs 0 0 (MQ below (mt_Q D dA h none u_) args s 0 0 (TA h)) (F0 m 2 ls []) := by
    intro n
    induction n with
    | zero =>
      intro u x1 H locs ls hE hT hS hl
      cases (show (none : Option (TS)) = some u_ from hE)
    | succ n ih =>
      intro u x1 H locs ls hE hT hS hl
      rw [fX7_obey_2] at hE
      refine lv_iload_n hx hb dX7_obey_2 rfl (lv_at hl 1 rfl) ?_
      refine lv_aload_n hx hb dX7_obey_3 rfl (lv_at hl 0 rfl) ?_
      refine tg_s C hT dX7_obey_4 ?_
      refine lv_iconst (v := (5 : Int32)) hx hb dX7_obey_7 rfl ?_
      refine tl_s C hT hE dX7_obey_8 (fun hE => ?_)
      refine z_nmi hE (fun v2 hE => ?_)
      refine lv_icmp_ge (tgt := 183) hx hb dX7_obey_9 (by decide) (fun c3 => ?_) (fun c3 => ?_)
      · have hE := z_t c3 hE
        refine lv_aload_n hx hb dX7_obey_183 rfl (lv_at hl 0 rfl) ?_
        refine tg_s C hT dX7_obey_184 ?_
        refine lv_iconst (v := (5 : Int32)) hx hb dX7_obey_187 rfl ?_
        refine lv_iconst (v := (0 : Int32)) hx hb dX7_obey_188 rfl ?_
        refine ts_s C hT hS hE dX7_obey_189 (fun u4 H locs hE hT hS => ?_)
        exact mt_vret C hr hlocks hT hS hE dX7_obey_190
      · have hE := z_f c3 hE
        refine lv_aload_n hx hb dX7_obey_12 rfl (lv_at hl 0 rfl) ?_
        refine lv_iload_n hx hb dX7_obey_13 rfl (lv_at hl 1 rfl) ?_
        refine lv_iconst (v := (0 : Int32)) hx hb dX7_obey_14 rfl ?_
        obtain ⟨r6, u5, hc, hE⟩ := o_bd2_some hE
        refine tc_X7_od C hT hS (kX7_od hc) rfl rfl ⟨Nat.le_of_ble_eq_true rfl, Nat.le_of_ble_eq_true rfl⟩ ⟨Nat.le_refl 0, Nat.le_refl 0⟩ dX7_obey_15 hl.1 (Nat.le_of_ble_eq_true rfl) (fun H locs hT hS => ?_)
        refine lv_istore_n (lv' := [(2, .int r6), (0, .ref h), (1, .int x1)]) hx hb dX7_obey_18 rfl hl (by decide) rfl (fun ls hl => ?_)
        refine lv_bipush (v := (16 : Int32)) hx hb dX7_obey_19 rfl ?_
        refine lv_bipush (v := (14 : Int32)) hx hb dX7_obey_21 rfl ?_
        refine lv_iload_n hx hb dX7_obey_23 rfl (lv_at hl 0 rfl) ?_
        refine lv_imul hx hb dX7_obey_24 ?_
        refine lv_iadd hx hb dX7_obey_25 ?_
        refine z_nmi hE (fun z7 hE => ?_)
        refine lv_istore_n (lv' := [(3, .int z7), (2, .int r6), (0, .ref h), (1, .int x1)]) hx hb dX7_obey_26 rfl hl (by decide) rfl (fun ls hl => ?_)
        refine lv_aload_n hx hb dX7_obey_27 rfl (lv_at hl 2 rfl) ?_
        refine lv_iload_n hx hb dX7_obey_28 rfl (lv_at hl 3 rfl) ?_
        refine lv_iconst (v := (1 : Int32)) hx hb dX7_obey_29 rfl ?_
        obtain ⟨r9, u8, hc, hE⟩ := o_bd2_some hE
        refine tc_X7_od C hT hS (kX7_od hc) rfl rfl ⟨Nat.le_of_ble_eq_true rfl, Nat.le_of_ble_eq_true rfl⟩ ⟨Nat.le_refl 0, Nat.le_refl 0⟩ dX7_obey_30 hl.1 (Nat.le_of_ble_eq_true rfl) (fun H locs hT hS => ?_)
        refine lv_if_ne (tgt := 65) hx hb dX7_obey_33 (by decide) (fun c10 => ?_) (fun c10 => ?_)
        · have hE := z_f c10 hE
          refine lv_aload_n hx hb dX7_obey_65 rfl (lv_at hl 2 rfl) ?_
          refine lv_iload_n hx hb dX7_obey_66 rfl (lv_at hl 3 rfl) ?_
          refine lv_iconst (v := (1 : Int32)) hx hb dX7_obey_67 rfl ?_
          obtain ⟨r12, u11, hc, hE⟩ := o_bd2_some hE
          refine tc_X7_od C hT hS (kX7_od hc) rfl rfl ⟨Nat.le_of_ble_eq_true rfl, Nat.le_of_ble_eq_true rfl⟩ ⟨Nat.le_refl 0, Nat.le_refl 0⟩ dX7_obey_68 hl.1 (Nat.le_of_ble_eq_true rfl) (fun H locs hT hS => ?_)
          refine lv_iconst (v := (1 : Int32)) hx hb dX7_obey_71 rfl ?_
          refine lv_icmp_ne (tgt := 94) hx hb dX7_obey_72 (by decide) (fun c13 => ?_) (fun c13 => ?_)
          · have hE := z_f c13 hE
            refine lv_aload_n hx hb dX7_obey_94 rfl (lv_at hl 2 rfl) ?_
            refine lv_iload_n hx hb dX7_obey_95 rfl (lv_at hl 1 rfl) ?_
            obtain ⟨r15, u14, hc, hE⟩ := o_bd2_some hE
            refine tc_X7_isBare C hT hS (kX7_isBare hc) rfl rfl ⟨Nat.le_of_ble_eq_true rfl, Nat.le_of_ble_eq_true rfl⟩ ⟨Nat.le_refl 0, Nat.le_refl 0⟩ dX7_obey_96 hl.1 (Nat.le_of_ble_eq_true rfl) (fun H locs hT hS => ?_)
            refine lv_if_eq (tgt := 177) hx hb dX7_obey_99 (by decide) (fun c16 => ?_) (fun c16 => ?_)
            · have hE := z_t c16 hE
              exact w_177 (fX7_obey_2 N n) ih _ _ _ _ _ hE hT hS (lv_sub hl [2, 3] rfl)
            · have hE := z_f c16 hE
              refine lv_aload_n hx hb dX7_obey_102 rfl (lv_at hl 2 rfl) ?_
              refine tg_s C hT dX7_obey_103 ?_
              refine lv_iload_n hx hb dX7_obey_106 rfl (lv_at hl 0 rfl) ?_
              refine lv_iconst (v := (2 : Int32)) hx hb dX7_obey_107 rfl ?_
              refine lv_iadd hx hb dX7_obey_108 ?_
              refine lv_aload_n hx hb dX7_obey_109 rfl (lv_at hl 2 rfl) ?_
              refine lv_iload_n hx hb dX7_obey_110 rfl (lv_at hl 3 rfl) ?_
              refine lv_iconst (v := (2 : Int32)) hx hb dX7_obey_111 rfl ?_
              obtain ⟨r18, u17, hc, hE⟩ := o_bd2_some hE
              refine tc_X7_od C hT hS (kX7_od hc) rfl rfl ⟨Nat.le_of_ble_eq_true rfl, Nat.le_of_ble_eq_true rfl⟩ ⟨Nat.le_refl 0, Nat.le_refl 0⟩ dX7_obey_112 hl.1 (Nat.le_of_ble_eq_true rfl) (fun H locs hT hS => ?_)
              refine ts_s C hT hS hE dX7_obey_115 (fun u19 H locs hE hT hS => ?_)
              refine lv_aload_n hx hb dX7_obey_116 rfl (lv_at hl 2 rfl) ?_
              refine tg_s C hT dX7_obey_117 ?_
              refine lv_iload_n hx hb dX7_obey_120 rfl (lv_at hl 0 rfl) ?_
              refine lv_bipush (v := (6 : Int32)) hx hb dX7_obey_121 rfl ?_
              refine lv_iadd hx hb dX7_obey_123 ?_
              refine lv_bipush (v := (60 : Int32)) hx hb dX7_obey_124 rfl ?_
              refine ts_s C hT hS hE dX7_obey_126 (fun u20 H locs hE hT hS => ?_)
              refine lv_aload_n hx hb dX7_obey_127 rfl (lv_at hl 2 rfl) ?_
              refine tg_s C hT dX7_obey_128 ?_
              refine lv_iload_n hx hb dX7_obey_131 rfl (lv_at hl 0 rfl) ?_
              refine lv_iconst (v := (5 : Int32)) hx hb dX7_obey_132 rfl ?_
              refine lv_iadd hx hb dX7_obey_133 ?_
              refine lv_iconst (v := (1 : Int32)) hx hb dX7_obey_134 rfl ?_
              refine ts_s C hT hS hE dX7_obey_135 (fun u21 H locs hE hT hS => ?_)
              refine lv_aload_n hx hb dX7_obey_136 rfl (lv_at hl 2 rfl) ?_
              refine tg_s C hT dX7_obey_137 ?_
              refine lv_iload_n hx hb dX7_obey_140 rfl (lv_at hl 0 rfl) ?_
              refine lv_bipush (v := (10 : Int32)) hx hb dX7_obey_141 rfl ?_
              refine lv_iadd hx hb dX7_obey_143 ?_
              refine lv_aload_n hx hb dX7_obey_144 rfl (lv_at hl 2 rfl) ?_
              refine tg_s C hT dX7_obey_145 ?_
              refine lv_iconst (v := (0 : Int32)) hx hb dX7_obey_148 rfl ?_
              refine tl_s C hT hE dX7_obey_149 (fun hE => ?_)
              refine z_nmi hE (fun v22 hE => ?_)
              refine ts_s C hT hS hE dX7_obey_150 (fun u23 H locs hE hT hS => ?_)
              refine lv_aload_n hx hb dX7_obey_151 rfl (lv_at hl 2 rfl) ?_
              refine tg_s C hT dX7_obey_152 ?_
              refine lv_sipush (v := (3446 : Int32)) hx hb dX7_obey_155 rfl ?_
              refine lv_iconst (v := (3 : Int32)) hx hb dX7_obey_158 rfl ?_
              refine lv_aload_n hx hb dX7_obey_159 rfl (lv_at hl 2 rfl) ?_
              refine lv_iload_n hx hb dX7_obey_160 rfl (lv_at hl 3 rfl) ?_
              refine lv_iconst (v := (2 : Int32)) hx hb dX7_obey_161 rfl ?_
              obtain ⟨r25, u24, hc, hE⟩ := o_bd2_some hE
              refine tc_X7_od C hT hS (kX7_od hc) rfl rfl ⟨Nat.le_of_ble_eq_true rfl, Nat.le_of_ble_eq_true rfl⟩ ⟨Nat.le_refl 0, Nat.le_refl 0⟩ dX7_obey_162 hl.1 (Nat.le_of_ble_eq_true rfl) (fun H locs hT hS => ?_)
              refine lv_imul hx hb dX7_obey_165 ?_
              refine lv_iadd hx hb dX7_obey_166 ?_
              refine lv_dup2_11 hx hb dX7_obey_167 rfl rfl ?_
              refine tl_s C hT hE dX7_obey_168 (fun hE => ?_)
              refine z_nmi hE (fun v26 hE => ?_)
              refine lv_aload_n hx hb dX7_obey_169 rfl (lv_at hl 2 rfl) ?_
              refine lv_iload_n hx hb dX7_obey_170 rfl (lv_at hl 1 rfl) ?_
              refine lv_iconst (v := (4 : Int32)) hx hb dX7_obey_171 rfl ?_
              obtain ⟨r28, u27, hc, hE⟩ := o_bd2_some hE
              refine tc_X7_st C hT hS (kX7_st hc) rfl rfl ⟨Nat.le_of_ble_eq_true rfl, Nat.le_of_ble_eq_true rfl⟩ ⟨Nat.le_refl 0, Nat.le_refl 0⟩ dX7_obey_172 hl.1 (Nat.le_of_ble_eq_true rfl) (fun H locs hT hS => ?_)
              refine lv_isub hx hb dX7_obey_175 ?_
              refine ts_s C hT hS hE dX7_obey_176 (fun u29 H locs hE hT hS => ?_)
              exact w_177 (fX7_obey_2 N n) ih _ _ _ _ _ hE hT hS (lv_sub hl [2, 3] rfl)
          · have hE := z_t c13 hE
            refine lv_aload_n hx hb dX7_obey_75 rfl (lv_at hl 2 rfl) ?_
            refine lv_iload_n hx hb dX7_obey_76 rfl (lv_at hl 1 rfl) ?_
            refine lv_aload_n hx hb dX7_obey_77 rfl (lv_at hl 2 rfl) ?_
            refine lv_iload_n hx hb dX7_obey_78 rfl (lv_at hl 1 rfl) ?_
            refine lv_aload_n hx hb dX7_obey_79 rfl (lv_at hl 2 rfl) ?_
            refine lv_iload_n hx hb dX7_obey_80 rfl (lv_at hl 3 rfl) ?_
            refine lv_iconst (v := (2 : Int32)) hx hb dX7_obey_81 rfl ?_
            obtain ⟨r31, u30, hc, hE⟩ := o_bd2_some hE
            refine tc_X7_od C hT hS (kX7_od hc) rfl rfl ⟨Nat.le_of_ble_eq_true rfl, Nat.le_of_ble_eq_true rfl⟩ ⟨Nat.le_refl 0, Nat.le_refl 0⟩ dX7_obey_82 hl.1 (Nat.le_of_ble_eq_true rfl) (fun H locs hT hS => ?_)
            obtain ⟨r33, u32, hc, hE⟩ := o_bd2_some hE
            refine tc_X7_thins C hT hS (kX7_thins hc) rfl rfl ⟨Nat.le_of_ble_eq_true rfl, Nat.le_of_ble_eq_true rfl⟩ ⟨Nat.le_refl 0, Nat.le_refl 0⟩ dX7_obey_85 hl.1 (Nat.le_of_ble_eq_true rfl) (fun H locs hT hS => ?_)
            obtain ⟨u34, hc, hE⟩ := o_bd_some hE
            refine tc_X7_lots C hT hS (kX7_lots hc) rfl rfl ⟨Nat.le_of_ble_eq_true rfl, Nat.le_of_ble_eq_true rfl⟩ ⟨Nat.le_refl 0, Nat.le_refl 0⟩ dX7_obey_88 hl.1 (Nat.le_of_ble_eq_true rfl) (fun H locs hT hS => ?_)
            refine lv_goto (tgt := 177) hx hb dX7_obey_91 (by decide) ?_
            exact w_177 (fX7_obey_2 N n) ih _ _ _ _ _ hE hT hS (lv_sub hl [2, 3] rfl)
        · have hE := z_t c10 hE
          refine lv_aload_n hx hb dX7_obey_36 rfl (lv_at hl 2 rfl) ?_
          refine lv_iload_n hx hb dX7_obey_37 rfl (lv_at hl 1 rfl) ?_
          refine lv_aload_n hx hb dX7_obey_38 rfl (lv_at hl 2 rfl) ?_
          refine lv_iload_n hx hb dX7_obey_39 rfl (lv_at hl 1 rfl) ?_
          refine lv_iconst (v := (0 : Int32)) hx hb dX7_obey_40 rfl ?_
          obtain ⟨r36, u35, hc, hE⟩ := o_bd2_some hE
          refine tc_X7_thins C hT hS (kX7_thins hc) rfl rfl ⟨Nat.le_of_ble_eq_true rfl, Nat.le_of_ble_eq_true rfl⟩ ⟨Nat.le_refl 0, Nat.le_refl 0⟩ dX7_obey_41 hl.1 (Nat.le_of_ble_eq_true rfl) (fun H locs hT hS => ?_)
          obtain ⟨u37, hc, hE⟩ := o_bd_some hE
          refine tc_X7_lots C hT hS (kX7_lots hc) rfl rfl ⟨Nat.le_of_ble_eq_true rfl, Nat.le_of_ble_eq_true rfl⟩ ⟨Nat.le_refl 0, Nat.le_refl 0⟩ dX7_obey_44 hl.1 (Nat.le_of_ble_eq_true rfl) (fun H locs hT hS => ?_)
          refine lv_aload_n hx hb dX7_obey_47 rfl (lv_at hl 2 rfl) ?_
          refine tg_s C hT dX7_obey_48 ?_
          refine lv_iload_n hx hb dX7_obey_51 rfl (lv_at hl 0 rfl) ?_
          refine lv_bipush (v := (9 : Int32)) hx hb dX7_obey_52 rfl ?_
          refine lv_iadd hx hb dX7_obey_54 ?_
          refine lv_aload_n hx hb dX7_obey_55 rfl (lv_at hl 2 rfl) ?_
          refine tg_s C hT dX7_obey_56 ?_
          refine lv_iconst (v := (0 : Int32)) hx hb dX7_obey_59 rfl ?_
          refine tl_s C hT hE dX7_obey_60 (fun hE => ?_)
          refine z_nmi hE (fun v38 hE => ?_)
          refine ts_s C hT hS hE dX7_obey_61 (fun u39 H locs hE hT hS => ?_)
          refine lv_goto (tgt := 177) hx hb dX7_obey_62 (by decide) ?_
          exact w_177 (fX7_obey_2 N n) ih _ _ _ _ _ hE hT hS (lv_sub hl [2, 3] rfl)
  unfold fX7_obey at hE
  refine lv_iconst (v := (0 : Int32)) hx hb dX7_obey_0 rfl ?_
  refine lv_istore_n (lv' := [(1, .int (0 : Int32)), (0, .ref h)]) hx hb dX7_obey_1 rfl hl (by decide) rfl (fun ls hl => ?_)
  exact w_2 N _ _ _ _ _ hE hT hS (lv_sub hl [1, 0] rfl)
theorem tc_X7_blows {u u1 : TS} {rm : Room} (C : TC p m c cc nL s args D dA) (hT : TW D dA h u H) (hS : va_S (TA h) H0 H locs) (hM : Met l yX7_blows (ws_ yX7_blows cX7_blows 5 none) rm (va_Pc [.ref h] (mt_B D dA h u)) (mt_Q D dA h none u1) 0 0 (TA h)) (hrc : rm.cells = 0) (hrs : rm.slots = 0) (hR : rm.frames + 1 ≤ R.frames ∧ 8 + (5 + 11) + rm.locals ≤ R.locals) (hf : cells + 0 ≤ R.cells ∧ slots + 0 ≤ R.slots) (d : decode cc pc = .ok (.invokevirtual 374, 3)) (hsz : ls.size = nL) (hro : (rest.map fun v => v.category).sum ≤ 8) (kk : ∀ (H1 : Heap) (locs1 : List Loc), TW D dA h u1 H1 → va_S (TA h) H0 H1 locs1 → W p l e R s m args below meth c H1 locs1 cells slots Q (F0 m (pc + 3) ls (rest))) : W p l e R s m args below meth c H locs cells slots Q (F0 m pc ls (.ref h :: rest)) :=
  mt_call (v := none) (va_runV (As := []) (rest := rest) C.1 hM (cwV 0 C.1.2.2.2.2 (lw_V q2127 q2129 qs148 q177 q2130) rfl hrc hrs (by decide +kernel) hR) (mt_preV C.2 hT _) rfl rfl hsz rfl (lv_room hro) d hf) hS (fun _ z => z) (fun H1 locs1 a b _ _ => kk H1 locs1 a b)
set_option maxHeartbeats 4000000 in
set_option maxRecDepth 100000 in
theorem kX7_blows {l : Launch} {D : va_G} {dA : Nat → ClassId} {h N : Nat} {u u_ : TS} (hE : fX7_blows N u = some u_) : Met l yX7_blows (ws_ yX7_blows cX7_blows 5 none) ({ frames := 4, cells := 0, slots := 0, locals := 95 }) (va_Pc [.ref h] (mt_B D dA h u)) (mt_Q D dA h none u_) 0 0 (TA h) := by
  refine mt_met (by decide) rfl rfl rfl ?_
  intro p e s m args below meth c ls C hr hlocks hT hS hl
  have hx := C.1.1
  have hb := C.1.2.1
  have w_297 : ∀ (ag225 : TS → Int32 → Option (TS)) (hag225 : (∀ (u : TS) (x2 : Int32) (H : Heap) (locs : List Loc) (ls : Array Slot), ag225 u x2 = some u_ → TW D dA h u H → va_S (TA h) s.heap H locs → lv_has ls 5 [(0, .ref h), (2, .int x2)] → W p l e { frames := 4, cells := 0, slots := 0, locals := 95 } s m args below meth c H locs 0 0 (MQ below (mt_Q D dA h none u_) args s 0 0 (TA h)) (F0 m 225 ls []))) (u : TS) (x2 : Int32) (H : Heap) (locs : List Loc) (ls : Array Slot), fX7_blows_297 N ag225 u x2 = some u_ → TW D dA h u H → va_S (TA h) s.heap H locs → lv_has ls 5 [(0, .ref h), (2, .int x2)] → W p l e { frames := 4, cells := 0, slots := 0, locals := 95 } s m args below meth c H locs 0 0 (MQ below (mt_Q D dA h none u_) args s 0 0 (TA h)) (F0 m 297 ls []) := by
    intro ag225 hag225 u x2 H locs ls hE hT hS hl
    unfold fX7_blows_297 at hE
    refine z_iinc (v := (x2 + (1 : Int32))) (lw := (fun y_ => [(2, .int y_), (0, .ref h)])) hx hb dX7_blows_297 hl hE (k := 1) rfl rfl (by decide) (fun _ => rfl) (fun z1 ls hE hl => ?_)
    refine lv_goto (tgt := 225) hx hb dX7_blows_300 (by decide) ?_
    exact hag225 _ _ _ _ _ hE hT hS (lv_sub hl [1, 0] rfl)
  have w_225 : ∀ (n : Nat) (u : TS) (x2 : Int32) (H : Heap) (locs : List Loc) (ls : Array Slot), fX7_blows_225 N n u x2 = some u_ → TW D dA h u H → va_S (TA h) s.heap H locs → lv_has ls 5 [(0, .ref h), (2, .int x2)] → W p l e { frames := 4, cells := 0, slots := 0, locals := 95 } s m args below meth c H locs 0 0 (MQ below (mt_Q D dA h none u_) args s 0 0 (TA h)) (F0 m 225 ls []) := by
    intro n
    induction n with
    | zero =>
      intro u x2 H locs ls hE hT hS hl
      cases (show (none : Option (TS)) = some u_ from hE)
    | succ n ih =>
      intro u x2 H locs ls hE hT hS hl
      rw [fX7_blows_225] at hE
      refine lv_iload_n hx hb dX7_blows_225 rfl (lv_at hl 1 rfl) ?_
      refine lv_aload_n hx hb dX7_blows_226 rfl (lv_at hl 0 rfl) ?_
      refine tg_s C hT dX7_blows_227 ?_
      refine lv_iconst (v := (1 : Int32)) hx hb dX7_blows_230 rfl ?_
      refine tl_s C hT hE dX7_blows_231 (fun hE => ?_)
      refine z_nmi hE (fun v2 hE => ?_)
      refine lv_icmp_ge (tgt := 303) hx hb dX7_blows_232 (by decide) (fun c3 => ?_) (fun c3 => ?_)
      · have hE := z_t c3 hE
        exact mt_vret C hr hlocks hT hS hE dX7_blows_303
      · have hE := z_f c3 hE
        refine lv_aload_n hx hb dX7_blows_235 rfl (lv_at hl 0 rfl) ?_
        refine tg_kept C hT dX7_blows_236 ?_
        refine lv_iload_n hx hb dX7_blows_239 rfl (lv_at hl 1 rfl) ?_
        refine tl_kept C hT hE dX7_blows_240 (fun hE => ?_)
        refine z_nmi hE (fun v4 hE => ?_)
        refine lv_if_ne (tgt := 247) hx hb dX7_blows_241 (by decide) (fun c5 => ?_) (fun c5 => ?_)
        · have hE := z_f c5 hE
          refine lv_aload_n hx hb dX7_blows_247 rfl (lv_at hl 0 rfl) ?_
          refine lv_iload_n hx hb dX7_blows_248 rfl (lv_at hl 1 rfl) ?_
          refine lv_aload_n hx hb dX7_blows_249 rfl (lv_at hl 0 rfl) ?_
          refine lv_iload_n hx hb dX7_blows_250 rfl (lv_at hl 1 rfl) ?_
          refine lv_bipush (v := (6 : Int32)) hx hb dX7_blows_251 rfl ?_
          obtain ⟨r7, u6, hc, hE⟩ := o_bd2_some hE
          refine tc_X7_st C hT hS (kX7_st hc) rfl rfl ⟨Nat.le_of_ble_eq_true rfl, Nat.le_of_ble_eq_true rfl⟩ ⟨Nat.le_refl 0, Nat.le_refl 0⟩ dX7_blows_253 hl.1 (Nat.le_of_ble_eq_true rfl) (fun H locs hT hS => ?_)
          refine lv_aload_n hx hb dX7_blows_256 rfl (lv_at hl 0 rfl) ?_
          refine tg_kept C hT dX7_blows_257 ?_
          refine lv_iload_n hx hb dX7_blows_260 rfl (lv_at hl 1 rfl) ?_
          refine tl_kept C hT hE dX7_blows_261 (fun hE => ?_)
          refine z_nmi hE (fun v8 hE => ?_)
          refine lv_isub hx hb dX7_blows_262 ?_
          obtain ⟨r10, u9, hc, hE⟩ := o_bd2_some hE
          refine tc_X7_thins C hT hS (kX7_thins hc) rfl rfl ⟨Nat.le_of_ble_eq_true rfl, Nat.le_of_ble_eq_true rfl⟩ ⟨Nat.le_refl 0, Nat.le_refl 0⟩ dX7_blows_263 hl.1 (Nat.le_of_ble_eq_true rfl) (fun H locs hT hS => ?_)
          refine lv_istore_n (lv' := [(3, .int r10), (0, .ref h), (2, .int x2)]) hx hb dX7_blows_266 rfl hl (by decide) rfl (fun ls hl => ?_)
          refine lv_aload_n hx hb dX7_blows_267 rfl (lv_at hl 1 rfl) ?_
          refine tg_books C hT dX7_blows_268 ?_
          refine lv_iconst (v := (3 : Int32)) hx hb dX7_blows_271 rfl ?_
          refine lv_dup2_11 hx hb dX7_blows_272 rfl rfl ?_
          refine tl_books C hT hE dX7_blows_273 (fun hE => ?_)
          refine z_nml hE (fun v11 hE => ?_)
          refine lv_iload_n hx hb dX7_blows_274 rfl (lv_at hl 0 rfl) ?_
          refine lv_i2l hx hb dX7_blows_275 rfl ?_
          refine lv_ladd hx hb dX7_blows_276 ?_
          refine ts_books C hT hS hE dX7_blows_277 (fun u12 H locs hE hT hS => ?_)
          refine lv_aload_n hx hb dX7_blows_278 rfl (lv_at hl 1 rfl) ?_
          refine tg_s C hT dX7_blows_279 ?_
          refine lv_bipush (v := (16 : Int32)) hx hb dX7_blows_282 rfl ?_
          refine lv_bipush (v := (14 : Int32)) hx hb dX7_blows_284 rfl ?_
          refine lv_iload_n hx hb dX7_blows_286 rfl (lv_at hl 2 rfl) ?_
          refine lv_imul hx hb dX7_blows_287 ?_
          refine lv_iadd hx hb dX7_blows_288 ?_
          refine lv_bipush (v := (7 : Int32)) hx hb dX7_blows_289 rfl ?_
          refine lv_iadd hx hb dX7_blows_291 ?_
          refine lv_dup2_11 hx hb dX7_blows_292 rfl rfl ?_
          refine tl_s C hT hE dX7_blows_293 (fun hE => ?_)
          refine z_nmi hE (fun v13 hE => ?_)
          refine lv_iload_n hx hb dX7_blows_294 rfl (lv_at hl 0 rfl) ?_
          refine lv_iadd hx hb dX7_blows_295 ?_
          refine ts_s C hT hS hE dX7_blows_296 (fun u14 H locs hE hT hS => ?_)
          exact w_297 (fX7_blows_225 N n) ih _ _ _ _ _ hE hT hS (lv_sub hl [1, 2] rfl)
        · have hE := z_t c5 hE
          refine lv_goto (tgt := 297) hx hb dX7_blows_244 (by decide) ?_
          exact w_297 (fX7_blows_225 N n) ih _ _ _ _ _ hE hT hS (lv_sub hl [0, 1] rfl)
  have w_217 : ∀ (ag21 : TS → Int32 → Int32 → Option (TS)) (hag21 : (∀ (u : TS) (x1 : Int32) (x2 : Int32) (H : Heap) (locs : List Loc) (ls : Array Slot), ag21 u x1 x2 = some u_ → TW D dA h u H → va_S (TA h) s.heap H locs → lv_has ls 5 [(0, .ref h), (1, .int x1), (2, .int x2)] → W p l e { frames := 4, cells := 0, slots := 0, locals := 95 } s m args below meth c H locs 0 0 (MQ below (mt_Q D dA h none u_) args s 0 0 (TA h)) (F0 m 21 ls []))) (u : TS) (x1 : Int32) (x2 : Int32) (H : Heap) (locs : List Loc) (ls : Array Slot), fX7_blows_217 N ag21 u x1 x2 = some u_ → TW D dA h u H → va_S (TA h) s.heap H locs → lv_has ls 5 [(0, .ref h), (1, .int x1), (2, .int x2)] → W p l e { frames := 4, cells := 0, slots := 0, locals := 95 } s m args below meth c H locs 0 0 (MQ below (mt_Q D dA h none u_) args s 0 0 (TA h)) (F0 m 217 ls []) := by
    intro ag21 hag21 u x1 x2 H locs ls hE hT hS hl
    unfold fX7_blows_217 at hE
    refine z_iinc (v := (x2 + (1 : Int32))) (lw := (fun y_ => [(2, .int y_), (0, .ref h), (1, .int x1)])) hx hb dX7_blows_217 hl hE (k := 2) rfl rfl (by decide) (fun _ => rfl) (fun z15 ls hE hl => ?_)
    refine lv_goto (tgt := 21) hx hb dX7_blows_220 (by decide) ?_
    exact hag21 _ _ _ _ _ _ hE hT hS (lv_sub hl [1, 2, 0] rfl)
  have w_216 : ∀ (ag21 : TS → Int32 → Int32 → Option (TS)) (hag21 : (∀ (u : TS) (x1 : Int32) (x2 : Int32) (H : Heap) (locs : List Loc) (ls : Array Slot), ag21 u x1 x2 = some u_ → TW D dA h u H → va_S (TA h) s.heap H locs → lv_has ls 5 [(0, .ref h), (1, .int x1), (2, .int x2)] → W p l e { frames := 4, cells := 0, slots := 0, locals := 95 } s m args below meth c H locs 0 0 (MQ below (mt_Q D dA h none u_) args s 0 0 (TA h)) (F0 m 21 ls []))) (u : TS) (x1 : Int32) (x2 : Int32) (y1 : Int32) (y2 : Int32) (H : Heap) (locs : List Loc) (ls : Array Slot), fX7_blows_216 N ag21 u x1 x2 y1 y2 = some u_ → TW D dA h u H → va_S (TA h) s.heap H locs → lv_has ls 5 [(0, .ref h), (1, .int x1), (2, .int x2)] → W p l e { frames := 4, cells := 0, slots := 0, locals := 95 } s m args below meth c H locs 0 0 (MQ below (mt_Q D dA h none u_) args s 0 0 (TA h)) (F0 m 216 ls [.int y2, .int y1, .ref (h + 6)]) := by
    intro ag21 hag21 u x1 x2 y1 y2 H locs ls hE hT hS hl
    unfold fX7_blows_216 at hE
    refine ts_kept C hT hS hE dX7_blows_216 (fun u16 H locs hE hT hS => ?_)
    exact w_217 ag21 hag21 _ _ _ _ _ _ hE hT hS (lv_sub hl [0, 1, 2] rfl)
  have w_181 : ∀ (ag21 : TS → Int32 → Int32 → Option (TS)) (hag21 : (∀ (u : TS) (x1 : Int32) (x2 : Int32) (H : Heap) (locs : List Loc) (ls : Array Slot), ag21 u x1 x2 = some u_ → TW D dA h u H → va_S (TA h) s.heap H locs → lv_has ls 5 [(0, .ref h), (1, .int x1), (2, .int x2)] → W p l e { frames := 4, cells := 0, slots := 0, locals := 95 } s m args below meth c H locs 0 0 (MQ below (mt_Q D dA h none u_) args s 0 0 (TA h)) (F0 m 21 ls []))) (u : TS) (x1 : Int32) (x2 : Int32) (y0 : Int32) (y1 : Int32) (H : Heap) (locs : List Loc) (ls : Array Slot), fX7_blows_181 N ag21 u x1 x2 y0 y1 = some u_ → TW D dA h u H → va_S (TA h) s.heap H locs → lv_has ls 5 [(0, .ref h), (1, .int x1), (2, .int x2)] → W p l e { frames := 4, cells := 0, slots := 0, locals := 95 } s m args below meth c H locs 0 0 (MQ below (mt_Q D dA h none u_) args s 0 0 (TA h)) (F0 m 181 ls [.int y1, .int y0]) := by
    intro ag21 hag21 u x1 x2 y0 y1 H locs ls hE hT hS hl
    unfold fX7_blows_181 at hE
    refine lv_imul hx hb dX7_blows_181 ?_
    refine lv_bipush (v := (100 : Int32)) hx hb dX7_blows_182 rfl ?_
    refine lv_idiv hx hb dX7_blows_184 (by decide) ?_
    refine z_nmi hE (fun z17 hE => ?_)
    refine lv_istore (lv' := [(4, .int z17), (0, .ref h), (1, .int x1), (2, .int x2)]) hx hb dX7_blows_185 hl (by decide) rfl (fun ls hl => ?_)
    refine lv_aload_n hx hb dX7_blows_187 rfl (lv_at hl 1 rfl) ?_
    refine tg_kept C hT dX7_blows_188 ?_
    refine lv_iload_n hx hb dX7_blows_191 rfl (lv_at hl 3 rfl) ?_
    refine lv_iload hx hb dX7_blows_192 (lv_at hl 0 rfl) ?_
    refine lv_aload_n hx hb dX7_blows_194 rfl (lv_at hl 1 rfl) ?_
    refine lv_iload_n hx hb dX7_blows_195 rfl (lv_at hl 3 rfl) ?_
    refine lv_bipush (v := (6 : Int32)) hx hb dX7_blows_196 rfl ?_
    obtain ⟨r19, u18, hc, hE⟩ := o_bd2_some hE
    refine tc_X7_st C hT hS (kX7_st hc) rfl rfl ⟨Nat.le_of_ble_eq_true rfl, Nat.le_of_ble_eq_true rfl⟩ ⟨Nat.le_refl 0, Nat.le_refl 0⟩ dX7_blows_198 hl.1 (Nat.le_of_ble_eq_true rfl) (fun H locs hT hS => ?_)
    refine lv_icmp_ge (tgt := 209) hx hb dX7_blows_201 (by decide) (fun c20 => ?_) (fun c20 => ?_)
    · have hE := z_t c20 hE
      refine lv_aload_n hx hb dX7_blows_209 rfl (lv_at hl 1 rfl) ?_
      refine lv_iload_n hx hb dX7_blows_210 rfl (lv_at hl 3 rfl) ?_
      refine lv_bipush (v := (6 : Int32)) hx hb dX7_blows_211 rfl ?_
      obtain ⟨r22, u21, hc, hE⟩ := o_bd2_some hE
      refine tc_X7_st C hT hS (kX7_st hc) rfl rfl ⟨Nat.le_of_ble_eq_true rfl, Nat.le_of_ble_eq_true rfl⟩ ⟨Nat.le_refl 0, Nat.le_refl 0⟩ dX7_blows_213 hl.1 (Nat.le_of_ble_eq_true rfl) (fun H locs hT hS => ?_)
      exact w_216 ag21 hag21 _ _ _ _ _ _ _ _ hE hT hS (lv_sub hl [1, 2, 3] rfl)
    · have hE := z_f c20 hE
      refine lv_iload hx hb dX7_blows_204 (lv_at hl 0 rfl) ?_
      refine lv_goto (tgt := 216) hx hb dX7_blows_206 (by decide) ?_
      exact w_216 ag21 hag21 _ _ _ _ _ _ _ _ hE hT hS (lv_sub hl [1, 2, 3] rfl)
  have w_171 : ∀ (ag21 : TS → Int32 → Int32 → Option (TS)) (hag21 : (∀ (u : TS) (x1 : Int32) (x2 : Int32) (H : Heap) (locs : List Loc) (ls : Array Slot), ag21 u x1 x2 = some u_ → TW D dA h u H → va_S (TA h) s.heap H locs → lv_has ls 5 [(0, .ref h), (1, .int x1), (2, .int x2)] → W p l e { frames := 4, cells := 0, slots := 0, locals := 95 } s m args below meth c H locs 0 0 (MQ below (mt_Q D dA h none u_) args s 0 0 (TA h)) (F0 m 21 ls []))) (u : TS) (x1 : Int32) (x2 : Int32) (x3 : Int32) (y0 : Int32) (y1 : Int32) (H : Heap) (locs : List Loc) (ls : Array Slot), fX7_blows_171 N ag21 u x1 x2 x3 y0 y1 = some u_ → TW D dA h u H → va_S (TA h) s.heap H locs → lv_has ls 5 [(0, .ref h), (1, .int x1), (2, .int x2), (3, .int x3)] → W p l e { frames := 4, cells := 0, slots := 0, locals := 95 } s m args below meth c H locs 0 0 (MQ below (mt_Q D dA h none u_) args s 0 0 (TA h)) (F0 m 171 ls [.int y1, .int y0]) := by
    intro ag21 hag21 u x1 x2 x3 y0 y1 H locs ls hE hT hS hl
    unfold fX7_blows_171 at hE
    refine lv_imul hx hb dX7_blows_171 ?_
    refine lv_iload_n hx hb dX7_blows_172 rfl (lv_at hl 3 rfl) ?_
    refine lv_if_eq (tgt := 180) hx hb dX7_blows_173 (by decide) (fun c23 => ?_) (fun c23 => ?_)
    · have hE := z_t c23 hE
      refine lv_iconst (v := (1 : Int32)) hx hb dX7_blows_180 rfl ?_
      exact w_181 ag21 hag21 _ _ _ _ _ _ _ _ hE hT hS (lv_sub hl [0, 1, 2] rfl)
    · have hE := z_f c23 hE
      refine lv_iconst (v := (2 : Int32)) hx hb dX7_blows_176 rfl ?_
      refine lv_goto (tgt := 181) hx hb dX7_blows_177 (by decide) ?_
      exact w_181 ag21 hag21 _ _ _ _ _ _ _ _ hE hT hS (lv_sub hl [0, 1, 2] rfl)
  have w_120 : ∀ (ag21 : TS → Int32 → Int32 → Option (TS)) (hag21 : (∀ (u : TS) (x1 : Int32) (x2 : Int32) (H : Heap) (locs : List Loc) (ls : Array Slot), ag21 u x1 x2 = some u_ → TW D dA h u H → va_S (TA h) s.heap H locs → lv_has ls 5 [(0, .ref h), (1, .int x1), (2, .int x2)] → W p l e { frames := 4, cells := 0, slots := 0, locals := 95 } s m args below meth c H locs 0 0 (MQ below (mt_Q D dA h none u_) args s 0 0 (TA h)) (F0 m 21 ls []))) (ag69 : TS → Int32 → Int32 → Int32 → Int32 → Option (TS)) (hag69 : (∀ (u : TS) (x1 : Int32) (x2 : Int32) (x3 : Int32) (x4 : Int32) (H : Heap) (locs : List Loc) (ls : Array Slot), ag69 u x1 x2 x3 x4 = some u_ → TW D dA h u H → va_S (TA h) s.heap H locs → lv_has ls 5 [(0, .ref h), (1, .int x1), (2, .int x2), (3, .int x3), (4, .int x4)] → W p l e { frames := 4, cells := 0, slots := 0, locals := 95 } s m args below meth c H locs 0 0 (MQ below (mt_Q D dA h none u_) args s 0 0 (TA h)) (F0 m 69 ls []))) (u : TS) (x1 : Int32) (x2 : Int32) (x4 : Int32) (y0 : Int32) (H : Heap) (locs : List Loc) (ls : Array Slot), fX7_blows_120 N ag21 ag69 u x1 x2 x4 y0 = some u_ → TW D dA h u H → va_S (TA h) s.heap H locs → lv_has ls 5 [(0, .ref h), (1, .int x1), (2, .int x2), (4, .int x4)] → W p l e { frames := 4, cells := 0, slots := 0, locals := 95 } s m args below meth c H locs 0 0 (MQ below (mt_Q D dA h none u_) args s 0 0 (TA h)) (F0 m 120 ls [.int y0]) := by
    intro ag21 hag21 ag69 hag69 u x1 x2 x4 y0 H locs ls hE hT hS hl
    unfold fX7_blows_120 at hE
    refine lv_istore_n (lv' := [(3, .int y0), (0, .ref h), (1, .int x1), (2, .int x2), (4, .int x4)]) hx hb dX7_blows_120 rfl hl (by decide) rfl (fun ls hl => ?_)
    refine z_iinc (v := (x4 + (1 : Int32))) (lw := (fun y_ => [(4, .int y_), (3, .int y0), (0, .ref h), (1, .int x1), (2, .int x2)])) hx hb dX7_blows_121 hl hE (k := 4) rfl rfl (by decide) (fun _ => rfl) (fun z24 ls hE hl => ?_)
    refine lv_goto (tgt := 69) hx hb dX7_blows_124 (by decide) ?_
    exact hag69 _ _ _ _ _ _ _ _ hE hT hS (lv_sub hl [2, 3, 4, 1, 0] rfl)
  have w_115 : ∀ (ag21 : TS → Int32 → Int32 → Option (TS)) (hag21 : (∀ (u : TS) (x1 : Int32) (x2 : Int32) (H : Heap) (locs : List Loc) (ls : Array Slot), ag21 u x1 x2 = some u_ → TW D dA h u H → va_S (TA h) s.heap H locs → lv_has ls 5 [(0, .ref h), (1, .int x1), (2, .int x2)] → W p l e { frames := 4, cells := 0, slots := 0, locals := 95 } s m args below meth c H locs 0 0 (MQ below (mt_Q D dA h none u_) args s 0 0 (TA h)) (F0 m 21 ls []))) (ag69 : TS → Int32 → Int32 → Int32 → Int32 → Option (TS)) (hag69 : (∀ (u : TS) (x1 : Int32) (x2 : Int32) (x3 : Int32) (x4 : Int32) (H : Heap) (locs : List Loc) (ls : Array Slot), ag69 u x1 x2 x3 x4 = some u_ → TW D dA h u H → va_S (TA h) s.heap H locs → lv_has ls 5 [(0, .ref h), (1, .int x1), (2, .int x2), (3, .int x3), (4, .int x4)] → W p l e { frames := 4, cells := 0, slots := 0, locals := 95 } s m args below meth c H locs 0 0 (MQ below (mt_Q D dA h none u_) args s 0 0 (TA h)) (F0 m 69 ls []))) (u : TS) (x1 : Int32) (x2 : Int32) (x4 : Int32) (H : Heap) (locs : List Loc) (ls : Array Slot), fX7_blows_115 N ag21 ag69 u x1 x2 x4 = some u_ → TW D dA h u H → va_S (TA h) s.heap H locs → lv_has ls 5 [(0, .ref h), (1, .int x1), (2, .int x2), (4, .int x4)] → W p l e { frames := 4, cells := 0, slots := 0, locals := 95 } s m args below meth c H locs 0 0 (MQ below (mt_Q D dA h none u_) args s 0 0 (TA h)) (F0 m 115 ls []) := by
    intro ag21 hag21 ag69 hag69 u x1 x2 x4 H locs ls hE hT hS hl
    unfold fX7_blows_115 at hE
    refine lv_iconst (v := (1 : Int32)) hx hb dX7_blows_115 rfl ?_
    refine lv_goto (tgt := 120) hx hb dX7_blows_116 (by decide) ?_
    exact w_120 ag21 hag21 ag69 hag69 _ _ _ _ _ _ _ _ hE hT hS (lv_sub hl [0, 1, 2, 3] rfl)
  have w_119 : ∀ (ag21 : TS → Int32 → Int32 → Option (TS)) (hag21 : (∀ (u : TS) (x1 : Int32) (x2 : Int32) (H : Heap) (locs : List Loc) (ls : Array Slot), ag21 u x1 x2 = some u_ → TW D dA h u H → va_S (TA h) s.heap H locs → lv_has ls 5 [(0, .ref h), (1, .int x1), (2, .int x2)] → W p l e { frames := 4, cells := 0, slots := 0, locals := 95 } s m args below meth c H locs 0 0 (MQ below (mt_Q D dA h none u_) args s 0 0 (TA h)) (F0 m 21 ls []))) (ag69 : TS → Int32 → Int32 → Int32 → Int32 → Option (TS)) (hag69 : (∀ (u : TS) (x1 : Int32) (x2 : Int32) (x3 : Int32) (x4 : Int32) (H : Heap) (locs : List Loc) (ls : Array Slot), ag69 u x1 x2 x3 x4 = some u_ → TW D dA h u H → va_S (TA h) s.heap H locs → lv_has ls 5 [(0, .ref h), (1, .int x1), (2, .int x2), (3, .int x3), (4, .int x4)] → W p l e { frames := 4, cells := 0, slots := 0, locals := 95 } s m args below meth c H locs 0 0 (MQ below (mt_Q D dA h none u_) args s 0 0 (TA h)) (F0 m 69 ls []))) (u : TS) (x1 : Int32) (x2 : Int32) (x4 : Int32) (H : Heap) (locs : List Loc) (ls : Array Slot), fX7_blows_119 N ag21 ag69 u x1 x2 x4 = some u_ → TW D dA h u H → va_S (TA h) s.heap H locs → lv_has ls 5 [(0, .ref h), (1, .int x1), (2, .int x2), (4, .int x4)] → W p l e { frames := 4, cells := 0, slots := 0, locals := 95 } s m args below meth c H locs 0 0 (MQ below (mt_Q D dA h none u_) args s 0 0 (TA h)) (F0 m 119 ls []) := by
    intro ag21 hag21 ag69 hag69 u x1 x2 x4 H locs ls hE hT hS hl
    unfold fX7_blows_119 at hE
    refine lv_iconst (v := (0 : Int32)) hx hb dX7_blows_119 rfl ?_
    exact w_120 ag21 hag21 ag69 hag69 _ _ _ _ _ _ _ _ hE hT hS (lv_sub hl [0, 1, 2, 3] rfl)
  have w_69 : ∀ (ag21 : TS → Int32 → Int32 → Option (TS)) (hag21 : (∀ (u : TS) (x1 : Int32) (x2 : Int32) (H : Heap) (locs : List Loc) (ls : Array Slot), ag21 u x1 x2 = some u_ → TW D dA h u H → va_S (TA h) s.heap H locs → lv_has ls 5 [(0, .ref h), (1, .int x1), (2, .int x2)] → W p l e { frames := 4, cells := 0, slots := 0, locals := 95 } s m args below meth c H locs 0 0 (MQ below (mt_Q D dA h none u_) args s 0 0 (TA h)) (F0 m 21 ls []))) (n : Nat) (u : TS) (x1 : Int32) (x2 : Int32) (x3 : Int32) (x4 : Int32) (H : Heap) (locs : List Loc) (ls : Array Slot), fX7_blows_69 N ag21 n u x1 x2 x3 x4 = some u_ → TW D dA h u H → va_S (TA h) s.heap H locs → lv_has ls 5 [(0, .ref h), (1, .int x1), (2, .int x2), (3, .int x3), (4, .int x4)] → W p l e { frames := 4, cells := 0, slots := 0, locals := 95 } s m args below meth c H locs 0 0 (MQ below (mt_Q D dA h none u_) args s 0 0 (TA h)) (F0 m 69 ls []) := by
    intro ag21 hag21 n
    induction n with
    | zero =>
      intro u x1 x2 x3 x4 H locs ls hE hT hS hl
      cases (show (none : Option (TS)) = some u_ from hE)
    | succ n ih =>
      intro u x1 x2 x3 x4 H locs ls hE hT hS hl
      rw [fX7_blows_69] at hE
      refine lv_iload hx hb dX7_blows_69 (lv_at hl 4 rfl) ?_
      refine lv_aload_n hx hb dX7_blows_71 rfl (lv_at hl 0 rfl) ?_
      refine tg_s C hT dX7_blows_72 ?_
      refine lv_iconst (v := (1 : Int32)) hx hb dX7_blows_75 rfl ?_
      refine tl_s C hT hE dX7_blows_76 (fun hE => ?_)
      refine z_nmi hE (fun v25 hE => ?_)
      refine lv_icmp_ge (tgt := 127) hx hb dX7_blows_77 (by decide) (fun c26 => ?_) (fun c26 => ?_)
      · have hE := z_t c26 hE
        refine lv_iload_n hx hb dX7_blows_127 rfl (lv_at hl 1 rfl) ?_
        refine lv_aload_n hx hb dX7_blows_128 rfl (lv_at hl 0 rfl) ?_
        refine lv_iload_n hx hb dX7_blows_129 rfl (lv_at hl 2 rfl) ?_
        refine lv_iconst (v := (2 : Int32)) hx hb dX7_blows_130 rfl ?_
        obtain ⟨r28, u27, hc, hE⟩ := o_bd2_some hE
        refine tc_X7_st C hT hS (kX7_st hc) rfl rfl ⟨Nat.le_of_ble_eq_true rfl, Nat.le_of_ble_eq_true rfl⟩ ⟨Nat.le_refl 0, Nat.le_refl 0⟩ dX7_blows_131 hl.1 (Nat.le_of_ble_eq_true rfl) (fun H locs hT hS => ?_)
        refine lv_if_ne (tgt := 142) hx hb dX7_blows_134 (by decide) (fun c29 => ?_) (fun c29 => ?_)
        · have hE := z_f c29 hE
          refine lv_aload_n hx hb dX7_blows_142 rfl (lv_at hl 0 rfl) ?_
          refine lv_iload_n hx hb dX7_blows_143 rfl (lv_at hl 2 rfl) ?_
          refine lv_iconst (v := (2 : Int32)) hx hb dX7_blows_144 rfl ?_
          obtain ⟨r31, u30, hc, hE⟩ := o_bd2_some hE
          refine tc_X7_st C hT hS (kX7_st hc) rfl rfl ⟨Nat.le_of_ble_eq_true rfl, Nat.le_of_ble_eq_true rfl⟩ ⟨Nat.le_refl 0, Nat.le_refl 0⟩ dX7_blows_145 hl.1 (Nat.le_of_ble_eq_true rfl) (fun H locs hT hS => ?_)
          refine lv_iconst (v := (1 : Int32)) hx hb dX7_blows_148 rfl ?_
          refine lv_icmp_ne (tgt := 156) hx hb dX7_blows_149 (by decide) (fun c32 => ?_) (fun c32 => ?_)
          · have hE := z_f c32 hE
            refine lv_aload_n hx hb dX7_blows_156 rfl (lv_at hl 0 rfl) ?_
            refine lv_iload_n hx hb dX7_blows_157 rfl (lv_at hl 2 rfl) ?_
            refine lv_iconst (v := (2 : Int32)) hx hb dX7_blows_158 rfl ?_
            obtain ⟨r34, u33, hc, hE⟩ := o_bd2_some hE
            refine tc_X7_st C hT hS (kX7_st hc) rfl rfl ⟨Nat.le_of_ble_eq_true rfl, Nat.le_of_ble_eq_true rfl⟩ ⟨Nat.le_refl 0, Nat.le_refl 0⟩ dX7_blows_159 hl.1 (Nat.le_of_ble_eq_true rfl) (fun H locs hT hS => ?_)
            refine lv_iconst (v := (2 : Int32)) hx hb dX7_blows_162 rfl ?_
            refine lv_icmp_ne (tgt := 170) hx hb dX7_blows_163 (by decide) (fun c35 => ?_) (fun c35 => ?_)
            · have hE := z_f c35 hE
              refine lv_iconst (v := (2 : Int32)) hx hb dX7_blows_170 rfl ?_
              exact w_171 ag21 hag21 _ _ _ _ _ _ _ _ _ hE hT hS (lv_sub hl [0, 1, 2, 3] rfl)
            · have hE := z_t c35 hE
              refine lv_iconst (v := (3 : Int32)) hx hb dX7_blows_166 rfl ?_
              refine lv_goto (tgt := 171) hx hb dX7_blows_167 (by decide) ?_
              exact w_171 ag21 hag21 _ _ _ _ _ _ _ _ _ hE hT hS (lv_sub hl [0, 1, 2, 3] rfl)
          · have hE := z_t c32 hE
            refine lv_iconst (v := (4 : Int32)) hx hb dX7_blows_152 rfl ?_
            refine lv_goto (tgt := 171) hx hb dX7_blows_153 (by decide) ?_
            exact w_171 ag21 hag21 _ _ _ _ _ _ _ _ _ hE hT hS (lv_sub hl [0, 1, 2, 3] rfl)
        · have hE := z_t c29 hE
          refine lv_bipush (v := (6 : Int32)) hx hb dX7_blows_137 rfl ?_
          refine lv_goto (tgt := 171) hx hb dX7_blows_139 (by decide) ?_
          exact w_171 ag21 hag21 _ _ _ _ _ _ _ _ _ hE hT hS (lv_sub hl [0, 1, 2, 3] rfl)
      · have hE := z_f c26 hE
        refine lv_iload_n hx hb dX7_blows_80 rfl (lv_at hl 3 rfl) ?_
        refine lv_if_ne (tgt := 115) hx hb dX7_blows_81 (by decide) (fun c36 => ?_) (fun c36 => ?_)
        · have hE := z_f c36 hE
          exact w_115 ag21 hag21 (fX7_blows_69 N ag21 n) ih _ _ _ _ _ _ _ hE hT hS (lv_sub hl [0, 1, 2, 4] rfl)
        · have hE := z_t c36 hE
          refine lv_aload_n hx hb dX7_blows_84 rfl (lv_at hl 0 rfl) ?_
          refine lv_iload_n hx hb dX7_blows_85 rfl (lv_at hl 2 rfl) ?_
          refine lv_iload hx hb dX7_blows_86 (lv_at hl 4 rfl) ?_
          obtain ⟨r38, u37, hc, hE⟩ := o_bd2_some hE
          refine tc_X7_areNear C hT hS (kX7_areNear hc) rfl rfl ⟨Nat.le_of_ble_eq_true rfl, Nat.le_of_ble_eq_true rfl⟩ ⟨Nat.le_refl 0, Nat.le_refl 0⟩ dX7_blows_88 hl.1 (Nat.le_of_ble_eq_true rfl) (fun H locs hT hS => ?_)
          refine lv_if_eq (tgt := 119) hx hb dX7_blows_91 (by decide) (fun c39 => ?_) (fun c39 => ?_)
          · have hE := z_t c39 hE
            exact w_119 ag21 hag21 (fX7_blows_69 N ag21 n) ih _ _ _ _ _ _ _ hE hT hS (lv_sub hl [0, 1, 2, 4] rfl)
          · have hE := z_f c39 hE
            refine lv_aload_n hx hb dX7_blows_94 rfl (lv_at hl 0 rfl) ?_
            refine lv_iload hx hb dX7_blows_95 (lv_at hl 4 rfl) ?_
            obtain ⟨r41, u40, hc, hE⟩ := o_bd2_some hE
            refine tc_X7_isBare C hT hS (kX7_isBare hc) rfl rfl ⟨Nat.le_of_ble_eq_true rfl, Nat.le_of_ble_eq_true rfl⟩ ⟨Nat.le_refl 0, Nat.le_refl 0⟩ dX7_blows_97 hl.1 (Nat.le_of_ble_eq_true rfl) (fun H locs hT hS => ?_)
            refine lv_if_ne (tgt := 115) hx hb dX7_blows_100 (by decide) (fun c42 => ?_) (fun c42 => ?_)
            · have hE := z_f c42 hE
              exact w_115 ag21 hag21 (fX7_blows_69 N ag21 n) ih _ _ _ _ _ _ _ hE hT hS (lv_sub hl [0, 1, 2, 4] rfl)
            · have hE := z_t c42 hE
              refine lv_aload_n hx hb dX7_blows_103 rfl (lv_at hl 0 rfl) ?_
              refine lv_iload hx hb dX7_blows_104 (lv_at hl 4 rfl) ?_
              refine lv_iconst (v := (5 : Int32)) hx hb dX7_blows_106 rfl ?_
              obtain ⟨r44, u43, hc, hE⟩ := o_bd2_some hE
              refine tc_X7_st C hT hS (kX7_st hc) rfl rfl ⟨Nat.le_of_ble_eq_true rfl, Nat.le_of_ble_eq_true rfl⟩ ⟨Nat.le_refl 0, Nat.le_refl 0⟩ dX7_blows_107 hl.1 (Nat.le_of_ble_eq_true rfl) (fun H locs hT hS => ?_)
              refine lv_bipush (v := (20 : Int32)) hx hb dX7_blows_110 rfl ?_
              refine lv_icmp_ge (tgt := 119) hx hb dX7_blows_112 (by decide) (fun c45 => ?_) (fun c45 => ?_)
              · have hE := z_t c45 hE
                exact w_119 ag21 hag21 (fX7_blows_69 N ag21 n) ih _ _ _ _ _ _ _ hE hT hS (lv_sub hl [0, 1, 2, 4] rfl)
              · have hE := z_f c45 hE
                exact w_115 ag21 hag21 (fX7_blows_69 N ag21 n) ih _ _ _ _ _ _ _ hE hT hS (lv_sub hl [0, 1, 2, 4] rfl)
  have w_21 : ∀ (n : Nat) (u : TS) (x1 : Int32) (x2 : Int32) (H : Heap) (locs : List Loc) (ls : Array Slot), fX7_blows_21 N n u x1 x2 = some u_ → TW D dA h u H → va_S (TA h) s.heap H locs → lv_has ls 5 [(0, .ref h), (1, .int x1), (2, .int x2)] → W p l e { frames := 4, cells := 0, slots := 0, locals := 95 } s m args below meth c H locs 0 0 (MQ below (mt_Q D dA h none u_) args s 0 0 (TA h)) (F0 m 21 ls []) := by
    intro n
    induction n with
    | zero =>
      intro u x1 x2 H locs ls hE hT hS hl
      cases (show (none : Option (TS)) = some u_ from hE)
    | succ n ih =>
      intro u x1 x2 H locs ls hE hT hS hl
      rw [fX7_blows_21] at hE
      refine lv_iload_n hx hb dX7_blows_21 rfl (lv_at hl 2 rfl) ?_
      refine lv_aload_n hx hb dX7_blows_22 rfl (lv_at hl 0 rfl) ?_
      refine tg_s C hT dX7_blows_23 ?_
      refine lv_iconst (v := (1 : Int32)) hx hb dX7_blows_26 rfl ?_
      refine tl_s C hT hE dX7_blows_27 (fun hE => ?_)
      refine z_nmi hE (fun v46 hE => ?_)
      refine lv_icmp_ge (tgt := 223) hx hb dX7_blows_28 (by decide) (fun c47 => ?_) (fun c47 => ?_)
      · have hE := z_t c47 hE
        refine lv_iconst (v := (0 : Int32)) hx hb dX7_blows_223 rfl ?_
        refine lv_istore_n (lv' := [(2, .int (0 : Int32)), (0, .ref h), (1, .int x1)]) hx hb dX7_blows_224 rfl hl (by decide) rfl (fun ls hl => ?_)
        exact w_225 N _ _ _ _ _ hE hT hS (lv_sub hl [1, 0] rfl)
      · have hE := z_f c47 hE
        refine lv_aload_n hx hb dX7_blows_31 rfl (lv_at hl 0 rfl) ?_
        refine tg_kept C hT dX7_blows_32 ?_
        refine lv_iload_n hx hb dX7_blows_35 rfl (lv_at hl 2 rfl) ?_
        refine lv_iconst (v := (0 : Int32)) hx hb dX7_blows_36 rfl ?_
        refine ts_kept C hT hS hE dX7_blows_37 (fun u48 H locs hE hT hS => ?_)
        refine lv_aload_n hx hb dX7_blows_38 rfl (lv_at hl 0 rfl) ?_
        refine lv_iload_n hx hb dX7_blows_39 rfl (lv_at hl 2 rfl) ?_
        obtain ⟨r50, u49, hc, hE⟩ := o_bd2_some hE
        refine tc_X7_isBare C hT hS (kX7_isBare hc) rfl rfl ⟨Nat.le_of_ble_eq_true rfl, Nat.le_of_ble_eq_true rfl⟩ ⟨Nat.le_refl 0, Nat.le_refl 0⟩ dX7_blows_40 hl.1 (Nat.le_of_ble_eq_true rfl) (fun H locs hT hS => ?_)
        refine lv_if_ne (tgt := 217) hx hb dX7_blows_43 (by decide) (fun c51 => ?_) (fun c51 => ?_)
        · have hE := z_f c51 hE
          exact w_217 (fX7_blows_21 N n) ih _ _ _ _ _ _ hE hT hS (lv_sub hl [0, 1, 2] rfl)
        · have hE := z_t c51 hE
          refine lv_aload_n hx hb dX7_blows_46 rfl (lv_at hl 0 rfl) ?_
          refine lv_iload_n hx hb dX7_blows_47 rfl (lv_at hl 2 rfl) ?_
          refine lv_iconst (v := (5 : Int32)) hx hb dX7_blows_48 rfl ?_
          obtain ⟨r53, u52, hc, hE⟩ := o_bd2_some hE
          refine tc_X7_st C hT hS (kX7_st hc) rfl rfl ⟨Nat.le_of_ble_eq_true rfl, Nat.le_of_ble_eq_true rfl⟩ ⟨Nat.le_refl 0, Nat.le_refl 0⟩ dX7_blows_49 hl.1 (Nat.le_of_ble_eq_true rfl) (fun H locs hT hS => ?_)
          refine lv_bipush (v := (40 : Int32)) hx hb dX7_blows_52 rfl ?_
          refine lv_icmp_lt (tgt := 217) hx hb dX7_blows_54 (by decide) (fun c54 => ?_) (fun c54 => ?_)
          · have hE := z_t c54 hE
            exact w_217 (fX7_blows_21 N n) ih _ _ _ _ _ _ hE hT hS (lv_sub hl [0, 1, 2] rfl)
          · have hE := z_f c54 hE
            refine lv_iload_n hx hb dX7_blows_57 rfl (lv_at hl 1 rfl) ?_
            refine lv_if_gt (tgt := 64) hx hb dX7_blows_58 (by decide) (fun c55 => ?_) (fun c55 => ?_)
            · have hE := z_t c55 hE
              refine lv_iconst (v := (0 : Int32)) hx hb dX7_blows_64 rfl ?_
              refine lv_istore_n (lv' := [(3, .int (0 : Int32)), (0, .ref h), (1, .int x1), (2, .int x2)]) hx hb dX7_blows_65 rfl hl (by decide) rfl (fun ls hl => ?_)
              refine lv_iconst (v := (0 : Int32)) hx hb dX7_blows_66 rfl ?_
              refine lv_istore (lv' := [(4, .int (0 : Int32)), (3, .int (0 : Int32)), (0, .ref h), (1, .int x1), (2, .int x2)]) hx hb dX7_blows_67 hl (by decide) rfl (fun ls hl => ?_)
              exact w_69 (fX7_blows_21 N n) ih N _ _ _ _ _ _ _ _ hE hT hS (lv_sub hl [2, 3, 4, 1, 0] rfl)
            · have hE := z_f c55 hE
              refine lv_goto (tgt := 217) hx hb dX7_blows_61 (by decide) ?_
              exact w_217 (fX7_blows_21 N n) ih _ _ _ _ _ _ hE hT hS (lv_sub hl [0, 1, 2] rfl)
  unfold fX7_blows at hE
  refine lv_aload_n hx hb dX7_blows_0 rfl (lv_at hl 0 rfl) ?_
  refine tg_s C hT dX7_blows_1 ?_
  refine lv_sipush (v := (3458 : Int32)) hx hb dX7_blows_4 rfl ?_
  refine lv_aload_n hx hb dX7_blows_7 rfl (lv_at hl 0 rfl) ?_
  refine tg_s C hT dX7_blows_8 ?_
  refine lv_iconst (v := (0 : Int32)) hx hb dX7_blows_11 rfl ?_
  refine tl_s C hT hE dX7_blows_12 (fun hE => ?_)
  refine z_nmi hE (fun v56 hE => ?_)
  refine lv_bipush (v := (100 : Int32)) hx hb dX7_blows_13 rfl ?_
  refine lv_irem hx hb dX7_blows_15 (by decide) ?_
  refine lv_iadd hx hb dX7_blows_16 ?_
  refine tl_s C hT hE dX7_blows_17 (fun hE => ?_)
  refine z_nmi hE (fun v57 hE => ?_)
  refine lv_istore_n (lv' := [(1, .int v57), (0, .ref h)]) hx hb dX7_blows_18 rfl hl (by decide) rfl (fun ls hl => ?_)
  refine lv_iconst (v := (0 : Int32)) hx hb dX7_blows_19 rfl ?_
  refine lv_istore_n (lv' := [(2, .int (0 : Int32)), (1, .int v57), (0, .ref h)]) hx hb dX7_blows_20 rfl hl (by decide) rfl (fun ls hl => ?_)
  exact w_21 N _ _ _ _ _ _ hE hT hS (lv_sub hl [2, 1, 0] rfl)
theorem tc_X7_eats {u u1 : TS} {rm : Room} (C : TC p m c cc nL s args D dA) (hT : TW D dA h u H) (hS : va_S (TA h) H0 H locs) (hM : Met l yX7_eats (ws_ yX7_eats cX7_eats 4 none) rm (va_Pc [.ref h] (mt_B D dA h u)) (mt_Q D dA h none u1) 0 0 (TA h)) (hrc : rm.cells = 0) (hrs : rm.slots = 0) (hR : rm.frames + 1 ≤ R.frames ∧ 8 + (4 + 11) + rm.locals ≤ R.locals) (hf : cells + 0 ≤ R.cells ∧ slots + 0 ≤ R.slots) (d : decode cc pc = .ok (.invokevirtual 377, 3)) (hsz : ls.size = nL) (hro : (rest.map fun v => v.category).sum ≤ 8) (kk : ∀ (H1 : Heap) (locs1 : List Loc), TW D dA h u1 H1 → va_S (TA h) H0 H1 locs1 → W p l e R s m args below meth c H1 locs1 cells slots Q (F0 m (pc + 3) ls (rest))) : W p l e R s m args below meth c H locs cells slots Q (F0 m pc ls (.ref h :: rest)) :=
  mt_call (v := none) (va_runV (As := []) (rest := rest) C.1 hM (cwV 0 C.1.2.2.2.2 (lw_V q2131 q2133 qs149 q177 q2134) rfl hrc hrs (by decide +kernel) hR) (mt_preV C.2 hT _) rfl rfl hsz rfl (lv_room hro) d hf) hS (fun _ z => z) (fun H1 locs1 a b _ _ => kk H1 locs1 a b)
set_option maxHeartbeats 4000000 in
set_option maxRecDepth 100000 in
theorem kX7_eats {l : Launch} {D : va_G} {dA : Nat → ClassId} {h N : Nat} {u u_ : TS} (hE : fX7_eats N u = some u_) : Met l yX7_eats (ws_ yX7_eats cX7_eats 4 none) ({ frames := 4, cells := 0, slots := 0, locals := 95 }) (va_Pc [.ref h] (mt_B D dA h u)) (mt_Q D dA h none u_) 0 0 (TA h) := by
  refine mt_met (by decide) rfl rfl rfl ?_
  intro p e s m args below meth c ls C hr hlocks hT hS hl
  have hx := C.1.1
  have hb := C.1.2.1
  have w_222 : ∀ (ag135 : TS → Int32 → Option (TS)) (hag135 : (∀ (u : TS) (x1 : Int32) (H : Heap) (locs : List Loc) (ls : Array Slot), ag135 u x1 = some u_ → TW D dA h u H → va_S (TA h) s.heap H locs → lv_has ls 4 [(0, .ref h), (1, .int x1)] → W p l e { frames := 4, cells := 0, slots := 0, locals := 95 } s m args below meth c H locs 0 0 (MQ below (mt_Q D dA h none u_) args s 0 0 (TA h)) (F0 m 135 ls []))) (u : TS) (x1 : Int32) (H : Heap) (locs : List Loc) (ls : Array Slot), fX7_eats_222 N ag135 u x1 = some u_ → TW D dA h u H → va_S (TA h) s.heap H locs → lv_has ls 4 [(0, .ref h), (1, .int x1)] → W p l e { frames := 4, cells := 0, slots := 0, locals := 95 } s m args below meth c H locs 0 0 (MQ below (mt_Q D dA h none u_) args s 0 0 (TA h)) (F0 m 222 ls []) := by
    intro ag135 hag135 u x1 H locs ls hE hT hS hl
    unfold fX7_eats_222 at hE
    refine z_iinc (v := (x1 + (1 : Int32))) (lw := (fun y_ => [(1, .int y_), (0, .ref h)])) hx hb dX7_eats_222 hl hE (k := 1) rfl rfl (by decide) (fun _ => rfl) (fun z1 ls hE hl => ?_)
    refine lv_goto (tgt := 135) hx hb dX7_eats_225 (by decide) ?_
    exact hag135 _ _ _ _ _ hE hT hS (lv_sub hl [1, 0] rfl)
  have w_216 : ∀ (ag135 : TS → Int32 → Option (TS)) (hag135 : (∀ (u : TS) (x1 : Int32) (H : Heap) (locs : List Loc) (ls : Array Slot), ag135 u x1 = some u_ → TW D dA h u H → va_S (TA h) s.heap H locs → lv_has ls 4 [(0, .ref h), (1, .int x1)] → W p l e { frames := 4, cells := 0, slots := 0, locals := 95 } s m args below meth c H locs 0 0 (MQ below (mt_Q D dA h none u_) args s 0 0 (TA h)) (F0 m 135 ls []))) (u : TS) (x1 : Int32) (y1 : Int32) (y2 : Int64) (y4 : Int32) (y5 : Int32) (H : Heap) (locs : List Loc) (ls : Array Slot), fX7_eats_216 N ag135 u x1 y1 y2 y4 y5 = some u_ → TW D dA h u H → va_S (TA h) s.heap H locs → lv_has ls 4 [(0, .ref h), (1, .int x1)] → W p l e { frames := 4, cells := 0, slots := 0, locals := 95 } s m args below meth c H locs 0 0 (MQ below (mt_Q D dA h none u_) args s 0 0 (TA h)) (F0 m 216 ls [.int y5, .int y4, .ref h, .long y2, .int y1, .ref (h + 2)]) := by
    intro ag135 hag135 u x1 y1 y2 y4 y5 H locs ls hE hT hS hl
    unfold fX7_eats_216 at hE
    obtain ⟨r3, u2, hc, hE⟩ := o_bd2_some hE
    refine tc_X7_thins C hT hS (kX7_thins hc) rfl rfl ⟨Nat.le_of_ble_eq_true rfl, Nat.le_of_ble_eq_true rfl⟩ ⟨Nat.le_refl 0, Nat.le_refl 0⟩ dX7_eats_216 hl.1 (Nat.le_of_ble_eq_true rfl) (fun H locs hT hS => ?_)
    refine lv_i2l hx hb dX7_eats_219 rfl ?_
    refine lv_ladd hx hb dX7_eats_220 ?_
    refine ts_books C hT hS hE dX7_eats_221 (fun u4 H locs hE hT hS => ?_)
    exact w_222 ag135 hag135 _ _ _ _ _ hE hT hS (lv_sub hl [0, 1] rfl)
  have w_135 : ∀ (n : Nat) (u : TS) (x1 : Int32) (H : Heap) (locs : List Loc) (ls : Array Slot), fX7_eats_135 N n u x1 = some u_ → TW D dA h u H → va_S (TA h) s.heap H locs → lv_has ls 4 [(0, .ref h), (1, .int x1)] → W p l e { frames := 4, cells := 0, slots := 0, locals := 95 } s m args below meth c H locs 0 0 (MQ below (mt_Q D dA h none u_) args s 0 0 (TA h)) (F0 m 135 ls []) := by
    intro n
    induction n with
    | zero =>
      intro u x1 H locs ls hE hT hS hl
      cases (show (none : Option (TS)) = some u_ from hE)
    | succ n ih =>
      intro u x1 H locs ls hE hT hS hl
      rw [fX7_eats_135] at hE
      refine lv_iload_n hx hb dX7_eats_135 rfl (lv_at hl 1 rfl) ?_
      refine lv_aload_n hx hb dX7_eats_136 rfl (lv_at hl 0 rfl) ?_
      refine tg_s C hT dX7_eats_137 ?_
      refine lv_iconst (v := (1 : Int32)) hx hb dX7_eats_140 rfl ?_
      refine tl_s C hT hE dX7_eats_141 (fun hE => ?_)
      refine z_nmi hE (fun v5 hE => ?_)
      refine lv_icmp_ge (tgt := 228) hx hb dX7_eats_142 (by decide) (fun c6 => ?_) (fun c6 => ?_)
      · have hE := z_t c6 hE
        exact mt_vret C hr hlocks hT hS hE dX7_eats_228
      · have hE := z_f c6 hE
        refine lv_aload_n hx hb dX7_eats_145 rfl (lv_at hl 0 rfl) ?_
        refine tg_s C hT dX7_eats_146 ?_
        refine lv_bipush (v := (16 : Int32)) hx hb dX7_eats_149 rfl ?_
        refine lv_bipush (v := (14 : Int32)) hx hb dX7_eats_151 rfl ?_
        refine lv_iload_n hx hb dX7_eats_153 rfl (lv_at hl 1 rfl) ?_
        refine lv_imul hx hb dX7_eats_154 ?_
        refine lv_iadd hx hb dX7_eats_155 ?_
        refine lv_bipush (v := (8 : Int32)) hx hb dX7_eats_156 rfl ?_
        refine lv_iadd hx hb dX7_eats_158 ?_
        refine lv_aload_n hx hb dX7_eats_159 rfl (lv_at hl 0 rfl) ?_
        refine tg_kept C hT dX7_eats_160 ?_
        refine lv_iload_n hx hb dX7_eats_163 rfl (lv_at hl 1 rfl) ?_
        refine tl_kept C hT hE dX7_eats_164 (fun hE => ?_)
        refine z_nmi hE (fun v7 hE => ?_)
        refine ts_s C hT hS hE dX7_eats_165 (fun u8 H locs hE hT hS => ?_)
        refine lv_aload_n hx hb dX7_eats_166 rfl (lv_at hl 0 rfl) ?_
        refine tg_kept C hT dX7_eats_167 ?_
        refine lv_iload_n hx hb dX7_eats_170 rfl (lv_at hl 1 rfl) ?_
        refine tl_kept C hT hE dX7_eats_171 (fun hE => ?_)
        refine z_nmi hE (fun v9 hE => ?_)
        refine lv_bipush (v := (100 : Int32)) hx hb dX7_eats_172 rfl ?_
        refine lv_idiv hx hb dX7_eats_174 (by decide) ?_
        refine z_nmi hE (fun z10 hE => ?_)
        refine lv_istore_n (lv' := [(2, .int z10), (0, .ref h), (1, .int x1)]) hx hb dX7_eats_175 rfl hl (by decide) rfl (fun ls hl => ?_)
        refine lv_iload_n hx hb dX7_eats_176 rfl (lv_at hl 0 rfl) ?_
        refine lv_if_ne (tgt := 183) hx hb dX7_eats_177 (by decide) (fun c11 => ?_) (fun c11 => ?_)
        · have hE := z_f c11 hE
          refine lv_aload_n hx hb dX7_eats_183 rfl (lv_at hl 1 rfl) ?_
          refine tg_books C hT dX7_eats_184 ?_
          refine lv_iconst (v := (5 : Int32)) hx hb dX7_eats_187 rfl ?_
          refine lv_dup2_11 hx hb dX7_eats_188 rfl rfl ?_
          refine tl_books C hT hE dX7_eats_189 (fun hE => ?_)
          refine z_nml hE (fun v12 hE => ?_)
          refine lv_aload_n hx hb dX7_eats_190 rfl (lv_at hl 1 rfl) ?_
          refine lv_iload_n hx hb dX7_eats_191 rfl (lv_at hl 2 rfl) ?_
          refine lv_iload_n hx hb dX7_eats_192 rfl (lv_at hl 0 rfl) ?_
          refine lv_aload_n hx hb dX7_eats_193 rfl (lv_at hl 1 rfl) ?_
          refine lv_iload_n hx hb dX7_eats_194 rfl (lv_at hl 2 rfl) ?_
          refine lv_bipush (v := (6 : Int32)) hx hb dX7_eats_195 rfl ?_
          obtain ⟨r14, u13, hc, hE⟩ := o_bd2_some hE
          refine tc_X7_st C hT hS (kX7_st hc) rfl rfl ⟨Nat.le_of_ble_eq_true rfl, Nat.le_of_ble_eq_true rfl⟩ ⟨Nat.le_refl 0, Nat.le_refl 0⟩ dX7_eats_197 hl.1 (Nat.le_of_ble_eq_true rfl) (fun H locs hT hS => ?_)
          refine lv_icmp_ge (tgt := 215) hx hb dX7_eats_200 (by decide) (fun c15 => ?_) (fun c15 => ?_)
          · have hE := z_t c15 hE
            refine lv_iconst (v := (0 : Int32)) hx hb dX7_eats_215 rfl ?_
            exact w_216 (fX7_eats_135 N n) ih _ _ _ _ _ _ _ _ _ hE hT hS (lv_sub hl [1, 2] rfl)
          · have hE := z_f c15 hE
            refine lv_aload_n hx hb dX7_eats_203 rfl (lv_at hl 1 rfl) ?_
            refine lv_iload_n hx hb dX7_eats_204 rfl (lv_at hl 2 rfl) ?_
            refine lv_bipush (v := (6 : Int32)) hx hb dX7_eats_205 rfl ?_
            obtain ⟨r17, u16, hc, hE⟩ := o_bd2_some hE
            refine tc_X7_st C hT hS (kX7_st hc) rfl rfl ⟨Nat.le_of_ble_eq_true rfl, Nat.le_of_ble_eq_true rfl⟩ ⟨Nat.le_refl 0, Nat.le_refl 0⟩ dX7_eats_207 hl.1 (Nat.le_of_ble_eq_true rfl) (fun H locs hT hS => ?_)
            refine lv_iload_n hx hb dX7_eats_210 rfl (lv_at hl 0 rfl) ?_
            refine lv_isub hx hb dX7_eats_211 ?_
            refine lv_goto (tgt := 216) hx hb dX7_eats_212 (by decide) ?_
            exact w_216 (fX7_eats_135 N n) ih _ _ _ _ _ _ _ _ _ hE hT hS (lv_sub hl [1, 2] rfl)
        · have hE := z_t c11 hE
          refine lv_goto (tgt := 222) hx hb dX7_eats_180 (by decide) ?_
          exact w_222 (fX7_eats_135 N n) ih _ _ _ _ _ hE hT hS (lv_sub hl [1, 2] rfl)
  have w_127 : ∀ (ag2 : TS → Int32 → Option (TS)) (hag2 : (∀ (u : TS) (x1 : Int32) (H : Heap) (locs : List Loc) (ls : Array Slot), ag2 u x1 = some u_ → TW D dA h u H → va_S (TA h) s.heap H locs → lv_has ls 4 [(0, .ref h), (1, .int x1)] → W p l e { frames := 4, cells := 0, slots := 0, locals := 95 } s m args below meth c H locs 0 0 (MQ below (mt_Q D dA h none u_) args s 0 0 (TA h)) (F0 m 2 ls []))) (u : TS) (x1 : Int32) (H : Heap) (locs : List Loc) (ls : Array Slot), fX7_eats_127 N ag2 u x1 = some u_ → TW D dA h u H → va_S (TA h) s.heap H locs → lv_has ls 4 [(0, .ref h), (1, .int x1)] → W p l e { frames := 4, cells := 0, slots := 0, locals := 95 } s m args below meth c H locs 0 0 (MQ below (mt_Q D dA h none u_) args s 0 0 (TA h)) (F0 m 127 ls []) := by
    intro ag2 hag2 u x1 H locs ls hE hT hS hl
    unfold fX7_eats_127 at hE
    refine z_iinc (v := (x1 + (1 : Int32))) (lw := (fun y_ => [(1, .int y_), (0, .ref h)])) hx hb dX7_eats_127 hl hE (k := 1) rfl rfl (by decide) (fun _ => rfl) (fun z18 ls hE hl => ?_)
    refine lv_goto (tgt := 2) hx hb dX7_eats_130 (by decide) ?_
    exact hag2 _ _ _ _ _ hE hT hS (lv_sub hl [1, 0] rfl)
  have w_74 : ∀ (ag2 : TS → Int32 → Option (TS)) (hag2 : (∀ (u : TS) (x1 : Int32) (H : Heap) (locs : List Loc) (ls : Array Slot), ag2 u x1 = some u_ → TW D dA h u H → va_S (TA h) s.heap H locs → lv_has ls 4 [(0, .ref h), (1, .int x1)] → W p l e { frames := 4, cells := 0, slots := 0, locals := 95 } s m args below meth c H locs 0 0 (MQ below (mt_Q D dA h none u_) args s 0 0 (TA h)) (F0 m 2 ls []))) (ag43 : TS → Int32 → Int32 → Int32 → Option (TS)) (hag43 : (∀ (u : TS) (x1 : Int32) (x2 : Int32) (x3 : Int32) (H : Heap) (locs : List Loc) (ls : Array Slot), ag43 u x1 x2 x3 = some u_ → TW D dA h u H → va_S (TA h) s.heap H locs → lv_has ls 4 [(0, .ref h), (1, .int x1), (2, .int x2), (3, .int x3)] → W p l e { frames := 4, cells := 0, slots := 0, locals := 95 } s m args below meth c H locs 0 0 (MQ below (mt_Q D dA h none u_) args s 0 0 (TA h)) (F0 m 43 ls []))) (u : TS) (x1 : Int32) (x3 : Int32) (y0 : Int32) (y1 : Int32) (H : Heap) (locs : List Loc) (ls : Array Slot), fX7_eats_74 N ag2 ag43 u x1 x3 y0 y1 = some u_ → TW D dA h u H → va_S (TA h) s.heap H locs → lv_has ls 4 [(0, .ref h), (1, .int x1), (3, .int x3)] → W p l e { frames := 4, cells := 0, slots := 0, locals := 95 } s m args below meth c H locs 0 0 (MQ below (mt_Q D dA h none u_) args s 0 0 (TA h)) (F0 m 74 ls [.int y1, .int y0]) := by
    intro ag2 hag2 ag43 hag43 u x1 x3 y0 y1 H locs ls hE hT hS hl
    unfold fX7_eats_74 at hE
    refine lv_iadd hx hb dX7_eats_74 ?_
    refine z_nmi hE (fun z19 hE => ?_)
    refine lv_istore_n (lv' := [(2, .int z19), (0, .ref h), (1, .int x1), (3, .int x3)]) hx hb dX7_eats_75 rfl hl (by decide) rfl (fun ls hl => ?_)
    refine z_iinc (v := (x3 + (1 : Int32))) (lw := (fun y_ => [(3, .int y_), (2, .int z19), (0, .ref h), (1, .int x1)])) hx hb dX7_eats_76 hl hE (k := 3) rfl rfl (by decide) (fun _ => rfl) (fun z20 ls hE hl => ?_)
    refine lv_goto (tgt := 43) hx hb dX7_eats_79 (by decide) ?_
    exact hag43 _ _ _ _ _ _ _ hE hT hS (lv_sub hl [2, 3, 1, 0] rfl)
  have w_43 : ∀ (ag2 : TS → Int32 → Option (TS)) (hag2 : (∀ (u : TS) (x1 : Int32) (H : Heap) (locs : List Loc) (ls : Array Slot), ag2 u x1 = some u_ → TW D dA h u H → va_S (TA h) s.heap H locs → lv_has ls 4 [(0, .ref h), (1, .int x1)] → W p l e { frames := 4, cells := 0, slots := 0, locals := 95 } s m args below meth c H locs 0 0 (MQ below (mt_Q D dA h none u_) args s 0 0 (TA h)) (F0 m 2 ls []))) (n : Nat) (u : TS) (x1 : Int32) (x2 : Int32) (x3 : Int32) (H : Heap) (locs : List Loc) (ls : Array Slot), fX7_eats_43 N ag2 n u x1 x2 x3 = some u_ → TW D dA h u H → va_S (TA h) s.heap H locs → lv_has ls 4 [(0, .ref h), (1, .int x1), (2, .int x2), (3, .int x3)] → W p l e { frames := 4, cells := 0, slots := 0, locals := 95 } s m args below meth c H locs 0 0 (MQ below (mt_Q D dA h none u_) args s 0 0 (TA h)) (F0 m 43 ls []) := by
    intro ag2 hag2 n
    induction n with
    | zero =>
      intro u x1 x2 x3 H locs ls hE hT hS hl
      cases (show (none : Option (TS)) = some u_ from hE)
    | succ n ih =>
      intro u x1 x2 x3 H locs ls hE hT hS hl
      rw [fX7_eats_43] at hE
      refine lv_iload_n hx hb dX7_eats_43 rfl (lv_at hl 3 rfl) ?_
      refine lv_aload_n hx hb dX7_eats_44 rfl (lv_at hl 0 rfl) ?_
      refine tg_s C hT dX7_eats_45 ?_
      refine lv_iconst (v := (1 : Int32)) hx hb dX7_eats_48 rfl ?_
      refine tl_s C hT hE dX7_eats_49 (fun hE => ?_)
      refine z_nmi hE (fun v21 hE => ?_)
      refine lv_icmp_ge (tgt := 82) hx hb dX7_eats_50 (by decide) (fun c22 => ?_) (fun c22 => ?_)
      · have hE := z_t c22 hE
        refine lv_aload_n hx hb dX7_eats_82 rfl (lv_at hl 0 rfl) ?_
        refine tg_kept C hT dX7_eats_83 ?_
        refine lv_iload_n hx hb dX7_eats_86 rfl (lv_at hl 1 rfl) ?_
        refine lv_aload_n hx hb dX7_eats_87 rfl (lv_at hl 0 rfl) ?_
        refine lv_iload_n hx hb dX7_eats_88 rfl (lv_at hl 1 rfl) ?_
        refine lv_bipush (v := (8 : Int32)) hx hb dX7_eats_89 rfl ?_
        obtain ⟨r24, u23, hc, hE⟩ := o_bd2_some hE
        refine tc_X7_st C hT hS (kX7_st hc) rfl rfl ⟨Nat.le_of_ble_eq_true rfl, Nat.le_of_ble_eq_true rfl⟩ ⟨Nat.le_refl 0, Nat.le_refl 0⟩ dX7_eats_91 hl.1 (Nat.le_of_ble_eq_true rfl) (fun H locs hT hS => ?_)
        refine lv_iconst (v := (2 : Int32)) hx hb dX7_eats_94 rfl ?_
        refine lv_idiv hx hb dX7_eats_95 (by decide) ?_
        refine lv_aload_n hx hb dX7_eats_96 rfl (lv_at hl 0 rfl) ?_
        refine lv_iload_n hx hb dX7_eats_97 rfl (lv_at hl 1 rfl) ?_
        refine lv_bipush (v := (7 : Int32)) hx hb dX7_eats_98 rfl ?_
        obtain ⟨r26, u25, hc, hE⟩ := o_bd2_some hE
        refine tc_X7_st C hT hS (kX7_st hc) rfl rfl ⟨Nat.le_of_ble_eq_true rfl, Nat.le_of_ble_eq_true rfl⟩ ⟨Nat.le_refl 0, Nat.le_refl 0⟩ dX7_eats_100 hl.1 (Nat.le_of_ble_eq_true rfl) (fun H locs hT hS => ?_)
        refine lv_bipush (v := (10 : Int32)) hx hb dX7_eats_103 rfl ?_
        refine lv_aload_n hx hb dX7_eats_105 rfl (lv_at hl 0 rfl) ?_
        refine lv_iload_n hx hb dX7_eats_106 rfl (lv_at hl 1 rfl) ?_
        refine lv_iconst (v := (4 : Int32)) hx hb dX7_eats_107 rfl ?_
        obtain ⟨r28, u27, hc, hE⟩ := o_bd2_some hE
        refine tc_X7_st C hT hS (kX7_st hc) rfl rfl ⟨Nat.le_of_ble_eq_true rfl, Nat.le_of_ble_eq_true rfl⟩ ⟨Nat.le_refl 0, Nat.le_refl 0⟩ dX7_eats_108 hl.1 (Nat.le_of_ble_eq_true rfl) (fun H locs hT hS => ?_)
        refine lv_imul hx hb dX7_eats_111 ?_
        obtain ⟨hz, hE⟩ := o_nz_some hE
        refine lv_idiv hx hb dX7_eats_112 hz ?_
        refine lv_iadd hx hb dX7_eats_113 ?_
        refine lv_iload_n hx hb dX7_eats_114 rfl (lv_at hl 2 rfl) ?_
        refine lv_bipush (v := (8 : Int32)) hx hb dX7_eats_115 rfl ?_
        refine lv_idiv hx hb dX7_eats_117 (by decide) ?_
        refine lv_iadd hx hb dX7_eats_118 ?_
        refine lv_iconst (v := (0 : Int32)) hx hb dX7_eats_119 rfl ?_
        refine lv_sipush (v := (1000 : Int32)) hx hb dX7_eats_120 rfl ?_
        obtain ⟨r29, hc, hE⟩ := o_bd_some hE
        refine sc_X7_within C.1 (kX7_within hc) rfl rfl ⟨Nat.le_of_ble_eq_true rfl, Nat.le_of_ble_eq_true rfl⟩ ⟨Nat.le_refl 0, Nat.le_refl 0⟩ dX7_eats_123 hl.1 (Nat.le_of_ble_eq_true rfl) ?_
        refine ts_kept C hT hS hE dX7_eats_126 (fun u30 H locs hE hT hS => ?_)
        exact w_127 ag2 hag2 _ _ _ _ _ hE hT hS (lv_sub hl [0, 1] rfl)
      · have hE := z_f c22 hE
        refine lv_iload_n hx hb dX7_eats_53 rfl (lv_at hl 2 rfl) ?_
        refine lv_aload_n hx hb dX7_eats_54 rfl (lv_at hl 0 rfl) ?_
        refine lv_iload_n hx hb dX7_eats_55 rfl (lv_at hl 1 rfl) ?_
        refine lv_iload_n hx hb dX7_eats_56 rfl (lv_at hl 3 rfl) ?_
        obtain ⟨r32, u31, hc, hE⟩ := o_bd2_some hE
        refine tc_X7_areNear C hT hS (kX7_areNear hc) rfl rfl ⟨Nat.le_of_ble_eq_true rfl, Nat.le_of_ble_eq_true rfl⟩ ⟨Nat.le_refl 0, Nat.le_refl 0⟩ dX7_eats_57 hl.1 (Nat.le_of_ble_eq_true rfl) (fun H locs hT hS => ?_)
        refine lv_if_eq (tgt := 73) hx hb dX7_eats_60 (by decide) (fun c33 => ?_) (fun c33 => ?_)
        · have hE := z_t c33 hE
          refine lv_iconst (v := (0 : Int32)) hx hb dX7_eats_73 rfl ?_
          exact w_74 ag2 hag2 (fX7_eats_43 N ag2 n) ih _ _ _ _ _ _ _ _ hE hT hS (lv_sub hl [0, 1, 3] rfl)
        · have hE := z_f c33 hE
          refine lv_aload_n hx hb dX7_eats_63 rfl (lv_at hl 0 rfl) ?_
          refine lv_iload_n hx hb dX7_eats_64 rfl (lv_at hl 3 rfl) ?_
          refine lv_bipush (v := (8 : Int32)) hx hb dX7_eats_65 rfl ?_
          obtain ⟨r35, u34, hc, hE⟩ := o_bd2_some hE
          refine tc_X7_st C hT hS (kX7_st hc) rfl rfl ⟨Nat.le_of_ble_eq_true rfl, Nat.le_of_ble_eq_true rfl⟩ ⟨Nat.le_refl 0, Nat.le_refl 0⟩ dX7_eats_67 hl.1 (Nat.le_of_ble_eq_true rfl) (fun H locs hT hS => ?_)
          refine lv_goto (tgt := 74) hx hb dX7_eats_70 (by decide) ?_
          exact w_74 ag2 hag2 (fX7_eats_43 N ag2 n) ih _ _ _ _ _ _ _ _ hE hT hS (lv_sub hl [0, 1, 3] rfl)
  have w_2 : ∀ (n : Nat) (u : TS) (x1 : Int32) (H : Heap) (locs : List Loc) (ls : Array Slot), fX7_eats_2 N n u x1 = some u_ → TW D dA h u H → va_S (TA h) s.heap H locs → lv_has ls 4 [(0, .ref h), (1, .int x1)] → W p l e { frames := 4, cells := 0, slots := 0, locals := 95 } s m args below meth c H locs 0 0 (MQ below (mt_Q D dA h none u_) args s 0 0 (TA h)) (F0 m 2 ls []) := by
    intro n
    induction n with
    | zero =>
      intro u x1 H locs ls hE hT hS hl
      cases (show (none : Option (TS)) = some u_ from hE)
    | succ n ih =>
      intro u x1 H locs ls hE hT hS hl
      rw [fX7_eats_2] at hE
      refine lv_iload_n hx hb dX7_eats_2 rfl (lv_at hl 1 rfl) ?_
      refine lv_aload_n hx hb dX7_eats_3 rfl (lv_at hl 0 rfl) ?_
      refine tg_s C hT dX7_eats_4 ?_
      refine lv_iconst (v := (1 : Int32)) hx hb dX7_eats_7 rfl ?_
      refine tl_s C hT hE dX7_eats_8 (fun hE => ?_)
      refine z_nmi hE (fun v36 hE => ?_)
      refine lv_icmp_ge (tgt := 133) hx hb dX7_eats_9 (by decide) (fun c37 => ?_) (fun c37 => ?_)
      · have hE := z_t c37 hE
        refine lv_iconst (v := (0 : Int32)) hx hb dX7_eats_133 rfl ?_
        refine lv_istore_n (lv' := [(1, .int (0 : Int32)), (0, .ref h)]) hx hb dX7_eats_134 rfl hl (by decide) rfl (fun ls hl => ?_)
        exact w_135 N _ _ _ _ _ hE hT hS (lv_sub hl [1, 0] rfl)
      · have hE := z_f c37 hE
        refine lv_aload_n hx hb dX7_eats_12 rfl (lv_at hl 0 rfl) ?_
        refine tg_kept C hT dX7_eats_13 ?_
        refine lv_iload_n hx hb dX7_eats_16 rfl (lv_at hl 1 rfl) ?_
        refine lv_iconst (v := (0 : Int32)) hx hb dX7_eats_17 rfl ?_
        refine ts_kept C hT hS hE dX7_eats_18 (fun u38 H locs hE hT hS => ?_)
        refine lv_aload_n hx hb dX7_eats_19 rfl (lv_at hl 0 rfl) ?_
        refine lv_iload_n hx hb dX7_eats_20 rfl (lv_at hl 1 rfl) ?_
        obtain ⟨r40, u39, hc, hE⟩ := o_bd2_some hE
        refine tc_X7_isBare C hT hS (kX7_isBare hc) rfl rfl ⟨Nat.le_of_ble_eq_true rfl, Nat.le_of_ble_eq_true rfl⟩ ⟨Nat.le_refl 0, Nat.le_refl 0⟩ dX7_eats_21 hl.1 (Nat.le_of_ble_eq_true rfl) (fun H locs hT hS => ?_)
        refine lv_if_ne (tgt := 127) hx hb dX7_eats_24 (by decide) (fun c41 => ?_) (fun c41 => ?_)
        · have hE := z_f c41 hE
          exact w_127 (fX7_eats_2 N n) ih _ _ _ _ _ hE hT hS (lv_sub hl [0, 1] rfl)
        · have hE := z_t c41 hE
          refine lv_aload_n hx hb dX7_eats_27 rfl (lv_at hl 0 rfl) ?_
          refine lv_iload_n hx hb dX7_eats_28 rfl (lv_at hl 1 rfl) ?_
          refine lv_iconst (v := (2 : Int32)) hx hb dX7_eats_29 rfl ?_
          obtain ⟨r43, u42, hc, hE⟩ := o_bd2_some hE
          refine tc_X7_st C hT hS (kX7_st hc) rfl rfl ⟨Nat.le_of_ble_eq_true rfl, Nat.le_of_ble_eq_true rfl⟩ ⟨Nat.le_refl 0, Nat.le_refl 0⟩ dX7_eats_30 hl.1 (Nat.le_of_ble_eq_true rfl) (fun H locs hT hS => ?_)
          refine lv_if_eq (tgt := 39) hx hb dX7_eats_33 (by decide) (fun c44 => ?_) (fun c44 => ?_)
          · have hE := z_t c44 hE
            refine lv_iconst (v := (0 : Int32)) hx hb dX7_eats_39 rfl ?_
            refine lv_istore_n (lv' := [(2, .int (0 : Int32)), (0, .ref h), (1, .int x1)]) hx hb dX7_eats_40 rfl hl (by decide) rfl (fun ls hl => ?_)
            refine lv_iconst (v := (0 : Int32)) hx hb dX7_eats_41 rfl ?_
            refine lv_istore_n (lv' := [(3, .int (0 : Int32)), (2, .int (0 : Int32)), (0, .ref h), (1, .int x1)]) hx hb dX7_eats_42 rfl hl (by decide) rfl (fun ls hl => ?_)
            exact w_43 (fX7_eats_2 N n) ih N _ _ _ _ _ _ _ hE hT hS (lv_sub hl [2, 3, 1, 0] rfl)
          · have hE := z_f c44 hE
            refine lv_goto (tgt := 127) hx hb dX7_eats_36 (by decide) ?_
            exact w_127 (fX7_eats_2 N n) ih _ _ _ _ _ hE hT hS (lv_sub hl [0, 1] rfl)
  unfold fX7_eats at hE
  refine lv_iconst (v := (0 : Int32)) hx hb dX7_eats_0 rfl ?_
  refine lv_istore_n (lv' := [(1, .int (0 : Int32)), (0, .ref h)]) hx hb dX7_eats_1 rfl hl (by decide) rfl (fun ls hl => ?_)
  exact w_2 N _ _ _ _ _ hE hT hS (lv_sub hl [1, 0] rfl)
end TRG5
