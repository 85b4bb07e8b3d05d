section TRG9
variable {p : Program} {l : Launch} {e : Env} {R : Room} {s : State} {m : MethodId} {args : Array Value} {below : List Frame} {meth : Method} {c : Code} {H : Heap} {locs : List Loc} {cells slots : Nat} {Q : State → Prop} {cc : ByteArray} {nL pc : Nat} {ls : Array Slot} {rest : List Value} {D : va_G} {dA : Nat → ClassId} {h : Nat} {H0 : Heap}
set_option maxHeartbeats 4000000 in
set_option maxRecDepth 100000 in
theorem kX7_copy {l : Launch} {D : va_G} {dA : Nat → ClassId} {h N : Nat} {u u1 : TS} {a1 : Int32} {a2 : Int32} {a3 : Int32} {r : Int32} (hE : fX7_copy N u a1 a2 a3 = some (r, u1)) : Met l yX7_copy (ws_ yX7_copy cX7_copy 5 (some .int)) ({ frames := 1, cells := 0, slots := 0, locals := 21 }) (va_Pc [.ref h, .int a1, .int a2, .int a3] (mt_B D dA h u)) (mt_Q D dA h (some (.int r)) u1) 0 0 (TA h) := by
  refine mt_met (by decide) rfl rfl rfl ?_
  intro p e s m args below meth c ls C hr hlocks hT hS hl
  have hx := C.1.1
  have hb := C.1.2.1
  have w_53 : ∀ (u : TS) (H : Heap) (locs : List Loc) (ls : Array Slot), fX7_copy_53 N u = some (r, u1) → TW D dA h u H → va_S (TA h) s.heap H locs → lv_has ls 5 [(0, .ref h)] → W p l e { frames := 1, cells := 0, slots := 0, locals := 21 } s m args below meth c H locs 0 0 (MQ below (mt_Q D dA h (some (.int r)) u1) args s 0 0 (TA h)) (F0 m 53 ls []) := by
    intro u H locs ls hE hT hS hl
    unfold fX7_copy_53 at hE
    refine lv_aload_n hx hb dX7_copy_53 rfl (lv_at hl 0 rfl) ?_
    refine lv_bipush (v := (-6 : Int32)) hx hb dX7_copy_54 rfl ?_
    obtain ⟨r2, u1, hc, hE⟩ := o_bd2_some hE
    refine tc_X7_refuse C hT hS (kX7_refuse hc) rfl rfl ⟨Nat.le_of_ble_eq_true rfl, Nat.le_of_ble_eq_true rfl⟩ ⟨Nat.le_refl 0, Nat.le_refl 0⟩ dX7_copy_56 hl.1 (Nat.le_of_ble_eq_true rfl) (fun H locs hT hS => ?_)
    exact mt_iret C hr hlocks hT hS hE dX7_copy_59
  have w_137 : ∀ (u : TS) (x3 : Int32) (H : Heap) (locs : List Loc) (ls : Array Slot), fX7_copy_137 N u x3 = some (r, u1) → TW D dA h u H → va_S (TA h) s.heap H locs → lv_has ls 5 [(3, .int x3)] → W p l e { frames := 1, cells := 0, slots := 0, locals := 21 } s m args below meth c H locs 0 0 (MQ below (mt_Q D dA h (some (.int r)) u1) args s 0 0 (TA h)) (F0 m 137 ls []) := by
    intro u x3 H locs ls hE hT hS hl
    unfold fX7_copy_137 at hE
    refine lv_iload_n hx hb dX7_copy_137 rfl (lv_at hl 0 rfl) ?_
    exact mt_iret C hr hlocks hT hS hE dX7_copy_138
  have w_103 : ∀ (n : Nat) (u : TS) (x1 : Int32) (x2 : Int32) (x3 : Int32) (x4 : Int32) (H : Heap) (locs : List Loc) (ls : Array Slot), fX7_copy_103 N n u x1 x2 x3 x4 = some (r, u1) → TW D dA h u H → va_S (TA h) s.heap H locs → lv_has ls 5 [(0, .ref h), (1, .int x1), (2, .int x2), (3, .int x3), (4, .int x4)] → W p l e { frames := 1, cells := 0, slots := 0, locals := 21 } s m args below meth c H locs 0 0 (MQ below (mt_Q D dA h (some (.int r)) u1) args s 0 0 (TA h)) (F0 m 103 ls []) := by
    intro n
    induction n with
    | zero =>
      intro u x1 x2 x3 x4 H locs ls hE hT hS hl
      cases (show (none : Option (Int32 × TS)) = some (r, u1) from hE)
    | succ n ih =>
      intro u x1 x2 x3 x4 H locs ls hE hT hS hl
      rw [fX7_copy_103] at hE
      refine lv_iload hx hb dX7_copy_103 (lv_at hl 4 rfl) ?_
      refine lv_if_lt (tgt := 137) hx hb dX7_copy_105 (by decide) (fun c3 => ?_) (fun c3 => ?_)
      · have hE := z_t c3 hE
        exact w_137 _ _ _ _ _ hE hT hS (lv_sub hl [3] rfl)
      · have hE := z_f c3 hE
        refine lv_iload_n hx hb dX7_copy_108 rfl (lv_at hl 1 rfl) ?_
        refine lv_iload_n hx hb dX7_copy_109 rfl (lv_at hl 2 rfl) ?_
        refine lv_icmp_ge (tgt := 137) hx hb dX7_copy_110 (by decide) (fun c4 => ?_) (fun c4 => ?_)
        · have hE := z_t c4 hE
          exact w_137 _ _ _ _ _ hE hT hS (lv_sub hl [3] rfl)
        · have hE := z_f c4 hE
          refine lv_aload_n hx hb dX7_copy_113 rfl (lv_at hl 0 rfl) ?_
          refine tg_row C hT dX7_copy_114 ?_
          refine lv_iload_n hx hb dX7_copy_117 rfl (lv_at hl 2 rfl) ?_
          refine lv_iload hx hb dX7_copy_118 (lv_at hl 4 rfl) ?_
          refine lv_iadd hx hb dX7_copy_120 ?_
          refine lv_aload_n hx hb dX7_copy_121 rfl (lv_at hl 0 rfl) ?_
          refine tg_row C hT dX7_copy_122 ?_
          refine lv_iload_n hx hb dX7_copy_125 rfl (lv_at hl 1 rfl) ?_
          refine lv_iload hx hb dX7_copy_126 (lv_at hl 4 rfl) ?_
          refine lv_iadd hx hb dX7_copy_128 ?_
          refine tl_row C hT hE dX7_copy_129 (fun hE => ?_)
          refine z_nmi hE (fun v5 hE => ?_)
          refine ts_row C hT hS hE dX7_copy_130 (fun u6 H locs hE hT hS => ?_)
          refine z_iinc (v := (x4 + (-1 : Int32))) (lw := (fun y_ => [(4, .int y_), (0, .ref h), (1, .int x1), (2, .int x2), (3, .int x3)])) hx hb dX7_copy_131 hl hE (k := 4) rfl rfl (by decide) (fun _ => rfl) (fun z7 ls hE hl => ?_)
          refine lv_goto (tgt := 103) hx hb dX7_copy_134 (by decide) ?_
          exact ih _ _ _ _ _ _ _ _ hE hT hS (lv_sub hl [1, 2, 3, 4, 0] rfl)
  have w_98 : ∀ (u : TS) (x1 : Int32) (x2 : Int32) (x3 : Int32) (H : Heap) (locs : List Loc) (ls : Array Slot), fX7_copy_98 N u x1 x2 x3 = some (r, u1) → TW D dA h u H → va_S (TA h) s.heap H locs → lv_has ls 5 [(0, .ref h), (1, .int x1), (2, .int x2), (3, .int x3)] → W p l e { frames := 1, cells := 0, slots := 0, locals := 21 } s m args below meth c H locs 0 0 (MQ below (mt_Q D dA h (some (.int r)) u1) args s 0 0 (TA h)) (F0 m 98 ls []) := by
    intro u x1 x2 x3 H locs ls hE hT hS hl
    unfold fX7_copy_98 at hE
    refine lv_iload_n hx hb dX7_copy_98 rfl (lv_at hl 3 rfl) ?_
    refine lv_iconst (v := (1 : Int32)) hx hb dX7_copy_99 rfl ?_
    refine lv_isub hx hb dX7_copy_100 ?_
    refine z_nmi hE (fun z8 hE => ?_)
    refine lv_istore (lv' := [(4, .int z8), (0, .ref h), (1, .int x1), (2, .int x2), (3, .int x3)]) hx hb dX7_copy_101 hl (by decide) rfl (fun ls hl => ?_)
    exact w_103 N _ _ _ _ _ _ _ _ hE hT hS (lv_sub hl [1, 2, 3, 4, 0] rfl)
  have w_63 : ∀ (n : Nat) (u : TS) (x1 : Int32) (x2 : Int32) (x3 : Int32) (x4 : Int32) (H : Heap) (locs : List Loc) (ls : Array Slot), fX7_copy_63 N n u x1 x2 x3 x4 = some (r, u1) → TW D dA h u H → va_S (TA h) s.heap H locs → lv_has ls 5 [(0, .ref h), (1, .int x1), (2, .int x2), (3, .int x3), (4, .int x4)] → W p l e { frames := 1, cells := 0, slots := 0, locals := 21 } s m args below meth c H locs 0 0 (MQ below (mt_Q D dA h (some (.int r)) u1) args s 0 0 (TA h)) (F0 m 63 ls []) := by
    intro n
    induction n with
    | zero =>
      intro u x1 x2 x3 x4 H locs ls hE hT hS hl
      cases (show (none : Option (Int32 × TS)) = some (r, u1) from hE)
    | succ n ih =>
      intro u x1 x2 x3 x4 H locs ls hE hT hS hl
      rw [fX7_copy_63] at hE
      refine lv_iload hx hb dX7_copy_63 (lv_at hl 4 rfl) ?_
      refine lv_iload_n hx hb dX7_copy_65 rfl (lv_at hl 3 rfl) ?_
      refine lv_icmp_ge (tgt := 98) hx hb dX7_copy_66 (by decide) (fun c9 => ?_) (fun c9 => ?_)
      · have hE := z_t c9 hE
        exact w_98 _ _ _ _ _ _ _ hE hT hS (lv_sub hl [0, 1, 2, 3] rfl)
      · have hE := z_f c9 hE
        refine lv_iload_n hx hb dX7_copy_69 rfl (lv_at hl 1 rfl) ?_
        refine lv_iload_n hx hb dX7_copy_70 rfl (lv_at hl 2 rfl) ?_
        refine lv_icmp_lt (tgt := 98) hx hb dX7_copy_71 (by decide) (fun c10 => ?_) (fun c10 => ?_)
        · have hE := z_t c10 hE
          exact w_98 _ _ _ _ _ _ _ hE hT hS (lv_sub hl [0, 1, 2, 3] rfl)
        · have hE := z_f c10 hE
          refine lv_aload_n hx hb dX7_copy_74 rfl (lv_at hl 0 rfl) ?_
          refine tg_row C hT dX7_copy_75 ?_
          refine lv_iload_n hx hb dX7_copy_78 rfl (lv_at hl 2 rfl) ?_
          refine lv_iload hx hb dX7_copy_79 (lv_at hl 4 rfl) ?_
          refine lv_iadd hx hb dX7_copy_81 ?_
          refine lv_aload_n hx hb dX7_copy_82 rfl (lv_at hl 0 rfl) ?_
          refine tg_row C hT dX7_copy_83 ?_
          refine lv_iload_n hx hb dX7_copy_86 rfl (lv_at hl 1 rfl) ?_
          refine lv_iload hx hb dX7_copy_87 (lv_at hl 4 rfl) ?_
          refine lv_iadd hx hb dX7_copy_89 ?_
          refine tl_row C hT hE dX7_copy_90 (fun hE => ?_)
          refine z_nmi hE (fun v11 hE => ?_)
          refine ts_row C hT hS hE dX7_copy_91 (fun u12 H locs hE hT hS => ?_)
          refine z_iinc (v := (x4 + (1 : Int32))) (lw := (fun y_ => [(4, .int y_), (0, .ref h), (1, .int x1), (2, .int x2), (3, .int x3)])) hx hb dX7_copy_92 hl hE (k := 4) rfl rfl (by decide) (fun _ => rfl) (fun z13 ls hE hl => ?_)
          refine lv_goto (tgt := 63) hx hb dX7_copy_95 (by decide) ?_
          exact ih _ _ _ _ _ _ _ _ hE hT hS (lv_sub hl [1, 2, 3, 4, 0] rfl)
  unfold fX7_copy at hE
  refine lv_aload_n hx hb dX7_copy_0 rfl (lv_at hl 0 rfl) ?_
  refine tg_isRow C hT dX7_copy_1 ?_
  refine lv_if_ne (tgt := 14) hx hb dX7_copy_4 (by decide) (fun c14 => ?_) (fun c14 => ?_)
  · have hE := z_f c14 hE
    refine lv_iload_n hx hb dX7_copy_14 rfl (lv_at hl 3 rfl) ?_
    refine lv_if_ge (tgt := 25) hx hb dX7_copy_15 (by decide) (fun c15 => ?_) (fun c15 => ?_)
    · have hE := z_t c15 hE
      refine lv_iload_n hx hb dX7_copy_25 rfl (lv_at hl 1 rfl) ?_
      refine lv_if_lt (tgt := 53) hx hb dX7_copy_26 (by decide) (fun c16 => ?_) (fun c16 => ?_)
      · have hE := z_t c16 hE
        exact w_53 _ _ _ _ hE hT hS (lv_sub hl [0] rfl)
      · have hE := z_f c16 hE
        refine lv_iload_n hx hb dX7_copy_29 rfl (lv_at hl 2 rfl) ?_
        refine lv_if_lt (tgt := 53) hx hb dX7_copy_30 (by decide) (fun c17 => ?_) (fun c17 => ?_)
        · have hE := z_t c17 hE
          exact w_53 _ _ _ _ hE hT hS (lv_sub hl [0] rfl)
        · have hE := z_f c17 hE
          refine lv_iload_n hx hb dX7_copy_33 rfl (lv_at hl 1 rfl) ?_
          refine lv_aload_n hx hb dX7_copy_34 rfl (lv_at hl 0 rfl) ?_
          refine tg_rowSize C hT dX7_copy_35 ?_
          refine lv_iload_n hx hb dX7_copy_38 rfl (lv_at hl 3 rfl) ?_
          refine lv_isub hx hb dX7_copy_39 ?_
          refine lv_icmp_gt (tgt := 53) hx hb dX7_copy_40 (by decide) (fun c18 => ?_) (fun c18 => ?_)
          · have hE := z_t c18 hE
            exact w_53 _ _ _ _ hE hT hS (lv_sub hl [0] rfl)
          · have hE := z_f c18 hE
            refine lv_iload_n hx hb dX7_copy_43 rfl (lv_at hl 2 rfl) ?_
            refine lv_aload_n hx hb dX7_copy_44 rfl (lv_at hl 0 rfl) ?_
            refine tg_rowSize C hT dX7_copy_45 ?_
            refine lv_iload_n hx hb dX7_copy_48 rfl (lv_at hl 3 rfl) ?_
            refine lv_isub hx hb dX7_copy_49 ?_
            refine lv_icmp_le (tgt := 60) hx hb dX7_copy_50 (by decide) (fun c19 => ?_) (fun c19 => ?_)
            · have hE := z_t c19 hE
              refine lv_iconst (v := (0 : Int32)) hx hb dX7_copy_60 rfl ?_
              refine lv_istore (lv' := [(4, .int (0 : Int32)), (0, .ref h), (1, .int a1), (2, .int a2), (3, .int a3)]) hx hb dX7_copy_61 hl (by decide) rfl (fun ls hl => ?_)
              exact w_63 N _ _ _ _ _ _ _ _ hE hT hS (lv_sub hl [1, 2, 3, 4, 0] rfl)
            · have hE := z_f c19 hE
              exact w_53 _ _ _ _ hE hT hS (lv_sub hl [0] rfl)
    · have hE := z_f c15 hE
      refine lv_aload_n hx hb dX7_copy_18 rfl (lv_at hl 0 rfl) ?_
      refine lv_bipush (v := (-4 : Int32)) hx hb dX7_copy_19 rfl ?_
      obtain ⟨r21, u20, hc, hE⟩ := o_bd2_some hE
      refine tc_X7_refuse C hT hS (kX7_refuse hc) rfl rfl ⟨Nat.le_of_ble_eq_true rfl, Nat.le_of_ble_eq_true rfl⟩ ⟨Nat.le_refl 0, Nat.le_refl 0⟩ dX7_copy_21 hl.1 (Nat.le_of_ble_eq_true rfl) (fun H locs hT hS => ?_)
      exact mt_iret C hr hlocks hT hS hE dX7_copy_24
  · have hE := z_t c14 hE
    refine lv_aload_n hx hb dX7_copy_7 rfl (lv_at hl 0 rfl) ?_
    refine lv_bipush (v := (-2 : Int32)) hx hb dX7_copy_8 rfl ?_
    obtain ⟨r23, u22, hc, hE⟩ := o_bd2_some hE
    refine tc_X7_refuse C hT hS (kX7_refuse hc) rfl rfl ⟨Nat.le_of_ble_eq_true rfl, Nat.le_of_ble_eq_true rfl⟩ ⟨Nat.le_refl 0, Nat.le_refl 0⟩ dX7_copy_10 hl.1 (Nat.le_of_ble_eq_true rfl) (fun H locs hT hS => ?_)
    exact mt_iret C hr hlocks hT hS hE dX7_copy_13
end TRG9
