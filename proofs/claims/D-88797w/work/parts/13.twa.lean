section TRG0
variable {p : Program} {l : Launch} {e : Env} {R : Room} {s : State} {m : MethodId} {args : Array Value} {below : List Frame} {meth : Method} {c : Code} {H : Heap} {locs : List Loc} {cells slots : Nat} {Q : State → Prop} {cc : ByteArray} {nL pc : Nat} {ls : Array Slot} {rest : List Value} {D : va_G} {dA : Nat → ClassId} {h : Nat} {H0 : Heap}
theorem tc_X7_measure {u u1 : TS} {rm : Room} (C : TC p m c cc nL s args D dA) (hT : TW D dA h u H) (hS : va_S (TA h) H0 H locs) (hM : Met l yX7_measure (ws_ yX7_measure cX7_measure 6 none) rm (va_Pc [.ref h] (mt_B D dA h u)) (mt_Q D dA h none u1) 0 0 (TA h)) (hrc : rm.cells = 0) (hrs : rm.slots = 0) (hR : rm.frames + 1 ≤ R.frames ∧ 8 + (6 + 11) + rm.locals ≤ R.locals) (hf : cells + 0 ≤ R.cells ∧ slots + 0 ≤ R.slots) (d : decode cc pc = .ok (.invokevirtual 73, 3)) (hsz : ls.size = nL) (hro : (rest.map fun v => v.category).sum ≤ 8) (kk : ∀ (H1 : Heap) (locs1 : List Loc), TW D dA h u1 H1 → va_S (TA h) H0 H1 locs1 → W p l e R s m args below meth c H1 locs1 cells slots Q (F0 m (pc + 3) ls (rest))) : W p l e R s m args below meth c H locs cells slots Q (F0 m pc ls (.ref h :: rest)) :=
  mt_call (v := none) (va_runV (As := []) (rest := rest) C.1 hM (cwV 0 C.1.2.2.2.2 (lw_V q1625 q1627 qs100 q177 q1628) rfl hrc hrs (by decide +kernel) hR) (mt_preV C.2 hT _) rfl rfl hsz rfl (lv_room hro) d hf) hS (fun _ z => z) (fun H1 locs1 a b _ _ => kk H1 locs1 a b)
set_option maxHeartbeats 4000000 in
set_option maxRecDepth 100000 in
theorem kX7_measure {l : Launch} {D : va_G} {dA : Nat → ClassId} {h N : Nat} {u u_ : TS} (hE : fX7_measure N u = some u_) : Met l yX7_measure (ws_ yX7_measure cX7_measure 6 none) ({ frames := 0, cells := 0, slots := 0, locals := 0 }) (va_Pc [.ref h] (mt_B D dA h u)) (mt_Q D dA h none u_) 0 0 (TA h) := by
  refine mt_met (by decide) rfl rfl rfl ?_
  intro p e s m args below meth c ls C hr hlocks hT hS hl
  have hx := C.1.1
  have hb := C.1.2.1
  have w_178 : ∀ (ag36 : TS → Int32 → Option (TS)) (hag36 : (∀ (u : TS) (x1 : Int32) (H : Heap) (locs : List Loc) (ls : Array Slot), ag36 u x1 = some u_ → TW D dA h u H → va_S (TA h) s.heap H locs → lv_has ls 6 [(0, .ref h), (1, .int x1)] → W p l e { frames := 0, cells := 0, slots := 0, locals := 0 } s m args below meth c H locs 0 0 (MQ below (mt_Q D dA h none u_) args s 0 0 (TA h)) (F0 m 36 ls []))) (ag44 : TS → Int32 → Int32 → Option (TS)) (hag44 : (∀ (u : TS) (x1 : Int32) (x2 : Int32) (H : Heap) (locs : List Loc) (ls : Array Slot), ag44 u x1 x2 = some u_ → TW D dA h u H → va_S (TA h) s.heap H locs → lv_has ls 6 [(0, .ref h), (1, .int x1), (2, .int x2)] → W p l e { frames := 0, cells := 0, slots := 0, locals := 0 } s m args below meth c H locs 0 0 (MQ below (mt_Q D dA h none u_) args s 0 0 (TA h)) (F0 m 44 ls []))) (u : TS) (x1 : Int32) (x2 : Int32) (H : Heap) (locs : List Loc) (ls : Array Slot), fX7_measure_178 N ag36 ag44 u x1 x2 = some u_ → TW D dA h u H → va_S (TA h) s.heap H locs → lv_has ls 6 [(0, .ref h), (1, .int x1), (2, .int x2)] → W p l e { frames := 0, cells := 0, slots := 0, locals := 0 } s m args below meth c H locs 0 0 (MQ below (mt_Q D dA h none u_) args s 0 0 (TA h)) (F0 m 178 ls []) := by
    intro ag36 hag36 ag44 hag44 u x1 x2 H locs ls hE hT hS hl
    unfold fX7_measure_178 at hE
    refine z_iinc (v := (x2 + (1 : Int32))) (lw := (fun y_ => [(2, .int y_), (0, .ref h), (1, .int x1)])) hx hb dX7_measure_178 hl hE (k := 2) rfl rfl (by decide) (fun _ => rfl) (fun z1 ls hE hl => ?_)
    refine lv_goto (tgt := 44) hx hb dX7_measure_181 (by decide) ?_
    exact hag44 _ _ _ _ _ _ hE hT hS (lv_sub hl [1, 2, 0] rfl)
  have w_143 : ∀ (ag36 : TS → Int32 → Option (TS)) (hag36 : (∀ (u : TS) (x1 : Int32) (H : Heap) (locs : List Loc) (ls : Array Slot), ag36 u x1 = some u_ → TW D dA h u H → va_S (TA h) s.heap H locs → lv_has ls 6 [(0, .ref h), (1, .int x1)] → W p l e { frames := 0, cells := 0, slots := 0, locals := 0 } s m args below meth c H locs 0 0 (MQ below (mt_Q D dA h none u_) args s 0 0 (TA h)) (F0 m 36 ls []))) (ag44 : TS → Int32 → Int32 → Option (TS)) (hag44 : (∀ (u : TS) (x1 : Int32) (x2 : Int32) (H : Heap) (locs : List Loc) (ls : Array Slot), ag44 u x1 x2 = some u_ → TW D dA h u H → va_S (TA h) s.heap H locs → lv_has ls 6 [(0, .ref h), (1, .int x1), (2, .int x2)] → W p l e { frames := 0, cells := 0, slots := 0, locals := 0 } s m args below meth c H locs 0 0 (MQ below (mt_Q D dA h none u_) args s 0 0 (TA h)) (F0 m 44 ls []))) (u : TS) (x1 : Int32) (x2 : Int32) (x3 : Int32) (x4 : Int32) (x5 : Int32) (H : Heap) (locs : List Loc) (ls : Array Slot), fX7_measure_143 N ag36 ag44 u x1 x2 x3 x4 x5 = some u_ → TW D dA h u H → va_S (TA h) s.heap H locs → lv_has ls 6 [(0, .ref h), (1, .int x1), (2, .int x2), (3, .int x3), (4, .int x4), (5, .int x5)] → W p l e { frames := 0, cells := 0, slots := 0, locals := 0 } s m args below meth c H locs 0 0 (MQ below (mt_Q D dA h none u_) args s 0 0 (TA h)) (F0 m 143 ls []) := by
    intro ag36 hag36 ag44 hag44 u x1 x2 x3 x4 x5 H locs ls hE hT hS hl
    unfold fX7_measure_143 at hE
    refine lv_aload_n hx hb dX7_measure_143 rfl (lv_at hl 0 rfl) ?_
    refine tg_s C hT dX7_measure_144 ?_
    refine lv_iload hx hb dX7_measure_147 (lv_at hl 4 rfl) ?_
    refine tl_s C hT hE dX7_measure_149 (fun hE => ?_)
    refine z_nmi hE (fun v2 hE => ?_)
    refine lv_iload hx hb dX7_measure_150 (lv_at hl 5 rfl) ?_
    refine lv_iadd hx hb dX7_measure_152 ?_
    refine lv_aload_n hx hb dX7_measure_153 rfl (lv_at hl 0 rfl) ?_
    refine tg_s C hT dX7_measure_154 ?_
    refine lv_iload_n hx hb dX7_measure_157 rfl (lv_at hl 3 rfl) ?_
    refine tl_s C hT hE dX7_measure_158 (fun hE => ?_)
    refine z_nmi hE (fun v3 hE => ?_)
    refine lv_icmp_ge (tgt := 178) hx hb dX7_measure_159 (by decide) (fun c4 => ?_) (fun c4 => ?_)
    · have hE := z_t c4 hE
      exact w_178 ag36 hag36 ag44 hag44 _ _ _ _ _ _ hE hT hS (lv_sub hl [0, 1, 2] rfl)
    · have hE := z_f c4 hE
      refine lv_aload_n hx hb dX7_measure_162 rfl (lv_at hl 0 rfl) ?_
      refine tg_s C hT dX7_measure_163 ?_
      refine lv_iload_n hx hb dX7_measure_166 rfl (lv_at hl 3 rfl) ?_
      refine lv_aload_n hx hb dX7_measure_167 rfl (lv_at hl 0 rfl) ?_
      refine tg_s C hT dX7_measure_168 ?_
      refine lv_iload hx hb dX7_measure_171 (lv_at hl 4 rfl) ?_
      refine tl_s C hT hE dX7_measure_173 (fun hE => ?_)
      refine z_nmi hE (fun v5 hE => ?_)
      refine lv_iload hx hb dX7_measure_174 (lv_at hl 5 rfl) ?_
      refine lv_iadd hx hb dX7_measure_176 ?_
      refine ts_s C hT hS hE dX7_measure_177 (fun u6 H locs hE hT hS => ?_)
      exact w_178 ag36 hag36 ag44 hag44 _ _ _ _ _ _ hE hT hS (lv_sub hl [0, 1, 2] rfl)
  have w_44 : ∀ (ag36 : TS → Int32 → Option (TS)) (hag36 : (∀ (u : TS) (x1 : Int32) (H : Heap) (locs : List Loc) (ls : Array Slot), ag36 u x1 = some u_ → TW D dA h u H → va_S (TA h) s.heap H locs → lv_has ls 6 [(0, .ref h), (1, .int x1)] → W p l e { frames := 0, cells := 0, slots := 0, locals := 0 } s m args below meth c H locs 0 0 (MQ below (mt_Q D dA h none u_) args s 0 0 (TA h)) (F0 m 36 ls []))) (n : Nat) (u : TS) (x1 : Int32) (x2 : Int32) (H : Heap) (locs : List Loc) (ls : Array Slot), fX7_measure_44 N ag36 n u x1 x2 = some u_ → TW D dA h u H → va_S (TA h) s.heap H locs → lv_has ls 6 [(0, .ref h), (1, .int x1), (2, .int x2)] → W p l e { frames := 0, cells := 0, slots := 0, locals := 0 } s m args below meth c H locs 0 0 (MQ below (mt_Q D dA h none u_) args s 0 0 (TA h)) (F0 m 44 ls []) := by
    intro ag36 hag36 n
    induction n with
    | zero =>
      intro u x1 x2 H locs ls hE hT hS hl
      cases (show (none : Option (TS)) = some u_ from hE)
    | succ n ih =>
      intro u x1 x2 H locs ls hE hT hS hl
      rw [fX7_measure_44] at hE
      refine lv_iload_n hx hb dX7_measure_44 rfl (lv_at hl 2 rfl) ?_
      refine lv_aload_n hx hb dX7_measure_45 rfl (lv_at hl 0 rfl) ?_
      refine tg_s C hT dX7_measure_46 ?_
      refine lv_bipush (v := (6 : Int32)) hx hb dX7_measure_49 rfl ?_
      refine tl_s C hT hE dX7_measure_51 (fun hE => ?_)
      refine z_nmi hE (fun v7 hE => ?_)
      refine lv_icmp_ge (tgt := 184) hx hb dX7_measure_52 (by decide) (fun c8 => ?_) (fun c8 => ?_)
      · have hE := z_t c8 hE
        refine z_iinc (v := (x1 + (1 : Int32))) (lw := (fun y_ => [(1, .int y_), (0, .ref h), (2, .int x2)])) hx hb dX7_measure_184 hl hE (k := 1) rfl rfl (by decide) (fun _ => rfl) (fun z9 ls hE hl => ?_)
        refine lv_goto (tgt := 36) hx hb dX7_measure_187 (by decide) ?_
        exact hag36 _ _ _ _ _ hE hT hS (lv_sub hl [1, 0] rfl)
      · have hE := z_f c8 hE
        refine lv_sipush (v := (4530 : Int32)) hx hb dX7_measure_55 rfl ?_
        refine lv_aload_n hx hb dX7_measure_58 rfl (lv_at hl 0 rfl) ?_
        refine tg_s C hT dX7_measure_59 ?_
        refine lv_sipush (v := (3410 : Int32)) hx hb dX7_measure_62 rfl ?_
        refine lv_iconst (v := (3 : Int32)) hx hb dX7_measure_65 rfl ?_
        refine lv_iload_n hx hb dX7_measure_66 rfl (lv_at hl 2 rfl) ?_
        refine lv_imul hx hb dX7_measure_67 ?_
        refine lv_iadd hx hb dX7_measure_68 ?_
        refine tl_s C hT hE dX7_measure_69 (fun hE => ?_)
        refine z_nmi hE (fun v10 hE => ?_)
        refine lv_iadd hx hb dX7_measure_70 ?_
        refine z_nmi hE (fun z11 hE => ?_)
        refine lv_istore_n (lv' := [(3, .int z11), (0, .ref h), (1, .int x1), (2, .int x2)]) hx hb dX7_measure_71 rfl hl (by decide) rfl (fun ls hl => ?_)
        refine lv_sipush (v := (4530 : Int32)) hx hb dX7_measure_72 rfl ?_
        refine lv_aload_n hx hb dX7_measure_75 rfl (lv_at hl 1 rfl) ?_
        refine tg_s C hT dX7_measure_76 ?_
        refine lv_sipush (v := (3410 : Int32)) hx hb dX7_measure_79 rfl ?_
        refine lv_iconst (v := (3 : Int32)) hx hb dX7_measure_82 rfl ?_
        refine lv_iload_n hx hb dX7_measure_83 rfl (lv_at hl 3 rfl) ?_
        refine lv_imul hx hb dX7_measure_84 ?_
        refine lv_iadd hx hb dX7_measure_85 ?_
        refine lv_iconst (v := (1 : Int32)) hx hb dX7_measure_86 rfl ?_
        refine lv_iadd hx hb dX7_measure_87 ?_
        refine tl_s C hT hE dX7_measure_88 (fun hE => ?_)
        refine z_nmi hE (fun v12 hE => ?_)
        refine lv_iadd hx hb dX7_measure_89 ?_
        refine z_nmi hE (fun z13 hE => ?_)
        refine lv_istore (lv' := [(4, .int z13), (3, .int z11), (0, .ref h), (1, .int x1), (2, .int x2)]) hx hb dX7_measure_90 hl (by decide) rfl (fun ls hl => ?_)
        refine lv_aload_n hx hb dX7_measure_92 rfl (lv_at hl 2 rfl) ?_
        refine tg_s C hT dX7_measure_93 ?_
        refine lv_sipush (v := (3410 : Int32)) hx hb dX7_measure_96 rfl ?_
        refine lv_iconst (v := (3 : Int32)) hx hb dX7_measure_99 rfl ?_
        refine lv_iload_n hx hb dX7_measure_100 rfl (lv_at hl 4 rfl) ?_
        refine lv_imul hx hb dX7_measure_101 ?_
        refine lv_iadd hx hb dX7_measure_102 ?_
        refine lv_iconst (v := (2 : Int32)) hx hb dX7_measure_103 rfl ?_
        refine lv_iadd hx hb dX7_measure_104 ?_
        refine tl_s C hT hE dX7_measure_105 (fun hE => ?_)
        refine z_nmi hE (fun v14 hE => ?_)
        refine lv_istore (lv' := [(5, .int v14), (4, .int z13), (3, .int z11), (0, .ref h), (1, .int x1), (2, .int x2)]) hx hb dX7_measure_106 hl (by decide) rfl (fun ls hl => ?_)
        refine lv_aload_n hx hb dX7_measure_108 rfl (lv_at hl 3 rfl) ?_
        refine tg_s C hT dX7_measure_109 ?_
        refine lv_iload_n hx hb dX7_measure_112 rfl (lv_at hl 2 rfl) ?_
        refine tl_s C hT hE dX7_measure_113 (fun hE => ?_)
        refine z_nmi hE (fun v15 hE => ?_)
        refine lv_iload hx hb dX7_measure_114 (lv_at hl 0 rfl) ?_
        refine lv_iadd hx hb dX7_measure_116 ?_
        refine lv_aload_n hx hb dX7_measure_117 rfl (lv_at hl 3 rfl) ?_
        refine tg_s C hT dX7_measure_118 ?_
        refine lv_iload hx hb dX7_measure_121 (lv_at hl 1 rfl) ?_
        refine tl_s C hT hE dX7_measure_123 (fun hE => ?_)
        refine z_nmi hE (fun v16 hE => ?_)
        refine lv_icmp_ge (tgt := 143) hx hb dX7_measure_124 (by decide) (fun c17 => ?_) (fun c17 => ?_)
        · have hE := z_t c17 hE
          exact w_143 ag36 hag36 (fX7_measure_44 N ag36 n) ih _ _ _ _ _ _ _ _ _ hE hT hS (lv_sub hl [3, 4, 5, 2, 1, 0] rfl)
        · have hE := z_f c17 hE
          refine lv_aload_n hx hb dX7_measure_127 rfl (lv_at hl 3 rfl) ?_
          refine tg_s C hT dX7_measure_128 ?_
          refine lv_iload hx hb dX7_measure_131 (lv_at hl 1 rfl) ?_
          refine lv_aload_n hx hb dX7_measure_133 rfl (lv_at hl 3 rfl) ?_
          refine tg_s C hT dX7_measure_134 ?_
          refine lv_iload_n hx hb dX7_measure_137 rfl (lv_at hl 2 rfl) ?_
          refine tl_s C hT hE dX7_measure_138 (fun hE => ?_)
          refine z_nmi hE (fun v18 hE => ?_)
          refine lv_iload hx hb dX7_measure_139 (lv_at hl 0 rfl) ?_
          refine lv_iadd hx hb dX7_measure_141 ?_
          refine ts_s C hT hS hE dX7_measure_142 (fun u19 H locs hE hT hS => ?_)
          exact w_143 ag36 hag36 (fX7_measure_44 N ag36 n) ih _ _ _ _ _ _ _ _ _ hE hT hS (lv_sub hl [3, 4, 5, 2, 1, 0] rfl)
  have w_36 : ∀ (n : Nat) (u : TS) (x1 : Int32) (H : Heap) (locs : List Loc) (ls : Array Slot), fX7_measure_36 N n u x1 = some u_ → TW D dA h u H → va_S (TA h) s.heap H locs → lv_has ls 6 [(0, .ref h), (1, .int x1)] → W p l e { frames := 0, cells := 0, slots := 0, locals := 0 } s m args below meth c H locs 0 0 (MQ below (mt_Q D dA h none u_) args s 0 0 (TA h)) (F0 m 36 ls []) := by
    intro n
    induction n with
    | zero =>
      intro u x1 H locs ls hE hT hS hl
      cases (show (none : Option (TS)) = some u_ from hE)
    | succ n ih =>
      intro u x1 H locs ls hE hT hS hl
      rw [fX7_measure_36] at hE
      refine lv_iload_n hx hb dX7_measure_36 rfl (lv_at hl 1 rfl) ?_
      refine lv_bipush (v := (6 : Int32)) hx hb dX7_measure_37 rfl ?_
      refine lv_icmp_ge (tgt := 190) hx hb dX7_measure_39 (by decide) (fun c20 => ?_) (fun c20 => ?_)
      · have hE := z_t c20 hE
        exact mt_vret C hr hlocks hT hS hE dX7_measure_190
      · have hE := z_f c20 hE
        refine lv_iconst (v := (0 : Int32)) hx hb dX7_measure_42 rfl ?_
        refine lv_istore_n (lv' := [(2, .int (0 : Int32)), (0, .ref h), (1, .int x1)]) hx hb dX7_measure_43 rfl hl (by decide) rfl (fun ls hl => ?_)
        exact w_44 (fX7_measure_36 N n) ih N _ _ _ _ _ _ hE hT hS (lv_sub hl [1, 2, 0] rfl)
  have w_27 : ∀ (ag2 : TS → Int32 → Option (TS)) (hag2 : (∀ (u : TS) (x1 : Int32) (H : Heap) (locs : List Loc) (ls : Array Slot), ag2 u x1 = some u_ → TW D dA h u H → va_S (TA h) s.heap H locs → lv_has ls 6 [(0, .ref h), (1, .int x1)] → W p l e { frames := 0, cells := 0, slots := 0, locals := 0 } s m args below meth c H locs 0 0 (MQ below (mt_Q D dA h none u_) args s 0 0 (TA h)) (F0 m 2 ls []))) (u : TS) (x1 : Int32) (y1 : Int32) (y2 : Int32) (H : Heap) (locs : List Loc) (ls : Array Slot), fX7_measure_27 N ag2 u x1 y1 y2 = some u_ → TW D dA h u H → va_S (TA h) s.heap H locs → lv_has ls 6 [(0, .ref h), (1, .int x1)] → W p l e { frames := 0, cells := 0, slots := 0, locals := 0 } s m args below meth c H locs 0 0 (MQ below (mt_Q D dA h none u_) args s 0 0 (TA h)) (F0 m 27 ls [.int y2, .int y1, .ref (h + 1)]) := by
    intro ag2 hag2 u x1 y1 y2 H locs ls hE hT hS hl
    unfold fX7_measure_27 at hE
    refine ts_s C hT hS hE dX7_measure_27 (fun u21 H locs hE hT hS => ?_)
    refine z_iinc (v := (x1 + (1 : Int32))) (lw := (fun y_ => [(1, .int y_), (0, .ref h)])) hx hb dX7_measure_28 hl hE (k := 1) rfl rfl (by decide) (fun _ => rfl) (fun z22 ls hE hl => ?_)
    refine lv_goto (tgt := 2) hx hb dX7_measure_31 (by decide) ?_
    exact hag2 _ _ _ _ _ hE hT hS (lv_sub hl [1, 0] rfl)
  have w_2 : ∀ (n : Nat) (u : TS) (x1 : Int32) (H : Heap) (locs : List Loc) (ls : Array Slot), fX7_measure_2 N n u x1 = some u_ → TW D dA h u H → va_S (TA h) s.heap H locs → lv_has ls 6 [(0, .ref h), (1, .int x1)] → W p l e { frames := 0, cells := 0, slots := 0, locals := 0 } s m args below meth c H locs 0 0 (MQ below (mt_Q D dA h none u_) args s 0 0 (TA h)) (F0 m 2 ls []) := by
    intro n
    induction n with
    | zero =>
      intro u x1 H locs ls hE hT hS hl
      cases (show (none : Option (TS)) = some u_ from hE)
    | succ n ih =>
      intro u x1 H locs ls hE hT hS hl
      rw [fX7_measure_2] at hE
      refine lv_iload_n hx hb dX7_measure_2 rfl (lv_at hl 1 rfl) ?_
      refine lv_bipush (v := (6 : Int32)) hx hb dX7_measure_3 rfl ?_
      refine lv_icmp_ge (tgt := 34) hx hb dX7_measure_5 (by decide) (fun c23 => ?_) (fun c23 => ?_)
      · have hE := z_t c23 hE
        refine lv_iconst (v := (0 : Int32)) hx hb dX7_measure_34 rfl ?_
        refine lv_istore_n (lv' := [(1, .int (0 : Int32)), (0, .ref h)]) hx hb dX7_measure_35 rfl hl (by decide) rfl (fun ls hl => ?_)
        exact w_36 N _ _ _ _ _ hE hT hS (lv_sub hl [1, 0] rfl)
      · have hE := z_f c23 hE
        refine lv_aload_n hx hb dX7_measure_8 rfl (lv_at hl 0 rfl) ?_
        refine tg_s C hT dX7_measure_9 ?_
        refine lv_sipush (v := (4530 : Int32)) hx hb dX7_measure_12 rfl ?_
        refine lv_iload_n hx hb dX7_measure_15 rfl (lv_at hl 1 rfl) ?_
        refine lv_iadd hx hb dX7_measure_16 ?_
        refine lv_iload_n hx hb dX7_measure_17 rfl (lv_at hl 1 rfl) ?_
        refine lv_if_ne (tgt := 25) hx hb dX7_measure_18 (by decide) (fun c24 => ?_) (fun c24 => ?_)
        · have hE := z_f c24 hE
          refine lv_ldc (v := (999999 : Int32)) hx hb C.1.2.2.2.1 (C.1.2.2.2.2 _ q1629) dX7_measure_25 ?_
          exact w_27 (fX7_measure_2 N n) ih _ _ _ _ _ _ _ hE hT hS (lv_sub hl [0, 1] rfl)
        · have hE := z_t c24 hE
          refine lv_iconst (v := (0 : Int32)) hx hb dX7_measure_21 rfl ?_
          refine lv_goto (tgt := 27) hx hb dX7_measure_22 (by decide) ?_
          exact w_27 (fX7_measure_2 N n) ih _ _ _ _ _ _ _ hE hT hS (lv_sub hl [0, 1] rfl)
  unfold fX7_measure at hE
  refine lv_iconst (v := (0 : Int32)) hx hb dX7_measure_0 rfl ?_
  refine lv_istore_n (lv' := [(1, .int (0 : Int32)), (0, .ref h)]) hx hb dX7_measure_1 rfl hl (by decide) rfl (fun ls hl => ?_)
  exact w_2 N _ _ _ _ _ hE hT hS (lv_sub hl [1, 0] rfl)
theorem sc_X7_in {a1 : Int32} {a2 : Int32} {a3 : Int32} {r : Int32} {rm : Room} (C : CallFix p m c cc nL s args lw_all RX7) (hM : Met l yX7_in (ws_ yX7_in cX7_in 3 (some .boolean)) rm (va_Pc [.int a1, .int a2, .int a3] (fun _ => True)) (s_Q (some (.int r))) 0 0 (fun _ => False)) (hrc : rm.cells = 0) (hrs : rm.slots = 0) (hR : rm.frames + 1 ≤ R.frames ∧ 8 + (3 + 11) + rm.locals ≤ R.locals) (hf : cells + 0 ≤ R.cells ∧ slots + 0 ≤ R.slots) (d : decode cc pc = .ok (.invokestatic 76, 3)) (hsz : ls.size = nL) (hro : (rest.map fun v => v.category).sum ≤ 8) (kk : W p l e R s m args below meth c H locs cells slots Q (F0 m (pc + 3) ls (.int r :: rest))) : W p l e R s m args below meth c H locs cells slots Q (F0 m pc ls (.int a3 :: .int a2 :: .int a1 :: rest)) :=
  s_call (v := (some (.int r))) (va_runS (As := [.int a1, .int a2, .int a3]) (rest := rest) C hM (va_cwS 3 C.2.2.2.2 (lw_S q1757 q1758 q177 q1759) rfl hrc hrs (by decide +kernel) hR) (s_pre _) rfl rfl hsz rfl (lv_room hro) d hf) kk
set_option maxHeartbeats 4000000 in
set_option maxRecDepth 100000 in
theorem kX7_in {l : Launch} {a1 : Int32} {a2 : Int32} {a3 : Int32} {r : Int32} (hE : fX7_in a1 a2 a3 = some r) : Met l yX7_in (ws_ yX7_in cX7_in 3 (some .boolean)) ({ frames := 0, cells := 0, slots := 0, locals := 0 }) (va_Pc [.int a1, .int a2, .int a3] (fun _ => True)) (s_Q (some (.int r))) 0 0 (fun _ => False) := by
  refine s_met (own := RX7) (by decide) rfl rfl rfl ?_
  intro p e s m args below meth c ls C hr hlocks hl
  have hx := C.1
  have hb := C.2.1
  have w_15 : ∀ (y0 : Int32) (ls : Array Slot), fX7_in_15 y0 = some r → lv_has ls 3 [] → W p l e { frames := 0, cells := 0, slots := 0, locals := 0 } s m args below meth c s.heap [] 0 0 (MQ below (s_Q (some (.int r))) args s 0 0 (fun _ => False)) (F0 m 15 ls [.int y0]) := by
    intro y0 ls hE hl
    unfold fX7_in_15 at hE
    obtain ⟨hb1, hE⟩ := o_bl_some hE
    exact s_zret C hr hlocks hb1 hE dX7_in_15
  have w_14 : ∀ (ls : Array Slot), fX7_in_14 = some r → lv_has ls 3 [] → W p l e { frames := 0, cells := 0, slots := 0, locals := 0 } s m args below meth c s.heap [] 0 0 (MQ below (s_Q (some (.int r))) args s 0 0 (fun _ => False)) (F0 m 14 ls []) := by
    intro ls hE hl
    unfold fX7_in_14 at hE
    refine lv_iconst (v := (0 : Int32)) hx hb dX7_in_14 rfl ?_
    exact w_15 _ _ hE (lv_sub hl [] rfl)
  unfold fX7_in at hE
  refine lv_iload_n hx hb dX7_in_0 rfl (lv_at hl 0 rfl) ?_
  refine lv_iload_n hx hb dX7_in_1 rfl (lv_at hl 1 rfl) ?_
  refine lv_icmp_lt (tgt := 14) hx hb dX7_in_2 (by decide) (fun c1 => ?_) (fun c1 => ?_)
  · have hE := z_t c1 hE
    exact w_14 _ hE (lv_sub hl [] rfl)
  · have hE := z_f c1 hE
    refine lv_iload_n hx hb dX7_in_5 rfl (lv_at hl 0 rfl) ?_
    refine lv_iload_n hx hb dX7_in_6 rfl (lv_at hl 2 rfl) ?_
    refine lv_icmp_gt (tgt := 14) hx hb dX7_in_7 (by decide) (fun c2 => ?_) (fun c2 => ?_)
    · have hE := z_t c2 hE
      exact w_14 _ hE (lv_sub hl [] rfl)
    · have hE := z_f c2 hE
      refine lv_iconst (v := (1 : Int32)) hx hb dX7_in_10 rfl ?_
      refine lv_goto (tgt := 15) hx hb dX7_in_11 (by decide) ?_
      exact w_15 _ _ hE (lv_sub hl [] rfl)
theorem tc_X7_refuse {a1 : Int32} {r : Int32} {u u1 : TS} {rm : Room} (C : TC p m c cc nL s args D dA) (hT : TW D dA h u H) (hS : va_S (TA h) H0 H locs) (hM : Met l yX7_refuse (ws_ yX7_refuse cX7_refuse 2 (some .int)) rm (va_Pc [.ref h, .int a1] (mt_B D dA h u)) (mt_Q D dA h (some (.int r)) u1) 0 0 (TA h)) (hrc : rm.cells = 0) (hrs : rm.slots = 0) (hR : rm.frames + 1 ≤ R.frames ∧ 8 + (2 + 11) + rm.locals ≤ R.locals) (hf : cells + 0 ≤ R.cells ∧ slots + 0 ≤ R.slots) (d : decode cc pc = .ok (.invokevirtual 80, 3)) (hsz : ls.size = nL) (hro : (rest.map fun v => v.category).sum ≤ 8) (kk : ∀ (H1 : Heap) (locs1 : List Loc), TW D dA h u1 H1 → va_S (TA h) H0 H1 locs1 → W p l e R s m args below meth c H1 locs1 cells slots Q (F0 m (pc + 3) ls (.int r :: rest))) : W p l e R s m args below meth c H locs cells slots Q (F0 m pc ls (.int a1 :: .ref h :: rest)) :=
  mt_call (v := (some (.int r))) (va_runV (As := [.int a1]) (rest := rest) C.1 hM (cwV 1 C.1.2.2.2.2 (lw_V q1760 q1762 qs101 q177 q1763) rfl hrc hrs (by decide +kernel) hR) (mt_preV C.2 hT _) rfl rfl hsz rfl (lv_room hro) d hf) hS (fun _ z => z) (fun H1 locs1 a b _ _ => kk H1 locs1 a b)
set_option maxHeartbeats 4000000 in
set_option maxRecDepth 100000 in
theorem kX7_refuse {l : Launch} {D : va_G} {dA : Nat → ClassId} {h N : Nat} {u u1 : TS} {a1 : Int32} {r : Int32} (hE : fX7_refuse N u a1 = some (r, u1)) : Met l yX7_refuse (ws_ yX7_refuse cX7_refuse 2 (some .int)) ({ frames := 0, cells := 0, slots := 0, locals := 0 }) (va_Pc [.ref h, .int a1] (mt_B D dA h u)) (mt_Q D dA h (some (.int r)) u1) 0 0 (TA h) := by
  refine mt_met (by decide) rfl rfl rfl ?_
  intro p e s m args below meth c ls C hr hlocks hT hS hl
  have hx := C.1.1
  have hb := C.1.2.1
  unfold fX7_refuse at hE
  refine lv_aload_n hx hb dX7_refuse_0 rfl (lv_at hl 0 rfl) ?_
  refine tg_refusals C hT dX7_refuse_1 ?_
  refine lv_iload_n hx hb dX7_refuse_4 rfl (lv_at hl 1 rfl) ?_
  refine lv_ineg hx hb dX7_refuse_5 ?_
  refine lv_dup2_11 hx hb dX7_refuse_6 rfl rfl ?_
  refine tl_refusals C hT hE dX7_refuse_7 (fun hE => ?_)
  refine z_nmi hE (fun v1 hE => ?_)
  refine lv_iconst (v := (1 : Int32)) hx hb dX7_refuse_8 rfl ?_
  refine lv_iadd hx hb dX7_refuse_9 ?_
  refine ts_refusals C hT hS hE dX7_refuse_10 (fun u2 H locs hE hT hS => ?_)
  refine lv_iload_n hx hb dX7_refuse_11 rfl (lv_at hl 1 rfl) ?_
  exact mt_iret C hr hlocks hT hS hE dX7_refuse_12
set_option maxHeartbeats 4000000 in
set_option maxRecDepth 100000 in
theorem kX7_status {l : Launch} {D : va_G} {dA : Nat → ClassId} {h N : Nat} {u u1 : TS} {a1 : Int32} {r : Int32} (hE : fX7_status N u a1 = some (r, u1)) : Met l yX7_status (ws_ yX7_status cX7_status 2 (some .int)) ({ frames := 1, cells := 0, slots := 0, locals := 22 }) (va_Pc [.ref h, .int a1] (mt_B D dA h u)) (mt_Q D dA h (some (.int r)) u1) 0 0 (TA h) := by
  refine mt_met (by decide) rfl rfl rfl ?_
  intro p e s m args below meth c ls C hr hlocks hT hS hl
  have hx := C.1.1
  have hb := C.1.2.1
  have w_27 : ∀ (u : TS) (y0 : Int32) (H : Heap) (locs : List Loc) (ls : Array Slot), fX7_status_27 N u y0 = some (r, u1) → TW D dA h u H → va_S (TA h) s.heap H locs → lv_has ls 2 [] → W p l e { frames := 1, cells := 0, slots := 0, locals := 22 } s m args below meth c H locs 0 0 (MQ below (mt_Q D dA h (some (.int r)) u1) args s 0 0 (TA h)) (F0 m 27 ls [.int y0]) := by
    intro u y0 H locs ls hE hT hS hl
    unfold fX7_status_27 at hE
    exact mt_iret C hr hlocks hT hS hE dX7_status_27
  unfold fX7_status at hE
  refine lv_iload_n hx hb dX7_status_0 rfl (lv_at hl 1 rfl) ?_
  refine lv_bipush (v := (-8 : Int32)) hx hb dX7_status_1 rfl ?_
  refine lv_bipush (v := (-2 : Int32)) hx hb dX7_status_3 rfl ?_
  obtain ⟨r1, hc, hE⟩ := o_bd_some hE
  refine sc_X7_in C.1 (kX7_in hc) rfl rfl ⟨Nat.le_of_ble_eq_true rfl, Nat.le_of_ble_eq_true rfl⟩ ⟨Nat.le_refl 0, Nat.le_refl 0⟩ dX7_status_5 hl.1 (Nat.le_of_ble_eq_true rfl) ?_
  refine lv_if_eq (tgt := 21) hx hb dX7_status_8 (by decide) (fun c2 => ?_) (fun c2 => ?_)
  · have hE := z_t c2 hE
    refine lv_aload_n hx hb dX7_status_21 rfl (lv_at hl 0 rfl) ?_
    refine lv_bipush (v := (-7 : Int32)) hx hb dX7_status_22 rfl ?_
    obtain ⟨r4, u3, hc, hE⟩ := o_bd2_some hE
    refine tc_X7_refuse C hT hS (kX7_refuse hc) rfl rfl ⟨Nat.le_of_ble_eq_true rfl, Nat.le_of_ble_eq_true rfl⟩ ⟨Nat.le_refl 0, Nat.le_refl 0⟩ dX7_status_24 hl.1 (Nat.le_of_ble_eq_true rfl) (fun H locs hT hS => ?_)
    exact w_27 _ _ _ _ _ hE hT hS (lv_sub hl [] rfl)
  · have hE := z_f c2 hE
    refine lv_aload_n hx hb dX7_status_11 rfl (lv_at hl 0 rfl) ?_
    refine tg_refusals C hT dX7_status_12 ?_
    refine lv_iload_n hx hb dX7_status_15 rfl (lv_at hl 1 rfl) ?_
    refine lv_ineg hx hb dX7_status_16 ?_
    refine tl_refusals C hT hE dX7_status_17 (fun hE => ?_)
    refine z_nmi hE (fun v5 hE => ?_)
    refine lv_goto (tgt := 27) hx hb dX7_status_18 (by decide) ?_
    exact w_27 _ _ _ _ _ hE hT hS (lv_sub hl [] rfl)
set_option maxHeartbeats 4000000 in
set_option maxRecDepth 100000 in
theorem kX7_stand {l : Launch} {D : va_G} {dA : Nat → ClassId} {h N : Nat} {u u1 : TS} {a1 : Int32} {a2 : Int32} {a3 : Int32} {a4 : Int32} {r : Int32} (hE : fX7_stand N u a1 a2 a3 a4 = some (r, u1)) : Met l yX7_stand (ws_ yX7_stand cX7_stand 7 (some .int)) ({ frames := 1, cells := 0, slots := 0, locals := 22 }) (va_Pc [.ref h, .int a1, .int a2, .int a3, .int a4] (mt_B D dA h u)) (mt_Q D dA h (some (.int r)) u1) 0 0 (TA h) := by
  refine mt_met (by decide) rfl rfl rfl ?_
  intro p e s m args below meth c ls C hr hlocks hT hS hl
  have hx := C.1.1
  have hb := C.1.2.1
  have w_84 : ∀ (u : TS) (H : Heap) (locs : List Loc) (ls : Array Slot), fX7_stand_84 N u = some (r, u1) → TW D dA h u H → va_S (TA h) s.heap H locs → lv_has ls 7 [(0, .ref h)] → W p l e { frames := 1, cells := 0, slots := 0, locals := 22 } s m args below meth c H locs 0 0 (MQ below (mt_Q D dA h (some (.int r)) u1) args s 0 0 (TA h)) (F0 m 84 ls []) := by
    intro u H locs ls hE hT hS hl
    unfold fX7_stand_84 at hE
    refine lv_aload_n hx hb dX7_stand_84 rfl (lv_at hl 0 rfl) ?_
    refine lv_bipush (v := (-7 : Int32)) hx hb dX7_stand_85 rfl ?_
    obtain ⟨r2, u1, hc, hE⟩ := o_bd2_some hE
    refine tc_X7_refuse C hT hS (kX7_refuse hc) rfl rfl ⟨Nat.le_of_ble_eq_true rfl, Nat.le_of_ble_eq_true rfl⟩ ⟨Nat.le_refl 0, Nat.le_refl 0⟩ dX7_stand_87 hl.1 (Nat.le_of_ble_eq_true rfl) (fun H locs hT hS => ?_)
    exact mt_iret C hr hlocks hT hS hE dX7_stand_90
  have w_126 : ∀ (n : Nat) (u : TS) (x1 : Int32) (x2 : Int32) (x3 : Int32) (x4 : Int32) (x5 : Int32) (x6 : Int32) (H : Heap) (locs : List Loc) (ls : Array Slot), fX7_stand_126 N n u x1 x2 x3 x4 x5 x6 = some (r, u1) → TW D dA h u H → va_S (TA h) s.heap H locs → lv_has ls 7 [(0, .ref h), (1, .int x1), (2, .int x2), (3, .int x3), (4, .int x4), (5, .int x5), (6, .int x6)] → W p l e { frames := 1, cells := 0, slots := 0, locals := 22 } s m args below meth c H locs 0 0 (MQ below (mt_Q D dA h (some (.int r)) u1) args s 0 0 (TA h)) (F0 m 126 ls []) := by
    intro n
    induction n with
    | zero =>
      intro u x1 x2 x3 x4 x5 x6 H locs ls hE hT hS hl
      cases (show (none : Option (Int32 × TS)) = some (r, u1) from hE)
    | succ n ih =>
      intro u x1 x2 x3 x4 x5 x6 H locs ls hE hT hS hl
      rw [fX7_stand_126] at hE
      refine lv_iload hx hb dX7_stand_126 (lv_at hl 6 rfl) ?_
      refine lv_bipush (v := (14 : Int32)) hx hb dX7_stand_128 rfl ?_
      refine lv_icmp_ge (tgt := 150) hx hb dX7_stand_130 (by decide) (fun c3 => ?_) (fun c3 => ?_)
      · have hE := z_t c3 hE
        refine lv_aload_n hx hb dX7_stand_150 rfl (lv_at hl 0 rfl) ?_
        refine tg_s C hT dX7_stand_151 ?_
        refine lv_iload hx hb dX7_stand_154 (lv_at hl 5 rfl) ?_
        refine lv_iconst (v := (3 : Int32)) hx hb dX7_stand_156 rfl ?_
        refine lv_iadd hx hb dX7_stand_157 ?_
        refine lv_iload_n hx hb dX7_stand_158 rfl (lv_at hl 1 rfl) ?_
        refine lv_sipush (v := (1000 : Int32)) hx hb dX7_stand_159 rfl ?_
        refine lv_idiv hx hb dX7_stand_162 (by decide) ?_
        refine ts_s C hT hS hE dX7_stand_163 (fun u4 H locs hE hT hS => ?_)
        refine lv_aload_n hx hb dX7_stand_164 rfl (lv_at hl 0 rfl) ?_
        refine tg_s C hT dX7_stand_165 ?_
        refine lv_iload hx hb dX7_stand_168 (lv_at hl 5 rfl) ?_
        refine lv_iconst (v := (0 : Int32)) hx hb dX7_stand_170 rfl ?_
        refine lv_iadd hx hb dX7_stand_171 ?_
        refine lv_iload_n hx hb dX7_stand_172 rfl (lv_at hl 1 rfl) ?_
        refine lv_bipush (v := (100 : Int32)) hx hb dX7_stand_173 rfl ?_
        refine lv_idiv hx hb dX7_stand_175 (by decide) ?_
        refine lv_bipush (v := (10 : Int32)) hx hb dX7_stand_176 rfl ?_
        refine lv_irem hx hb dX7_stand_178 (by decide) ?_
        refine ts_s C hT hS hE dX7_stand_179 (fun u5 H locs hE hT hS => ?_)
        refine lv_aload_n hx hb dX7_stand_180 rfl (lv_at hl 0 rfl) ?_
        refine tg_s C hT dX7_stand_181 ?_
        refine lv_iload hx hb dX7_stand_184 (lv_at hl 5 rfl) ?_
        refine lv_iconst (v := (1 : Int32)) hx hb dX7_stand_186 rfl ?_
        refine lv_iadd hx hb dX7_stand_187 ?_
        refine lv_iload_n hx hb dX7_stand_188 rfl (lv_at hl 1 rfl) ?_
        refine lv_bipush (v := (10 : Int32)) hx hb dX7_stand_189 rfl ?_
        refine lv_idiv hx hb dX7_stand_191 (by decide) ?_
        refine lv_bipush (v := (10 : Int32)) hx hb dX7_stand_192 rfl ?_
        refine lv_irem hx hb dX7_stand_194 (by decide) ?_
        refine ts_s C hT hS hE dX7_stand_195 (fun u6 H locs hE hT hS => ?_)
        refine lv_aload_n hx hb dX7_stand_196 rfl (lv_at hl 0 rfl) ?_
        refine tg_s C hT dX7_stand_197 ?_
        refine lv_iload hx hb dX7_stand_200 (lv_at hl 5 rfl) ?_
        refine lv_iconst (v := (2 : Int32)) hx hb dX7_stand_202 rfl ?_
        refine lv_iadd hx hb dX7_stand_203 ?_
        refine lv_iload_n hx hb dX7_stand_204 rfl (lv_at hl 1 rfl) ?_
        refine lv_bipush (v := (10 : Int32)) hx hb dX7_stand_205 rfl ?_
        refine lv_irem hx hb dX7_stand_207 (by decide) ?_
        refine ts_s C hT hS hE dX7_stand_208 (fun u7 H locs hE hT hS => ?_)
        refine lv_aload_n hx hb dX7_stand_209 rfl (lv_at hl 0 rfl) ?_
        refine tg_s C hT dX7_stand_210 ?_
        refine lv_iload hx hb dX7_stand_213 (lv_at hl 5 rfl) ?_
        refine lv_iconst (v := (4 : Int32)) hx hb dX7_stand_215 rfl ?_
        refine lv_iadd hx hb dX7_stand_216 ?_
        refine lv_iload_n hx hb dX7_stand_217 rfl (lv_at hl 2 rfl) ?_
        refine ts_s C hT hS hE dX7_stand_218 (fun u8 H locs hE hT hS => ?_)
        refine lv_aload_n hx hb dX7_stand_219 rfl (lv_at hl 0 rfl) ?_
        refine tg_s C hT dX7_stand_220 ?_
        refine lv_iload hx hb dX7_stand_223 (lv_at hl 5 rfl) ?_
        refine lv_iconst (v := (5 : Int32)) hx hb dX7_stand_225 rfl ?_
        refine lv_iadd hx hb dX7_stand_226 ?_
        refine lv_iload_n hx hb dX7_stand_227 rfl (lv_at hl 3 rfl) ?_
        refine ts_s C hT hS hE dX7_stand_228 (fun u9 H locs hE hT hS => ?_)
        refine lv_aload_n hx hb dX7_stand_229 rfl (lv_at hl 0 rfl) ?_
        refine tg_s C hT dX7_stand_230 ?_
        refine lv_iload hx hb dX7_stand_233 (lv_at hl 5 rfl) ?_
        refine lv_bipush (v := (6 : Int32)) hx hb dX7_stand_235 rfl ?_
        refine lv_iadd hx hb dX7_stand_237 ?_
        refine lv_iload hx hb dX7_stand_238 (lv_at hl 4 rfl) ?_
        refine ts_s C hT hS hE dX7_stand_240 (fun u10 H locs hE hT hS => ?_)
        refine lv_aload_n hx hb dX7_stand_241 rfl (lv_at hl 0 rfl) ?_
        refine tg_s C hT dX7_stand_242 ?_
        refine lv_iload hx hb dX7_stand_245 (lv_at hl 5 rfl) ?_
        refine lv_bipush (v := (9 : Int32)) hx hb dX7_stand_247 rfl ?_
        refine lv_iadd hx hb dX7_stand_249 ?_
        refine lv_iconst (v := (-1 : Int32)) hx hb dX7_stand_250 rfl ?_
        refine ts_s C hT hS hE dX7_stand_251 (fun u11 H locs hE hT hS => ?_)
        refine lv_aload_n hx hb dX7_stand_252 rfl (lv_at hl 0 rfl) ?_
        refine tg_s C hT dX7_stand_253 ?_
        refine lv_iload hx hb dX7_stand_256 (lv_at hl 5 rfl) ?_
        refine lv_bipush (v := (10 : Int32)) hx hb dX7_stand_258 rfl ?_
        refine lv_iadd hx hb dX7_stand_260 ?_
        refine lv_iconst (v := (-1 : Int32)) hx hb dX7_stand_261 rfl ?_
        refine ts_s C hT hS hE dX7_stand_262 (fun u12 H locs hE hT hS => ?_)
        refine lv_aload_n hx hb dX7_stand_263 rfl (lv_at hl 0 rfl) ?_
        refine tg_s C hT dX7_stand_264 ?_
        refine lv_iconst (v := (1 : Int32)) hx hb dX7_stand_267 rfl ?_
        refine lv_dup2_11 hx hb dX7_stand_268 rfl rfl ?_
        refine tl_s C hT hE dX7_stand_269 (fun hE => ?_)
        refine z_nmi hE (fun v13 hE => ?_)
        refine lv_iconst (v := (1 : Int32)) hx hb dX7_stand_270 rfl ?_
        refine lv_iadd hx hb dX7_stand_271 ?_
        refine ts_s C hT hS hE dX7_stand_272 (fun u14 H locs hE hT hS => ?_)
        refine lv_aload_n hx hb dX7_stand_273 rfl (lv_at hl 0 rfl) ?_
        refine tg_s C hT dX7_stand_274 ?_
        refine lv_iconst (v := (1 : Int32)) hx hb dX7_stand_277 rfl ?_
        refine tl_s C hT hE dX7_stand_278 (fun hE => ?_)
        refine z_nmi hE (fun v15 hE => ?_)
        refine lv_iconst (v := (1 : Int32)) hx hb dX7_stand_279 rfl ?_
        refine lv_isub hx hb dX7_stand_280 ?_
        exact mt_iret C hr hlocks hT hS hE dX7_stand_281
      · have hE := z_f c3 hE
        refine lv_aload_n hx hb dX7_stand_133 rfl (lv_at hl 0 rfl) ?_
        refine tg_s C hT dX7_stand_134 ?_
        refine lv_iload hx hb dX7_stand_137 (lv_at hl 5 rfl) ?_
        refine lv_iload hx hb dX7_stand_139 (lv_at hl 6 rfl) ?_
        refine lv_iadd hx hb dX7_stand_141 ?_
        refine lv_iconst (v := (0 : Int32)) hx hb dX7_stand_142 rfl ?_
        refine ts_s C hT hS hE dX7_stand_143 (fun u16 H locs hE hT hS => ?_)
        refine z_iinc (v := (x6 + (1 : Int32))) (lw := (fun y_ => [(6, .int y_), (0, .ref h), (1, .int x1), (2, .int x2), (3, .int x3), (4, .int x4), (5, .int x5)])) hx hb dX7_stand_144 hl hE (k := 6) rfl rfl (by decide) (fun _ => rfl) (fun z17 ls hE hl => ?_)
        refine lv_goto (tgt := 126) hx hb dX7_stand_147 (by decide) ?_
        exact ih _ _ _ _ _ _ _ _ _ _ hE hT hS (lv_sub hl [1, 2, 3, 4, 5, 6, 0] rfl)
  have w_91 : ∀ (u : TS) (x1 : Int32) (x2 : Int32) (x3 : Int32) (x4 : Int32) (H : Heap) (locs : List Loc) (ls : Array Slot), fX7_stand_91 N u x1 x2 x3 x4 = some (r, u1) → TW D dA h u H → va_S (TA h) s.heap H locs → lv_has ls 7 [(0, .ref h), (1, .int x1), (2, .int x2), (3, .int x3), (4, .int x4)] → W p l e { frames := 1, cells := 0, slots := 0, locals := 22 } s m args below meth c H locs 0 0 (MQ below (mt_Q D dA h (some (.int r)) u1) args s 0 0 (TA h)) (F0 m 91 ls []) := by
    intro u x1 x2 x3 x4 H locs ls hE hT hS hl
    unfold fX7_stand_91 at hE
    refine lv_aload_n hx hb dX7_stand_91 rfl (lv_at hl 0 rfl) ?_
    refine tg_s C hT dX7_stand_92 ?_
    refine lv_iconst (v := (1 : Int32)) hx hb dX7_stand_95 rfl ?_
    refine tl_s C hT hE dX7_stand_96 (fun hE => ?_)
    refine z_nmi hE (fun v18 hE => ?_)
    refine lv_bipush (v := (24 : Int32)) hx hb dX7_stand_97 rfl ?_
    refine lv_icmp_ne (tgt := 109) hx hb dX7_stand_99 (by decide) (fun c19 => ?_) (fun c19 => ?_)
    · have hE := z_f c19 hE
      refine lv_bipush (v := (16 : Int32)) hx hb dX7_stand_109 rfl ?_
      refine lv_bipush (v := (14 : Int32)) hx hb dX7_stand_111 rfl ?_
      refine lv_aload_n hx hb dX7_stand_113 rfl (lv_at hl 0 rfl) ?_
      refine tg_s C hT dX7_stand_114 ?_
      refine lv_iconst (v := (1 : Int32)) hx hb dX7_stand_117 rfl ?_
      refine tl_s C hT hE dX7_stand_118 (fun hE => ?_)
      refine z_nmi hE (fun v20 hE => ?_)
      refine lv_imul hx hb dX7_stand_119 ?_
      refine lv_iadd hx hb dX7_stand_120 ?_
      refine z_nmi hE (fun z21 hE => ?_)
      refine lv_istore (lv' := [(5, .int z21), (0, .ref h), (1, .int x1), (2, .int x2), (3, .int x3), (4, .int x4)]) hx hb dX7_stand_121 hl (by decide) rfl (fun ls hl => ?_)
      refine lv_iconst (v := (0 : Int32)) hx hb dX7_stand_123 rfl ?_
      refine lv_istore (lv' := [(6, .int (0 : Int32)), (5, .int z21), (0, .ref h), (1, .int x1), (2, .int x2), (3, .int x3), (4, .int x4)]) hx hb dX7_stand_124 hl (by decide) rfl (fun ls hl => ?_)
      exact w_126 N _ _ _ _ _ _ _ _ _ _ hE hT hS (lv_sub hl [2, 3, 4, 5, 6, 1, 0] rfl)
    · have hE := z_t c19 hE
      refine lv_aload_n hx hb dX7_stand_102 rfl (lv_at hl 0 rfl) ?_
      refine lv_bipush (v := (-8 : Int32)) hx hb dX7_stand_103 rfl ?_
      obtain ⟨r23, u22, hc, hE⟩ := o_bd2_some hE
      refine tc_X7_refuse C hT hS (kX7_refuse hc) rfl rfl ⟨Nat.le_of_ble_eq_true rfl, Nat.le_of_ble_eq_true rfl⟩ ⟨Nat.le_refl 0, Nat.le_refl 0⟩ dX7_stand_105 hl.1 (Nat.le_of_ble_eq_true rfl) (fun H locs hT hS => ?_)
      exact mt_iret C hr hlocks hT hS hE dX7_stand_108
  unfold fX7_stand at hE
  refine lv_iload_n hx hb dX7_stand_0 rfl (lv_at hl 1 rfl) ?_
  refine lv_iconst (v := (0 : Int32)) hx hb dX7_stand_1 rfl ?_
  refine lv_sipush (v := (1999 : Int32)) hx hb dX7_stand_2 rfl ?_
  obtain ⟨r24, hc, hE⟩ := o_bd_some hE
  refine sc_X7_in C.1 (kX7_in hc) rfl rfl ⟨Nat.le_of_ble_eq_true rfl, Nat.le_of_ble_eq_true rfl⟩ ⟨Nat.le_refl 0, Nat.le_refl 0⟩ dX7_stand_5 hl.1 (Nat.le_of_ble_eq_true rfl) ?_
  refine lv_if_eq (tgt := 84) hx hb dX7_stand_8 (by decide) (fun c25 => ?_) (fun c25 => ?_)
  · have hE := z_t c25 hE
    exact w_84 _ _ _ _ hE hT hS (lv_sub hl [0] rfl)
  · have hE := z_f c25 hE
    refine lv_iload_n hx hb dX7_stand_11 rfl (lv_at hl 1 rfl) ?_
    refine lv_bipush (v := (100 : Int32)) hx hb dX7_stand_12 rfl ?_
    refine lv_idiv hx hb dX7_stand_14 (by decide) ?_
    refine lv_bipush (v := (10 : Int32)) hx hb dX7_stand_15 rfl ?_
    refine lv_irem hx hb dX7_stand_17 (by decide) ?_
    refine lv_bipush (v := (6 : Int32)) hx hb dX7_stand_18 rfl ?_
    refine lv_icmp_ge (tgt := 84) hx hb dX7_stand_20 (by decide) (fun c26 => ?_) (fun c26 => ?_)
    · have hE := z_t c26 hE
      exact w_84 _ _ _ _ hE hT hS (lv_sub hl [0] rfl)
    · have hE := z_f c26 hE
      refine lv_iload_n hx hb dX7_stand_23 rfl (lv_at hl 1 rfl) ?_
      refine lv_bipush (v := (10 : Int32)) hx hb dX7_stand_24 rfl ?_
      refine lv_idiv hx hb dX7_stand_26 (by decide) ?_
      refine lv_bipush (v := (10 : Int32)) hx hb dX7_stand_27 rfl ?_
      refine lv_irem hx hb dX7_stand_29 (by decide) ?_
      refine lv_iconst (v := (4 : Int32)) hx hb dX7_stand_30 rfl ?_
      refine lv_icmp_gt (tgt := 84) hx hb dX7_stand_31 (by decide) (fun c27 => ?_) (fun c27 => ?_)
      · have hE := z_t c27 hE
        exact w_84 _ _ _ _ hE hT hS (lv_sub hl [0] rfl)
      · have hE := z_f c27 hE
        refine lv_iload_n hx hb dX7_stand_34 rfl (lv_at hl 1 rfl) ?_
        refine lv_bipush (v := (10 : Int32)) hx hb dX7_stand_35 rfl ?_
        refine lv_irem hx hb dX7_stand_37 (by decide) ?_
        refine lv_iconst (v := (3 : Int32)) hx hb dX7_stand_38 rfl ?_
        refine lv_icmp_gt (tgt := 84) hx hb dX7_stand_39 (by decide) (fun c28 => ?_) (fun c28 => ?_)
        · have hE := z_t c28 hE
          exact w_84 _ _ _ _ hE hT hS (lv_sub hl [0] rfl)
        · have hE := z_f c28 hE
          refine lv_iload_n hx hb dX7_stand_42 rfl (lv_at hl 2 rfl) ?_
          refine lv_iconst (v := (1 : Int32)) hx hb dX7_stand_43 rfl ?_
          refine lv_sipush (v := (999 : Int32)) hx hb dX7_stand_44 rfl ?_
          obtain ⟨r29, hc, hE⟩ := o_bd_some hE
          refine sc_X7_in C.1 (kX7_in hc) rfl rfl ⟨Nat.le_of_ble_eq_true rfl, Nat.le_of_ble_eq_true rfl⟩ ⟨Nat.le_refl 0, Nat.le_refl 0⟩ dX7_stand_47 hl.1 (Nat.le_of_ble_eq_true rfl) ?_
          refine lv_if_eq (tgt := 84) hx hb dX7_stand_50 (by decide) (fun c30 => ?_) (fun c30 => ?_)
          · have hE := z_t c30 hE
            exact w_84 _ _ _ _ hE hT hS (lv_sub hl [0] rfl)
          · have hE := z_f c30 hE
            refine lv_iload_n hx hb dX7_stand_53 rfl (lv_at hl 3 rfl) ?_
            refine lv_iconst (v := (0 : Int32)) hx hb dX7_stand_54 rfl ?_
            refine lv_sipush (v := (400 : Int32)) hx hb dX7_stand_55 rfl ?_
            obtain ⟨r31, hc, hE⟩ := o_bd_some hE
            refine sc_X7_in C.1 (kX7_in hc) rfl rfl ⟨Nat.le_of_ble_eq_true rfl, Nat.le_of_ble_eq_true rfl⟩ ⟨Nat.le_refl 0, Nat.le_refl 0⟩ dX7_stand_58 hl.1 (Nat.le_of_ble_eq_true rfl) ?_
            refine lv_if_eq (tgt := 84) hx hb dX7_stand_61 (by decide) (fun c32 => ?_) (fun c32 => ?_)
            · have hE := z_t c32 hE
              exact w_84 _ _ _ _ hE hT hS (lv_sub hl [0] rfl)
            · have hE := z_f c32 hE
              refine lv_iload hx hb dX7_stand_64 (lv_at hl 4 rfl) ?_
              refine lv_iconst (v := (0 : Int32)) hx hb dX7_stand_66 rfl ?_
              refine lv_bipush (v := (100 : Int32)) hx hb dX7_stand_67 rfl ?_
              obtain ⟨r33, hc, hE⟩ := o_bd_some hE
              refine sc_X7_in C.1 (kX7_in hc) rfl rfl ⟨Nat.le_of_ble_eq_true rfl, Nat.le_of_ble_eq_true rfl⟩ ⟨Nat.le_refl 0, Nat.le_refl 0⟩ dX7_stand_69 hl.1 (Nat.le_of_ble_eq_true rfl) ?_
              refine lv_if_eq (tgt := 84) hx hb dX7_stand_72 (by decide) (fun c34 => ?_) (fun c34 => ?_)
              · have hE := z_t c34 hE
                exact w_84 _ _ _ _ hE hT hS (lv_sub hl [0] rfl)
              · have hE := z_f c34 hE
                refine lv_iload hx hb dX7_stand_75 (lv_at hl 4 rfl) ?_
                refine lv_if_ne (tgt := 91) hx hb dX7_stand_77 (by decide) (fun c35 => ?_) (fun c35 => ?_)
                · have hE := z_f c35 hE
                  exact w_91 _ _ _ _ _ _ _ _ hE hT hS (lv_sub hl [0, 1, 2, 3, 4] rfl)
                · have hE := z_t c35 hE
                  refine lv_iload_n hx hb dX7_stand_80 rfl (lv_at hl 3 rfl) ?_
                  refine lv_if_le (tgt := 91) hx hb dX7_stand_81 (by decide) (fun c36 => ?_) (fun c36 => ?_)
                  · have hE := z_t c36 hE
                    exact w_91 _ _ _ _ _ _ _ _ hE hT hS (lv_sub hl [0, 1, 2, 3, 4] rfl)
                  · have hE := z_f c36 hE
                    exact w_84 _ _ _ _ hE hT hS (lv_sub hl [0] rfl)
theorem tc_X7_isStand {a1 : Int32} {r : Int32} {u u1 : TS} {rm : Room} (C : TC p m c cc nL s args D dA) (hT : TW D dA h u H) (hS : va_S (TA h) H0 H locs) (hM : Met l yX7_isStand (ws_ yX7_isStand cX7_isStand 2 (some .boolean)) rm (va_Pc [.ref h, .int a1] (mt_B D dA h u)) (mt_Q D dA h (some (.int r)) u1) 0 0 (TA h)) (hrc : rm.cells = 0) (hrs : rm.slots = 0) (hR : rm.frames + 1 ≤ R.frames ∧ 8 + (2 + 11) + rm.locals ≤ R.locals) (hf : cells + 0 ≤ R.cells ∧ slots + 0 ≤ R.slots) (d : decode cc pc = .ok (.invokevirtual 118, 3)) (hsz : ls.size = nL) (hro : (rest.map fun v => v.category).sum ≤ 8) (kk : ∀ (H1 : Heap) (locs1 : List Loc), TW D dA h u1 H1 → va_S (TA h) H0 H1 locs1 → W p l e R s m args below meth c H1 locs1 cells slots Q (F0 m (pc + 3) ls (.int r :: rest))) : W p l e R s m args below meth c H locs cells slots Q (F0 m pc ls (.int a1 :: .ref h :: rest)) :=
  mt_call (v := (some (.int r))) (va_runV (As := [.int a1]) (rest := rest) C.1 hM (cwV 1 C.1.2.2.2.2 (lw_V q1772 q1774 qs102 q177 q1775) rfl hrc hrs (by decide +kernel) hR) (mt_preV C.2 hT _) rfl rfl hsz rfl (lv_room hro) d hf) hS (fun _ z => z) (fun H1 locs1 a b _ _ => kk H1 locs1 a b)
set_option maxHeartbeats 4000000 in
set_option maxRecDepth 100000 in
theorem kX7_isStand {l : Launch} {D : va_G} {dA : Nat → ClassId} {h N : Nat} {u u1 : TS} {a1 : Int32} {r : Int32} (hE : fX7_isStand N u a1 = some (r, u1)) : Met l yX7_isStand (ws_ yX7_isStand cX7_isStand 2 (some .boolean)) ({ frames := 1, cells := 0, slots := 0, locals := 22 }) (va_Pc [.ref h, .int a1] (mt_B D dA h u)) (mt_Q D dA h (some (.int r)) u1) 0 0 (TA h) := by
  refine mt_met (by decide) rfl rfl rfl ?_
  intro p e s m args below meth c ls C hr hlocks hT hS hl
  have hx := C.1.1
  have hb := C.1.2.1
  unfold fX7_isStand at hE
  refine lv_iload_n hx hb dX7_isStand_0 rfl (lv_at hl 1 rfl) ?_
  refine lv_iconst (v := (0 : Int32)) hx hb dX7_isStand_1 rfl ?_
  refine lv_aload_n hx hb dX7_isStand_2 rfl (lv_at hl 0 rfl) ?_
  refine tg_s C hT dX7_isStand_3 ?_
  refine lv_iconst (v := (1 : Int32)) hx hb dX7_isStand_6 rfl ?_
  refine tl_s C hT hE dX7_isStand_7 (fun hE => ?_)
  refine z_nmi hE (fun v1 hE => ?_)
  refine lv_iconst (v := (1 : Int32)) hx hb dX7_isStand_8 rfl ?_
  refine lv_isub hx hb dX7_isStand_9 ?_
  obtain ⟨r2, hc, hE⟩ := o_bd_some hE
  refine sc_X7_in C.1 (kX7_in hc) rfl rfl ⟨Nat.le_of_ble_eq_true rfl, Nat.le_of_ble_eq_true rfl⟩ ⟨Nat.le_refl 0, Nat.le_refl 0⟩ dX7_isStand_10 hl.1 (Nat.le_of_ble_eq_true rfl) ?_
  obtain ⟨hb1, hE⟩ := o_bl_some hE
  exact mt_zret C hr hlocks hT hS hb1 hE dX7_isStand_13
theorem tc_X7_areNear {a1 : Int32} {a2 : Int32} {r : Int32} {u u1 : TS} {rm : Room} (C : TC p m c cc nL s args D dA) (hT : TW D dA h u H) (hS : va_S (TA h) H0 H locs) (hM : Met l yX7_areNear (ws_ yX7_areNear cX7_areNear 3 (some .boolean)) rm (va_Pc [.ref h, .int a1, .int a2] (mt_B D dA h u)) (mt_Q D dA h (some (.int r)) u1) 0 0 (TA h)) (hrc : rm.cells = 0) (hrs : rm.slots = 0) (hR : rm.frames + 1 ≤ R.frames ∧ 8 + (3 + 11) + rm.locals ≤ R.locals) (hf : cells + 0 ≤ R.cells ∧ slots + 0 ≤ R.slots) (d : decode cc pc = .ok (.invokevirtual 122, 3)) (hsz : ls.size = nL) (hro : (rest.map fun v => v.category).sum ≤ 8) (kk : ∀ (H1 : Heap) (locs1 : List Loc), TW D dA h u1 H1 → va_S (TA h) H0 H1 locs1 → W p l e R s m args below meth c H1 locs1 cells slots Q (F0 m (pc + 3) ls (.int r :: rest))) : W p l e R s m args below meth c H locs cells slots Q (F0 m pc ls (.int a2 :: .int a1 :: .ref h :: rest)) :=
  mt_call (v := (some (.int r))) (va_runV (As := [.int a1, .int a2]) (rest := rest) C.1 hM (cwV 2 C.1.2.2.2.2 (lw_V q1776 q1778 qs103 q177 q1779) rfl hrc hrs (by decide +kernel) hR) (mt_preV C.2 hT _) rfl rfl hsz rfl (lv_room hro) d hf) hS (fun _ z => z) (fun H1 locs1 a b _ _ => kk H1 locs1 a b)
set_option maxHeartbeats 4000000 in
set_option maxRecDepth 100000 in
theorem kX7_areNear {l : Launch} {D : va_G} {dA : Nat → ClassId} {h N : Nat} {u u1 : TS} {a1 : Int32} {a2 : Int32} {r : Int32} (hE : fX7_areNear N u a1 a2 = some (r, u1)) : Met l yX7_areNear (ws_ yX7_areNear cX7_areNear 3 (some .boolean)) ({ frames := 0, cells := 0, slots := 0, locals := 0 }) (va_Pc [.ref h, .int a1, .int a2] (mt_B D dA h u)) (mt_Q D dA h (some (.int r)) u1) 0 0 (TA h) := by
  refine mt_met (by decide) rfl rfl rfl ?_
  intro p e s m args below meth c ls C hr hlocks hT hS hl
  have hx := C.1.1
  have hb := C.1.2.1
  have w_24 : ∀ (u : TS) (y0 : Int32) (H : Heap) (locs : List Loc) (ls : Array Slot), fX7_areNear_24 N u y0 = some (r, u1) → TW D dA h u H → va_S (TA h) s.heap H locs → lv_has ls 3 [] → W p l e { frames := 0, cells := 0, slots := 0, locals := 0 } s m args below meth c H locs 0 0 (MQ below (mt_Q D dA h (some (.int r)) u1) args s 0 0 (TA h)) (F0 m 24 ls [.int y0]) := by
    intro u y0 H locs ls hE hT hS hl
    unfold fX7_areNear_24 at hE
    obtain ⟨hb1, hE⟩ := o_bl_some hE
    exact mt_zret C hr hlocks hT hS hb1 hE dX7_areNear_24
  unfold fX7_areNear at hE
  refine lv_aload_n hx hb dX7_areNear_0 rfl (lv_at hl 0 rfl) ?_
  refine tg_s C hT dX7_areNear_1 ?_
  refine lv_sipush (v := (352 : Int32)) hx hb dX7_areNear_4 rfl ?_
  refine lv_bipush (v := (24 : Int32)) hx hb dX7_areNear_7 rfl ?_
  refine lv_iload_n hx hb dX7_areNear_9 rfl (lv_at hl 1 rfl) ?_
  refine lv_imul hx hb dX7_areNear_10 ?_
  refine lv_iadd hx hb dX7_areNear_11 ?_
  refine lv_iload_n hx hb dX7_areNear_12 rfl (lv_at hl 2 rfl) ?_
  refine lv_iadd hx hb dX7_areNear_13 ?_
  refine tl_s C hT hE dX7_areNear_14 (fun hE => ?_)
  refine z_nmi hE (fun v1 hE => ?_)
  refine lv_iconst (v := (1 : Int32)) hx hb dX7_areNear_15 rfl ?_
  refine lv_icmp_ne (tgt := 23) hx hb dX7_areNear_16 (by decide) (fun c2 => ?_) (fun c2 => ?_)
  · have hE := z_f c2 hE
    refine lv_iconst (v := (0 : Int32)) hx hb dX7_areNear_23 rfl ?_
    exact w_24 _ _ _ _ _ hE hT hS (lv_sub hl [] rfl)
  · have hE := z_t c2 hE
    refine lv_iconst (v := (1 : Int32)) hx hb dX7_areNear_19 rfl ?_
    refine lv_goto (tgt := 24) hx hb dX7_areNear_20 (by decide) ?_
    exact w_24 _ _ _ _ _ hE hT hS (lv_sub hl [] rfl)
set_option maxHeartbeats 4000000 in
set_option maxRecDepth 100000 in
theorem kX7_neighbours {l : Launch} {D : va_G} {dA : Nat → ClassId} {h N : Nat} {u u1 : TS} {a1 : Int32} {a2 : Int32} {r : Int32} (hE : fX7_neighbours N u a1 a2 = some (r, u1)) : Met l yX7_neighbours (ws_ yX7_neighbours cX7_neighbours 3 (some .int)) ({ frames := 2, cells := 0, slots := 0, locals := 43 }) (va_Pc [.ref h, .int a1, .int a2] (mt_B D dA h u)) (mt_Q D dA h (some (.int r)) u1) 0 0 (TA h) := by
  refine mt_met (by decide) rfl rfl rfl ?_
  intro p e s m args below meth c ls C hr hlocks hT hS hl
  have hx := C.1.1
  have hb := C.1.2.1
  have w_16 : ∀ (u : TS) (H : Heap) (locs : List Loc) (ls : Array Slot), fX7_neighbours_16 N u = some (r, u1) → TW D dA h u H → va_S (TA h) s.heap H locs → lv_has ls 3 [(0, .ref h)] → W p l e { frames := 2, cells := 0, slots := 0, locals := 43 } s m args below meth c H locs 0 0 (MQ below (mt_Q D dA h (some (.int r)) u1) args s 0 0 (TA h)) (F0 m 16 ls []) := by
    intro u H locs ls hE hT hS hl
    unfold fX7_neighbours_16 at hE
    refine lv_aload_n hx hb dX7_neighbours_16 rfl (lv_at hl 0 rfl) ?_
    refine lv_bipush (v := (-3 : Int32)) hx hb dX7_neighbours_17 rfl ?_
    obtain ⟨r2, u1, hc, hE⟩ := o_bd2_some hE
    refine tc_X7_refuse C hT hS (kX7_refuse hc) rfl rfl ⟨Nat.le_of_ble_eq_true rfl, Nat.le_of_ble_eq_true rfl⟩ ⟨Nat.le_refl 0, Nat.le_refl 0⟩ dX7_neighbours_19 hl.1 (Nat.le_of_ble_eq_true rfl) (fun H locs hT hS => ?_)
    exact mt_iret C hr hlocks hT hS hE dX7_neighbours_22
  have w_37 : ∀ (u : TS) (H : Heap) (locs : List Loc) (ls : Array Slot), fX7_neighbours_37 N u = some (r, u1) → TW D dA h u H → va_S (TA h) s.heap H locs → lv_has ls 3 [(0, .ref h)] → W p l e { frames := 2, cells := 0, slots := 0, locals := 43 } s m args below meth c H locs 0 0 (MQ below (mt_Q D dA h (some (.int r)) u1) args s 0 0 (TA h)) (F0 m 37 ls []) := by
    intro u H locs ls hE hT hS hl
    unfold fX7_neighbours_37 at hE
    refine lv_aload_n hx hb dX7_neighbours_37 rfl (lv_at hl 0 rfl) ?_
    refine lv_bipush (v := (-7 : Int32)) hx hb dX7_neighbours_38 rfl ?_
    obtain ⟨r4, u3, hc, hE⟩ := o_bd2_some hE
    refine tc_X7_refuse C hT hS (kX7_refuse hc) rfl rfl ⟨Nat.le_of_ble_eq_true rfl, Nat.le_of_ble_eq_true rfl⟩ ⟨Nat.le_refl 0, Nat.le_refl 0⟩ dX7_neighbours_40 hl.1 (Nat.le_of_ble_eq_true rfl) (fun H locs hT hS => ?_)
    exact mt_iret C hr hlocks hT hS hE dX7_neighbours_43
  unfold fX7_neighbours at hE
  refine lv_aload_n hx hb dX7_neighbours_0 rfl (lv_at hl 0 rfl) ?_
  refine lv_iload_n hx hb dX7_neighbours_1 rfl (lv_at hl 1 rfl) ?_
  obtain ⟨r6, u5, hc, hE⟩ := o_bd2_some hE
  refine tc_X7_isStand C hT hS (kX7_isStand hc) rfl rfl ⟨Nat.le_of_ble_eq_true rfl, Nat.le_of_ble_eq_true rfl⟩ ⟨Nat.le_refl 0, Nat.le_refl 0⟩ dX7_neighbours_2 hl.1 (Nat.le_of_ble_eq_true rfl) (fun H locs hT hS => ?_)
  refine lv_if_eq (tgt := 16) hx hb dX7_neighbours_5 (by decide) (fun c7 => ?_) (fun c7 => ?_)
  · have hE := z_t c7 hE
    exact w_16 _ _ _ _ hE hT hS (lv_sub hl [0] rfl)
  · have hE := z_f c7 hE
    refine lv_aload_n hx hb dX7_neighbours_8 rfl (lv_at hl 0 rfl) ?_
    refine lv_iload_n hx hb dX7_neighbours_9 rfl (lv_at hl 2 rfl) ?_
    obtain ⟨r9, u8, hc, hE⟩ := o_bd2_some hE
    refine tc_X7_isStand C hT hS (kX7_isStand hc) rfl rfl ⟨Nat.le_of_ble_eq_true rfl, Nat.le_of_ble_eq_true rfl⟩ ⟨Nat.le_refl 0, Nat.le_refl 0⟩ dX7_neighbours_10 hl.1 (Nat.le_of_ble_eq_true rfl) (fun H locs hT hS => ?_)
    refine lv_if_ne (tgt := 23) hx hb dX7_neighbours_13 (by decide) (fun c10 => ?_) (fun c10 => ?_)
    · have hE := z_f c10 hE
      refine lv_iload_n hx hb dX7_neighbours_23 rfl (lv_at hl 1 rfl) ?_
      refine lv_iload_n hx hb dX7_neighbours_24 rfl (lv_at hl 2 rfl) ?_
      refine lv_icmp_eq (tgt := 37) hx hb dX7_neighbours_25 (by decide) (fun c11 => ?_) (fun c11 => ?_)
      · have hE := z_t c11 hE
        exact w_37 _ _ _ _ hE hT hS (lv_sub hl [0] rfl)
      · have hE := z_f c11 hE
        refine lv_aload_n hx hb dX7_neighbours_28 rfl (lv_at hl 0 rfl) ?_
        refine lv_iload_n hx hb dX7_neighbours_29 rfl (lv_at hl 1 rfl) ?_
        refine lv_iload_n hx hb dX7_neighbours_30 rfl (lv_at hl 2 rfl) ?_
        obtain ⟨r13, u12, hc, hE⟩ := o_bd2_some hE
        refine tc_X7_areNear C hT hS (kX7_areNear hc) rfl rfl ⟨Nat.le_of_ble_eq_true rfl, Nat.le_of_ble_eq_true rfl⟩ ⟨Nat.le_refl 0, Nat.le_refl 0⟩ dX7_neighbours_31 hl.1 (Nat.le_of_ble_eq_true rfl) (fun H locs hT hS => ?_)
        refine lv_if_eq (tgt := 44) hx hb dX7_neighbours_34 (by decide) (fun c14 => ?_) (fun c14 => ?_)
        · have hE := z_t c14 hE
          refine lv_aload_n hx hb dX7_neighbours_44 rfl (lv_at hl 0 rfl) ?_
          refine tg_s C hT dX7_neighbours_45 ?_
          refine lv_iconst (v := (2 : Int32)) hx hb dX7_neighbours_48 rfl ?_
          refine tl_s C hT hE dX7_neighbours_49 (fun hE => ?_)
          refine z_nmi hE (fun v15 hE => ?_)
          refine lv_bipush (v := (60 : Int32)) hx hb dX7_neighbours_50 rfl ?_
          refine lv_icmp_ne (tgt := 62) hx hb dX7_neighbours_52 (by decide) (fun c16 => ?_) (fun c16 => ?_)
          · have hE := z_f c16 hE
            refine lv_aload_n hx hb dX7_neighbours_62 rfl (lv_at hl 0 rfl) ?_
            refine tg_s C hT dX7_neighbours_63 ?_
            refine lv_sipush (v := (352 : Int32)) hx hb dX7_neighbours_66 rfl ?_
            refine lv_bipush (v := (24 : Int32)) hx hb dX7_neighbours_69 rfl ?_
            refine lv_iload_n hx hb dX7_neighbours_71 rfl (lv_at hl 1 rfl) ?_
            refine lv_imul hx hb dX7_neighbours_72 ?_
            refine lv_iadd hx hb dX7_neighbours_73 ?_
            refine lv_iload_n hx hb dX7_neighbours_74 rfl (lv_at hl 2 rfl) ?_
            refine lv_iadd hx hb dX7_neighbours_75 ?_
            refine lv_iconst (v := (1 : Int32)) hx hb dX7_neighbours_76 rfl ?_
            refine ts_s C hT hS hE dX7_neighbours_77 (fun u17 H locs hE hT hS => ?_)
            refine lv_aload_n hx hb dX7_neighbours_78 rfl (lv_at hl 0 rfl) ?_
            refine tg_s C hT dX7_neighbours_79 ?_
            refine lv_sipush (v := (352 : Int32)) hx hb dX7_neighbours_82 rfl ?_
            refine lv_bipush (v := (24 : Int32)) hx hb dX7_neighbours_85 rfl ?_
            refine lv_iload_n hx hb dX7_neighbours_87 rfl (lv_at hl 2 rfl) ?_
            refine lv_imul hx hb dX7_neighbours_88 ?_
            refine lv_iadd hx hb dX7_neighbours_89 ?_
            refine lv_iload_n hx hb dX7_neighbours_90 rfl (lv_at hl 1 rfl) ?_
            refine lv_iadd hx hb dX7_neighbours_91 ?_
            refine lv_iconst (v := (1 : Int32)) hx hb dX7_neighbours_92 rfl ?_
            refine ts_s C hT hS hE dX7_neighbours_93 (fun u18 H locs hE hT hS => ?_)
            refine lv_aload_n hx hb dX7_neighbours_94 rfl (lv_at hl 0 rfl) ?_
            refine tg_s C hT dX7_neighbours_95 ?_
            refine lv_iconst (v := (2 : Int32)) hx hb dX7_neighbours_98 rfl ?_
            refine lv_dup2_11 hx hb dX7_neighbours_99 rfl rfl ?_
            refine tl_s C hT hE dX7_neighbours_100 (fun hE => ?_)
            refine z_nmi hE (fun v19 hE => ?_)
            refine lv_iconst (v := (1 : Int32)) hx hb dX7_neighbours_101 rfl ?_
            refine lv_iadd hx hb dX7_neighbours_102 ?_
            refine ts_s C hT hS hE dX7_neighbours_103 (fun u20 H locs hE hT hS => ?_)
            refine lv_aload_n hx hb dX7_neighbours_104 rfl (lv_at hl 0 rfl) ?_
            refine tg_s C hT dX7_neighbours_105 ?_
            refine lv_iconst (v := (2 : Int32)) hx hb dX7_neighbours_108 rfl ?_
            refine tl_s C hT hE dX7_neighbours_109 (fun hE => ?_)
            refine z_nmi hE (fun v21 hE => ?_)
            exact mt_iret C hr hlocks hT hS hE dX7_neighbours_110
          · have hE := z_t c16 hE
            refine lv_aload_n hx hb dX7_neighbours_55 rfl (lv_at hl 0 rfl) ?_
            refine lv_bipush (v := (-8 : Int32)) hx hb dX7_neighbours_56 rfl ?_
            obtain ⟨r23, u22, hc, hE⟩ := o_bd2_some hE
            refine tc_X7_refuse C hT hS (kX7_refuse hc) rfl rfl ⟨Nat.le_of_ble_eq_true rfl, Nat.le_of_ble_eq_true rfl⟩ ⟨Nat.le_refl 0, Nat.le_refl 0⟩ dX7_neighbours_58 hl.1 (Nat.le_of_ble_eq_true rfl) (fun H locs hT hS => ?_)
            exact mt_iret C hr hlocks hT hS hE dX7_neighbours_61
        · have hE := z_f c14 hE
          exact w_37 _ _ _ _ hE hT hS (lv_sub hl [0] rfl)
    · have hE := z_t c10 hE
      exact w_16 _ _ _ _ hE hT hS (lv_sub hl [0] rfl)
theorem tc_X7_st {a1 : Int32} {a2 : Int32} {r : Int32} {u u1 : TS} {rm : Room} (C : TC p m c cc nL s args D dA) (hT : TW D dA h u H) (hS : va_S (TA h) H0 H locs) (hM : Met l yX7_st (ws_ yX7_st cX7_st 3 (some .int)) rm (va_Pc [.ref h, .int a1, .int a2] (mt_B D dA h u)) (mt_Q D dA h (some (.int r)) u1) 0 0 (TA h)) (hrc : rm.cells = 0) (hrs : rm.slots = 0) (hR : rm.frames + 1 ≤ R.frames ∧ 8 + (3 + 11) + rm.locals ≤ R.locals) (hf : cells + 0 ≤ R.cells ∧ slots + 0 ≤ R.slots) (d : decode cc pc = .ok (.invokevirtual 84, 3)) (hsz : ls.size = nL) (hro : (rest.map fun v => v.category).sum ≤ 8) (kk : ∀ (H1 : Heap) (locs1 : List Loc), TW D dA h u1 H1 → va_S (TA h) H0 H1 locs1 → W p l e R s m args below meth c H1 locs1 cells slots Q (F0 m (pc + 3) ls (.int r :: rest))) : W p l e R s m args below meth c H locs cells slots Q (F0 m pc ls (.int a2 :: .int a1 :: .ref h :: rest)) :=
  mt_call (v := (some (.int r))) (va_runV (As := [.int a1, .int a2]) (rest := rest) C.1 hM (cwV 2 C.1.2.2.2.2 (lw_V q1784 q1786 qs104 q177 q1787) rfl hrc hrs (by decide +kernel) hR) (mt_preV C.2 hT _) rfl rfl hsz rfl (lv_room hro) d hf) hS (fun _ z => z) (fun H1 locs1 a b _ _ => kk H1 locs1 a b)
set_option maxHeartbeats 4000000 in
set_option maxRecDepth 100000 in
theorem kX7_st {l : Launch} {D : va_G} {dA : Nat → ClassId} {h N : Nat} {u u1 : TS} {a1 : Int32} {a2 : Int32} {r : Int32} (hE : fX7_st N u a1 a2 = some (r, u1)) : Met l yX7_st (ws_ yX7_st cX7_st 3 (some .int)) ({ frames := 0, cells := 0, slots := 0, locals := 0 }) (va_Pc [.ref h, .int a1, .int a2] (mt_B D dA h u)) (mt_Q D dA h (some (.int r)) u1) 0 0 (TA h) := by
  refine mt_met (by decide) rfl rfl rfl ?_
  intro p e s m args below meth c ls C hr hlocks hT hS hl
  have hx := C.1.1
  have hb := C.1.2.1
  unfold fX7_st at hE
  refine lv_aload_n hx hb dX7_st_0 rfl (lv_at hl 0 rfl) ?_
  refine tg_s C hT dX7_st_1 ?_
  refine lv_bipush (v := (16 : Int32)) hx hb dX7_st_4 rfl ?_
  refine lv_bipush (v := (14 : Int32)) hx hb dX7_st_6 rfl ?_
  refine lv_iload_n hx hb dX7_st_8 rfl (lv_at hl 1 rfl) ?_
  refine lv_imul hx hb dX7_st_9 ?_
  refine lv_iadd hx hb dX7_st_10 ?_
  refine lv_iload_n hx hb dX7_st_11 rfl (lv_at hl 2 rfl) ?_
  refine lv_iadd hx hb dX7_st_12 ?_
  refine tl_s C hT hE dX7_st_13 (fun hE => ?_)
  refine z_nmi hE (fun v1 hE => ?_)
  exact mt_iret C hr hlocks hT hS hE dX7_st_14
theorem sc_X7_feetOf {a1 : Int32} {a2 : Int32} {a3 : Int32} {r : Int32} {rm : Room} (C : CallFix p m c cc nL s args lw_all RX7) (hM : Met l yX7_feetOf (ws_ yX7_feetOf cX7_feetOf 9 (some .int)) rm (va_Pc [.int a1, .int a2, .int a3] (fun _ => True)) (s_Q (some (.int r))) 0 0 (fun _ => False)) (hrc : rm.cells = 0) (hrs : rm.slots = 0) (hR : rm.frames + 1 ≤ R.frames ∧ 8 + (9 + 11) + rm.locals ≤ R.locals) (hf : cells + 0 ≤ R.cells ∧ slots + 0 ≤ R.slots) (d : decode cc pc = .ok (.invokestatic 106, 3)) (hsz : ls.size = nL) (hro : (rest.map fun v => v.category).sum ≤ 8) (kk : W p l e R s m args below meth c H locs cells slots Q (F0 m (pc + 3) ls (.int r :: rest))) : W p l e R s m args below meth c H locs cells slots Q (F0 m pc ls (.int a3 :: .int a2 :: .int a1 :: rest)) :=
  s_call (v := (some (.int r))) (va_runS (As := [.int a1, .int a2, .int a3]) (rest := rest) C hM (va_cwS 3 C.2.2.2.2 (lw_S q1796 q1797 q177 q1798) rfl hrc hrs (by decide +kernel) hR) (s_pre _) rfl rfl hsz rfl (lv_room hro) d hf) kk
set_option maxHeartbeats 4000000 in
set_option maxRecDepth 100000 in
theorem kX7_feetOf {l : Launch} {a1 : Int32} {a2 : Int32} {a3 : Int32} {r : Int32} (hE : fX7_feetOf a1 a2 a3 = some r) : Met l yX7_feetOf (ws_ yX7_feetOf cX7_feetOf 9 (some .int)) ({ frames := 0, cells := 0, slots := 0, locals := 0 }) (va_Pc [.int a1, .int a2, .int a3] (fun _ => True)) (s_Q (some (.int r))) 0 0 (fun _ => False) := by
  refine s_met (own := RX7) (by decide) rfl rfl rfl ?_
  intro p e s m args below meth c ls C hr hlocks hl
  have hx := C.1
  have hb := C.2.1
  have w_78 : ∀ (x2 : Int32) (x3 : Int64) (y0 : Int64) (ls : Array Slot), fX7_feetOf_78 x2 x3 y0 = some r → lv_has ls 9 [(2, .int x2), (3, .long x3)] → W p l e { frames := 0, cells := 0, slots := 0, locals := 0 } s m args below meth c s.heap [] 0 0 (MQ below (s_Q (some (.int r))) args s 0 0 (fun _ => False)) (F0 m 78 ls [.long y0]) := by
    intro x2 x3 y0 ls hE hl
    unfold fX7_feetOf_78 at hE
    refine lv_lstore (lv' := [(5, .long y0), (2, .int x2), (3, .long x3)]) hx hb dX7_feetOf_78 hl (by decide) rfl (fun ls hl => ?_)
    refine lv_iload_n hx hb dX7_feetOf_80 rfl (lv_at hl 1 rfl) ?_
    refine lv_i2l hx hb dX7_feetOf_81 rfl ?_
    refine lv_iload_n hx hb dX7_feetOf_82 rfl (lv_at hl 1 rfl) ?_
    refine lv_i2l hx hb dX7_feetOf_83 rfl ?_
    refine lv_lmul hx hb dX7_feetOf_84 ?_
    refine z_nml hE (fun z1 hE => ?_)
    refine lv_lstore (lv' := [(7, .long z1), (5, .long y0), (2, .int x2), (3, .long x3)]) hx hb dX7_feetOf_85 hl (by decide) rfl (fun ls hl => ?_)
    refine lv_lload_n hx hb dX7_feetOf_87 rfl (lv_at hl 3 rfl) ?_
    refine lv_lload hx hb dX7_feetOf_88 (lv_at hl 0 rfl) ?_
    refine lv_lmul hx hb dX7_feetOf_90 ?_
    refine lv_lload hx hb dX7_feetOf_91 (lv_at hl 0 rfl) ?_
    refine lv_lload hx hb dX7_feetOf_93 (lv_at hl 1 rfl) ?_
    refine lv_lload hx hb dX7_feetOf_95 (lv_at hl 1 rfl) ?_
    refine lv_lmul hx hb dX7_feetOf_97 ?_
    refine lv_ladd hx hb dX7_feetOf_98 ?_
    obtain ⟨hz, hE⟩ := o_nzl_some hE
    refine lv_ldiv hx hb dX7_feetOf_99 hz ?_
    refine lv_l2i hx hb dX7_feetOf_100 rfl ?_
    exact s_iret C hr hlocks hE dX7_feetOf_101
  have w_41 : ∀ (x0 : Int32) (x2 : Int32) (y0 : Int64) (y1 : Int64) (ls : Array Slot), fX7_feetOf_41 x0 x2 y0 y1 = some r → lv_has ls 9 [(0, .int x0), (2, .int x2)] → W p l e { frames := 0, cells := 0, slots := 0, locals := 0 } s m args below meth c s.heap [] 0 0 (MQ below (s_Q (some (.int r))) args s 0 0 (fun _ => False)) (F0 m 41 ls [.long y1, .long y0]) := by
    intro x0 x2 y0 y1 ls hE hl
    unfold fX7_feetOf_41 at hE
    refine lv_lmul hx hb dX7_feetOf_41 ?_
    refine z_nml hE (fun z2 hE => ?_)
    refine lv_lstore_n (lv' := [(3, .long z2), (0, .int x0), (2, .int x2)]) hx hb dX7_feetOf_42 rfl hl (by decide) rfl (fun ls hl => ?_)
    refine lv_iload_n hx hb dX7_feetOf_43 rfl (lv_at hl 1 rfl) ?_
    refine lv_if_ne (tgt := 53) hx hb dX7_feetOf_44 (by decide) (fun c3 => ?_) (fun c3 => ?_)
    · have hE := z_f c3 hE
      refine lv_iload_n hx hb dX7_feetOf_53 rfl (lv_at hl 1 rfl) ?_
      refine lv_iconst (v := (1 : Int32)) hx hb dX7_feetOf_54 rfl ?_
      refine lv_icmp_ne (tgt := 64) hx hb dX7_feetOf_55 (by decide) (fun c4 => ?_) (fun c4 => ?_)
      · have hE := z_f c4 hE
        refine lv_iload_n hx hb dX7_feetOf_64 rfl (lv_at hl 1 rfl) ?_
        refine lv_iconst (v := (2 : Int32)) hx hb dX7_feetOf_65 rfl ?_
        refine lv_icmp_ne (tgt := 75) hx hb dX7_feetOf_66 (by decide) (fun c5 => ?_) (fun c5 => ?_)
        · have hE := z_f c5 hE
          refine lv_ldc2 (v := (90 : Int64)) hx hb C.2.2.2.1 (C.2.2.2.2 _ q1807) dX7_feetOf_75 ?_
          exact w_78 _ _ _ _ hE (lv_sub hl [2, 0] rfl)
        · have hE := z_t c5 hE
          refine lv_ldc2 (v := (70 : Int64)) hx hb C.2.2.2.1 (C.2.2.2.2 _ q1806) dX7_feetOf_69 ?_
          refine lv_goto (tgt := 78) hx hb dX7_feetOf_72 (by decide) ?_
          exact w_78 _ _ _ _ hE (lv_sub hl [2, 0] rfl)
      · have hE := z_t c4 hE
        refine lv_ldc2 (v := (55 : Int64)) hx hb C.2.2.2.1 (C.2.2.2.2 _ q1805) dX7_feetOf_58 ?_
        refine lv_goto (tgt := 78) hx hb dX7_feetOf_61 (by decide) ?_
        exact w_78 _ _ _ _ hE (lv_sub hl [2, 0] rfl)
    · have hE := z_t c3 hE
      refine lv_ldc2 (v := (50 : Int64)) hx hb C.2.2.2.1 (C.2.2.2.2 _ q1804) dX7_feetOf_47 ?_
      refine lv_goto (tgt := 78) hx hb dX7_feetOf_50 (by decide) ?_
      exact w_78 _ _ _ _ hE (lv_sub hl [2, 0] rfl)
  unfold fX7_feetOf at hE
  refine lv_iload_n hx hb dX7_feetOf_0 rfl (lv_at hl 1 rfl) ?_
  refine lv_i2l hx hb dX7_feetOf_1 rfl ?_
  refine lv_ldc2 (v := (2 : Int64)) hx hb C.2.2.2.1 (C.2.2.2.2 _ q1799) dX7_feetOf_2 ?_
  refine lv_ladd hx hb dX7_feetOf_5 ?_
  refine lv_iload_n hx hb dX7_feetOf_6 rfl (lv_at hl 0 rfl) ?_
  refine lv_if_ne (tgt := 16) hx hb dX7_feetOf_7 (by decide) (fun c6 => ?_) (fun c6 => ?_)
  · have hE := z_f c6 hE
    refine lv_iload_n hx hb dX7_feetOf_16 rfl (lv_at hl 0 rfl) ?_
    refine lv_iconst (v := (1 : Int32)) hx hb dX7_feetOf_17 rfl ?_
    refine lv_icmp_ne (tgt := 27) hx hb dX7_feetOf_18 (by decide) (fun c7 => ?_) (fun c7 => ?_)
    · have hE := z_f c7 hE
      refine lv_iload_n hx hb dX7_feetOf_27 rfl (lv_at hl 0 rfl) ?_
      refine lv_iconst (v := (2 : Int32)) hx hb dX7_feetOf_28 rfl ?_
      refine lv_icmp_ne (tgt := 38) hx hb dX7_feetOf_29 (by decide) (fun c8 => ?_) (fun c8 => ?_)
      · have hE := z_f c8 hE
        refine lv_ldc2 (v := (500 : Int64)) hx hb C.2.2.2.1 (C.2.2.2.2 _ q1803) dX7_feetOf_38 ?_
        exact w_41 _ _ _ _ _ hE (lv_sub hl [0, 2] rfl)
      · have hE := z_t c8 hE
        refine lv_ldc2 (v := (600 : Int64)) hx hb C.2.2.2.1 (C.2.2.2.2 _ q1802) dX7_feetOf_32 ?_
        refine lv_goto (tgt := 41) hx hb dX7_feetOf_35 (by decide) ?_
        exact w_41 _ _ _ _ _ hE (lv_sub hl [0, 2] rfl)
    · have hE := z_t c7 hE
      refine lv_ldc2 (v := (700 : Int64)) hx hb C.2.2.2.1 (C.2.2.2.2 _ q1801) dX7_feetOf_21 ?_
      refine lv_goto (tgt := 41) hx hb dX7_feetOf_24 (by decide) ?_
      exact w_41 _ _ _ _ _ hE (lv_sub hl [0, 2] rfl)
  · have hE := z_t c6 hE
    refine lv_ldc2 (v := (900 : Int64)) hx hb C.2.2.2.1 (C.2.2.2.2 _ q1800) dX7_feetOf_10 ?_
    refine lv_goto (tgt := 41) hx hb dX7_feetOf_13 (by decide) ?_
    exact w_41 _ _ _ _ _ hE (lv_sub hl [0, 2] rfl)
theorem tc_X7_woodWith {a1 : Int32} {a2 : Int32} {a3 : Int32} {r : Int32} {u u1 : TS} {rm : Room} (C : TC p m c cc nL s args D dA) (hT : TW D dA h u H) (hS : va_S (TA h) H0 H locs) (hM : Met l yX7_woodWith (ws_ yX7_woodWith cX7_woodWith 4 (some .int)) rm (va_Pc [.ref h, .int a1, .int a2, .int a3] (mt_B D dA h u)) (mt_Q D dA h (some (.int r)) u1) 0 0 (TA h)) (hrc : rm.cells = 0) (hrs : rm.slots = 0) (hR : rm.frames + 1 ≤ R.frames ∧ 8 + (4 + 11) + rm.locals ≤ R.locals) (hf : cells + 0 ≤ R.cells ∧ slots + 0 ≤ R.slots) (d : decode cc pc = .ok (.invokevirtual 112, 3)) (hsz : ls.size = nL) (hro : (rest.map fun v => v.category).sum ≤ 8) (kk : ∀ (H1 : Heap) (locs1 : List Loc), TW D dA h u1 H1 → va_S (TA h) H0 H1 locs1 → W p l e R s m args below meth c H1 locs1 cells slots Q (F0 m (pc + 3) ls (.int r :: rest))) : W p l e R s m args below meth c H locs cells slots Q (F0 m pc ls (.int a3 :: .int a2 :: .int a1 :: .ref h :: rest)) :=
  mt_call (v := (some (.int r))) (va_runV (As := [.int a1, .int a2, .int a3]) (rest := rest) C.1 hM (cwV 3 C.1.2.2.2.2 (lw_V q1792 q1794 qs106 q177 q1795) rfl hrc hrs (by decide +kernel) hR) (mt_preV C.2 hT _) rfl rfl hsz rfl (lv_room hro) d hf) hS (fun _ z => z) (fun H1 locs1 a b _ _ => kk H1 locs1 a b)
set_option maxHeartbeats 4000000 in
set_option maxRecDepth 100000 in
theorem kX7_woodWith {l : Launch} {D : va_G} {dA : Nat → ClassId} {h N : Nat} {u u1 : TS} {a1 : Int32} {a2 : Int32} {a3 : Int32} {r : Int32} (hE : fX7_woodWith N u a1 a2 a3 = some (r, u1)) : Met l yX7_woodWith (ws_ yX7_woodWith cX7_woodWith 4 (some .int)) ({ frames := 1, cells := 0, slots := 0, locals := 28 }) (va_Pc [.ref h, .int a1, .int a2, .int a3] (mt_B D dA h u)) (mt_Q D dA h (some (.int r)) u1) 0 0 (TA h) := by
  refine mt_met (by decide) rfl rfl rfl ?_
  intro p e s m args below meth c ls C hr hlocks hT hS hl
  have hx := C.1.1
  have hb := C.1.2.1
  unfold fX7_woodWith at hE
  refine lv_aload_n hx hb dX7_woodWith_0 rfl (lv_at hl 0 rfl) ?_
  refine lv_iload_n hx hb dX7_woodWith_1 rfl (lv_at hl 1 rfl) ?_
  refine lv_iconst (v := (4 : Int32)) hx hb dX7_woodWith_2 rfl ?_
  obtain ⟨r2, u1, hc, hE⟩ := o_bd2_some hE
  refine tc_X7_st C hT hS (kX7_st hc) rfl rfl ⟨Nat.le_of_ble_eq_true rfl, Nat.le_of_ble_eq_true rfl⟩ ⟨Nat.le_refl 0, Nat.le_refl 0⟩ dX7_woodWith_3 hl.1 (Nat.le_of_ble_eq_true rfl) (fun H locs hT hS => ?_)
  refine lv_i2l hx hb dX7_woodWith_6 rfl ?_
  refine lv_aload_n hx hb dX7_woodWith_7 rfl (lv_at hl 0 rfl) ?_
  refine lv_iload_n hx hb dX7_woodWith_8 rfl (lv_at hl 1 rfl) ?_
  refine lv_iconst (v := (2 : Int32)) hx hb dX7_woodWith_9 rfl ?_
  obtain ⟨r4, u3, hc, hE⟩ := o_bd2_some hE
  refine tc_X7_st C hT hS (kX7_st hc) rfl rfl ⟨Nat.le_of_ble_eq_true rfl, Nat.le_of_ble_eq_true rfl⟩ ⟨Nat.le_refl 0, Nat.le_refl 0⟩ dX7_woodWith_10 hl.1 (Nat.le_of_ble_eq_true rfl) (fun H locs hT hS => ?_)
  refine lv_aload_n hx hb dX7_woodWith_13 rfl (lv_at hl 0 rfl) ?_
  refine lv_iload_n hx hb dX7_woodWith_14 rfl (lv_at hl 1 rfl) ?_
  refine lv_iconst (v := (1 : Int32)) hx hb dX7_woodWith_15 rfl ?_
  obtain ⟨r6, u5, hc, hE⟩ := o_bd2_some hE
  refine tc_X7_st C hT hS (kX7_st hc) rfl rfl ⟨Nat.le_of_ble_eq_true rfl, Nat.le_of_ble_eq_true rfl⟩ ⟨Nat.le_refl 0, Nat.le_refl 0⟩ dX7_woodWith_16 hl.1 (Nat.le_of_ble_eq_true rfl) (fun H locs hT hS => ?_)
  refine lv_iload_n hx hb dX7_woodWith_19 rfl (lv_at hl 2 rfl) ?_
  obtain ⟨r7, hc, hE⟩ := o_bd_some hE
  refine sc_X7_feetOf C.1 (kX7_feetOf hc) rfl rfl ⟨Nat.le_of_ble_eq_true rfl, Nat.le_of_ble_eq_true rfl⟩ ⟨Nat.le_refl 0, Nat.le_refl 0⟩ dX7_woodWith_20 hl.1 (Nat.le_of_ble_eq_true rfl) ?_
  refine lv_i2l hx hb dX7_woodWith_23 rfl ?_
  refine lv_lmul hx hb dX7_woodWith_24 ?_
  refine lv_iload_n hx hb dX7_woodWith_25 rfl (lv_at hl 3 rfl) ?_
  refine lv_i2l hx hb dX7_woodWith_26 rfl ?_
  refine lv_lmul hx hb dX7_woodWith_27 ?_
  refine lv_ldc2 (v := (100 : Int64)) hx hb C.1.2.2.2.1 (C.1.2.2.2.2 _ q1808) dX7_woodWith_28 ?_
  refine lv_ldiv hx hb dX7_woodWith_31 (by decide) ?_
  refine lv_l2i hx hb dX7_woodWith_32 rfl ?_
  exact mt_iret C hr hlocks hT hS hE dX7_woodWith_33
theorem tc_X7_wood {a1 : Int32} {r : Int32} {u u1 : TS} {rm : Room} (C : TC p m c cc nL s args D dA) (hT : TW D dA h u H) (hS : va_S (TA h) H0 H locs) (hM : Met l yX7_wood (ws_ yX7_wood cX7_wood 2 (some .int)) rm (va_Pc [.ref h, .int a1] (mt_B D dA h u)) (mt_Q D dA h (some (.int r)) u1) 0 0 (TA h)) (hrc : rm.cells = 0) (hrs : rm.slots = 0) (hR : rm.frames + 1 ≤ R.frames ∧ 8 + (2 + 11) + rm.locals ≤ R.locals) (hf : cells + 0 ≤ R.cells ∧ slots + 0 ≤ R.slots) (d : decode cc pc = .ok (.invokevirtual 115, 3)) (hsz : ls.size = nL) (hro : (rest.map fun v => v.category).sum ≤ 8) (kk : ∀ (H1 : Heap) (locs1 : List Loc), TW D dA h u1 H1 → va_S (TA h) H0 H1 locs1 → W p l e R s m args below meth c H1 locs1 cells slots Q (F0 m (pc + 3) ls (.int r :: rest))) : W p l e R s m args below meth c H locs cells slots Q (F0 m pc ls (.int a1 :: .ref h :: rest)) :=
  mt_call (v := (some (.int r))) (va_runV (As := [.int a1]) (rest := rest) C.1 hM (cwV 1 C.1.2.2.2.2 (lw_V q1788 q1790 qs105 q177 q1791) rfl hrc hrs (by decide +kernel) hR) (mt_preV C.2 hT _) rfl rfl hsz rfl (lv_room hro) d hf) hS (fun _ z => z) (fun H1 locs1 a b _ _ => kk H1 locs1 a b)
set_option maxHeartbeats 4000000 in
set_option maxRecDepth 100000 in
theorem kX7_wood {l : Launch} {D : va_G} {dA : Nat → ClassId} {h N : Nat} {u u1 : TS} {a1 : Int32} {r : Int32} (hE : fX7_wood N u a1 = some (r, u1)) : Met l yX7_wood (ws_ yX7_wood cX7_wood 2 (some .int)) ({ frames := 2, cells := 0, slots := 0, locals := 51 }) (va_Pc [.ref h, .int a1] (mt_B D dA h u)) (mt_Q D dA h (some (.int r)) u1) 0 0 (TA h) := by
  refine mt_met (by decide) rfl rfl rfl ?_
  intro p e s m args below meth c ls C hr hlocks hT hS hl
  have hx := C.1.1
  have hb := C.1.2.1
  unfold fX7_wood at hE
  refine lv_aload_n hx hb dX7_wood_0 rfl (lv_at hl 0 rfl) ?_
  refine lv_iload_n hx hb dX7_wood_1 rfl (lv_at hl 1 rfl) ?_
  refine lv_aload_n hx hb dX7_wood_2 rfl (lv_at hl 0 rfl) ?_
  refine lv_iload_n hx hb dX7_wood_3 rfl (lv_at hl 1 rfl) ?_
  refine lv_iconst (v := (5 : Int32)) hx hb dX7_wood_4 rfl ?_
  obtain ⟨r2, u1, hc, hE⟩ := o_bd2_some hE
  refine tc_X7_st C hT hS (kX7_st hc) rfl rfl ⟨Nat.le_of_ble_eq_true rfl, Nat.le_of_ble_eq_true rfl⟩ ⟨Nat.le_refl 0, Nat.le_refl 0⟩ dX7_wood_5 hl.1 (Nat.le_of_ble_eq_true rfl) (fun H locs hT hS => ?_)
  refine lv_aload_n hx hb dX7_wood_8 rfl (lv_at hl 0 rfl) ?_
  refine lv_iload_n hx hb dX7_wood_9 rfl (lv_at hl 1 rfl) ?_
  refine lv_bipush (v := (6 : Int32)) hx hb dX7_wood_10 rfl ?_
  obtain ⟨r4, u3, hc, hE⟩ := o_bd2_some hE
  refine tc_X7_st C hT hS (kX7_st hc) rfl rfl ⟨Nat.le_of_ble_eq_true rfl, Nat.le_of_ble_eq_true rfl⟩ ⟨Nat.le_refl 0, Nat.le_refl 0⟩ dX7_wood_12 hl.1 (Nat.le_of_ble_eq_true rfl) (fun H locs hT hS => ?_)
  obtain ⟨r6, u5, hc, hE⟩ := o_bd2_some hE
  refine tc_X7_woodWith C hT hS (kX7_woodWith hc) rfl rfl ⟨Nat.le_of_ble_eq_true rfl, Nat.le_of_ble_eq_true rfl⟩ ⟨Nat.le_refl 0, Nat.le_refl 0⟩ dX7_wood_15 hl.1 (Nat.le_of_ble_eq_true rfl) (fun H locs hT hS => ?_)
  exact mt_iret C hr hlocks hT hS hE dX7_wood_18
theorem tc_X7_isBare {a1 : Int32} {r : Int32} {u u1 : TS} {rm : Room} (C : TC p m c cc nL s args D dA) (hT : TW D dA h u H) (hS : va_S (TA h) H0 H locs) (hM : Met l yX7_isBare (ws_ yX7_isBare cX7_isBare 2 (some .boolean)) rm (va_Pc [.ref h, .int a1] (mt_B D dA h u)) (mt_Q D dA h (some (.int r)) u1) 0 0 (TA h)) (hrc : rm.cells = 0) (hrs : rm.slots = 0) (hR : rm.frames + 1 ≤ R.frames ∧ 8 + (2 + 11) + rm.locals ≤ R.locals) (hf : cells + 0 ≤ R.cells ∧ slots + 0 ≤ R.slots) (d : decode cc pc = .ok (.invokevirtual 126, 3)) (hsz : ls.size = nL) (hro : (rest.map fun v => v.category).sum ≤ 8) (kk : ∀ (H1 : Heap) (locs1 : List Loc), TW D dA h u1 H1 → va_S (TA h) H0 H1 locs1 → W p l e R s m args below meth c H1 locs1 cells slots Q (F0 m (pc + 3) ls (.int r :: rest))) : W p l e R s m args below meth c H locs cells slots Q (F0 m pc ls (.int a1 :: .ref h :: rest)) :=
  mt_call (v := (some (.int r))) (va_runV (As := [.int a1]) (rest := rest) C.1 hM (cwV 1 C.1.2.2.2.2 (lw_V q1813 q1815 qs108 q177 q1816) rfl hrc hrs (by decide +kernel) hR) (mt_preV C.2 hT _) rfl rfl hsz rfl (lv_room hro) d hf) hS (fun _ z => z) (fun H1 locs1 a b _ _ => kk H1 locs1 a b)
set_option maxHeartbeats 4000000 in
set_option maxRecDepth 100000 in
theorem kX7_isBare {l : Launch} {D : va_G} {dA : Nat → ClassId} {h N : Nat} {u u1 : TS} {a1 : Int32} {r : Int32} (hE : fX7_isBare N u a1 = some (r, u1)) : Met l yX7_isBare (ws_ yX7_isBare cX7_isBare 2 (some .boolean)) ({ frames := 1, cells := 0, slots := 0, locals := 22 }) (va_Pc [.ref h, .int a1] (mt_B D dA h u)) (mt_Q D dA h (some (.int r)) u1) 0 0 (TA h) := by
  refine mt_met (by decide) rfl rfl rfl ?_
  intro p e s m args below meth c ls C hr hlocks hT hS hl
  have hx := C.1.1
  have hb := C.1.2.1
  have w_15 : ∀ (u : TS) (y0 : Int32) (H : Heap) (locs : List Loc) (ls : Array Slot), fX7_isBare_15 N u y0 = some (r, u1) → TW D dA h u H → va_S (TA h) s.heap H locs → lv_has ls 2 [] → W p l e { frames := 1, cells := 0, slots := 0, locals := 22 } s m args below meth c H locs 0 0 (MQ below (mt_Q D dA h (some (.int r)) u1) args s 0 0 (TA h)) (F0 m 15 ls [.int y0]) := by
    intro u y0 H locs ls hE hT hS hl
    unfold fX7_isBare_15 at hE
    obtain ⟨hb1, hE⟩ := o_bl_some hE
    exact mt_zret C hr hlocks hT hS hb1 hE dX7_isBare_15
  unfold fX7_isBare at hE
  refine lv_aload_n hx hb dX7_isBare_0 rfl (lv_at hl 0 rfl) ?_
  refine lv_iload_n hx hb dX7_isBare_1 rfl (lv_at hl 1 rfl) ?_
  refine lv_bipush (v := (6 : Int32)) hx hb dX7_isBare_2 rfl ?_
  obtain ⟨r2, u1, hc, hE⟩ := o_bd2_some hE
  refine tc_X7_st C hT hS (kX7_st hc) rfl rfl ⟨Nat.le_of_ble_eq_true rfl, Nat.le_of_ble_eq_true rfl⟩ ⟨Nat.le_refl 0, Nat.le_refl 0⟩ dX7_isBare_4 hl.1 (Nat.le_of_ble_eq_true rfl) (fun H locs hT hS => ?_)
  refine lv_if_ne (tgt := 14) hx hb dX7_isBare_7 (by decide) (fun c3 => ?_) (fun c3 => ?_)
  · have hE := z_f c3 hE
    refine lv_iconst (v := (0 : Int32)) hx hb dX7_isBare_14 rfl ?_
    exact w_15 _ _ _ _ _ hE hT hS (lv_sub hl [] rfl)
  · have hE := z_t c3 hE
    refine lv_iconst (v := (1 : Int32)) hx hb dX7_isBare_10 rfl ?_
    refine lv_goto (tgt := 15) hx hb dX7_isBare_11 (by decide) ?_
    exact w_15 _ _ _ _ _ hE hT hS (lv_sub hl [] rfl)
theorem tc_X7_byteAt {a1 : Int32} {r : Int32} {u u1 : TS} {rm : Room} (C : TC p m c cc nL s args D dA) (hT : TW D dA h u H) (hS : va_S (TA h) H0 H locs) (hM : Met l yX7_byteAt (ws_ yX7_byteAt cX7_byteAt 2 (some .int)) rm (va_Pc [.ref h, .int a1] (mt_B D dA h u)) (mt_Q D dA h (some (.int r)) u1) 0 0 (TA h)) (hrc : rm.cells = 0) (hrs : rm.slots = 0) (hR : rm.frames + 1 ≤ R.frames ∧ 8 + (2 + 11) + rm.locals ≤ R.locals) (hf : cells + 0 ≤ R.cells ∧ slots + 0 ≤ R.slots) (d : decode cc pc = .ok (.invokevirtual 174, 3)) (hsz : ls.size = nL) (hro : (rest.map fun v => v.category).sum ≤ 8) (kk : ∀ (H1 : Heap) (locs1 : List Loc), TW D dA h u1 H1 → va_S (TA h) H0 H1 locs1 → W p l e R s m args below meth c H1 locs1 cells slots Q (F0 m (pc + 3) ls (.int r :: rest))) : W p l e R s m args below meth c H locs cells slots Q (F0 m pc ls (.int a1 :: .ref h :: rest)) :=
  mt_call (v := (some (.int r))) (va_runV (As := [.int a1]) (rest := rest) C.1 hM (cwV 1 C.1.2.2.2.2 (lw_V q1833 q1835 qs113 q177 q1836) rfl hrc hrs (by decide +kernel) hR) (mt_preV C.2 hT _) rfl rfl hsz rfl (lv_room hro) d hf) hS (fun _ z => z) (fun H1 locs1 a b _ _ => kk H1 locs1 a b)
set_option maxHeartbeats 4000000 in
set_option maxRecDepth 100000 in
theorem kX7_byteAt {l : Launch} {D : va_G} {dA : Nat → ClassId} {h N : Nat} {u u1 : TS} {a1 : Int32} {r : Int32} (hE : fX7_byteAt N u a1 = some (r, u1)) : Met l yX7_byteAt (ws_ yX7_byteAt cX7_byteAt 2 (some .int)) ({ frames := 0, cells := 0, slots := 0, locals := 0 }) (va_Pc [.ref h, .int a1] (mt_B D dA h u)) (mt_Q D dA h (some (.int r)) u1) 0 0 (TA h) := by
  refine mt_met (by decide) rfl rfl rfl ?_
  intro p e s m args below meth c ls C hr hlocks hT hS hl
  have hx := C.1.1
  have hb := C.1.2.1
  have w_18 : ∀ (u : TS) (y0 : Int32) (H : Heap) (locs : List Loc) (ls : Array Slot), fX7_byteAt_18 N u y0 = some (r, u1) → TW D dA h u H → va_S (TA h) s.heap H locs → lv_has ls 2 [] → W p l e { frames := 0, cells := 0, slots := 0, locals := 0 } s m args below meth c H locs 0 0 (MQ below (mt_Q D dA h (some (.int r)) u1) args s 0 0 (TA h)) (F0 m 18 ls [.int y0]) := by
    intro u y0 H locs ls hE hT hS hl
    unfold fX7_byteAt_18 at hE
    exact mt_iret C hr hlocks hT hS hE dX7_byteAt_18
  unfold fX7_byteAt at hE
  refine lv_iload_n hx hb dX7_byteAt_0 rfl (lv_at hl 1 rfl) ?_
  refine lv_aload_n hx hb dX7_byteAt_1 rfl (lv_at hl 0 rfl) ?_
  refine tg_size C hT dX7_byteAt_2 ?_
  refine lv_icmp_ge (tgt := 17) hx hb dX7_byteAt_5 (by decide) (fun c1 => ?_) (fun c1 => ?_)
  · have hE := z_t c1 hE
    refine lv_iconst (v := (-1 : Int32)) hx hb dX7_byteAt_17 rfl ?_
    exact w_18 _ _ _ _ _ hE hT hS (lv_sub hl [] rfl)
  · have hE := z_f c1 hE
    refine lv_aload_n hx hb dX7_byteAt_8 rfl (lv_at hl 0 rfl) ?_
    refine tg_text C hT dX7_byteAt_9 ?_
    refine lv_iload_n hx hb dX7_byteAt_12 rfl (lv_at hl 1 rfl) ?_
    refine tl_text C hT hE dX7_byteAt_13 (fun hE => ?_)
    refine z_nmi hE (fun v2 hE => ?_)
    refine lv_goto (tgt := 18) hx hb dX7_byteAt_14 (by decide) ?_
    exact w_18 _ _ _ _ _ hE hT hS (lv_sub hl [] rfl)
theorem tc_X7_next {u u1 : TS} {rm : Room} (C : TC p m c cc nL s args D dA) (hT : TW D dA h u H) (hS : va_S (TA h) H0 H locs) (hM : Met l yX7_next (ws_ yX7_next cX7_next 3 none) rm (va_Pc [.ref h] (mt_B D dA h u)) (mt_Q D dA h none u1) 0 0 (TA h)) (hrc : rm.cells = 0) (hrs : rm.slots = 0) (hR : rm.frames + 1 ≤ R.frames ∧ 8 + (3 + 11) + rm.locals ≤ R.locals) (hf : cells + 0 ≤ R.cells ∧ slots + 0 ≤ R.slots) (d : decode cc pc = .ok (.invokevirtual 210, 3)) (hsz : ls.size = nL) (hro : (rest.map fun v => v.category).sum ≤ 8) (kk : ∀ (H1 : Heap) (locs1 : List Loc), TW D dA h u1 H1 → va_S (TA h) H0 H1 locs1 → W p l e R s m args below meth c H1 locs1 cells slots Q (F0 m (pc + 3) ls (rest))) : W p l e R s m args below meth c H locs cells slots Q (F0 m pc ls (.ref h :: rest)) :=
  mt_call (v := none) (va_runV (As := []) (rest := rest) C.1 hM (cwV 0 C.1.2.2.2.2 (lw_V q1829 q1831 qs112 q177 q1832) rfl hrc hrs (by decide +kernel) hR) (mt_preV C.2 hT _) rfl rfl hsz rfl (lv_room hro) d hf) hS (fun _ z => z) (fun H1 locs1 a b _ _ => kk H1 locs1 a b)
set_option maxHeartbeats 4000000 in
set_option maxRecDepth 100000 in
theorem kX7_next {l : Launch} {D : va_G} {dA : Nat → ClassId} {h N : Nat} {u u_ : TS} (hE : fX7_next N u = some u_) : Met l yX7_next (ws_ yX7_next cX7_next 3 none) ({ frames := 1, cells := 0, slots := 0, locals := 22 }) (va_Pc [.ref h] (mt_B D dA h u)) (mt_Q D dA h none u_) 0 0 (TA h) := by
  refine mt_met (by decide) rfl rfl rfl ?_
  intro p e s m args below meth c ls C hr hlocks hT hS hl
  have hx := C.1.1
  have hb := C.1.2.1
  have w_361 : ∀ (u : TS) (H : Heap) (locs : List Loc) (ls : Array Slot), fX7_next_361 N u = some u_ → TW D dA h u H → va_S (TA h) s.heap H locs → lv_has ls 3 [] → W p l e { frames := 1, cells := 0, slots := 0, locals := 22 } s m args below meth c H locs 0 0 (MQ below (mt_Q D dA h none u_) args s 0 0 (TA h)) (F0 m 361 ls []) := by
    intro u H locs ls hE hT hS hl
    unfold fX7_next_361 at hE
    exact mt_vret C hr hlocks hT hS hE dX7_next_361
  have w_340 : ∀ (u : TS) (x1 : Int32) (H : Heap) (locs : List Loc) (ls : Array Slot), fX7_next_340 N u x1 = some u_ → TW D dA h u H → va_S (TA h) s.heap H locs → lv_has ls 3 [(0, .ref h), (1, .int x1)] → W p l e { frames := 1, cells := 0, slots := 0, locals := 22 } s m args below meth c H locs 0 0 (MQ below (mt_Q D dA h none u_) args s 0 0 (TA h)) (F0 m 340 ls []) := by
    intro u x1 H locs ls hE hT hS hl
    unfold fX7_next_340 at hE
    refine lv_aload_n hx hb dX7_next_340 rfl (lv_at hl 0 rfl) ?_
    refine lv_iconst (v := (3 : Int32)) hx hb dX7_next_341 rfl ?_
    refine tp_token C hT hS hE dX7_next_342 (fun u1 H locs hE hT hS => ?_)
    refine lv_aload_n hx hb dX7_next_345 rfl (lv_at hl 0 rfl) ?_
    refine lv_iload_n hx hb dX7_next_346 rfl (lv_at hl 1 rfl) ?_
    refine lv_i2l hx hb dX7_next_347 rfl ?_
    refine tp_tokenWorth C hT hS hE dX7_next_348 (fun u2 H locs hE hT hS => ?_)
    refine lv_aload_n hx hb dX7_next_351 rfl (lv_at hl 0 rfl) ?_
    refine lv_dup hx hb dX7_next_352 rfl ?_
    refine tg_here C hT dX7_next_353 ?_
    refine lv_iconst (v := (1 : Int32)) hx hb dX7_next_356 rfl ?_
    refine lv_iadd hx hb dX7_next_357 ?_
    refine tp_here C hT hS hE dX7_next_358 (fun u3 H locs hE hT hS => ?_)
    exact w_361 _ _ _ _ hE hT hS (lv_sub hl [] rfl)
  have w_274 : ∀ (u : TS) (y1 : Int32) (H : Heap) (locs : List Loc) (ls : Array Slot), fX7_next_274 N u y1 = some u_ → TW D dA h u H → va_S (TA h) s.heap H locs → lv_has ls 3 [] → W p l e { frames := 1, cells := 0, slots := 0, locals := 22 } s m args below meth c H locs 0 0 (MQ below (mt_Q D dA h none u_) args s 0 0 (TA h)) (F0 m 274 ls [.int y1, .ref h]) := by
    intro u y1 H locs ls hE hT hS hl
    unfold fX7_next_274 at hE
    refine tp_token C hT hS hE dX7_next_274 (fun u4 H locs hE hT hS => ?_)
    refine lv_goto (tgt := 361) hx hb dX7_next_277 (by decide) ?_
    exact w_361 _ _ _ _ hE hT hS (lv_sub hl [] rfl)
  have w_243 : ∀ (ag189 : TS → Int32 → Option (TS)) (hag189 : (∀ (u : TS) (x2 : Int32) (H : Heap) (locs : List Loc) (ls : Array Slot), ag189 u x2 = some u_ → TW D dA h u H → va_S (TA h) s.heap H locs → lv_has ls 3 [(0, .ref h), (2, .int x2)] → W p l e { frames := 1, cells := 0, slots := 0, locals := 22 } s m args below meth c H locs 0 0 (MQ below (mt_Q D dA h none u_) args s 0 0 (TA h)) (F0 m 189 ls []))) (u : TS) (x2 : Int32) (y1 : Int64) (H : Heap) (locs : List Loc) (ls : Array Slot), fX7_next_243 N ag189 u x2 y1 = some u_ → TW D dA h u H → va_S (TA h) s.heap H locs → lv_has ls 3 [(0, .ref h), (2, .int x2)] → W p l e { frames := 1, cells := 0, slots := 0, locals := 22 } s m args below meth c H locs 0 0 (MQ below (mt_Q D dA h none u_) args s 0 0 (TA h)) (F0 m 243 ls [.long y1, .ref h]) := by
    intro ag189 hag189 u x2 y1 H locs ls hE hT hS hl
    unfold fX7_next_243 at hE
    refine tp_tokenWorth C hT hS hE dX7_next_243 (fun u5 H locs hE hT hS => ?_)
    refine z_iinc (v := (x2 + (1 : Int32))) (lw := (fun y_ => [(2, .int y_), (0, .ref h)])) hx hb dX7_next_246 hl hE (k := 1) rfl rfl (by decide) (fun _ => rfl) (fun z6 ls hE hl => ?_)
    refine lv_aload_n hx hb dX7_next_249 rfl (lv_at hl 1 rfl) ?_
    refine lv_dup hx hb dX7_next_250 rfl ?_
    refine tg_here C hT dX7_next_251 ?_
    refine lv_iconst (v := (1 : Int32)) hx hb dX7_next_254 rfl ?_
    refine lv_iadd hx hb dX7_next_255 ?_
    refine tp_here C hT hS hE dX7_next_256 (fun u7 H locs hE hT hS => ?_)
    refine lv_goto (tgt := 189) hx hb dX7_next_259 (by decide) ?_
    exact hag189 _ _ _ _ _ hE hT hS (lv_sub hl [1, 0] rfl)
  have w_189 : ∀ (n : Nat) (u : TS) (x2 : Int32) (H : Heap) (locs : List Loc) (ls : Array Slot), fX7_next_189 N n u x2 = some u_ → TW D dA h u H → va_S (TA h) s.heap H locs → lv_has ls 3 [(0, .ref h), (2, .int x2)] → W p l e { frames := 1, cells := 0, slots := 0, locals := 22 } s m args below meth c H locs 0 0 (MQ below (mt_Q D dA h none u_) args s 0 0 (TA h)) (F0 m 189 ls []) := by
    intro n
    induction n with
    | zero =>
      intro u x2 H locs ls hE hT hS hl
      cases (show (none : Option (TS)) = some u_ from hE)
    | succ n ih =>
      intro u x2 H locs ls hE hT hS hl
      rw [fX7_next_189] at hE
      refine lv_aload_n hx hb dX7_next_189 rfl (lv_at hl 0 rfl) ?_
      refine lv_aload_n hx hb dX7_next_190 rfl (lv_at hl 0 rfl) ?_
      refine tg_here C hT dX7_next_191 ?_
      obtain ⟨r9, u8, hc, hE⟩ := o_bd2_some hE
      refine tc_X7_byteAt C hT hS (kX7_byteAt hc) rfl rfl ⟨Nat.le_of_ble_eq_true rfl, Nat.le_of_ble_eq_true rfl⟩ ⟨Nat.le_refl 0, Nat.le_refl 0⟩ dX7_next_194 hl.1 (Nat.le_of_ble_eq_true rfl) (fun H locs hT hS => ?_)
      refine lv_bipush (v := (48 : Int32)) hx hb dX7_next_197 rfl ?_
      refine lv_bipush (v := (57 : Int32)) hx hb dX7_next_199 rfl ?_
      obtain ⟨r10, hc, hE⟩ := o_bd_some hE
      refine sc_X7_in C.1 (kX7_in hc) rfl rfl ⟨Nat.le_of_ble_eq_true rfl, Nat.le_of_ble_eq_true rfl⟩ ⟨Nat.le_refl 0, Nat.le_refl 0⟩ dX7_next_201 hl.1 (Nat.le_of_ble_eq_true rfl) ?_
      refine lv_if_eq (tgt := 262) hx hb dX7_next_204 (by decide) (fun c11 => ?_) (fun c11 => ?_)
      · have hE := z_t c11 hE
        refine lv_aload_n hx hb dX7_next_262 rfl (lv_at hl 0 rfl) ?_
        refine lv_iload_n hx hb dX7_next_263 rfl (lv_at hl 1 rfl) ?_
        refine lv_bipush (v := (6 : Int32)) hx hb dX7_next_264 rfl ?_
        refine lv_icmp_le (tgt := 273) hx hb dX7_next_266 (by decide) (fun c12 => ?_) (fun c12 => ?_)
        · have hE := z_t c12 hE
          refine lv_iconst (v := (2 : Int32)) hx hb dX7_next_273 rfl ?_
          exact w_274 _ _ _ _ _ hE hT hS (lv_sub hl [] rfl)
        · have hE := z_f c12 hE
          refine lv_iconst (v := (4 : Int32)) hx hb dX7_next_269 rfl ?_
          refine lv_goto (tgt := 274) hx hb dX7_next_270 (by decide) ?_
          exact w_274 _ _ _ _ _ hE hT hS (lv_sub hl [] rfl)
      · have hE := z_f c11 hE
        refine lv_aload_n hx hb dX7_next_207 rfl (lv_at hl 0 rfl) ?_
        refine lv_iload_n hx hb dX7_next_208 rfl (lv_at hl 1 rfl) ?_
        refine lv_bipush (v := (6 : Int32)) hx hb dX7_next_209 rfl ?_
        refine lv_icmp_ge (tgt := 239) hx hb dX7_next_211 (by decide) (fun c13 => ?_) (fun c13 => ?_)
        · have hE := z_t c13 hE
          refine lv_aload_n hx hb dX7_next_239 rfl (lv_at hl 0 rfl) ?_
          refine tg_tokenWorth C hT dX7_next_240 ?_
          exact w_243 (fX7_next_189 N n) ih _ _ _ _ _ _ hE hT hS (lv_sub hl [0, 1] rfl)
        · have hE := z_f c13 hE
          refine lv_ldc2 (v := (10 : Int64)) hx hb C.1.2.2.2.1 (C.1.2.2.2.2 _ q1840) dX7_next_214 ?_
          refine lv_aload_n hx hb dX7_next_217 rfl (lv_at hl 0 rfl) ?_
          refine tg_tokenWorth C hT dX7_next_218 ?_
          refine lv_lmul hx hb dX7_next_221 ?_
          refine lv_aload_n hx hb dX7_next_222 rfl (lv_at hl 0 rfl) ?_
          refine lv_aload_n hx hb dX7_next_223 rfl (lv_at hl 0 rfl) ?_
          refine tg_here C hT dX7_next_224 ?_
          obtain ⟨r15, u14, hc, hE⟩ := o_bd2_some hE
          refine tc_X7_byteAt C hT hS (kX7_byteAt hc) rfl rfl ⟨Nat.le_of_ble_eq_true rfl, Nat.le_of_ble_eq_true rfl⟩ ⟨Nat.le_refl 0, Nat.le_refl 0⟩ dX7_next_227 hl.1 (Nat.le_of_ble_eq_true rfl) (fun H locs hT hS => ?_)
          refine lv_i2l hx hb dX7_next_230 rfl ?_
          refine lv_ladd hx hb dX7_next_231 ?_
          refine lv_ldc2 (v := (48 : Int64)) hx hb C.1.2.2.2.1 (C.1.2.2.2.2 _ q1841) dX7_next_232 ?_
          refine lv_lsub hx hb dX7_next_235 ?_
          refine lv_goto (tgt := 243) hx hb dX7_next_236 (by decide) ?_
          exact w_243 (fX7_next_189 N n) ih _ _ _ _ _ _ hE hT hS (lv_sub hl [0, 1] rfl)
  have w_144 : ∀ (ag91 : TS → Int32 → Option (TS)) (hag91 : (∀ (u : TS) (x2 : Int32) (H : Heap) (locs : List Loc) (ls : Array Slot), ag91 u x2 = some u_ → TW D dA h u H → va_S (TA h) s.heap H locs → lv_has ls 3 [(0, .ref h), (2, .int x2)] → W p l e { frames := 1, cells := 0, slots := 0, locals := 22 } s m args below meth c H locs 0 0 (MQ below (mt_Q D dA h none u_) args s 0 0 (TA h)) (F0 m 91 ls []))) (u : TS) (x2 : Int32) (y1 : Int64) (H : Heap) (locs : List Loc) (ls : Array Slot), fX7_next_144 N ag91 u x2 y1 = some u_ → TW D dA h u H → va_S (TA h) s.heap H locs → lv_has ls 3 [(0, .ref h), (2, .int x2)] → W p l e { frames := 1, cells := 0, slots := 0, locals := 22 } s m args below meth c H locs 0 0 (MQ below (mt_Q D dA h none u_) args s 0 0 (TA h)) (F0 m 144 ls [.long y1, .ref h]) := by
    intro ag91 hag91 u x2 y1 H locs ls hE hT hS hl
    unfold fX7_next_144 at hE
    refine tp_tokenWorth C hT hS hE dX7_next_144 (fun u16 H locs hE hT hS => ?_)
    refine z_iinc (v := (x2 + (1 : Int32))) (lw := (fun y_ => [(2, .int y_), (0, .ref h)])) hx hb dX7_next_147 hl hE (k := 1) rfl rfl (by decide) (fun _ => rfl) (fun z17 ls hE hl => ?_)
    refine lv_aload_n hx hb dX7_next_150 rfl (lv_at hl 1 rfl) ?_
    refine lv_dup hx hb dX7_next_151 rfl ?_
    refine tg_here C hT dX7_next_152 ?_
    refine lv_iconst (v := (1 : Int32)) hx hb dX7_next_155 rfl ?_
    refine lv_iadd hx hb dX7_next_156 ?_
    refine tp_here C hT hS hE dX7_next_157 (fun u18 H locs hE hT hS => ?_)
    refine lv_goto (tgt := 91) hx hb dX7_next_160 (by decide) ?_
    exact hag91 _ _ _ _ _ hE hT hS (lv_sub hl [1, 0] rfl)
  have w_91 : ∀ (n : Nat) (u : TS) (x2 : Int32) (H : Heap) (locs : List Loc) (ls : Array Slot), fX7_next_91 N n u x2 = some u_ → TW D dA h u H → va_S (TA h) s.heap H locs → lv_has ls 3 [(0, .ref h), (2, .int x2)] → W p l e { frames := 1, cells := 0, slots := 0, locals := 22 } s m args below meth c H locs 0 0 (MQ below (mt_Q D dA h none u_) args s 0 0 (TA h)) (F0 m 91 ls []) := by
    intro n
    induction n with
    | zero =>
      intro u x2 H locs ls hE hT hS hl
      cases (show (none : Option (TS)) = some u_ from hE)
    | succ n ih =>
      intro u x2 H locs ls hE hT hS hl
      rw [fX7_next_91] at hE
      refine lv_aload_n hx hb dX7_next_91 rfl (lv_at hl 0 rfl) ?_
      refine lv_aload_n hx hb dX7_next_92 rfl (lv_at hl 0 rfl) ?_
      refine tg_here C hT dX7_next_93 ?_
      obtain ⟨r20, u19, hc, hE⟩ := o_bd2_some hE
      refine tc_X7_byteAt C hT hS (kX7_byteAt hc) rfl rfl ⟨Nat.le_of_ble_eq_true rfl, Nat.le_of_ble_eq_true rfl⟩ ⟨Nat.le_refl 0, Nat.le_refl 0⟩ dX7_next_96 hl.1 (Nat.le_of_ble_eq_true rfl) (fun H locs hT hS => ?_)
      refine lv_bipush (v := (97 : Int32)) hx hb dX7_next_99 rfl ?_
      refine lv_bipush (v := (122 : Int32)) hx hb dX7_next_101 rfl ?_
      obtain ⟨r21, hc, hE⟩ := o_bd_some hE
      refine sc_X7_in C.1 (kX7_in hc) rfl rfl ⟨Nat.le_of_ble_eq_true rfl, Nat.le_of_ble_eq_true rfl⟩ ⟨Nat.le_refl 0, Nat.le_refl 0⟩ dX7_next_103 hl.1 (Nat.le_of_ble_eq_true rfl) ?_
      refine lv_if_eq (tgt := 163) hx hb dX7_next_106 (by decide) (fun c22 => ?_) (fun c22 => ?_)
      · have hE := z_t c22 hE
        refine lv_goto (tgt := 361) hx hb dX7_next_163 (by decide) ?_
        exact w_361 _ _ _ _ hE hT hS (lv_sub hl [] rfl)
      · have hE := z_f c22 hE
        refine lv_aload_n hx hb dX7_next_109 rfl (lv_at hl 0 rfl) ?_
        refine lv_iload_n hx hb dX7_next_110 rfl (lv_at hl 1 rfl) ?_
        refine lv_bipush (v := (7 : Int32)) hx hb dX7_next_111 rfl ?_
        refine lv_icmp_ge (tgt := 141) hx hb dX7_next_113 (by decide) (fun c23 => ?_) (fun c23 => ?_)
        · have hE := z_t c23 hE
          refine lv_ldc2 (v := (-1 : Int64)) hx hb C.1.2.2.2.1 (C.1.2.2.2.2 _ q1839) dX7_next_141 ?_
          exact w_144 (fX7_next_91 N n) ih _ _ _ _ _ _ hE hT hS (lv_sub hl [0, 1] rfl)
        · have hE := z_f c23 hE
          refine lv_ldc2 (v := (27 : Int64)) hx hb C.1.2.2.2.1 (C.1.2.2.2.2 _ q1837) dX7_next_116 ?_
          refine lv_aload_n hx hb dX7_next_119 rfl (lv_at hl 0 rfl) ?_
          refine tg_tokenWorth C hT dX7_next_120 ?_
          refine lv_lmul hx hb dX7_next_123 ?_
          refine lv_aload_n hx hb dX7_next_124 rfl (lv_at hl 0 rfl) ?_
          refine lv_aload_n hx hb dX7_next_125 rfl (lv_at hl 0 rfl) ?_
          refine tg_here C hT dX7_next_126 ?_
          obtain ⟨r25, u24, hc, hE⟩ := o_bd2_some hE
          refine tc_X7_byteAt C hT hS (kX7_byteAt hc) rfl rfl ⟨Nat.le_of_ble_eq_true rfl, Nat.le_of_ble_eq_true rfl⟩ ⟨Nat.le_refl 0, Nat.le_refl 0⟩ dX7_next_129 hl.1 (Nat.le_of_ble_eq_true rfl) (fun H locs hT hS => ?_)
          refine lv_i2l hx hb dX7_next_132 rfl ?_
          refine lv_ladd hx hb dX7_next_133 ?_
          refine lv_ldc2 (v := (96 : Int64)) hx hb C.1.2.2.2.1 (C.1.2.2.2.2 _ q1838) dX7_next_134 ?_
          refine lv_lsub hx hb dX7_next_137 ?_
          refine lv_goto (tgt := 144) hx hb dX7_next_138 (by decide) ?_
          exact w_144 (fX7_next_91 N n) ih _ _ _ _ _ _ hE hT hS (lv_sub hl [0, 1] rfl)
  have w_0 : ∀ (n : Nat) (u : TS) (H : Heap) (locs : List Loc) (ls : Array Slot), fX7_next_0 N n u = some u_ → TW D dA h u H → va_S (TA h) s.heap H locs → lv_has ls 3 [(0, .ref h)] → W p l e { frames := 1, cells := 0, slots := 0, locals := 22 } s m args below meth c H locs 0 0 (MQ below (mt_Q D dA h none u_) args s 0 0 (TA h)) (F0 m 0 ls []) := by
    intro n
    induction n with
    | zero =>
      intro u H locs ls hE hT hS hl
      cases (show (none : Option (TS)) = some u_ from hE)
    | succ n ih =>
      intro u H locs ls hE hT hS hl
      rw [fX7_next_0] at hE
      refine lv_aload_n hx hb dX7_next_0 rfl (lv_at hl 0 rfl) ?_
      refine lv_aload_n hx hb dX7_next_1 rfl (lv_at hl 0 rfl) ?_
      refine tg_here C hT dX7_next_2 ?_
      obtain ⟨r27, u26, hc, hE⟩ := o_bd2_some hE
      refine tc_X7_byteAt C hT hS (kX7_byteAt hc) rfl rfl ⟨Nat.le_of_ble_eq_true rfl, Nat.le_of_ble_eq_true rfl⟩ ⟨Nat.le_refl 0, Nat.le_refl 0⟩ dX7_next_5 hl.1 (Nat.le_of_ble_eq_true rfl) (fun H locs hT hS => ?_)
      refine lv_bipush (v := (32 : Int32)) hx hb dX7_next_8 rfl ?_
      refine lv_icmp_ne (tgt := 26) hx hb dX7_next_10 (by decide) (fun c28 => ?_) (fun c28 => ?_)
      · have hE := z_f c28 hE
        refine lv_aload_n hx hb dX7_next_26 rfl (lv_at hl 0 rfl) ?_
        refine lv_aload_n hx hb dX7_next_27 rfl (lv_at hl 0 rfl) ?_
        refine tg_here C hT dX7_next_28 ?_
        refine tp_tokenAt C hT hS hE dX7_next_31 (fun u29 H locs hE hT hS => ?_)
        refine lv_aload_n hx hb dX7_next_34 rfl (lv_at hl 0 rfl) ?_
        refine lv_aload_n hx hb dX7_next_35 rfl (lv_at hl 0 rfl) ?_
        refine tg_here C hT dX7_next_36 ?_
        obtain ⟨r31, u30, hc, hE⟩ := o_bd2_some hE
        refine tc_X7_byteAt C hT hS (kX7_byteAt hc) rfl rfl ⟨Nat.le_of_ble_eq_true rfl, Nat.le_of_ble_eq_true rfl⟩ ⟨Nat.le_refl 0, Nat.le_refl 0⟩ dX7_next_39 hl.1 (Nat.le_of_ble_eq_true rfl) (fun H locs hT hS => ?_)
        refine lv_istore_n (lv' := [(1, .int r31), (0, .ref h)]) hx hb dX7_next_42 rfl hl (by decide) rfl (fun ls hl => ?_)
        refine lv_aload_n hx hb dX7_next_43 rfl (lv_at hl 1 rfl) ?_
        refine lv_iconst (v := (4 : Int32)) hx hb dX7_next_44 rfl ?_
        refine tp_token C hT hS hE dX7_next_45 (fun u32 H locs hE hT hS => ?_)
        refine lv_iload_n hx hb dX7_next_48 rfl (lv_at hl 0 rfl) ?_
        refine lv_if_ge (tgt := 68) hx hb dX7_next_49 (by decide) (fun c33 => ?_) (fun c33 => ?_)
        · have hE := z_t c33 hE
          refine lv_iload_n hx hb dX7_next_68 rfl (lv_at hl 0 rfl) ?_
          refine lv_bipush (v := (97 : Int32)) hx hb dX7_next_69 rfl ?_
          refine lv_bipush (v := (122 : Int32)) hx hb dX7_next_71 rfl ?_
          obtain ⟨r34, hc, hE⟩ := o_bd_some hE
          refine sc_X7_in C.1 (kX7_in hc) rfl rfl ⟨Nat.le_of_ble_eq_true rfl, Nat.le_of_ble_eq_true rfl⟩ ⟨Nat.le_refl 0, Nat.le_refl 0⟩ dX7_next_73 hl.1 (Nat.le_of_ble_eq_true rfl) ?_
          refine lv_if_eq (tgt := 166) hx hb dX7_next_76 (by decide) (fun c35 => ?_) (fun c35 => ?_)
          · have hE := z_t c35 hE
            refine lv_iload_n hx hb dX7_next_166 rfl (lv_at hl 0 rfl) ?_
            refine lv_bipush (v := (48 : Int32)) hx hb dX7_next_167 rfl ?_
            refine lv_bipush (v := (57 : Int32)) hx hb dX7_next_169 rfl ?_
            obtain ⟨r36, hc, hE⟩ := o_bd_some hE
            refine sc_X7_in C.1 (kX7_in hc) rfl rfl ⟨Nat.le_of_ble_eq_true rfl, Nat.le_of_ble_eq_true rfl⟩ ⟨Nat.le_refl 0, Nat.le_refl 0⟩ dX7_next_171 hl.1 (Nat.le_of_ble_eq_true rfl) ?_
            refine lv_if_eq (tgt := 280) hx hb dX7_next_174 (by decide) (fun c37 => ?_) (fun c37 => ?_)
            · have hE := z_t c37 hE
              refine lv_iload_n hx hb dX7_next_280 rfl (lv_at hl 0 rfl) ?_
              refine lv_bipush (v := (40 : Int32)) hx hb dX7_next_281 rfl ?_
              refine lv_icmp_eq (tgt := 340) hx hb dX7_next_283 (by decide) (fun c38 => ?_) (fun c38 => ?_)
              · have hE := z_t c38 hE
                exact w_340 _ _ _ _ _ hE hT hS (lv_sub hl [1, 0] rfl)
              · have hE := z_f c38 hE
                refine lv_iload_n hx hb dX7_next_286 rfl (lv_at hl 0 rfl) ?_
                refine lv_bipush (v := (41 : Int32)) hx hb dX7_next_287 rfl ?_
                refine lv_icmp_eq (tgt := 340) hx hb dX7_next_289 (by decide) (fun c39 => ?_) (fun c39 => ?_)
                · have hE := z_t c39 hE
                  exact w_340 _ _ _ _ _ hE hT hS (lv_sub hl [1, 0] rfl)
                · have hE := z_f c39 hE
                  refine lv_iload_n hx hb dX7_next_292 rfl (lv_at hl 0 rfl) ?_
                  refine lv_bipush (v := (43 : Int32)) hx hb dX7_next_293 rfl ?_
                  refine lv_icmp_eq (tgt := 340) hx hb dX7_next_295 (by decide) (fun c40 => ?_) (fun c40 => ?_)
                  · have hE := z_t c40 hE
                    exact w_340 _ _ _ _ _ hE hT hS (lv_sub hl [1, 0] rfl)
                  · have hE := z_f c40 hE
                    refine lv_iload_n hx hb dX7_next_298 rfl (lv_at hl 0 rfl) ?_
                    refine lv_bipush (v := (45 : Int32)) hx hb dX7_next_299 rfl ?_
                    refine lv_icmp_eq (tgt := 340) hx hb dX7_next_301 (by decide) (fun c41 => ?_) (fun c41 => ?_)
                    · have hE := z_t c41 hE
                      exact w_340 _ _ _ _ _ hE hT hS (lv_sub hl [1, 0] rfl)
                    · have hE := z_f c41 hE
                      refine lv_iload_n hx hb dX7_next_304 rfl (lv_at hl 0 rfl) ?_
                      refine lv_bipush (v := (42 : Int32)) hx hb dX7_next_305 rfl ?_
                      refine lv_icmp_eq (tgt := 340) hx hb dX7_next_307 (by decide) (fun c42 => ?_) (fun c42 => ?_)
                      · have hE := z_t c42 hE
                        exact w_340 _ _ _ _ _ hE hT hS (lv_sub hl [1, 0] rfl)
                      · have hE := z_f c42 hE
                        refine lv_iload_n hx hb dX7_next_310 rfl (lv_at hl 0 rfl) ?_
                        refine lv_bipush (v := (47 : Int32)) hx hb dX7_next_311 rfl ?_
                        refine lv_icmp_eq (tgt := 340) hx hb dX7_next_313 (by decide) (fun c43 => ?_) (fun c43 => ?_)
                        · have hE := z_t c43 hE
                          exact w_340 _ _ _ _ _ hE hT hS (lv_sub hl [1, 0] rfl)
                        · have hE := z_f c43 hE
                          refine lv_iload_n hx hb dX7_next_316 rfl (lv_at hl 0 rfl) ?_
                          refine lv_bipush (v := (37 : Int32)) hx hb dX7_next_317 rfl ?_
                          refine lv_icmp_eq (tgt := 340) hx hb dX7_next_319 (by decide) (fun c44 => ?_) (fun c44 => ?_)
                          · have hE := z_t c44 hE
                            exact w_340 _ _ _ _ _ hE hT hS (lv_sub hl [1, 0] rfl)
                          · have hE := z_f c44 hE
                            refine lv_iload_n hx hb dX7_next_322 rfl (lv_at hl 0 rfl) ?_
                            refine lv_bipush (v := (61 : Int32)) hx hb dX7_next_323 rfl ?_
                            refine lv_icmp_eq (tgt := 340) hx hb dX7_next_325 (by decide) (fun c45 => ?_) (fun c45 => ?_)
                            · have hE := z_t c45 hE
                              exact w_340 _ _ _ _ _ hE hT hS (lv_sub hl [1, 0] rfl)
                            · have hE := z_f c45 hE
                              refine lv_iload_n hx hb dX7_next_328 rfl (lv_at hl 0 rfl) ?_
                              refine lv_bipush (v := (60 : Int32)) hx hb dX7_next_329 rfl ?_
                              refine lv_icmp_eq (tgt := 340) hx hb dX7_next_331 (by decide) (fun c46 => ?_) (fun c46 => ?_)
                              · have hE := z_t c46 hE
                                exact w_340 _ _ _ _ _ hE hT hS (lv_sub hl [1, 0] rfl)
                              · have hE := z_f c46 hE
                                refine lv_iload_n hx hb dX7_next_334 rfl (lv_at hl 0 rfl) ?_
                                refine lv_bipush (v := (62 : Int32)) hx hb dX7_next_335 rfl ?_
                                refine lv_icmp_ne (tgt := 361) hx hb dX7_next_337 (by decide) (fun c47 => ?_) (fun c47 => ?_)
                                · have hE := z_f c47 hE
                                  exact w_361 _ _ _ _ hE hT hS (lv_sub hl [] rfl)
                                · have hE := z_t c47 hE
                                  exact w_340 _ _ _ _ _ hE hT hS (lv_sub hl [1, 0] rfl)
            · have hE := z_f c37 hE
              refine lv_aload_n hx hb dX7_next_177 rfl (lv_at hl 1 rfl) ?_
              refine lv_iconst (v := (2 : Int32)) hx hb dX7_next_178 rfl ?_
              refine tp_token C hT hS hE dX7_next_179 (fun u48 H locs hE hT hS => ?_)
              refine lv_aload_n hx hb dX7_next_182 rfl (lv_at hl 1 rfl) ?_
              refine lv_lconst (v := (0 : Int64)) hx hb dX7_next_183 rfl ?_
              refine tp_tokenWorth C hT hS hE dX7_next_184 (fun u49 H locs hE hT hS => ?_)
              refine lv_iconst (v := (0 : Int32)) hx hb dX7_next_187 rfl ?_
              refine lv_istore_n (lv' := [(2, .int (0 : Int32)), (1, .int r31), (0, .ref h)]) hx hb dX7_next_188 rfl hl (by decide) rfl (fun ls hl => ?_)
              exact w_189 N _ _ _ _ _ hE hT hS (lv_sub hl [2, 0] rfl)
          · have hE := z_f c35 hE
            refine lv_aload_n hx hb dX7_next_79 rfl (lv_at hl 1 rfl) ?_
            refine lv_iconst (v := (1 : Int32)) hx hb dX7_next_80 rfl ?_
            refine tp_token C hT hS hE dX7_next_81 (fun u50 H locs hE hT hS => ?_)
            refine lv_aload_n hx hb dX7_next_84 rfl (lv_at hl 1 rfl) ?_
            refine lv_lconst (v := (0 : Int64)) hx hb dX7_next_85 rfl ?_
            refine tp_tokenWorth C hT hS hE dX7_next_86 (fun u51 H locs hE hT hS => ?_)
            refine lv_iconst (v := (0 : Int32)) hx hb dX7_next_89 rfl ?_
            refine lv_istore_n (lv' := [(2, .int (0 : Int32)), (1, .int r31), (0, .ref h)]) hx hb dX7_next_90 rfl hl (by decide) rfl (fun ls hl => ?_)
            exact w_91 N _ _ _ _ _ hE hT hS (lv_sub hl [2, 0] rfl)
        · have hE := z_f c33 hE
          refine lv_aload_n hx hb dX7_next_52 rfl (lv_at hl 1 rfl) ?_
          refine lv_iconst (v := (0 : Int32)) hx hb dX7_next_53 rfl ?_
          refine tp_token C hT hS hE dX7_next_54 (fun u52 H locs hE hT hS => ?_)
          refine lv_aload_n hx hb dX7_next_57 rfl (lv_at hl 1 rfl) ?_
          refine lv_aload_n hx hb dX7_next_58 rfl (lv_at hl 1 rfl) ?_
          refine tg_size C hT dX7_next_59 ?_
          refine tp_tokenAt C hT hS hE dX7_next_62 (fun u53 H locs hE hT hS => ?_)
          refine lv_goto (tgt := 361) hx hb dX7_next_65 (by decide) ?_
          exact w_361 _ _ _ _ hE hT hS (lv_sub hl [] rfl)
      · have hE := z_t c28 hE
        refine lv_aload_n hx hb dX7_next_13 rfl (lv_at hl 0 rfl) ?_
        refine lv_dup hx hb dX7_next_14 rfl ?_
        refine tg_here C hT dX7_next_15 ?_
        refine lv_iconst (v := (1 : Int32)) hx hb dX7_next_18 rfl ?_
        refine lv_iadd hx hb dX7_next_19 ?_
        refine tp_here C hT hS hE dX7_next_20 (fun u54 H locs hE hT hS => ?_)
        refine lv_goto (tgt := 0) hx hb dX7_next_23 (by decide) ?_
        exact ih _ _ _ _ hE hT hS (lv_sub hl [0] rfl)
  unfold fX7_next at hE
  exact w_0 N _ _ _ _ hE hT hS (lv_sub hl [0] rfl)
theorem tc_X7_isWord {a1 : Int64} {r : Int32} {u u1 : TS} {rm : Room} (C : TC p m c cc nL s args D dA) (hT : TW D dA h u H) (hS : va_S (TA h) H0 H locs) (hM : Met l yX7_isWord (ws_ yX7_isWord cX7_isWord 3 (some .boolean)) rm (va_Pc [.ref h, .long a1] (mt_B D dA h u)) (mt_Q D dA h (some (.int r)) u1) 0 0 (TA h)) (hrc : rm.cells = 0) (hrs : rm.slots = 0) (hR : rm.frames + 1 ≤ R.frames ∧ 8 + (3 + 11) + rm.locals ≤ R.locals) (hf : cells + 0 ≤ R.cells ∧ slots + 0 ≤ R.slots) (d : decode cc pc = .ok (.invokevirtual 218, 3)) (hsz : ls.size = nL) (hro : (rest.map fun v => v.category).sum ≤ 8) (kk : ∀ (H1 : Heap) (locs1 : List Loc), TW D dA h u1 H1 → va_S (TA h) H0 H1 locs1 → W p l e R s m args below meth c H1 locs1 cells slots Q (F0 m (pc + 3) ls (.int r :: rest))) : W p l e R s m args below meth c H locs cells slots Q (F0 m pc ls (.long a1 :: .ref h :: rest)) :=
  mt_call (v := (some (.int r))) (va_runV (As := [.long a1]) (rest := rest) C.1 hM (cwV 1 C.1.2.2.2.2 (lw_V q1847 q1849 qs115 q177 q1850) rfl hrc hrs (by decide +kernel) hR) (mt_preV C.2 hT _) rfl rfl hsz rfl (lv_room hro) d hf) hS (fun _ z => z) (fun H1 locs1 a b _ _ => kk H1 locs1 a b)
set_option maxHeartbeats 4000000 in
set_option maxRecDepth 100000 in
theorem kX7_isWord {l : Launch} {D : va_G} {dA : Nat → ClassId} {h N : Nat} {u u1 : TS} {a1 : Int64} {r : Int32} (hE : fX7_isWord N u a1 = some (r, u1)) : Met l yX7_isWord (ws_ yX7_isWord cX7_isWord 3 (some .boolean)) ({ frames := 0, cells := 0, slots := 0, locals := 0 }) (va_Pc [.ref h, .long a1] (mt_B D dA h u)) (mt_Q D dA h (some (.int r)) u1) 0 0 (TA h) := by
  refine mt_met (by decide) rfl rfl rfl ?_
  intro p e s m args below meth c ls C hr hlocks hT hS hl
  have hx := C.1.1
  have hb := C.1.2.1
  have w_29 : ∀ (u : TS) (y0 : Int32) (H : Heap) (locs : List Loc) (ls : Array Slot), fX7_isWord_29 N u y0 = some (r, u1) → TW D dA h u H → va_S (TA h) s.heap H locs → lv_has ls 3 [] → W p l e { frames := 0, cells := 0, slots := 0, locals := 0 } s m args below meth c H locs 0 0 (MQ below (mt_Q D dA h (some (.int r)) u1) args s 0 0 (TA h)) (F0 m 29 ls [.int y0]) := by
    intro u y0 H locs ls hE hT hS hl
    unfold fX7_isWord_29 at hE
    obtain ⟨hb1, hE⟩ := o_bl_some hE
    exact mt_zret C hr hlocks hT hS hb1 hE dX7_isWord_29
  have w_28 : ∀ (u : TS) (H : Heap) (locs : List Loc) (ls : Array Slot), fX7_isWord_28 N u = some (r, u1) → TW D dA h u H → va_S (TA h) s.heap H locs → lv_has ls 3 [] → W p l e { frames := 0, cells := 0, slots := 0, locals := 0 } s m args below meth c H locs 0 0 (MQ below (mt_Q D dA h (some (.int r)) u1) args s 0 0 (TA h)) (F0 m 28 ls []) := by
    intro u H locs ls hE hT hS hl
    unfold fX7_isWord_28 at hE
    refine lv_iconst (v := (0 : Int32)) hx hb dX7_isWord_28 rfl ?_
    exact w_29 _ _ _ _ _ hE hT hS (lv_sub hl [] rfl)
  unfold fX7_isWord at hE
  refine lv_aload_n hx hb dX7_isWord_0 rfl (lv_at hl 0 rfl) ?_
  refine tg_bad C hT dX7_isWord_1 ?_
  refine lv_if_ne (tgt := 28) hx hb dX7_isWord_4 (by decide) (fun c1 => ?_) (fun c1 => ?_)
  · have hE := z_f c1 hE
    exact w_28 _ _ _ _ hE hT hS (lv_sub hl [] rfl)
  · have hE := z_t c1 hE
    refine lv_aload_n hx hb dX7_isWord_7 rfl (lv_at hl 0 rfl) ?_
    refine tg_token C hT dX7_isWord_8 ?_
    refine lv_iconst (v := (1 : Int32)) hx hb dX7_isWord_11 rfl ?_
    refine lv_icmp_ne (tgt := 28) hx hb dX7_isWord_12 (by decide) (fun c2 => ?_) (fun c2 => ?_)
    · have hE := z_f c2 hE
      exact w_28 _ _ _ _ hE hT hS (lv_sub hl [] rfl)
    · have hE := z_t c2 hE
      refine lv_aload_n hx hb dX7_isWord_15 rfl (lv_at hl 0 rfl) ?_
      refine tg_tokenWorth C hT dX7_isWord_16 ?_
      refine lv_lload_n hx hb dX7_isWord_19 rfl (lv_at hl 1 rfl) ?_
      refine W.lcmp hx hb dX7_isWord_20 ?_
      refine lv_if_ne (tgt := 28) hx hb dX7_isWord_21 (by decide) (fun c3 => ?_) (fun c3 => ?_)
      · have hE := z_f c3 hE
        exact w_28 _ _ _ _ hE hT hS (lv_sub hl [] rfl)
      · have hE := z_t c3 hE
        refine lv_iconst (v := (1 : Int32)) hx hb dX7_isWord_24 rfl ?_
        refine lv_goto (tgt := 29) hx hb dX7_isWord_25 (by decide) ?_
        exact w_29 _ _ _ _ _ hE hT hS (lv_sub hl [] rfl)
end TRG0
