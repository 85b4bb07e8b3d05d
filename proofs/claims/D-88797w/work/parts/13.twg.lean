section TRG6
variable {p : Program} {l : Launch} {e : Env} {R : Room} {s : State} {m : MethodId} {args : Array Value} {below : List Frame} {meth : Method} {c : Code} {H : Heap} {locs : List Loc} {cells slots : Nat} {Q : State → Prop} {cc : ByteArray} {nL pc : Nat} {ls : Array Slot} {rest : List Value} {D : va_G} {dA : Nat → ClassId} {h : Nat} {H0 : Heap}
theorem tc_X7_rotsAndGrows {u u1 : TS} {rm : Room} (C : TC p m c cc nL s args D dA) (hT : TW D dA h u H) (hS : va_S (TA h) H0 H locs) (hM : Met l yX7_rotsAndGrows (ws_ yX7_rotsAndGrows cX7_rotsAndGrows 3 none) rm (va_Pc [.ref h] (mt_B D dA h u)) (mt_Q D dA h none u1) 0 0 (TA h)) (hrc : rm.cells = 0) (hrs : rm.slots = 0) (hR : rm.frames + 1 ≤ R.frames ∧ 8 + (3 + 11) + rm.locals ≤ R.locals) (hf : cells + 0 ≤ R.cells ∧ slots + 0 ≤ R.slots) (d : decode cc pc = .ok (.invokevirtual 380, 3)) (hsz : ls.size = nL) (hro : (rest.map fun v => v.category).sum ≤ 8) (kk : ∀ (H1 : Heap) (locs1 : List Loc), TW D dA h u1 H1 → va_S (TA h) H0 H1 locs1 → W p l e R s m args below meth c H1 locs1 cells slots Q (F0 m (pc + 3) ls (rest))) : W p l e R s m args below meth c H locs cells slots Q (F0 m pc ls (.ref h :: rest)) :=
  mt_call (v := none) (va_runV (As := []) (rest := rest) C.1 hM (cwV 0 C.1.2.2.2.2 (lw_V q2135 q2137 qs150 q177 q2138) rfl hrc hrs (by decide +kernel) hR) (mt_preV C.2 hT _) rfl rfl hsz rfl (lv_room hro) d hf) hS (fun _ z => z) (fun H1 locs1 a b _ _ => kk H1 locs1 a b)
set_option maxHeartbeats 4000000 in
set_option maxRecDepth 100000 in
theorem kX7_rotsAndGrows {l : Launch} {D : va_G} {dA : Nat → ClassId} {h N : Nat} {u u_ : TS} (hE : fX7_rotsAndGrows N u = some u_) : Met l yX7_rotsAndGrows (ws_ yX7_rotsAndGrows cX7_rotsAndGrows 3 none) ({ frames := 2, cells := 0, slots := 0, locals := 43 }) (va_Pc [.ref h] (mt_B D dA h u)) (mt_Q D dA h none u_) 0 0 (TA h) := by
  refine mt_met (by decide) rfl rfl rfl ?_
  intro p e s m args below meth c ls C hr hlocks hT hS hl
  have hx := C.1.1
  have hb := C.1.2.1
  have w_157 : ∀ (ag2 : TS → Int32 → Option (TS)) (hag2 : (∀ (u : TS) (x1 : Int32) (H : Heap) (locs : List Loc) (ls : Array Slot), ag2 u x1 = some u_ → TW D dA h u H → va_S (TA h) s.heap H locs → lv_has ls 3 [(0, .ref h), (1, .int x1)] → W p l e { frames := 2, cells := 0, slots := 0, locals := 43 } s m args below meth c H locs 0 0 (MQ below (mt_Q D dA h none u_) args s 0 0 (TA h)) (F0 m 2 ls []))) (u : TS) (x1 : Int32) (H : Heap) (locs : List Loc) (ls : Array Slot), fX7_rotsAndGrows_157 N ag2 u x1 = some u_ → TW D dA h u H → va_S (TA h) s.heap H locs → lv_has ls 3 [(0, .ref h), (1, .int x1)] → W p l e { frames := 2, cells := 0, slots := 0, locals := 43 } s m args below meth c H locs 0 0 (MQ below (mt_Q D dA h none u_) args s 0 0 (TA h)) (F0 m 157 ls []) := by
    intro ag2 hag2 u x1 H locs ls hE hT hS hl
    unfold fX7_rotsAndGrows_157 at hE
    refine z_iinc (v := (x1 + (1 : Int32))) (lw := (fun y_ => [(1, .int y_), (0, .ref h)])) hx hb dX7_rotsAndGrows_157 hl hE (k := 1) rfl rfl (by decide) (fun _ => rfl) (fun z1 ls hE hl => ?_)
    refine lv_goto (tgt := 2) hx hb dX7_rotsAndGrows_160 (by decide) ?_
    exact hag2 _ _ _ _ _ hE hT hS (lv_sub hl [1, 0] rfl)
  have w_117 : ∀ (ag2 : TS → Int32 → Option (TS)) (hag2 : (∀ (u : TS) (x1 : Int32) (H : Heap) (locs : List Loc) (ls : Array Slot), ag2 u x1 = some u_ → TW D dA h u H → va_S (TA h) s.heap H locs → lv_has ls 3 [(0, .ref h), (1, .int x1)] → W p l e { frames := 2, cells := 0, slots := 0, locals := 43 } s m args below meth c H locs 0 0 (MQ below (mt_Q D dA h none u_) args s 0 0 (TA h)) (F0 m 2 ls []))) (u : TS) (x1 : Int32) (x2 : Int32) (H : Heap) (locs : List Loc) (ls : Array Slot), fX7_rotsAndGrows_117 N ag2 u x1 x2 = some u_ → TW D dA h u H → va_S (TA h) s.heap H locs → lv_has ls 3 [(0, .ref h), (1, .int x1), (2, .int x2)] → W p l e { frames := 2, cells := 0, slots := 0, locals := 43 } s m args below meth c H locs 0 0 (MQ below (mt_Q D dA h none u_) args s 0 0 (TA h)) (F0 m 117 ls []) := by
    intro ag2 hag2 u x1 x2 H locs ls hE hT hS hl
    unfold fX7_rotsAndGrows_117 at hE
    refine lv_aload_n hx hb dX7_rotsAndGrows_117 rfl (lv_at hl 0 rfl) ?_
    refine tg_s C hT dX7_rotsAndGrows_118 ?_
    refine lv_iload_n hx hb dX7_rotsAndGrows_121 rfl (lv_at hl 2 rfl) ?_
    refine lv_bipush (v := (6 : Int32)) hx hb dX7_rotsAndGrows_122 rfl ?_
    refine lv_iadd hx hb dX7_rotsAndGrows_124 ?_
    refine tl_s C hT hE dX7_rotsAndGrows_125 (fun hE => ?_)
    refine z_nmi hE (fun v2 hE => ?_)
    refine lv_bipush (v := (100 : Int32)) hx hb dX7_rotsAndGrows_126 rfl ?_
    refine lv_icmp_ge (tgt := 157) hx hb dX7_rotsAndGrows_128 (by decide) (fun c3 => ?_) (fun c3 => ?_)
    · have hE := z_t c3 hE
      exact w_157 ag2 hag2 _ _ _ _ _ hE hT hS (lv_sub hl [0, 1] rfl)
    · have hE := z_f c3 hE
      refine lv_aload_n hx hb dX7_rotsAndGrows_131 rfl (lv_at hl 0 rfl) ?_
      refine tg_s C hT dX7_rotsAndGrows_132 ?_
      refine lv_iload_n hx hb dX7_rotsAndGrows_135 rfl (lv_at hl 2 rfl) ?_
      refine lv_iconst (v := (5 : Int32)) hx hb dX7_rotsAndGrows_136 rfl ?_
      refine lv_iadd hx hb dX7_rotsAndGrows_137 ?_
      refine tl_s C hT hE dX7_rotsAndGrows_138 (fun hE => ?_)
      refine z_nmi hE (fun v4 hE => ?_)
      refine lv_bipush (v := (100 : Int32)) hx hb dX7_rotsAndGrows_139 rfl ?_
      refine lv_icmp_ge (tgt := 157) hx hb dX7_rotsAndGrows_141 (by decide) (fun c5 => ?_) (fun c5 => ?_)
      · have hE := z_t c5 hE
        exact w_157 ag2 hag2 _ _ _ _ _ hE hT hS (lv_sub hl [0, 1] rfl)
      · have hE := z_f c5 hE
        refine lv_aload_n hx hb dX7_rotsAndGrows_144 rfl (lv_at hl 0 rfl) ?_
        refine tg_s C hT dX7_rotsAndGrows_145 ?_
        refine lv_iload_n hx hb dX7_rotsAndGrows_148 rfl (lv_at hl 2 rfl) ?_
        refine lv_bipush (v := (6 : Int32)) hx hb dX7_rotsAndGrows_149 rfl ?_
        refine lv_iadd hx hb dX7_rotsAndGrows_151 ?_
        refine lv_dup2_11 hx hb dX7_rotsAndGrows_152 rfl rfl ?_
        refine tl_s C hT hE dX7_rotsAndGrows_153 (fun hE => ?_)
        refine z_nmi hE (fun v6 hE => ?_)
        refine lv_iconst (v := (1 : Int32)) hx hb dX7_rotsAndGrows_154 rfl ?_
        refine lv_iadd hx hb dX7_rotsAndGrows_155 ?_
        refine ts_s C hT hS hE dX7_rotsAndGrows_156 (fun u7 H locs hE hT hS => ?_)
        exact w_157 ag2 hag2 _ _ _ _ _ hE hT hS (lv_sub hl [0, 1] rfl)
  have w_2 : ∀ (n : Nat) (u : TS) (x1 : Int32) (H : Heap) (locs : List Loc) (ls : Array Slot), fX7_rotsAndGrows_2 N n u x1 = some u_ → TW D dA h u H → va_S (TA h) s.heap H locs → lv_has ls 3 [(0, .ref h), (1, .int x1)] → W p l e { frames := 2, cells := 0, slots := 0, locals := 43 } s m args below meth c H locs 0 0 (MQ below (mt_Q D dA h none u_) args s 0 0 (TA h)) (F0 m 2 ls []) := by
    intro n
    induction n with
    | zero =>
      intro u x1 H locs ls hE hT hS hl
      cases (show (none : Option (TS)) = some u_ from hE)
    | succ n ih =>
      intro u x1 H locs ls hE hT hS hl
      rw [fX7_rotsAndGrows_2] at hE
      refine lv_iload_n hx hb dX7_rotsAndGrows_2 rfl (lv_at hl 1 rfl) ?_
      refine lv_aload_n hx hb dX7_rotsAndGrows_3 rfl (lv_at hl 0 rfl) ?_
      refine tg_s C hT dX7_rotsAndGrows_4 ?_
      refine lv_iconst (v := (1 : Int32)) hx hb dX7_rotsAndGrows_7 rfl ?_
      refine tl_s C hT hE dX7_rotsAndGrows_8 (fun hE => ?_)
      refine z_nmi hE (fun v8 hE => ?_)
      refine lv_icmp_ge (tgt := 163) hx hb dX7_rotsAndGrows_9 (by decide) (fun c9 => ?_) (fun c9 => ?_)
      · have hE := z_t c9 hE
        exact mt_vret C hr hlocks hT hS hE dX7_rotsAndGrows_163
      · have hE := z_f c9 hE
        refine lv_bipush (v := (16 : Int32)) hx hb dX7_rotsAndGrows_12 rfl ?_
        refine lv_bipush (v := (14 : Int32)) hx hb dX7_rotsAndGrows_14 rfl ?_
        refine lv_iload_n hx hb dX7_rotsAndGrows_16 rfl (lv_at hl 1 rfl) ?_
        refine lv_imul hx hb dX7_rotsAndGrows_17 ?_
        refine lv_iadd hx hb dX7_rotsAndGrows_18 ?_
        refine z_nmi hE (fun z10 hE => ?_)
        refine lv_istore_n (lv' := [(2, .int z10), (0, .ref h), (1, .int x1)]) hx hb dX7_rotsAndGrows_19 rfl hl (by decide) rfl (fun ls hl => ?_)
        refine lv_aload_n hx hb dX7_rotsAndGrows_20 rfl (lv_at hl 1 rfl) ?_
        refine tg_books C hT dX7_rotsAndGrows_21 ?_
        refine lv_iconst (v := (4 : Int32)) hx hb dX7_rotsAndGrows_24 rfl ?_
        refine lv_dup2_11 hx hb dX7_rotsAndGrows_25 rfl rfl ?_
        refine tl_books C hT hE dX7_rotsAndGrows_26 (fun hE => ?_)
        refine z_nml hE (fun v11 hE => ?_)
        refine lv_aload_n hx hb dX7_rotsAndGrows_27 rfl (lv_at hl 1 rfl) ?_
        refine tg_s C hT dX7_rotsAndGrows_28 ?_
        refine lv_iload_n hx hb dX7_rotsAndGrows_31 rfl (lv_at hl 0 rfl) ?_
        refine lv_bipush (v := (7 : Int32)) hx hb dX7_rotsAndGrows_32 rfl ?_
        refine lv_iadd hx hb dX7_rotsAndGrows_34 ?_
        refine tl_s C hT hE dX7_rotsAndGrows_35 (fun hE => ?_)
        refine z_nmi hE (fun v12 hE => ?_)
        refine lv_aload_n hx hb dX7_rotsAndGrows_36 rfl (lv_at hl 1 rfl) ?_
        refine tg_s C hT dX7_rotsAndGrows_37 ?_
        refine lv_iload_n hx hb dX7_rotsAndGrows_40 rfl (lv_at hl 0 rfl) ?_
        refine lv_bipush (v := (7 : Int32)) hx hb dX7_rotsAndGrows_41 rfl ?_
        refine lv_iadd hx hb dX7_rotsAndGrows_43 ?_
        refine tl_s C hT hE dX7_rotsAndGrows_44 (fun hE => ?_)
        refine z_nmi hE (fun v13 hE => ?_)
        refine lv_iconst (v := (2 : Int32)) hx hb dX7_rotsAndGrows_45 rfl ?_
        refine lv_idiv hx hb dX7_rotsAndGrows_46 (by decide) ?_
        refine lv_isub hx hb dX7_rotsAndGrows_47 ?_
        refine lv_i2l hx hb dX7_rotsAndGrows_48 rfl ?_
        refine lv_ladd hx hb dX7_rotsAndGrows_49 ?_
        refine ts_books C hT hS hE dX7_rotsAndGrows_50 (fun u14 H locs hE hT hS => ?_)
        refine lv_aload_n hx hb dX7_rotsAndGrows_51 rfl (lv_at hl 1 rfl) ?_
        refine tg_s C hT dX7_rotsAndGrows_52 ?_
        refine lv_iload_n hx hb dX7_rotsAndGrows_55 rfl (lv_at hl 0 rfl) ?_
        refine lv_bipush (v := (7 : Int32)) hx hb dX7_rotsAndGrows_56 rfl ?_
        refine lv_iadd hx hb dX7_rotsAndGrows_58 ?_
        refine lv_dup2_11 hx hb dX7_rotsAndGrows_59 rfl rfl ?_
        refine tl_s C hT hE dX7_rotsAndGrows_60 (fun hE => ?_)
        refine z_nmi hE (fun v15 hE => ?_)
        refine lv_iconst (v := (2 : Int32)) hx hb dX7_rotsAndGrows_61 rfl ?_
        refine lv_idiv hx hb dX7_rotsAndGrows_62 (by decide) ?_
        refine ts_s C hT hS hE dX7_rotsAndGrows_63 (fun u16 H locs hE hT hS => ?_)
        refine lv_aload_n hx hb dX7_rotsAndGrows_64 rfl (lv_at hl 1 rfl) ?_
        refine lv_iload_n hx hb dX7_rotsAndGrows_65 rfl (lv_at hl 2 rfl) ?_
        obtain ⟨r18, u17, hc, hE⟩ := o_bd2_some hE
        refine tc_X7_isBare C hT hS (kX7_isBare hc) rfl rfl ⟨Nat.le_of_ble_eq_true rfl, Nat.le_of_ble_eq_true rfl⟩ ⟨Nat.le_refl 0, Nat.le_refl 0⟩ dX7_rotsAndGrows_66 hl.1 (Nat.le_of_ble_eq_true rfl) (fun H locs hT hS => ?_)
        refine lv_if_ne (tgt := 157) hx hb dX7_rotsAndGrows_69 (by decide) (fun c19 => ?_) (fun c19 => ?_)
        · have hE := z_f c19 hE
          exact w_157 (fX7_rotsAndGrows_2 N n) ih _ _ _ _ _ hE hT hS (lv_sub hl [1, 2] rfl)
        · have hE := z_t c19 hE
          refine lv_aload_n hx hb dX7_rotsAndGrows_72 rfl (lv_at hl 1 rfl) ?_
          refine lv_iload_n hx hb dX7_rotsAndGrows_73 rfl (lv_at hl 2 rfl) ?_
          refine lv_bipush (v := (10 : Int32)) hx hb dX7_rotsAndGrows_74 rfl ?_
          obtain ⟨r21, u20, hc, hE⟩ := o_bd2_some hE
          refine tc_X7_st C hT hS (kX7_st hc) rfl rfl ⟨Nat.le_of_ble_eq_true rfl, Nat.le_of_ble_eq_true rfl⟩ ⟨Nat.le_refl 0, Nat.le_refl 0⟩ dX7_rotsAndGrows_76 hl.1 (Nat.le_of_ble_eq_true rfl) (fun H locs hT hS => ?_)
          refine lv_aload_n hx hb dX7_rotsAndGrows_79 rfl (lv_at hl 1 rfl) ?_
          refine tg_s C hT dX7_rotsAndGrows_80 ?_
          refine lv_iconst (v := (0 : Int32)) hx hb dX7_rotsAndGrows_83 rfl ?_
          refine tl_s C hT hE dX7_rotsAndGrows_84 (fun hE => ?_)
          refine z_nmi hE (fun v22 hE => ?_)
          refine lv_icmp_ne (tgt := 91) hx hb dX7_rotsAndGrows_85 (by decide) (fun c23 => ?_) (fun c23 => ?_)
          · have hE := z_f c23 hE
            refine lv_aload_n hx hb dX7_rotsAndGrows_91 rfl (lv_at hl 1 rfl) ?_
            refine tg_s C hT dX7_rotsAndGrows_92 ?_
            refine lv_iload_n hx hb dX7_rotsAndGrows_95 rfl (lv_at hl 0 rfl) ?_
            refine lv_iconst (v := (5 : Int32)) hx hb dX7_rotsAndGrows_96 rfl ?_
            refine lv_iadd hx hb dX7_rotsAndGrows_97 ?_
            refine tl_s C hT hE dX7_rotsAndGrows_98 (fun hE => ?_)
            refine z_nmi hE (fun v24 hE => ?_)
            refine lv_sipush (v := (400 : Int32)) hx hb dX7_rotsAndGrows_99 rfl ?_
            refine lv_icmp_ge (tgt := 117) hx hb dX7_rotsAndGrows_102 (by decide) (fun c25 => ?_) (fun c25 => ?_)
            · have hE := z_t c25 hE
              exact w_117 (fX7_rotsAndGrows_2 N n) ih _ _ _ _ _ _ hE hT hS (lv_sub hl [1, 2, 0] rfl)
            · have hE := z_f c25 hE
              refine lv_aload_n hx hb dX7_rotsAndGrows_105 rfl (lv_at hl 1 rfl) ?_
              refine tg_s C hT dX7_rotsAndGrows_106 ?_
              refine lv_iload_n hx hb dX7_rotsAndGrows_109 rfl (lv_at hl 0 rfl) ?_
              refine lv_iconst (v := (5 : Int32)) hx hb dX7_rotsAndGrows_110 rfl ?_
              refine lv_iadd hx hb dX7_rotsAndGrows_111 ?_
              refine lv_dup2_11 hx hb dX7_rotsAndGrows_112 rfl rfl ?_
              refine tl_s C hT hE dX7_rotsAndGrows_113 (fun hE => ?_)
              refine z_nmi hE (fun v26 hE => ?_)
              refine lv_iconst (v := (1 : Int32)) hx hb dX7_rotsAndGrows_114 rfl ?_
              refine lv_iadd hx hb dX7_rotsAndGrows_115 ?_
              refine ts_s C hT hS hE dX7_rotsAndGrows_116 (fun u27 H locs hE hT hS => ?_)
              exact w_117 (fX7_rotsAndGrows_2 N n) ih _ _ _ _ _ _ hE hT hS (lv_sub hl [1, 2, 0] rfl)
          · have hE := z_t c23 hE
            refine lv_goto (tgt := 157) hx hb dX7_rotsAndGrows_88 (by decide) ?_
            exact w_157 (fX7_rotsAndGrows_2 N n) ih _ _ _ _ _ hE hT hS (lv_sub hl [1, 2] rfl)
  unfold fX7_rotsAndGrows at hE
  refine lv_iconst (v := (0 : Int32)) hx hb dX7_rotsAndGrows_0 rfl ?_
  refine lv_istore_n (lv' := [(1, .int (0 : Int32)), (0, .ref h)]) hx hb dX7_rotsAndGrows_1 rfl hl (by decide) rfl (fun ls hl => ?_)
  exact w_2 N _ _ _ _ _ hE hT hS (lv_sub hl [1, 0] rfl)
theorem tc_X7_steals {a1 : Int32} {u u1 : TS} {rm : Room} (C : TC p m c cc nL s args D dA) (hT : TW D dA h u H) (hS : va_S (TA h) H0 H locs) (hM : Met l yX7_steals (ws_ yX7_steals cX7_steals 5 none) rm (va_Pc [.ref h, .int a1] (mt_B D dA h u)) (mt_Q D dA h none u1) 0 0 (TA h)) (hrc : rm.cells = 0) (hrs : rm.slots = 0) (hR : rm.frames + 1 ≤ R.frames ∧ 8 + (5 + 11) + rm.locals ≤ R.locals) (hf : cells + 0 ≤ R.cells ∧ slots + 0 ≤ R.slots) (d : decode cc pc = .ok (.invokevirtual 383, 3)) (hsz : ls.size = nL) (hro : (rest.map fun v => v.category).sum ≤ 8) (kk : ∀ (H1 : Heap) (locs1 : List Loc), TW D dA h u1 H1 → va_S (TA h) H0 H1 locs1 → W p l e R s m args below meth c H1 locs1 cells slots Q (F0 m (pc + 3) ls (rest))) : W p l e R s m args below meth c H locs cells slots Q (F0 m pc ls (.int a1 :: .ref h :: rest)) :=
  mt_call (v := none) (va_runV (As := [.int a1]) (rest := rest) C.1 hM (cwV 1 C.1.2.2.2.2 (lw_V q2139 q2141 qs151 q177 q2142) rfl hrc hrs (by decide +kernel) hR) (mt_preV C.2 hT _) rfl rfl hsz rfl (lv_room hro) d hf) hS (fun _ z => z) (fun H1 locs1 a b _ _ => kk H1 locs1 a b)
set_option maxHeartbeats 4000000 in
set_option maxRecDepth 100000 in
theorem kX7_steals {l : Launch} {D : va_G} {dA : Nat → ClassId} {h N : Nat} {u u_ : TS} {a1 : Int32} (hE : fX7_steals N u a1 = some u_) : Met l yX7_steals (ws_ yX7_steals cX7_steals 5 none) ({ frames := 4, cells := 0, slots := 0, locals := 95 }) (va_Pc [.ref h, .int a1] (mt_B D dA h u)) (mt_Q D dA h none u_) 0 0 (TA h) := by
  refine mt_met (by decide) rfl rfl rfl ?_
  intro p e s m args below meth c ls C hr hlocks hT hS hl
  have hx := C.1.1
  have hb := C.1.2.1
  have w_202 : ∀ (ag133 : TS → Int32 → Int32 → Int32 → Option (TS)) (hag133 : (∀ (u : TS) (x1 : Int32) (x2 : Int32) (x3 : Int32) (H : Heap) (locs : List Loc) (ls : Array Slot), ag133 u x1 x2 x3 = some u_ → TW D dA h u H → va_S (TA h) s.heap H locs → lv_has ls 5 [(0, .ref h), (1, .int x1), (2, .int x2), (3, .int x3)] → W p l e { frames := 4, cells := 0, slots := 0, locals := 95 } s m args below meth c H locs 0 0 (MQ below (mt_Q D dA h none u_) args s 0 0 (TA h)) (F0 m 133 ls []))) (u : TS) (x1 : Int32) (x2 : Int32) (x3 : Int32) (H : Heap) (locs : List Loc) (ls : Array Slot), fX7_steals_202 N ag133 u x1 x2 x3 = some u_ → TW D dA h u H → va_S (TA h) s.heap H locs → lv_has ls 5 [(0, .ref h), (1, .int x1), (2, .int x2), (3, .int x3)] → W p l e { frames := 4, cells := 0, slots := 0, locals := 95 } s m args below meth c H locs 0 0 (MQ below (mt_Q D dA h none u_) args s 0 0 (TA h)) (F0 m 202 ls []) := by
    intro ag133 hag133 u x1 x2 x3 H locs ls hE hT hS hl
    unfold fX7_steals_202 at hE
    refine z_iinc (v := (x3 + (1 : Int32))) (lw := (fun y_ => [(3, .int y_), (0, .ref h), (1, .int x1), (2, .int x2)])) hx hb dX7_steals_202 hl hE (k := 3) rfl rfl (by decide) (fun _ => rfl) (fun z1 ls hE hl => ?_)
    refine lv_goto (tgt := 133) hx hb dX7_steals_205 (by decide) ?_
    exact hag133 _ _ _ _ _ _ _ hE hT hS (lv_sub hl [1, 2, 3, 0] rfl)
  have w_143 : ∀ (ag133 : TS → Int32 → Int32 → Int32 → Option (TS)) (hag133 : (∀ (u : TS) (x1 : Int32) (x2 : Int32) (x3 : Int32) (H : Heap) (locs : List Loc) (ls : Array Slot), ag133 u x1 x2 x3 = some u_ → TW D dA h u H → va_S (TA h) s.heap H locs → lv_has ls 5 [(0, .ref h), (1, .int x1), (2, .int x2), (3, .int x3)] → W p l e { frames := 4, cells := 0, slots := 0, locals := 95 } s m args below meth c H locs 0 0 (MQ below (mt_Q D dA h none u_) args s 0 0 (TA h)) (F0 m 133 ls []))) (n : Nat) (u : TS) (x1 : Int32) (x2 : Int32) (x3 : Int32) (H : Heap) (locs : List Loc) (ls : Array Slot), fX7_steals_143 N ag133 n u x1 x2 x3 = some u_ → TW D dA h u H → va_S (TA h) s.heap H locs → lv_has ls 5 [(0, .ref h), (1, .int x1), (2, .int x2), (3, .int x3)] → W p l e { frames := 4, cells := 0, slots := 0, locals := 95 } s m args below meth c H locs 0 0 (MQ below (mt_Q D dA h none u_) args s 0 0 (TA h)) (F0 m 143 ls []) := by
    intro ag133 hag133 n
    induction n with
    | zero =>
      intro u x1 x2 x3 H locs ls hE hT hS hl
      cases (show (none : Option (TS)) = some u_ from hE)
    | succ n ih =>
      intro u x1 x2 x3 H locs ls hE hT hS hl
      rw [fX7_steals_143] at hE
      refine lv_iload_n hx hb dX7_steals_143 rfl (lv_at hl 2 rfl) ?_
      refine lv_if_le (tgt := 202) hx hb dX7_steals_144 (by decide) (fun c2 => ?_) (fun c2 => ?_)
      · have hE := z_t c2 hE
        exact w_202 ag133 hag133 _ _ _ _ _ _ _ hE hT hS (lv_sub hl [0, 1, 2, 3] rfl)
      · have hE := z_f c2 hE
        refine lv_aload_n hx hb dX7_steals_147 rfl (lv_at hl 0 rfl) ?_
        refine lv_iload_n hx hb dX7_steals_148 rfl (lv_at hl 3 rfl) ?_
        refine lv_iconst (v := (0 : Int32)) hx hb dX7_steals_149 rfl ?_
        obtain ⟨r4, u3, hc, hE⟩ := o_bd2_some hE
        refine tc_X7_st C hT hS (kX7_st hc) rfl rfl ⟨Nat.le_of_ble_eq_true rfl, Nat.le_of_ble_eq_true rfl⟩ ⟨Nat.le_refl 0, Nat.le_refl 0⟩ dX7_steals_150 hl.1 (Nat.le_of_ble_eq_true rfl) (fun H locs hT hS => ?_)
        refine lv_iload_n hx hb dX7_steals_153 rfl (lv_at hl 1 rfl) ?_
        refine lv_icmp_ne (tgt := 202) hx hb dX7_steals_154 (by decide) (fun c5 => ?_) (fun c5 => ?_)
        · have hE := z_f c5 hE
          exact w_202 ag133 hag133 _ _ _ _ _ _ _ hE hT hS (lv_sub hl [0, 1, 2, 3] rfl)
        · have hE := z_t c5 hE
          refine lv_aload_n hx hb dX7_steals_157 rfl (lv_at hl 0 rfl) ?_
          refine lv_iload_n hx hb dX7_steals_158 rfl (lv_at hl 3 rfl) ?_
          obtain ⟨r7, u6, hc, hE⟩ := o_bd2_some hE
          refine tc_X7_isBare C hT hS (kX7_isBare hc) rfl rfl ⟨Nat.le_of_ble_eq_true rfl, Nat.le_of_ble_eq_true rfl⟩ ⟨Nat.le_refl 0, Nat.le_refl 0⟩ dX7_steals_159 hl.1 (Nat.le_of_ble_eq_true rfl) (fun H locs hT hS => ?_)
          refine lv_if_ne (tgt := 202) hx hb dX7_steals_162 (by decide) (fun c8 => ?_) (fun c8 => ?_)
          · have hE := z_f c8 hE
            exact w_202 ag133 hag133 _ _ _ _ _ _ _ hE hT hS (lv_sub hl [0, 1, 2, 3] rfl)
          · have hE := z_t c8 hE
            refine lv_aload_n hx hb dX7_steals_165 rfl (lv_at hl 0 rfl) ?_
            refine lv_iload_n hx hb dX7_steals_166 rfl (lv_at hl 3 rfl) ?_
            refine lv_aload_n hx hb dX7_steals_167 rfl (lv_at hl 0 rfl) ?_
            refine lv_iload_n hx hb dX7_steals_168 rfl (lv_at hl 3 rfl) ?_
            refine lv_bipush (v := (6 : Int32)) hx hb dX7_steals_169 rfl ?_
            obtain ⟨r10, u9, hc, hE⟩ := o_bd2_some hE
            refine tc_X7_st C hT hS (kX7_st hc) rfl rfl ⟨Nat.le_of_ble_eq_true rfl, Nat.le_of_ble_eq_true rfl⟩ ⟨Nat.le_refl 0, Nat.le_refl 0⟩ dX7_steals_171 hl.1 (Nat.le_of_ble_eq_true rfl) (fun H locs hT hS => ?_)
            refine lv_iconst (v := (1 : Int32)) hx hb dX7_steals_174 rfl ?_
            refine lv_isub hx hb dX7_steals_175 ?_
            obtain ⟨r12, u11, hc, hE⟩ := o_bd2_some hE
            refine tc_X7_thins C hT hS (kX7_thins hc) rfl rfl ⟨Nat.le_of_ble_eq_true rfl, Nat.le_of_ble_eq_true rfl⟩ ⟨Nat.le_refl 0, Nat.le_refl 0⟩ dX7_steals_176 hl.1 (Nat.le_of_ble_eq_true rfl) (fun H locs hT hS => ?_)
            refine lv_istore (lv' := [(4, .int r12), (0, .ref h), (1, .int x1), (2, .int x2), (3, .int x3)]) hx hb dX7_steals_179 hl (by decide) rfl (fun ls hl => ?_)
            refine lv_aload_n hx hb dX7_steals_181 rfl (lv_at hl 1 rfl) ?_
            refine tg_books C hT dX7_steals_182 ?_
            refine lv_bipush (v := (6 : Int32)) hx hb dX7_steals_185 rfl ?_
            refine lv_dup2_11 hx hb dX7_steals_187 rfl rfl ?_
            refine tl_books C hT hE dX7_steals_188 (fun hE => ?_)
            refine z_nml hE (fun v13 hE => ?_)
            refine lv_iload hx hb dX7_steals_189 (lv_at hl 0 rfl) ?_
            refine lv_i2l hx hb dX7_steals_191 rfl ?_
            refine lv_ladd hx hb dX7_steals_192 ?_
            refine ts_books C hT hS hE dX7_steals_193 (fun u14 H locs hE hT hS => ?_)
            refine lv_iload_n hx hb dX7_steals_194 rfl (lv_at hl 3 rfl) ?_
            refine lv_iload hx hb dX7_steals_195 (lv_at hl 0 rfl) ?_
            refine lv_isub hx hb dX7_steals_197 ?_
            refine z_nmi hE (fun z15 hE => ?_)
            refine lv_istore_n (lv' := [(2, .int z15), (4, .int r12), (0, .ref h), (1, .int x1), (3, .int x3)]) hx hb dX7_steals_198 rfl hl (by decide) rfl (fun ls hl => ?_)
            refine lv_goto (tgt := 143) hx hb dX7_steals_199 (by decide) ?_
            exact ih _ _ _ _ _ _ _ hE hT hS (lv_sub hl [2, 3, 0, 4] rfl)
  have w_133 : ∀ (n : Nat) (u : TS) (x1 : Int32) (x2 : Int32) (x3 : Int32) (H : Heap) (locs : List Loc) (ls : Array Slot), fX7_steals_133 N n u x1 x2 x3 = some u_ → TW D dA h u H → va_S (TA h) s.heap H locs → lv_has ls 5 [(0, .ref h), (1, .int x1), (2, .int x2), (3, .int x3)] → W p l e { frames := 4, cells := 0, slots := 0, locals := 95 } s m args below meth c H locs 0 0 (MQ below (mt_Q D dA h none u_) args s 0 0 (TA h)) (F0 m 133 ls []) := by
    intro n
    induction n with
    | zero =>
      intro u x1 x2 x3 H locs ls hE hT hS hl
      cases (show (none : Option (TS)) = some u_ from hE)
    | succ n ih =>
      intro u x1 x2 x3 H locs ls hE hT hS hl
      rw [fX7_steals_133] at hE
      refine lv_iload_n hx hb dX7_steals_133 rfl (lv_at hl 3 rfl) ?_
      refine lv_aload_n hx hb dX7_steals_134 rfl (lv_at hl 0 rfl) ?_
      refine tg_s C hT dX7_steals_135 ?_
      refine lv_iconst (v := (1 : Int32)) hx hb dX7_steals_138 rfl ?_
      refine tl_s C hT hE dX7_steals_139 (fun hE => ?_)
      refine z_nmi hE (fun v16 hE => ?_)
      refine lv_icmp_ge (tgt := 208) hx hb dX7_steals_140 (by decide) (fun c17 => ?_) (fun c17 => ?_)
      · have hE := z_t c17 hE
        exact mt_vret C hr hlocks hT hS hE dX7_steals_208
      · have hE := z_f c17 hE
        exact w_143 (fX7_steals_133 N n) ih N _ _ _ _ _ _ _ hE hT hS (lv_sub hl [0, 1, 2, 3] rfl)
  have w_131 : ∀ (u : TS) (x1 : Int32) (x2 : Int32) (H : Heap) (locs : List Loc) (ls : Array Slot), fX7_steals_131 N u x1 x2 = some u_ → TW D dA h u H → va_S (TA h) s.heap H locs → lv_has ls 5 [(0, .ref h), (1, .int x1), (2, .int x2)] → W p l e { frames := 4, cells := 0, slots := 0, locals := 95 } s m args below meth c H locs 0 0 (MQ below (mt_Q D dA h none u_) args s 0 0 (TA h)) (F0 m 131 ls []) := by
    intro u x1 x2 H locs ls hE hT hS hl
    unfold fX7_steals_131 at hE
    refine lv_iconst (v := (0 : Int32)) hx hb dX7_steals_131 rfl ?_
    refine lv_istore_n (lv' := [(3, .int (0 : Int32)), (0, .ref h), (1, .int x1), (2, .int x2)]) hx hb dX7_steals_132 rfl hl (by decide) rfl (fun ls hl => ?_)
    exact w_133 N _ _ _ _ _ _ _ hE hT hS (lv_sub hl [1, 2, 3, 0] rfl)
  have w_125 : ∀ (ag36 : TS → Int32 → Int32 → Int32 → Option (TS)) (hag36 : (∀ (u : TS) (x1 : Int32) (x2 : Int32) (x3 : Int32) (H : Heap) (locs : List Loc) (ls : Array Slot), ag36 u x1 x2 x3 = some u_ → TW D dA h u H → va_S (TA h) s.heap H locs → lv_has ls 5 [(0, .ref h), (1, .int x1), (2, .int x2), (3, .int x3)] → W p l e { frames := 4, cells := 0, slots := 0, locals := 95 } s m args below meth c H locs 0 0 (MQ below (mt_Q D dA h none u_) args s 0 0 (TA h)) (F0 m 36 ls []))) (u : TS) (x1 : Int32) (x2 : Int32) (x3 : Int32) (H : Heap) (locs : List Loc) (ls : Array Slot), fX7_steals_125 N ag36 u x1 x2 x3 = some u_ → TW D dA h u H → va_S (TA h) s.heap H locs → lv_has ls 5 [(0, .ref h), (1, .int x1), (2, .int x2), (3, .int x3)] → W p l e { frames := 4, cells := 0, slots := 0, locals := 95 } s m args below meth c H locs 0 0 (MQ below (mt_Q D dA h none u_) args s 0 0 (TA h)) (F0 m 125 ls []) := by
    intro ag36 hag36 u x1 x2 x3 H locs ls hE hT hS hl
    unfold fX7_steals_125 at hE
    refine z_iinc (v := (x3 + (1 : Int32))) (lw := (fun y_ => [(3, .int y_), (0, .ref h), (1, .int x1), (2, .int x2)])) hx hb dX7_steals_125 hl hE (k := 3) rfl rfl (by decide) (fun _ => rfl) (fun z18 ls hE hl => ?_)
    refine lv_goto (tgt := 36) hx hb dX7_steals_128 (by decide) ?_
    exact hag36 _ _ _ _ _ _ _ hE hT hS (lv_sub hl [1, 2, 3, 0] rfl)
  have w_85 : ∀ (ag36 : TS → Int32 → Int32 → Int32 → Option (TS)) (hag36 : (∀ (u : TS) (x1 : Int32) (x2 : Int32) (x3 : Int32) (H : Heap) (locs : List Loc) (ls : Array Slot), ag36 u x1 x2 x3 = some u_ → TW D dA h u H → va_S (TA h) s.heap H locs → lv_has ls 5 [(0, .ref h), (1, .int x1), (2, .int x2), (3, .int x3)] → W p l e { frames := 4, cells := 0, slots := 0, locals := 95 } s m args below meth c H locs 0 0 (MQ below (mt_Q D dA h none u_) args s 0 0 (TA h)) (F0 m 36 ls []))) (u : TS) (x1 : Int32) (x2 : Int32) (x3 : Int32) (y0 : Int32) (H : Heap) (locs : List Loc) (ls : Array Slot), fX7_steals_85 N ag36 u x1 x2 x3 y0 = some u_ → TW D dA h u H → va_S (TA h) s.heap H locs → lv_has ls 5 [(0, .ref h), (1, .int x1), (2, .int x2), (3, .int x3)] → W p l e { frames := 4, cells := 0, slots := 0, locals := 95 } s m args below meth c H locs 0 0 (MQ below (mt_Q D dA h none u_) args s 0 0 (TA h)) (F0 m 85 ls [.int y0]) := by
    intro ag36 hag36 u x1 x2 x3 y0 H locs ls hE hT hS hl
    unfold fX7_steals_85 at hE
    refine lv_istore (lv' := [(4, .int y0), (0, .ref h), (1, .int x1), (2, .int x2), (3, .int x3)]) hx hb dX7_steals_85 hl (by decide) rfl (fun ls hl => ?_)
    refine lv_aload_n hx hb dX7_steals_87 rfl (lv_at hl 1 rfl) ?_
    refine tg_s C hT dX7_steals_88 ?_
    refine lv_bipush (v := (16 : Int32)) hx hb dX7_steals_91 rfl ?_
    refine lv_bipush (v := (14 : Int32)) hx hb dX7_steals_93 rfl ?_
    refine lv_iload_n hx hb dX7_steals_95 rfl (lv_at hl 4 rfl) ?_
    refine lv_imul hx hb dX7_steals_96 ?_
    refine lv_iadd hx hb dX7_steals_97 ?_
    refine lv_bipush (v := (7 : Int32)) hx hb dX7_steals_98 rfl ?_
    refine lv_iadd hx hb dX7_steals_100 ?_
    refine lv_dup2_11 hx hb dX7_steals_101 rfl rfl ?_
    refine tl_s C hT hE dX7_steals_102 (fun hE => ?_)
    refine z_nmi hE (fun v19 hE => ?_)
    refine lv_iload hx hb dX7_steals_103 (lv_at hl 0 rfl) ?_
    refine lv_isub hx hb dX7_steals_105 ?_
    refine ts_s C hT hS hE dX7_steals_106 (fun u20 H locs hE hT hS => ?_)
    refine lv_aload_n hx hb dX7_steals_107 rfl (lv_at hl 1 rfl) ?_
    refine tg_books C hT dX7_steals_108 ?_
    refine lv_bipush (v := (6 : Int32)) hx hb dX7_steals_111 rfl ?_
    refine lv_dup2_11 hx hb dX7_steals_113 rfl rfl ?_
    refine tl_books C hT hE dX7_steals_114 (fun hE => ?_)
    refine z_nml hE (fun v21 hE => ?_)
    refine lv_iload hx hb dX7_steals_115 (lv_at hl 0 rfl) ?_
    refine lv_i2l hx hb dX7_steals_117 rfl ?_
    refine lv_ladd hx hb dX7_steals_118 ?_
    refine ts_books C hT hS hE dX7_steals_119 (fun u22 H locs hE hT hS => ?_)
    refine lv_iload_n hx hb dX7_steals_120 rfl (lv_at hl 3 rfl) ?_
    refine lv_iload hx hb dX7_steals_121 (lv_at hl 0 rfl) ?_
    refine lv_isub hx hb dX7_steals_123 ?_
    refine z_nmi hE (fun z23 hE => ?_)
    refine lv_istore_n (lv' := [(2, .int z23), (4, .int y0), (0, .ref h), (1, .int x1), (3, .int x3)]) hx hb dX7_steals_124 rfl hl (by decide) rfl (fun ls hl => ?_)
    exact w_125 ag36 hag36 _ _ _ _ _ _ _ hE hT hS (lv_sub hl [2, 3, 0, 4] rfl)
  have w_36 : ∀ (n : Nat) (u : TS) (x1 : Int32) (x2 : Int32) (x3 : Int32) (H : Heap) (locs : List Loc) (ls : Array Slot), fX7_steals_36 N n u x1 x2 x3 = some u_ → TW D dA h u H → va_S (TA h) s.heap H locs → lv_has ls 5 [(0, .ref h), (1, .int x1), (2, .int x2), (3, .int x3)] → W p l e { frames := 4, cells := 0, slots := 0, locals := 95 } s m args below meth c H locs 0 0 (MQ below (mt_Q D dA h none u_) args s 0 0 (TA h)) (F0 m 36 ls []) := by
    intro n
    induction n with
    | zero =>
      intro u x1 x2 x3 H locs ls hE hT hS hl
      cases (show (none : Option (TS)) = some u_ from hE)
    | succ n ih =>
      intro u x1 x2 x3 H locs ls hE hT hS hl
      rw [fX7_steals_36] at hE
      refine lv_iload_n hx hb dX7_steals_36 rfl (lv_at hl 3 rfl) ?_
      refine lv_aload_n hx hb dX7_steals_37 rfl (lv_at hl 0 rfl) ?_
      refine tg_s C hT dX7_steals_38 ?_
      refine lv_iconst (v := (1 : Int32)) hx hb dX7_steals_41 rfl ?_
      refine tl_s C hT hE dX7_steals_42 (fun hE => ?_)
      refine z_nmi hE (fun v24 hE => ?_)
      refine lv_icmp_ge (tgt := 131) hx hb dX7_steals_43 (by decide) (fun c25 => ?_) (fun c25 => ?_)
      · have hE := z_t c25 hE
        exact w_131 _ _ _ _ _ _ hE hT hS (lv_sub hl [0, 1, 2] rfl)
      · have hE := z_f c25 hE
        refine lv_iload_n hx hb dX7_steals_46 rfl (lv_at hl 2 rfl) ?_
        refine lv_if_le (tgt := 131) hx hb dX7_steals_47 (by decide) (fun c26 => ?_) (fun c26 => ?_)
        · have hE := z_t c26 hE
          exact w_131 _ _ _ _ _ _ hE hT hS (lv_sub hl [0, 1, 2] rfl)
        · have hE := z_f c26 hE
          refine lv_aload_n hx hb dX7_steals_50 rfl (lv_at hl 0 rfl) ?_
          refine lv_iload_n hx hb dX7_steals_51 rfl (lv_at hl 3 rfl) ?_
          refine lv_iconst (v := (0 : Int32)) hx hb dX7_steals_52 rfl ?_
          obtain ⟨r28, u27, hc, hE⟩ := o_bd2_some hE
          refine tc_X7_st C hT hS (kX7_st hc) rfl rfl ⟨Nat.le_of_ble_eq_true rfl, Nat.le_of_ble_eq_true rfl⟩ ⟨Nat.le_refl 0, Nat.le_refl 0⟩ dX7_steals_53 hl.1 (Nat.le_of_ble_eq_true rfl) (fun H locs hT hS => ?_)
          refine lv_iload_n hx hb dX7_steals_56 rfl (lv_at hl 1 rfl) ?_
          refine lv_icmp_eq (tgt := 63) hx hb dX7_steals_57 (by decide) (fun c29 => ?_) (fun c29 => ?_)
          · have hE := z_t c29 hE
            refine lv_aload_n hx hb dX7_steals_63 rfl (lv_at hl 0 rfl) ?_
            refine lv_iload_n hx hb dX7_steals_64 rfl (lv_at hl 3 rfl) ?_
            refine lv_bipush (v := (7 : Int32)) hx hb dX7_steals_65 rfl ?_
            obtain ⟨r31, u30, hc, hE⟩ := o_bd2_some hE
            refine tc_X7_st C hT hS (kX7_st hc) rfl rfl ⟨Nat.le_of_ble_eq_true rfl, Nat.le_of_ble_eq_true rfl⟩ ⟨Nat.le_refl 0, Nat.le_refl 0⟩ dX7_steals_67 hl.1 (Nat.le_of_ble_eq_true rfl) (fun H locs hT hS => ?_)
            refine lv_iload_n hx hb dX7_steals_70 rfl (lv_at hl 2 rfl) ?_
            refine lv_icmp_ge (tgt := 84) hx hb dX7_steals_71 (by decide) (fun c32 => ?_) (fun c32 => ?_)
            · have hE := z_t c32 hE
              refine lv_iload_n hx hb dX7_steals_84 rfl (lv_at hl 2 rfl) ?_
              exact w_85 (fX7_steals_36 N n) ih _ _ _ _ _ _ _ _ hE hT hS (lv_sub hl [0, 1, 2, 3] rfl)
            · have hE := z_f c32 hE
              refine lv_aload_n hx hb dX7_steals_74 rfl (lv_at hl 0 rfl) ?_
              refine lv_iload_n hx hb dX7_steals_75 rfl (lv_at hl 3 rfl) ?_
              refine lv_bipush (v := (7 : Int32)) hx hb dX7_steals_76 rfl ?_
              obtain ⟨r34, u33, hc, hE⟩ := o_bd2_some hE
              refine tc_X7_st C hT hS (kX7_st hc) rfl rfl ⟨Nat.le_of_ble_eq_true rfl, Nat.le_of_ble_eq_true rfl⟩ ⟨Nat.le_refl 0, Nat.le_refl 0⟩ dX7_steals_78 hl.1 (Nat.le_of_ble_eq_true rfl) (fun H locs hT hS => ?_)
              refine lv_goto (tgt := 85) hx hb dX7_steals_81 (by decide) ?_
              exact w_85 (fX7_steals_36 N n) ih _ _ _ _ _ _ _ _ hE hT hS (lv_sub hl [0, 1, 2, 3] rfl)
          · have hE := z_f c29 hE
            refine lv_goto (tgt := 125) hx hb dX7_steals_60 (by decide) ?_
            exact w_125 (fX7_steals_36 N n) ih _ _ _ _ _ _ _ hE hT hS (lv_sub hl [0, 1, 2, 3] rfl)
  unfold fX7_steals at hE
  refine lv_bipush (v := (10 : Int32)) hx hb dX7_steals_0 rfl ?_
  refine lv_aload_n hx hb dX7_steals_2 rfl (lv_at hl 0 rfl) ?_
  refine tg_s C hT dX7_steals_3 ?_
  refine lv_sipush (v := (3558 : Int32)) hx hb dX7_steals_6 rfl ?_
  refine lv_iconst (v := (2 : Int32)) hx hb dX7_steals_9 rfl ?_
  refine lv_iload_n hx hb dX7_steals_10 rfl (lv_at hl 1 rfl) ?_
  refine lv_imul hx hb dX7_steals_11 ?_
  refine lv_iadd hx hb dX7_steals_12 ?_
  refine tl_s C hT hE dX7_steals_13 (fun hE => ?_)
  refine z_nmi hE (fun v35 hE => ?_)
  refine lv_imul hx hb dX7_steals_14 ?_
  refine lv_bipush (v := (50 : Int32)) hx hb dX7_steals_15 rfl ?_
  refine lv_aload_n hx hb dX7_steals_17 rfl (lv_at hl 0 rfl) ?_
  refine tg_s C hT dX7_steals_18 ?_
  refine lv_sipush (v := (3558 : Int32)) hx hb dX7_steals_21 rfl ?_
  refine lv_iconst (v := (2 : Int32)) hx hb dX7_steals_24 rfl ?_
  refine lv_iload_n hx hb dX7_steals_25 rfl (lv_at hl 1 rfl) ?_
  refine lv_imul hx hb dX7_steals_26 ?_
  refine lv_iadd hx hb dX7_steals_27 ?_
  refine lv_iconst (v := (1 : Int32)) hx hb dX7_steals_28 rfl ?_
  refine lv_iadd hx hb dX7_steals_29 ?_
  refine tl_s C hT hE dX7_steals_30 (fun hE => ?_)
  refine z_nmi hE (fun v36 hE => ?_)
  refine lv_imul hx hb dX7_steals_31 ?_
  refine lv_isub hx hb dX7_steals_32 ?_
  refine z_nmi hE (fun z37 hE => ?_)
  refine lv_istore_n (lv' := [(2, .int z37), (0, .ref h), (1, .int a1)]) hx hb dX7_steals_33 rfl hl (by decide) rfl (fun ls hl => ?_)
  refine lv_iconst (v := (0 : Int32)) hx hb dX7_steals_34 rfl ?_
  refine lv_istore_n (lv' := [(3, .int (0 : Int32)), (2, .int z37), (0, .ref h), (1, .int a1)]) hx hb dX7_steals_35 rfl hl (by decide) rfl (fun ls hl => ?_)
  exact w_36 N _ _ _ _ _ _ _ hE hT hS (lv_sub hl [2, 3, 1, 0] rfl)
theorem tc_X7_close {u u1 : TS} {rm : Room} (C : TC p m c cc nL s args D dA) (hT : TW D dA h u H) (hS : va_S (TA h) H0 H locs) (hM : Met l yX7_close (ws_ yX7_close cX7_close 3 none) rm (va_Pc [.ref h] (mt_B D dA h u)) (mt_Q D dA h none u1) 0 0 (TA h)) (hrc : rm.cells = 0) (hrs : rm.slots = 0) (hR : rm.frames + 1 ≤ R.frames ∧ 8 + (3 + 11) + rm.locals ≤ R.locals) (hf : cells + 0 ≤ R.cells ∧ slots + 0 ≤ R.slots) (d : decode cc pc = .ok (.invokevirtual 387, 3)) (hsz : ls.size = nL) (hro : (rest.map fun v => v.category).sum ≤ 8) (kk : ∀ (H1 : Heap) (locs1 : List Loc), TW D dA h u1 H1 → va_S (TA h) H0 H1 locs1 → W p l e R s m args below meth c H1 locs1 cells slots Q (F0 m (pc + 3) ls (rest))) : W p l e R s m args below meth c H locs cells slots Q (F0 m pc ls (.ref h :: rest)) :=
  mt_call (v := none) (va_runV (As := []) (rest := rest) C.1 hM (cwV 0 C.1.2.2.2.2 (lw_V q2107 q2109 qs143 q177 q2110) rfl hrc hrs (by decide +kernel) hR) (mt_preV C.2 hT _) rfl rfl hsz rfl (lv_room hro) d hf) hS (fun _ z => z) (fun H1 locs1 a b _ _ => kk H1 locs1 a b)
set_option maxHeartbeats 4000000 in
set_option maxRecDepth 100000 in
theorem kX7_close {l : Launch} {D : va_G} {dA : Nat → ClassId} {h N : Nat} {u u_ : TS} (hE : fX7_close N u = some u_) : Met l yX7_close (ws_ yX7_close cX7_close 3 none) ({ frames := 72, cells := 0, slots := 0, locals := 2232 }) (va_Pc [.ref h] (mt_B D dA h u)) (mt_Q D dA h none u_) 0 0 (TA h) := by
  refine mt_met (by decide) rfl rfl rfl ?_
  intro p e s m args below meth c ls C hr hlocks hT hS hl
  have hx := C.1.1
  have hb := C.1.2.1
  have w_41 : ∀ (n : Nat) (u : TS) (x1 : Int32) (H : Heap) (locs : List Loc) (ls : Array Slot), fX7_close_41 N n u x1 = some u_ → TW D dA h u H → va_S (TA h) s.heap H locs → lv_has ls 3 [(0, .ref h), (1, .int x1)] → W p l e { frames := 72, cells := 0, slots := 0, locals := 2232 } s m args below meth c H locs 0 0 (MQ below (mt_Q D dA h none u_) args s 0 0 (TA h)) (F0 m 41 ls []) := by
    intro n
    induction n with
    | zero =>
      intro u x1 H locs ls hE hT hS hl
      cases (show (none : Option (TS)) = some u_ from hE)
    | succ n ih =>
      intro u x1 H locs ls hE hT hS hl
      rw [fX7_close_41] at hE
      refine lv_iload_n hx hb dX7_close_41 rfl (lv_at hl 1 rfl) ?_
      refine lv_iconst (v := (4 : Int32)) hx hb dX7_close_42 rfl ?_
      refine lv_icmp_ge (tgt := 102) hx hb dX7_close_43 (by decide) (fun c1 => ?_) (fun c1 => ?_)
      · have hE := z_t c1 hE
        refine lv_aload_n hx hb dX7_close_102 rfl (lv_at hl 0 rfl) ?_
        refine tg_s C hT dX7_close_103 ?_
        refine lv_iconst (v := (0 : Int32)) hx hb dX7_close_106 rfl ?_
        refine lv_dup2_11 hx hb dX7_close_107 rfl rfl ?_
        refine tl_s C hT hE dX7_close_108 (fun hE => ?_)
        refine z_nmi hE (fun v2 hE => ?_)
        refine lv_iconst (v := (1 : Int32)) hx hb dX7_close_109 rfl ?_
        refine lv_iadd hx hb dX7_close_110 ?_
        refine ts_s C hT hS hE dX7_close_111 (fun u3 H locs hE hT hS => ?_)
        exact mt_vret C hr hlocks hT hS hE dX7_close_112
      · have hE := z_f c1 hE
        refine lv_sipush (v := (3446 : Int32)) hx hb dX7_close_46 rfl ?_
        refine lv_iconst (v := (3 : Int32)) hx hb dX7_close_49 rfl ?_
        refine lv_iload_n hx hb dX7_close_50 rfl (lv_at hl 1 rfl) ?_
        refine lv_imul hx hb dX7_close_51 ?_
        refine lv_iadd hx hb dX7_close_52 ?_
        refine z_nmi hE (fun z4 hE => ?_)
        refine lv_istore_n (lv' := [(2, .int z4), (0, .ref h), (1, .int x1)]) hx hb dX7_close_53 rfl hl (by decide) rfl (fun ls hl => ?_)
        refine lv_aload_n hx hb dX7_close_54 rfl (lv_at hl 1 rfl) ?_
        refine tg_s C hT dX7_close_55 ?_
        refine lv_iload_n hx hb dX7_close_58 rfl (lv_at hl 0 rfl) ?_
        refine lv_dup2_11 hx hb dX7_close_59 rfl rfl ?_
        refine tl_s C hT hE dX7_close_60 (fun hE => ?_)
        refine z_nmi hE (fun v5 hE => ?_)
        refine lv_aload_n hx hb dX7_close_61 rfl (lv_at hl 1 rfl) ?_
        refine tg_s C hT dX7_close_62 ?_
        refine lv_iload_n hx hb dX7_close_65 rfl (lv_at hl 0 rfl) ?_
        refine lv_iconst (v := (1 : Int32)) hx hb dX7_close_66 rfl ?_
        refine lv_iadd hx hb dX7_close_67 ?_
        refine tl_s C hT hE dX7_close_68 (fun hE => ?_)
        refine z_nmi hE (fun v6 hE => ?_)
        refine lv_iadd hx hb dX7_close_69 ?_
        refine ts_s C hT hS hE dX7_close_70 (fun u7 H locs hE hT hS => ?_)
        refine lv_aload_n hx hb dX7_close_71 rfl (lv_at hl 1 rfl) ?_
        refine tg_s C hT dX7_close_72 ?_
        refine lv_iload_n hx hb dX7_close_75 rfl (lv_at hl 0 rfl) ?_
        refine lv_iconst (v := (1 : Int32)) hx hb dX7_close_76 rfl ?_
        refine lv_iadd hx hb dX7_close_77 ?_
        refine lv_aload_n hx hb dX7_close_78 rfl (lv_at hl 1 rfl) ?_
        refine tg_s C hT dX7_close_79 ?_
        refine lv_iload_n hx hb dX7_close_82 rfl (lv_at hl 0 rfl) ?_
        refine lv_iconst (v := (2 : Int32)) hx hb dX7_close_83 rfl ?_
        refine lv_iadd hx hb dX7_close_84 ?_
        refine tl_s C hT hE dX7_close_85 (fun hE => ?_)
        refine z_nmi hE (fun v8 hE => ?_)
        refine ts_s C hT hS hE dX7_close_86 (fun u9 H locs hE hT hS => ?_)
        refine lv_aload_n hx hb dX7_close_87 rfl (lv_at hl 1 rfl) ?_
        refine tg_s C hT dX7_close_88 ?_
        refine lv_iload_n hx hb dX7_close_91 rfl (lv_at hl 0 rfl) ?_
        refine lv_iconst (v := (2 : Int32)) hx hb dX7_close_92 rfl ?_
        refine lv_iadd hx hb dX7_close_93 ?_
        refine lv_iconst (v := (0 : Int32)) hx hb dX7_close_94 rfl ?_
        refine ts_s C hT hS hE dX7_close_95 (fun u10 H locs hE hT hS => ?_)
        refine z_iinc (v := (x1 + (1 : Int32))) (lw := (fun y_ => [(1, .int y_), (2, .int z4), (0, .ref h)])) hx hb dX7_close_96 hl hE (k := 2) rfl rfl (by decide) (fun _ => rfl) (fun z11 ls hE hl => ?_)
        refine lv_goto (tgt := 41) hx hb dX7_close_99 (by decide) ?_
        exact ih _ _ _ _ _ hE hT hS (lv_sub hl [2, 0] rfl)
  have w_22 : ∀ (n : Nat) (u : TS) (x1 : Int32) (H : Heap) (locs : List Loc) (ls : Array Slot), fX7_close_22 N n u x1 = some u_ → TW D dA h u H → va_S (TA h) s.heap H locs → lv_has ls 3 [(0, .ref h), (1, .int x1)] → W p l e { frames := 72, cells := 0, slots := 0, locals := 2232 } s m args below meth c H locs 0 0 (MQ below (mt_Q D dA h none u_) args s 0 0 (TA h)) (F0 m 22 ls []) := by
    intro n
    induction n with
    | zero =>
      intro u x1 H locs ls hE hT hS hl
      cases (show (none : Option (TS)) = some u_ from hE)
    | succ n ih =>
      intro u x1 H locs ls hE hT hS hl
      rw [fX7_close_22] at hE
      refine lv_iload_n hx hb dX7_close_22 rfl (lv_at hl 1 rfl) ?_
      refine lv_bipush (v := (6 : Int32)) hx hb dX7_close_23 rfl ?_
      refine lv_icmp_ge (tgt := 39) hx hb dX7_close_25 (by decide) (fun c12 => ?_) (fun c12 => ?_)
      · have hE := z_t c12 hE
        refine lv_iconst (v := (0 : Int32)) hx hb dX7_close_39 rfl ?_
        refine lv_istore_n (lv' := [(1, .int (0 : Int32)), (0, .ref h)]) hx hb dX7_close_40 rfl hl (by decide) rfl (fun ls hl => ?_)
        exact w_41 N _ _ _ _ _ hE hT hS (lv_sub hl [1, 0] rfl)
      · have hE := z_f c12 hE
        refine lv_aload_n hx hb dX7_close_28 rfl (lv_at hl 0 rfl) ?_
        refine lv_iload_n hx hb dX7_close_29 rfl (lv_at hl 1 rfl) ?_
        obtain ⟨u13, hc, hE⟩ := o_bd_some hE
        refine tc_X7_steals C hT hS (kX7_steals hc) rfl rfl ⟨Nat.le_of_ble_eq_true rfl, Nat.le_of_ble_eq_true rfl⟩ ⟨Nat.le_refl 0, Nat.le_refl 0⟩ dX7_close_30 hl.1 (Nat.le_of_ble_eq_true rfl) (fun H locs hT hS => ?_)
        refine z_iinc (v := (x1 + (1 : Int32))) (lw := (fun y_ => [(1, .int y_), (0, .ref h)])) hx hb dX7_close_33 hl hE (k := 1) rfl rfl (by decide) (fun _ => rfl) (fun z14 ls hE hl => ?_)
        refine lv_goto (tgt := 22) hx hb dX7_close_36 (by decide) ?_
        exact ih _ _ _ _ _ hE hT hS (lv_sub hl [1, 0] rfl)
  unfold fX7_close at hE
  refine lv_aload_n hx hb dX7_close_0 rfl (lv_at hl 0 rfl) ?_
  obtain ⟨u15, hc, hE⟩ := o_bd_some hE
  refine tc_X7_rights C hT hS (kX7_rights hc) rfl rfl ⟨Nat.le_of_ble_eq_true rfl, Nat.le_of_ble_eq_true rfl⟩ ⟨Nat.le_refl 0, Nat.le_refl 0⟩ dX7_close_1 hl.1 (Nat.le_of_ble_eq_true rfl) (fun H locs hT hS => ?_)
  refine lv_aload_n hx hb dX7_close_4 rfl (lv_at hl 0 rfl) ?_
  obtain ⟨u16, hc, hE⟩ := o_bd_some hE
  refine tc_X7_obey C hT hS (kX7_obey hc) rfl rfl ⟨Nat.le_of_ble_eq_true rfl, Nat.le_of_ble_eq_true rfl⟩ ⟨Nat.le_refl 0, Nat.le_refl 0⟩ dX7_close_5 hl.1 (Nat.le_of_ble_eq_true rfl) (fun H locs hT hS => ?_)
  refine lv_aload_n hx hb dX7_close_8 rfl (lv_at hl 0 rfl) ?_
  obtain ⟨u17, hc, hE⟩ := o_bd_some hE
  refine tc_X7_blows C hT hS (kX7_blows hc) rfl rfl ⟨Nat.le_of_ble_eq_true rfl, Nat.le_of_ble_eq_true rfl⟩ ⟨Nat.le_refl 0, Nat.le_refl 0⟩ dX7_close_9 hl.1 (Nat.le_of_ble_eq_true rfl) (fun H locs hT hS => ?_)
  refine lv_aload_n hx hb dX7_close_12 rfl (lv_at hl 0 rfl) ?_
  obtain ⟨u18, hc, hE⟩ := o_bd_some hE
  refine tc_X7_eats C hT hS (kX7_eats hc) rfl rfl ⟨Nat.le_of_ble_eq_true rfl, Nat.le_of_ble_eq_true rfl⟩ ⟨Nat.le_refl 0, Nat.le_refl 0⟩ dX7_close_13 hl.1 (Nat.le_of_ble_eq_true rfl) (fun H locs hT hS => ?_)
  refine lv_aload_n hx hb dX7_close_16 rfl (lv_at hl 0 rfl) ?_
  obtain ⟨u19, hc, hE⟩ := o_bd_some hE
  refine tc_X7_rotsAndGrows C hT hS (kX7_rotsAndGrows hc) rfl rfl ⟨Nat.le_of_ble_eq_true rfl, Nat.le_of_ble_eq_true rfl⟩ ⟨Nat.le_refl 0, Nat.le_refl 0⟩ dX7_close_17 hl.1 (Nat.le_of_ble_eq_true rfl) (fun H locs hT hS => ?_)
  refine lv_iconst (v := (0 : Int32)) hx hb dX7_close_20 rfl ?_
  refine lv_istore_n (lv' := [(1, .int (0 : Int32)), (0, .ref h)]) hx hb dX7_close_21 rfl hl (by decide) rfl (fun ls hl => ?_)
  exact w_22 N _ _ _ _ _ hE hT hS (lv_sub hl [1, 0] rfl)
theorem tc_X7_bareMany {r : Int32} {u u1 : TS} {rm : Room} (C : TC p m c cc nL s args D dA) (hT : TW D dA h u H) (hS : va_S (TA h) H0 H locs) (hM : Met l yX7_bareMany (ws_ yX7_bareMany cX7_bareMany 3 (some .int)) rm (va_Pc [.ref h] (mt_B D dA h u)) (mt_Q D dA h (some (.int r)) u1) 0 0 (TA h)) (hrc : rm.cells = 0) (hrs : rm.slots = 0) (hR : rm.frames + 1 ≤ R.frames ∧ 8 + (3 + 11) + rm.locals ≤ R.locals) (hf : cells + 0 ≤ R.cells ∧ slots + 0 ≤ R.slots) (d : decode cc pc = .ok (.invokevirtual 390, 3)) (hsz : ls.size = nL) (hro : (rest.map fun v => v.category).sum ≤ 8) (kk : ∀ (H1 : Heap) (locs1 : List Loc), TW D dA h u1 H1 → va_S (TA h) H0 H1 locs1 → W p l e R s m args below meth c H1 locs1 cells slots Q (F0 m (pc + 3) ls (.int r :: rest))) : W p l e R s m args below meth c H locs cells slots Q (F0 m pc ls (.ref h :: rest)) :=
  mt_call (v := (some (.int r))) (va_runV (As := []) (rest := rest) C.1 hM (cwV 0 C.1.2.2.2.2 (lw_V q2143 q2145 qs152 q177 q2146) rfl hrc hrs (by decide +kernel) hR) (mt_preV C.2 hT _) rfl rfl hsz rfl (lv_room hro) d hf) hS (fun _ z => z) (fun H1 locs1 a b _ _ => kk H1 locs1 a b)
set_option maxHeartbeats 4000000 in
set_option maxRecDepth 100000 in
theorem kX7_bareMany {l : Launch} {D : va_G} {dA : Nat → ClassId} {h N : Nat} {u u1 : TS} {r : Int32} (hE : fX7_bareMany N u = some (r, u1)) : Met l yX7_bareMany (ws_ yX7_bareMany cX7_bareMany 3 (some .int)) ({ frames := 2, cells := 0, slots := 0, locals := 43 }) (va_Pc [.ref h] (mt_B D dA h u)) (mt_Q D dA h (some (.int r)) u1) 0 0 (TA h) := by
  refine mt_met (by decide) rfl rfl rfl ?_
  intro p e s m args below meth c ls C hr hlocks hT hS hl
  have hx := C.1.1
  have hb := C.1.2.1
  have w_28 : ∀ (ag4 : TS → Int32 → Int32 → Option (Int32 × TS)) (hag4 : (∀ (u : TS) (x1 : Int32) (x2 : Int32) (H : Heap) (locs : List Loc) (ls : Array Slot), ag4 u x1 x2 = some (r, u1) → TW D dA h u H → va_S (TA h) s.heap H locs → lv_has ls 3 [(0, .ref h), (1, .int x1), (2, .int x2)] → W p l e { frames := 2, cells := 0, slots := 0, locals := 43 } s m args below meth c H locs 0 0 (MQ below (mt_Q D dA h (some (.int r)) u1) args s 0 0 (TA h)) (F0 m 4 ls []))) (u : TS) (x2 : Int32) (y0 : Int32) (y1 : Int32) (H : Heap) (locs : List Loc) (ls : Array Slot), fX7_bareMany_28 N ag4 u x2 y0 y1 = some (r, u1) → TW D dA h u H → va_S (TA h) s.heap H locs → lv_has ls 3 [(0, .ref h), (2, .int x2)] → W p l e { frames := 2, cells := 0, slots := 0, locals := 43 } s m args below meth c H locs 0 0 (MQ below (mt_Q D dA h (some (.int r)) u1) args s 0 0 (TA h)) (F0 m 28 ls [.int y1, .int y0]) := by
    intro ag4 hag4 u x2 y0 y1 H locs ls hE hT hS hl
    unfold fX7_bareMany_28 at hE
    refine lv_iadd hx hb dX7_bareMany_28 ?_
    refine z_nmi hE (fun z1 hE => ?_)
    refine lv_istore_n (lv' := [(1, .int z1), (0, .ref h), (2, .int x2)]) hx hb dX7_bareMany_29 rfl hl (by decide) rfl (fun ls hl => ?_)
    refine z_iinc (v := (x2 + (1 : Int32))) (lw := (fun y_ => [(2, .int y_), (1, .int z1), (0, .ref h)])) hx hb dX7_bareMany_30 hl hE (k := 2) rfl rfl (by decide) (fun _ => rfl) (fun z2 ls hE hl => ?_)
    refine lv_goto (tgt := 4) hx hb dX7_bareMany_33 (by decide) ?_
    exact hag4 _ _ _ _ _ _ hE hT hS (lv_sub hl [2, 1, 0] rfl)
  have w_4 : ∀ (n : Nat) (u : TS) (x1 : Int32) (x2 : Int32) (H : Heap) (locs : List Loc) (ls : Array Slot), fX7_bareMany_4 N n u x1 x2 = some (r, u1) → TW D dA h u H → va_S (TA h) s.heap H locs → lv_has ls 3 [(0, .ref h), (1, .int x1), (2, .int x2)] → W p l e { frames := 2, cells := 0, slots := 0, locals := 43 } s m args below meth c H locs 0 0 (MQ below (mt_Q D dA h (some (.int r)) u1) args s 0 0 (TA h)) (F0 m 4 ls []) := by
    intro n
    induction n with
    | zero =>
      intro u x1 x2 H locs ls hE hT hS hl
      cases (show (none : Option (Int32 × TS)) = some (r, u1) from hE)
    | succ n ih =>
      intro u x1 x2 H locs ls hE hT hS hl
      rw [fX7_bareMany_4] at hE
      refine lv_iload_n hx hb dX7_bareMany_4 rfl (lv_at hl 2 rfl) ?_
      refine lv_aload_n hx hb dX7_bareMany_5 rfl (lv_at hl 0 rfl) ?_
      refine tg_s C hT dX7_bareMany_6 ?_
      refine lv_iconst (v := (1 : Int32)) hx hb dX7_bareMany_9 rfl ?_
      refine tl_s C hT hE dX7_bareMany_10 (fun hE => ?_)
      refine z_nmi hE (fun v3 hE => ?_)
      refine lv_icmp_ge (tgt := 36) hx hb dX7_bareMany_11 (by decide) (fun c4 => ?_) (fun c4 => ?_)
      · have hE := z_t c4 hE
        refine lv_iload_n hx hb dX7_bareMany_36 rfl (lv_at hl 1 rfl) ?_
        exact mt_iret C hr hlocks hT hS hE dX7_bareMany_37
      · have hE := z_f c4 hE
        refine lv_iload_n hx hb dX7_bareMany_14 rfl (lv_at hl 1 rfl) ?_
        refine lv_aload_n hx hb dX7_bareMany_15 rfl (lv_at hl 0 rfl) ?_
        refine lv_iload_n hx hb dX7_bareMany_16 rfl (lv_at hl 2 rfl) ?_
        obtain ⟨r6, u5, hc, hE⟩ := o_bd2_some hE
        refine tc_X7_isBare C hT hS (kX7_isBare hc) rfl rfl ⟨Nat.le_of_ble_eq_true rfl, Nat.le_of_ble_eq_true rfl⟩ ⟨Nat.le_refl 0, Nat.le_refl 0⟩ dX7_bareMany_17 hl.1 (Nat.le_of_ble_eq_true rfl) (fun H locs hT hS => ?_)
        refine lv_if_eq (tgt := 27) hx hb dX7_bareMany_20 (by decide) (fun c7 => ?_) (fun c7 => ?_)
        · have hE := z_t c7 hE
          refine lv_iconst (v := (0 : Int32)) hx hb dX7_bareMany_27 rfl ?_
          exact w_28 (fX7_bareMany_4 N n) ih _ _ _ _ _ _ _ hE hT hS (lv_sub hl [0, 2] rfl)
        · have hE := z_f c7 hE
          refine lv_iconst (v := (1 : Int32)) hx hb dX7_bareMany_23 rfl ?_
          refine lv_goto (tgt := 28) hx hb dX7_bareMany_24 (by decide) ?_
          exact w_28 (fX7_bareMany_4 N n) ih _ _ _ _ _ _ _ hE hT hS (lv_sub hl [0, 2] rfl)
  unfold fX7_bareMany at hE
  refine lv_iconst (v := (0 : Int32)) hx hb dX7_bareMany_0 rfl ?_
  refine lv_istore_n (lv' := [(1, .int (0 : Int32)), (0, .ref h)]) hx hb dX7_bareMany_1 rfl hl (by decide) rfl (fun ls hl => ?_)
  refine lv_iconst (v := (0 : Int32)) hx hb dX7_bareMany_2 rfl ?_
  refine lv_istore_n (lv' := [(2, .int (0 : Int32)), (1, .int (0 : Int32)), (0, .ref h)]) hx hb dX7_bareMany_3 rfl hl (by decide) rfl (fun ls hl => ?_)
  exact w_4 N _ _ _ _ _ _ hE hT hS (lv_sub hl [2, 1, 0] rfl)
set_option maxHeartbeats 4000000 in
set_option maxRecDepth 100000 in
theorem kX7_run {l : Launch} {D : va_G} {dA : Nat → ClassId} {h N : Nat} {u u1 : TS} {a1 : Int32} {r : Int32} (hE : fX7_run N u a1 = some (r, u1)) : Met l yX7_run (ws_ yX7_run cX7_run 3 (some .int)) ({ frames := 73, cells := 0, slots := 0, locals := 2254 }) (va_Pc [.ref h, .int a1] (mt_B D dA h u)) (mt_Q D dA h (some (.int r)) u1) 0 0 (TA h) := by
  refine mt_met (by decide) rfl rfl rfl ?_
  intro p e s m args below meth c ls C hr hlocks hT hS hl
  have hx := C.1.1
  have hb := C.1.2.1
  have w_51 : ∀ (n : Nat) (u : TS) (x1 : Int32) (x2 : Int32) (H : Heap) (locs : List Loc) (ls : Array Slot), fX7_run_51 N n u x1 x2 = some (r, u1) → TW D dA h u H → va_S (TA h) s.heap H locs → lv_has ls 3 [(0, .ref h), (1, .int x1), (2, .int x2)] → W p l e { frames := 73, cells := 0, slots := 0, locals := 2254 } s m args below meth c H locs 0 0 (MQ below (mt_Q D dA h (some (.int r)) u1) args s 0 0 (TA h)) (F0 m 51 ls []) := by
    intro n
    induction n with
    | zero =>
      intro u x1 x2 H locs ls hE hT hS hl
      cases (show (none : Option (Int32 × TS)) = some (r, u1) from hE)
    | succ n ih =>
      intro u x1 x2 H locs ls hE hT hS hl
      rw [fX7_run_51] at hE
      refine lv_iload_n hx hb dX7_run_51 rfl (lv_at hl 2 rfl) ?_
      refine lv_iload_n hx hb dX7_run_52 rfl (lv_at hl 1 rfl) ?_
      refine lv_icmp_ge (tgt := 66) hx hb dX7_run_53 (by decide) (fun c1 => ?_) (fun c1 => ?_)
      · have hE := z_t c1 hE
        refine lv_aload_n hx hb dX7_run_66 rfl (lv_at hl 0 rfl) ?_
        obtain ⟨r3, u2, hc, hE⟩ := o_bd2_some hE
        refine tc_X7_bareMany C hT hS (kX7_bareMany hc) rfl rfl ⟨Nat.le_of_ble_eq_true rfl, Nat.le_of_ble_eq_true rfl⟩ ⟨Nat.le_refl 0, Nat.le_refl 0⟩ dX7_run_67 hl.1 (Nat.le_of_ble_eq_true rfl) (fun H locs hT hS => ?_)
        exact mt_iret C hr hlocks hT hS hE dX7_run_70
      · have hE := z_f c1 hE
        refine lv_aload_n hx hb dX7_run_56 rfl (lv_at hl 0 rfl) ?_
        obtain ⟨u4, hc, hE⟩ := o_bd_some hE
        refine tc_X7_close C hT hS (kX7_close hc) rfl rfl ⟨Nat.le_of_ble_eq_true rfl, Nat.le_of_ble_eq_true rfl⟩ ⟨Nat.le_refl 0, Nat.le_refl 0⟩ dX7_run_57 hl.1 (Nat.le_of_ble_eq_true rfl) (fun H locs hT hS => ?_)
        refine z_iinc (v := (x2 + (1 : Int32))) (lw := (fun y_ => [(2, .int y_), (0, .ref h), (1, .int x1)])) hx hb dX7_run_60 hl hE (k := 2) rfl rfl (by decide) (fun _ => rfl) (fun z5 ls hE hl => ?_)
        refine lv_goto (tgt := 51) hx hb dX7_run_63 (by decide) ?_
        exact ih _ _ _ _ _ _ hE hT hS (lv_sub hl [1, 2, 0] rfl)
  unfold fX7_run at hE
  refine lv_iload_n hx hb dX7_run_0 rfl (lv_at hl 1 rfl) ?_
  refine lv_if_ge (tgt := 11) hx hb dX7_run_1 (by decide) (fun c6 => ?_) (fun c6 => ?_)
  · have hE := z_t c6 hE
    refine lv_iload_n hx hb dX7_run_11 rfl (lv_at hl 1 rfl) ?_
    refine lv_iconst (v := (1 : Int32)) hx hb dX7_run_12 rfl ?_
    refine lv_bipush (v := (40 : Int32)) hx hb dX7_run_13 rfl ?_
    obtain ⟨r7, hc, hE⟩ := o_bd_some hE
    refine sc_X7_in C.1 (kX7_in hc) rfl rfl ⟨Nat.le_of_ble_eq_true rfl, Nat.le_of_ble_eq_true rfl⟩ ⟨Nat.le_refl 0, Nat.le_refl 0⟩ dX7_run_15 hl.1 (Nat.le_of_ble_eq_true rfl) ?_
    refine lv_if_ne (tgt := 28) hx hb dX7_run_18 (by decide) (fun c8 => ?_) (fun c8 => ?_)
    · have hE := z_f c8 hE
      refine lv_aload_n hx hb dX7_run_28 rfl (lv_at hl 0 rfl) ?_
      refine tg_s C hT dX7_run_29 ?_
      refine lv_iconst (v := (0 : Int32)) hx hb dX7_run_32 rfl ?_
      refine tl_s C hT hE dX7_run_33 (fun hE => ?_)
      refine z_nmi hE (fun v9 hE => ?_)
      refine lv_iload_n hx hb dX7_run_34 rfl (lv_at hl 1 rfl) ?_
      refine lv_iadd hx hb dX7_run_35 ?_
      refine lv_sipush (v := (400 : Int32)) hx hb dX7_run_36 rfl ?_
      refine lv_icmp_le (tgt := 49) hx hb dX7_run_39 (by decide) (fun c10 => ?_) (fun c10 => ?_)
      · have hE := z_t c10 hE
        refine lv_iconst (v := (0 : Int32)) hx hb dX7_run_49 rfl ?_
        refine lv_istore_n (lv' := [(2, .int (0 : Int32)), (0, .ref h), (1, .int a1)]) hx hb dX7_run_50 rfl hl (by decide) rfl (fun ls hl => ?_)
        exact w_51 N _ _ _ _ _ _ hE hT hS (lv_sub hl [1, 2, 0] rfl)
      · have hE := z_f c10 hE
        refine lv_aload_n hx hb dX7_run_42 rfl (lv_at hl 0 rfl) ?_
        refine lv_bipush (v := (-8 : Int32)) hx hb dX7_run_43 rfl ?_
        obtain ⟨r12, u11, hc, hE⟩ := o_bd2_some hE
        refine tc_X7_refuse C hT hS (kX7_refuse hc) rfl rfl ⟨Nat.le_of_ble_eq_true rfl, Nat.le_of_ble_eq_true rfl⟩ ⟨Nat.le_refl 0, Nat.le_refl 0⟩ dX7_run_45 hl.1 (Nat.le_of_ble_eq_true rfl) (fun H locs hT hS => ?_)
        exact mt_iret C hr hlocks hT hS hE dX7_run_48
    · have hE := z_t c8 hE
      refine lv_aload_n hx hb dX7_run_21 rfl (lv_at hl 0 rfl) ?_
      refine lv_bipush (v := (-7 : Int32)) hx hb dX7_run_22 rfl ?_
      obtain ⟨r14, u13, hc, hE⟩ := o_bd2_some hE
      refine tc_X7_refuse C hT hS (kX7_refuse hc) rfl rfl ⟨Nat.le_of_ble_eq_true rfl, Nat.le_of_ble_eq_true rfl⟩ ⟨Nat.le_refl 0, Nat.le_refl 0⟩ dX7_run_24 hl.1 (Nat.le_of_ble_eq_true rfl) (fun H locs hT hS => ?_)
      exact mt_iret C hr hlocks hT hS hE dX7_run_27
  · have hE := z_f c6 hE
    refine lv_aload_n hx hb dX7_run_4 rfl (lv_at hl 0 rfl) ?_
    refine lv_bipush (v := (-4 : Int32)) hx hb dX7_run_5 rfl ?_
    obtain ⟨r16, u15, hc, hE⟩ := o_bd2_some hE
    refine tc_X7_refuse C hT hS (kX7_refuse hc) rfl rfl ⟨Nat.le_of_ble_eq_true rfl, Nat.le_of_ble_eq_true rfl⟩ ⟨Nat.le_refl 0, Nat.le_refl 0⟩ dX7_run_7 hl.1 (Nat.le_of_ble_eq_true rfl) (fun H locs hT hS => ?_)
    exact mt_iret C hr hlocks hT hS hE dX7_run_10
theorem tc_X7_draw {a1 : Int32} {r : Int32} {u u1 : TS} {rm : Room} (C : TC p m c cc nL s args D dA) (hT : TW D dA h u H) (hS : va_S (TA h) H0 H locs) (hM : Met l yX7_draw (ws_ yX7_draw cX7_draw 2 (some .int)) rm (va_Pc [.ref h, .int a1] (mt_B D dA h u)) (mt_Q D dA h (some (.int r)) u1) 0 0 (TA h)) (hrc : rm.cells = 0) (hrs : rm.slots = 0) (hR : rm.frames + 1 ≤ R.frames ∧ 8 + (2 + 11) + rm.locals ≤ R.locals) (hf : cells + 0 ≤ R.cells ∧ slots + 0 ≤ R.slots) (d : decode cc pc = .ok (.invokevirtual 394, 3)) (hsz : ls.size = nL) (hro : (rest.map fun v => v.category).sum ≤ 8) (kk : ∀ (H1 : Heap) (locs1 : List Loc), TW D dA h u1 H1 → va_S (TA h) H0 H1 locs1 → W p l e R s m args below meth c H1 locs1 cells slots Q (F0 m (pc + 3) ls (.int r :: rest))) : W p l e R s m args below meth c H locs cells slots Q (F0 m pc ls (.int a1 :: .ref h :: rest)) :=
  mt_call (v := (some (.int r))) (va_runV (As := [.int a1]) (rest := rest) C.1 hM (cwV 1 C.1.2.2.2.2 (lw_V q2151 q2153 qs153 q177 q2154) rfl hrc hrs (by decide +kernel) hR) (mt_preV C.2 hT _) rfl rfl hsz rfl (lv_room hro) d hf) hS (fun _ z => z) (fun H1 locs1 a b _ _ => kk H1 locs1 a b)
set_option maxHeartbeats 4000000 in
set_option maxRecDepth 100000 in
theorem kX7_draw {l : Launch} {D : va_G} {dA : Nat → ClassId} {h N : Nat} {u u1 : TS} {a1 : Int32} {r : Int32} (hE : fX7_draw N u a1 = some (r, u1)) : Met l yX7_draw (ws_ yX7_draw cX7_draw 2 (some .int)) ({ frames := 0, cells := 0, slots := 0, locals := 0 }) (va_Pc [.ref h, .int a1] (mt_B D dA h u)) (mt_Q D dA h (some (.int r)) u1) 0 0 (TA h) := by
  refine mt_met (by decide) rfl rfl rfl ?_
  intro p e s m args below meth c ls C hr hlocks hT hS hl
  have hx := C.1.1
  have hb := C.1.2.1
  unfold fX7_draw at hE
  refine lv_aload_n hx hb dX7_draw_0 rfl (lv_at hl 0 rfl) ?_
  refine tg_s C hT dX7_draw_1 ?_
  refine lv_bipush (v := (7 : Int32)) hx hb dX7_draw_4 rfl ?_
  refine lv_aload_n hx hb dX7_draw_6 rfl (lv_at hl 0 rfl) ?_
  refine tg_s C hT dX7_draw_7 ?_
  refine lv_bipush (v := (7 : Int32)) hx hb dX7_draw_10 rfl ?_
  refine tl_s C hT hE dX7_draw_12 (fun hE => ?_)
  refine z_nmi hE (fun v1 hE => ?_)
  refine lv_ldcw (v := (1103515245 : Int32)) hx hb C.1.2.2.2.1 (C.1.2.2.2.2 _ q2155) dX7_draw_13 ?_
  refine lv_imul hx hb dX7_draw_16 ?_
  refine lv_sipush (v := (12345 : Int32)) hx hb dX7_draw_17 rfl ?_
  refine lv_iadd hx hb dX7_draw_20 ?_
  refine ts_s C hT hS hE dX7_draw_21 (fun u2 H locs hE hT hS => ?_)
  refine lv_aload_n hx hb dX7_draw_22 rfl (lv_at hl 0 rfl) ?_
  refine tg_s C hT dX7_draw_23 ?_
  refine lv_bipush (v := (7 : Int32)) hx hb dX7_draw_26 rfl ?_
  refine tl_s C hT hE dX7_draw_28 (fun hE => ?_)
  refine z_nmi hE (fun v3 hE => ?_)
  refine lv_bipush (v := (16 : Int32)) hx hb dX7_draw_29 rfl ?_
  refine lv_iushr hx hb dX7_draw_31 rfl ?_
  refine lv_iload_n hx hb dX7_draw_32 rfl (lv_at hl 1 rfl) ?_
  obtain ⟨hz, hE⟩ := o_nz_some hE
  refine lv_irem hx hb dX7_draw_33 hz ?_
  exact mt_iret C hr hlocks hT hS hE dX7_draw_34
set_option maxHeartbeats 4000000 in
set_option maxRecDepth 100000 in
theorem kX7_count {l : Launch} {D : va_G} {dA : Nat → ClassId} {h N : Nat} {u u1 : TS} {a1 : Int32} {a2 : Int32} {r : Int32} (hE : fX7_count N u a1 a2 = some (r, u1)) : Met l yX7_count (ws_ yX7_count cX7_count 11 (some .int)) ({ frames := 3, cells := 0, slots := 0, locals := 72 }) (va_Pc [.ref h, .int a1, .int a2] (mt_B D dA h u)) (mt_Q D dA h (some (.int r)) u1) 0 0 (TA h) := by
  refine mt_met (by decide) rfl rfl rfl ?_
  intro p e s m args below meth c ls C hr hlocks hT hS hl
  have hx := C.1.1
  have hb := C.1.2.1
  have w_33 : ∀ (u : TS) (H : Heap) (locs : List Loc) (ls : Array Slot), fX7_count_33 N u = some (r, u1) → TW D dA h u H → va_S (TA h) s.heap H locs → lv_has ls 11 [(0, .ref h)] → W p l e { frames := 3, cells := 0, slots := 0, locals := 72 } s m args below meth c H locs 0 0 (MQ below (mt_Q D dA h (some (.int r)) u1) args s 0 0 (TA h)) (F0 m 33 ls []) := by
    intro u H locs ls hE hT hS hl
    unfold fX7_count_33 at hE
    refine lv_aload_n hx hb dX7_count_33 rfl (lv_at hl 0 rfl) ?_
    refine lv_bipush (v := (-7 : Int32)) hx hb dX7_count_34 rfl ?_
    obtain ⟨r2, u1, hc, hE⟩ := o_bd2_some hE
    refine tc_X7_refuse C hT hS (kX7_refuse hc) rfl rfl ⟨Nat.le_of_ble_eq_true rfl, Nat.le_of_ble_eq_true rfl⟩ ⟨Nat.le_refl 0, Nat.le_refl 0⟩ dX7_count_36 hl.1 (Nat.le_of_ble_eq_true rfl) (fun H locs hT hS => ?_)
    exact mt_iret C hr hlocks hT hS hE dX7_count_39
  have w_211 : ∀ (u : TS) (x1 : Int32) (x2 : Int32) (x3 : Int32) (x5 : Int32) (x6 : Int32) (x7 : Int32) (x8 : Int32) (x9 : Int32) (H : Heap) (locs : List Loc) (ls : Array Slot), fX7_count_211 N u x1 x2 x3 x5 x6 x7 x8 x9 = some (r, u1) → TW D dA h u H → va_S (TA h) s.heap H locs → lv_has ls 11 [(0, .ref h), (1, .int x1), (2, .int x2), (3, .int x3), (5, .int x5), (6, .int x6), (7, .int x7), (8, .int x8), (9, .int x9)] → W p l e { frames := 3, cells := 0, slots := 0, locals := 72 } s m args below meth c H locs 0 0 (MQ below (mt_Q D dA h (some (.int r)) u1) args s 0 0 (TA h)) (F0 m 211 ls []) := by
    intro u x1 x2 x3 x5 x6 x7 x8 x9 H locs ls hE hT hS hl
    unfold fX7_count_211 at hE
    refine lv_iload hx hb dX7_count_211 (lv_at hl 8 rfl) ?_
    refine lv_iconst (v := (5 : Int32)) hx hb dX7_count_213 rfl ?_
    refine lv_iload hx hb dX7_count_214 (lv_at hl 7 rfl) ?_
    refine lv_imul hx hb dX7_count_216 ?_
    refine lv_iadd hx hb dX7_count_217 ?_
    refine z_nmi hE (fun z3 hE => ?_)
    refine lv_istore (lv' := [(10, .int z3), (0, .ref h), (1, .int x1), (2, .int x2), (3, .int x3), (5, .int x5), (6, .int x6), (7, .int x7), (8, .int x8), (9, .int x9)]) hx hb dX7_count_218 hl (by decide) rfl (fun ls hl => ?_)
    refine lv_aload_n hx hb dX7_count_220 rfl (lv_at hl 1 rfl) ?_
    refine tg_s C hT dX7_count_221 ?_
    refine lv_iload hx hb dX7_count_224 (lv_at hl 0 rfl) ?_
    refine lv_aload_n hx hb dX7_count_226 rfl (lv_at hl 1 rfl) ?_
    refine tg_s C hT dX7_count_227 ?_
    refine lv_iconst (v := (0 : Int32)) hx hb dX7_count_230 rfl ?_
    refine tl_s C hT hE dX7_count_231 (fun hE => ?_)
    refine z_nmi hE (fun v4 hE => ?_)
    refine ts_s C hT hS hE dX7_count_232 (fun u5 H locs hE hT hS => ?_)
    refine lv_aload_n hx hb dX7_count_233 rfl (lv_at hl 1 rfl) ?_
    refine tg_s C hT dX7_count_234 ?_
    refine lv_iload hx hb dX7_count_237 (lv_at hl 0 rfl) ?_
    refine lv_iconst (v := (1 : Int32)) hx hb dX7_count_239 rfl ?_
    refine lv_iadd hx hb dX7_count_240 ?_
    refine lv_aload_n hx hb dX7_count_241 rfl (lv_at hl 1 rfl) ?_
    refine lv_iload_n hx hb dX7_count_242 rfl (lv_at hl 2 rfl) ?_
    refine lv_iconst (v := (5 : Int32)) hx hb dX7_count_243 rfl ?_
    obtain ⟨r7, u6, hc, hE⟩ := o_bd2_some hE
    refine tc_X7_st C hT hS (kX7_st hc) rfl rfl ⟨Nat.le_of_ble_eq_true rfl, Nat.le_of_ble_eq_true rfl⟩ ⟨Nat.le_refl 0, Nat.le_refl 0⟩ dX7_count_244 hl.1 (Nat.le_of_ble_eq_true rfl) (fun H locs hT hS => ?_)
    refine ts_s C hT hS hE dX7_count_247 (fun u8 H locs hE hT hS => ?_)
    refine lv_aload_n hx hb dX7_count_248 rfl (lv_at hl 1 rfl) ?_
    refine tg_s C hT dX7_count_249 ?_
    refine lv_iload hx hb dX7_count_252 (lv_at hl 0 rfl) ?_
    refine lv_iconst (v := (2 : Int32)) hx hb dX7_count_254 rfl ?_
    refine lv_iadd hx hb dX7_count_255 ?_
    refine lv_iload hx hb dX7_count_256 (lv_at hl 5 rfl) ?_
    refine lv_i2l hx hb dX7_count_258 rfl ?_
    refine lv_iload_n hx hb dX7_count_259 rfl (lv_at hl 4 rfl) ?_
    refine lv_i2l hx hb dX7_count_260 rfl ?_
    refine lv_lmul hx hb dX7_count_261 ?_
    refine lv_iload_n hx hb dX7_count_262 rfl (lv_at hl 3 rfl) ?_
    refine lv_i2l hx hb dX7_count_263 rfl ?_
    obtain ⟨hz, hE⟩ := o_nzl_some hE
    refine lv_ldiv hx hb dX7_count_264 hz ?_
    refine lv_l2i hx hb dX7_count_265 rfl ?_
    refine ts_s C hT hS hE dX7_count_266 (fun u9 H locs hE hT hS => ?_)
    refine lv_aload_n hx hb dX7_count_267 rfl (lv_at hl 1 rfl) ?_
    refine tg_s C hT dX7_count_268 ?_
    refine lv_iload hx hb dX7_count_271 (lv_at hl 0 rfl) ?_
    refine lv_iconst (v := (3 : Int32)) hx hb dX7_count_273 rfl ?_
    refine lv_iadd hx hb dX7_count_274 ?_
    refine lv_iload hx hb dX7_count_275 (lv_at hl 6 rfl) ?_
    refine lv_iload_n hx hb dX7_count_277 rfl (lv_at hl 4 rfl) ?_
    refine lv_imul hx hb dX7_count_278 ?_
    refine ts_s C hT hS hE dX7_count_279 (fun u10 H locs hE hT hS => ?_)
    refine lv_aload_n hx hb dX7_count_280 rfl (lv_at hl 1 rfl) ?_
    refine tg_s C hT dX7_count_281 ?_
    refine lv_iload hx hb dX7_count_284 (lv_at hl 0 rfl) ?_
    refine lv_iconst (v := (4 : Int32)) hx hb dX7_count_286 rfl ?_
    refine lv_iadd hx hb dX7_count_287 ?_
    refine lv_iload hx hb dX7_count_288 (lv_at hl 7 rfl) ?_
    refine lv_iload_n hx hb dX7_count_290 rfl (lv_at hl 4 rfl) ?_
    refine lv_imul hx hb dX7_count_291 ?_
    refine ts_s C hT hS hE dX7_count_292 (fun u11 H locs hE hT hS => ?_)
    refine lv_aload_n hx hb dX7_count_293 rfl (lv_at hl 1 rfl) ?_
    refine tg_s C hT dX7_count_294 ?_
    refine lv_bipush (v := (16 : Int32)) hx hb dX7_count_297 rfl ?_
    refine lv_bipush (v := (14 : Int32)) hx hb dX7_count_299 rfl ?_
    refine lv_iload_n hx hb dX7_count_301 rfl (lv_at hl 2 rfl) ?_
    refine lv_imul hx hb dX7_count_302 ?_
    refine lv_iadd hx hb dX7_count_303 ?_
    refine lv_bipush (v := (11 : Int32)) hx hb dX7_count_304 rfl ?_
    refine lv_iadd hx hb dX7_count_306 ?_
    refine lv_iload hx hb dX7_count_307 (lv_at hl 8 rfl) ?_
    refine lv_iconst (v := (1 : Int32)) hx hb dX7_count_309 rfl ?_
    refine lv_iadd hx hb dX7_count_310 ?_
    refine ts_s C hT hS hE dX7_count_311 (fun u12 H locs hE hT hS => ?_)
    refine lv_aload_n hx hb dX7_count_312 rfl (lv_at hl 1 rfl) ?_
    refine tg_s C hT dX7_count_313 ?_
    refine lv_iload hx hb dX7_count_316 (lv_at hl 0 rfl) ?_
    refine lv_iconst (v := (2 : Int32)) hx hb dX7_count_318 rfl ?_
    refine lv_iadd hx hb dX7_count_319 ?_
    refine tl_s C hT hE dX7_count_320 (fun hE => ?_)
    refine z_nmi hE (fun v13 hE => ?_)
    exact mt_iret C hr hlocks hT hS hE dX7_count_321
  have w_176 : ∀ (n : Nat) (u : TS) (x1 : Int32) (x2 : Int32) (x3 : Int32) (x5 : Int32) (x6 : Int32) (x7 : Int32) (x8 : Int32) (x9 : Int32) (x10 : Int32) (H : Heap) (locs : List Loc) (ls : Array Slot), fX7_count_176 N n u x1 x2 x3 x5 x6 x7 x8 x9 x10 = some (r, u1) → TW D dA h u H → va_S (TA h) s.heap H locs → lv_has ls 11 [(0, .ref h), (1, .int x1), (2, .int x2), (3, .int x3), (5, .int x5), (6, .int x6), (7, .int x7), (8, .int x8), (9, .int x9), (10, .int x10)] → W p l e { frames := 3, cells := 0, slots := 0, locals := 72 } s m args below meth c H locs 0 0 (MQ below (mt_Q D dA h (some (.int r)) u1) args s 0 0 (TA h)) (F0 m 176 ls []) := by
    intro n
    induction n with
    | zero =>
      intro u x1 x2 x3 x5 x6 x7 x8 x9 x10 H locs ls hE hT hS hl
      cases (show (none : Option (Int32 × TS)) = some (r, u1) from hE)
    | succ n ih =>
      intro u x1 x2 x3 x5 x6 x7 x8 x9 x10 H locs ls hE hT hS hl
      rw [fX7_count_176] at hE
      refine lv_iload hx hb dX7_count_176 (lv_at hl 9 rfl) ?_
      refine lv_iload hx hb dX7_count_178 (lv_at hl 8 rfl) ?_
      refine lv_bipush (v := (35 : Int32)) hx hb dX7_count_180 rfl ?_
      refine lv_iadd hx hb dX7_count_182 ?_
      refine lv_icmp_ge (tgt := 208) hx hb dX7_count_183 (by decide) (fun c14 => ?_) (fun c14 => ?_)
      · have hE := z_t c14 hE
        refine z_iinc (v := (x8 + (-1 : Int32))) (lw := (fun y_ => [(8, .int y_), (0, .ref h), (1, .int x1), (2, .int x2), (3, .int x3), (5, .int x5), (6, .int x6), (7, .int x7), (9, .int x9), (10, .int x10)])) hx hb dX7_count_208 hl hE (k := 7) rfl rfl (by decide) (fun _ => rfl) (fun z15 ls hE hl => ?_)
        exact w_211 _ _ _ _ _ _ _ _ _ _ _ _ hE hT hS (lv_sub hl [1, 2, 3, 4, 5, 6, 7, 0, 8] rfl)
      · have hE := z_f c14 hE
        refine lv_aload_n hx hb dX7_count_186 rfl (lv_at hl 0 rfl) ?_
        refine tg_s C hT dX7_count_187 ?_
        refine lv_iload hx hb dX7_count_190 (lv_at hl 9 rfl) ?_
        refine lv_aload_n hx hb dX7_count_192 rfl (lv_at hl 0 rfl) ?_
        refine tg_s C hT dX7_count_193 ?_
        refine lv_iload hx hb dX7_count_196 (lv_at hl 9 rfl) ?_
        refine lv_iconst (v := (5 : Int32)) hx hb dX7_count_198 rfl ?_
        refine lv_iadd hx hb dX7_count_199 ?_
        refine tl_s C hT hE dX7_count_200 (fun hE => ?_)
        refine z_nmi hE (fun v16 hE => ?_)
        refine ts_s C hT hS hE dX7_count_201 (fun u17 H locs hE hT hS => ?_)
        refine z_iinc (v := (x10 + (1 : Int32))) (lw := (fun y_ => [(10, .int y_), (0, .ref h), (1, .int x1), (2, .int x2), (3, .int x3), (5, .int x5), (6, .int x6), (7, .int x7), (8, .int x8), (9, .int x9)])) hx hb dX7_count_202 hl hE (k := 9) rfl rfl (by decide) (fun _ => rfl) (fun z18 ls hE hl => ?_)
        refine lv_goto (tgt := 176) hx hb dX7_count_205 (by decide) ?_
        exact ih _ _ _ _ _ _ _ _ _ _ _ _ _ hE hT hS (lv_sub hl [1, 2, 3, 4, 5, 6, 7, 8, 9, 0] rfl)
  have w_138 : ∀ (ag68 : TS → Int32 → Int32 → Int32 → Int32 → Int32 → Int32 → Int32 → Int32 → Option (Int32 × TS)) (hag68 : (∀ (u : TS) (x1 : Int32) (x2 : Int32) (x3 : Int32) (x4 : Int32) (x5 : Int32) (x6 : Int32) (x7 : Int32) (x8 : Int32) (H : Heap) (locs : List Loc) (ls : Array Slot), ag68 u x1 x2 x3 x4 x5 x6 x7 x8 = some (r, u1) → TW D dA h u H → va_S (TA h) s.heap H locs → lv_has ls 11 [(0, .ref h), (1, .int x1), (2, .int x2), (3, .int x3), (4, .int x4), (5, .int x5), (6, .int x6), (7, .int x7), (8, .int x8)] → W p l e { frames := 3, cells := 0, slots := 0, locals := 72 } s m args below meth c H locs 0 0 (MQ below (mt_Q D dA h (some (.int r)) u1) args s 0 0 (TA h)) (F0 m 68 ls []))) (u : TS) (x1 : Int32) (x2 : Int32) (x3 : Int32) (x4 : Int32) (x5 : Int32) (x6 : Int32) (x8 : Int32) (y0 : Int32) (H : Heap) (locs : List Loc) (ls : Array Slot), fX7_count_138 N ag68 u x1 x2 x3 x4 x5 x6 x8 y0 = some (r, u1) → TW D dA h u H → va_S (TA h) s.heap H locs → lv_has ls 11 [(0, .ref h), (1, .int x1), (2, .int x2), (3, .int x3), (4, .int x4), (5, .int x5), (6, .int x6), (8, .int x8)] → W p l e { frames := 3, cells := 0, slots := 0, locals := 72 } s m args below meth c H locs 0 0 (MQ below (mt_Q D dA h (some (.int r)) u1) args s 0 0 (TA h)) (F0 m 138 ls [.int y0]) := by
    intro ag68 hag68 u x1 x2 x3 x4 x5 x6 x8 y0 H locs ls hE hT hS hl
    unfold fX7_count_138 at hE
    refine lv_istore (lv' := [(7, .int y0), (0, .ref h), (1, .int x1), (2, .int x2), (3, .int x3), (4, .int x4), (5, .int x5), (6, .int x6), (8, .int x8)]) hx hb dX7_count_138 hl (by decide) rfl (fun ls hl => ?_)
    refine z_iinc (v := (x8 + (1 : Int32))) (lw := (fun y_ => [(8, .int y_), (7, .int y0), (0, .ref h), (1, .int x1), (2, .int x2), (3, .int x3), (4, .int x4), (5, .int x5), (6, .int x6)])) hx hb dX7_count_140 hl hE (k := 8) rfl rfl (by decide) (fun _ => rfl) (fun z19 ls hE hl => ?_)
    refine lv_goto (tgt := 68) hx hb dX7_count_143 (by decide) ?_
    exact hag68 _ _ _ _ _ _ _ _ _ _ _ _ hE hT hS (lv_sub hl [2, 3, 4, 5, 6, 7, 8, 1, 0] rfl)
  have w_131 : ∀ (ag68 : TS → Int32 → Int32 → Int32 → Int32 → Int32 → Int32 → Int32 → Int32 → Option (Int32 × TS)) (hag68 : (∀ (u : TS) (x1 : Int32) (x2 : Int32) (x3 : Int32) (x4 : Int32) (x5 : Int32) (x6 : Int32) (x7 : Int32) (x8 : Int32) (H : Heap) (locs : List Loc) (ls : Array Slot), ag68 u x1 x2 x3 x4 x5 x6 x7 x8 = some (r, u1) → TW D dA h u H → va_S (TA h) s.heap H locs → lv_has ls 11 [(0, .ref h), (1, .int x1), (2, .int x2), (3, .int x3), (4, .int x4), (5, .int x5), (6, .int x6), (7, .int x7), (8, .int x8)] → W p l e { frames := 3, cells := 0, slots := 0, locals := 72 } s m args below meth c H locs 0 0 (MQ below (mt_Q D dA h (some (.int r)) u1) args s 0 0 (TA h)) (F0 m 68 ls []))) (u : TS) (x1 : Int32) (x2 : Int32) (x3 : Int32) (x4 : Int32) (x5 : Int32) (x6 : Int32) (x8 : Int32) (x9 : Int32) (H : Heap) (locs : List Loc) (ls : Array Slot), fX7_count_131 N ag68 u x1 x2 x3 x4 x5 x6 x8 x9 = some (r, u1) → TW D dA h u H → va_S (TA h) s.heap H locs → lv_has ls 11 [(0, .ref h), (1, .int x1), (2, .int x2), (3, .int x3), (4, .int x4), (5, .int x5), (6, .int x6), (8, .int x8), (9, .int x9)] → W p l e { frames := 3, cells := 0, slots := 0, locals := 72 } s m args below meth c H locs 0 0 (MQ below (mt_Q D dA h (some (.int r)) u1) args s 0 0 (TA h)) (F0 m 131 ls []) := by
    intro ag68 hag68 u x1 x2 x3 x4 x5 x6 x8 x9 H locs ls hE hT hS hl
    unfold fX7_count_131 at hE
    refine lv_iload hx hb dX7_count_131 (lv_at hl 8 rfl) ?_
    refine lv_goto (tgt := 138) hx hb dX7_count_133 (by decide) ?_
    exact w_138 ag68 hag68 _ _ _ _ _ _ _ _ _ _ _ _ hE hT hS (lv_sub hl [0, 1, 2, 3, 4, 5, 6, 7] rfl)
  have w_117 : ∀ (ag68 : TS → Int32 → Int32 → Int32 → Int32 → Int32 → Int32 → Int32 → Int32 → Option (Int32 × TS)) (hag68 : (∀ (u : TS) (x1 : Int32) (x2 : Int32) (x3 : Int32) (x4 : Int32) (x5 : Int32) (x6 : Int32) (x7 : Int32) (x8 : Int32) (H : Heap) (locs : List Loc) (ls : Array Slot), ag68 u x1 x2 x3 x4 x5 x6 x7 x8 = some (r, u1) → TW D dA h u H → va_S (TA h) s.heap H locs → lv_has ls 11 [(0, .ref h), (1, .int x1), (2, .int x2), (3, .int x3), (4, .int x4), (5, .int x5), (6, .int x6), (7, .int x7), (8, .int x8)] → W p l e { frames := 3, cells := 0, slots := 0, locals := 72 } s m args below meth c H locs 0 0 (MQ below (mt_Q D dA h (some (.int r)) u1) args s 0 0 (TA h)) (F0 m 68 ls []))) (u : TS) (x1 : Int32) (x2 : Int32) (x3 : Int32) (x4 : Int32) (x5 : Int32) (x7 : Int32) (x8 : Int32) (x9 : Int32) (y0 : Int32) (H : Heap) (locs : List Loc) (ls : Array Slot), fX7_count_117 N ag68 u x1 x2 x3 x4 x5 x7 x8 x9 y0 = some (r, u1) → TW D dA h u H → va_S (TA h) s.heap H locs → lv_has ls 11 [(0, .ref h), (1, .int x1), (2, .int x2), (3, .int x3), (4, .int x4), (5, .int x5), (7, .int x7), (8, .int x8), (9, .int x9)] → W p l e { frames := 3, cells := 0, slots := 0, locals := 72 } s m args below meth c H locs 0 0 (MQ below (mt_Q D dA h (some (.int r)) u1) args s 0 0 (TA h)) (F0 m 117 ls [.int y0]) := by
    intro ag68 hag68 u x1 x2 x3 x4 x5 x7 x8 x9 y0 H locs ls hE hT hS hl
    unfold fX7_count_117 at hE
    refine lv_istore (lv' := [(6, .int y0), (0, .ref h), (1, .int x1), (2, .int x2), (3, .int x3), (4, .int x4), (5, .int x5), (7, .int x7), (8, .int x8), (9, .int x9)]) hx hb dX7_count_117 hl (by decide) rfl (fun ls hl => ?_)
    refine lv_iload hx hb dX7_count_119 (lv_at hl 8 rfl) ?_
    refine lv_if_eq (tgt := 131) hx hb dX7_count_121 (by decide) (fun c20 => ?_) (fun c20 => ?_)
    · have hE := z_t c20 hE
      exact w_131 ag68 hag68 _ _ _ _ _ _ _ _ _ _ _ _ hE hT hS (lv_sub hl [1, 2, 3, 4, 5, 6, 0, 8, 9] rfl)
    · have hE := z_f c20 hE
      refine lv_iload hx hb dX7_count_124 (lv_at hl 9 rfl) ?_
      refine lv_iload hx hb dX7_count_126 (lv_at hl 7 rfl) ?_
      refine lv_icmp_le (tgt := 136) hx hb dX7_count_128 (by decide) (fun c21 => ?_) (fun c21 => ?_)
      · have hE := z_t c21 hE
        refine lv_iload hx hb dX7_count_136 (lv_at hl 7 rfl) ?_
        exact w_138 ag68 hag68 _ _ _ _ _ _ _ _ _ _ _ _ hE hT hS (lv_sub hl [1, 2, 3, 4, 5, 6, 0, 8] rfl)
      · have hE := z_f c21 hE
        exact w_131 ag68 hag68 _ _ _ _ _ _ _ _ _ _ _ _ hE hT hS (lv_sub hl [1, 2, 3, 4, 5, 6, 0, 8, 9] rfl)
  have w_110 : ∀ (ag68 : TS → Int32 → Int32 → Int32 → Int32 → Int32 → Int32 → Int32 → Int32 → Option (Int32 × TS)) (hag68 : (∀ (u : TS) (x1 : Int32) (x2 : Int32) (x3 : Int32) (x4 : Int32) (x5 : Int32) (x6 : Int32) (x7 : Int32) (x8 : Int32) (H : Heap) (locs : List Loc) (ls : Array Slot), ag68 u x1 x2 x3 x4 x5 x6 x7 x8 = some (r, u1) → TW D dA h u H → va_S (TA h) s.heap H locs → lv_has ls 11 [(0, .ref h), (1, .int x1), (2, .int x2), (3, .int x3), (4, .int x4), (5, .int x5), (6, .int x6), (7, .int x7), (8, .int x8)] → W p l e { frames := 3, cells := 0, slots := 0, locals := 72 } s m args below meth c H locs 0 0 (MQ below (mt_Q D dA h (some (.int r)) u1) args s 0 0 (TA h)) (F0 m 68 ls []))) (u : TS) (x1 : Int32) (x2 : Int32) (x3 : Int32) (x4 : Int32) (x5 : Int32) (x7 : Int32) (x8 : Int32) (x9 : Int32) (H : Heap) (locs : List Loc) (ls : Array Slot), fX7_count_110 N ag68 u x1 x2 x3 x4 x5 x7 x8 x9 = some (r, u1) → TW D dA h u H → va_S (TA h) s.heap H locs → lv_has ls 11 [(0, .ref h), (1, .int x1), (2, .int x2), (3, .int x3), (4, .int x4), (5, .int x5), (7, .int x7), (8, .int x8), (9, .int x9)] → W p l e { frames := 3, cells := 0, slots := 0, locals := 72 } s m args below meth c H locs 0 0 (MQ below (mt_Q D dA h (some (.int r)) u1) args s 0 0 (TA h)) (F0 m 110 ls []) := by
    intro ag68 hag68 u x1 x2 x3 x4 x5 x7 x8 x9 H locs ls hE hT hS hl
    unfold fX7_count_110 at hE
    refine lv_iload hx hb dX7_count_110 (lv_at hl 8 rfl) ?_
    refine lv_goto (tgt := 117) hx hb dX7_count_112 (by decide) ?_
    exact w_117 ag68 hag68 _ _ _ _ _ _ _ _ _ _ _ _ _ hE hT hS (lv_sub hl [0, 1, 2, 3, 4, 5, 6, 7, 8] rfl)
  have w_68 : ∀ (n : Nat) (u : TS) (x1 : Int32) (x2 : Int32) (x3 : Int32) (x4 : Int32) (x5 : Int32) (x6 : Int32) (x7 : Int32) (x8 : Int32) (H : Heap) (locs : List Loc) (ls : Array Slot), fX7_count_68 N n u x1 x2 x3 x4 x5 x6 x7 x8 = some (r, u1) → TW D dA h u H → va_S (TA h) s.heap H locs → lv_has ls 11 [(0, .ref h), (1, .int x1), (2, .int x2), (3, .int x3), (4, .int x4), (5, .int x5), (6, .int x6), (7, .int x7), (8, .int x8)] → W p l e { frames := 3, cells := 0, slots := 0, locals := 72 } s m args below meth c H locs 0 0 (MQ below (mt_Q D dA h (some (.int r)) u1) args s 0 0 (TA h)) (F0 m 68 ls []) := by
    intro n
    induction n with
    | zero =>
      intro u x1 x2 x3 x4 x5 x6 x7 x8 H locs ls hE hT hS hl
      cases (show (none : Option (Int32 × TS)) = some (r, u1) from hE)
    | succ n ih =>
      intro u x1 x2 x3 x4 x5 x6 x7 x8 H locs ls hE hT hS hl
      rw [fX7_count_68] at hE
      refine lv_iload hx hb dX7_count_68 (lv_at hl 8 rfl) ?_
      refine lv_iload_n hx hb dX7_count_70 rfl (lv_at hl 2 rfl) ?_
      refine lv_icmp_ge (tgt := 146) hx hb dX7_count_71 (by decide) (fun c22 => ?_) (fun c22 => ?_)
      · have hE := z_t c22 hE
        refine lv_aload_n hx hb dX7_count_146 rfl (lv_at hl 0 rfl) ?_
        refine lv_iload_n hx hb dX7_count_147 rfl (lv_at hl 1 rfl) ?_
        refine lv_bipush (v := (11 : Int32)) hx hb dX7_count_148 rfl ?_
        obtain ⟨r24, u23, hc, hE⟩ := o_bd2_some hE
        refine tc_X7_st C hT hS (kX7_st hc) rfl rfl ⟨Nat.le_of_ble_eq_true rfl, Nat.le_of_ble_eq_true rfl⟩ ⟨Nat.le_refl 0, Nat.le_refl 0⟩ dX7_count_150 hl.1 (Nat.le_of_ble_eq_true rfl) (fun H locs hT hS => ?_)
        refine lv_istore (lv' := [(8, .int r24), (0, .ref h), (1, .int x1), (2, .int x2), (3, .int x3), (4, .int x4), (5, .int x5), (6, .int x6), (7, .int x7)]) hx hb dX7_count_153 hl (by decide) rfl (fun ls hl => ?_)
        refine lv_sipush (v := (3570 : Int32)) hx hb dX7_count_155 rfl ?_
        refine lv_bipush (v := (40 : Int32)) hx hb dX7_count_158 rfl ?_
        refine lv_iload_n hx hb dX7_count_160 rfl (lv_at hl 2 rfl) ?_
        refine lv_imul hx hb dX7_count_161 ?_
        refine lv_iadd hx hb dX7_count_162 ?_
        refine z_nmi hE (fun z25 hE => ?_)
        refine lv_istore (lv' := [(9, .int z25), (8, .int r24), (0, .ref h), (1, .int x1), (2, .int x2), (3, .int x3), (4, .int x4), (5, .int x5), (6, .int x6), (7, .int x7)]) hx hb dX7_count_163 hl (by decide) rfl (fun ls hl => ?_)
        refine lv_iload hx hb dX7_count_165 (lv_at hl 1 rfl) ?_
        refine lv_bipush (v := (8 : Int32)) hx hb dX7_count_167 rfl ?_
        refine lv_icmp_ne (tgt := 211) hx hb dX7_count_169 (by decide) (fun c26 => ?_) (fun c26 => ?_)
        · have hE := z_f c26 hE
          exact w_211 _ _ _ _ _ _ _ _ _ _ _ _ hE hT hS (lv_sub hl [2, 3, 4, 5, 7, 8, 9, 1, 0] rfl)
        · have hE := z_t c26 hE
          refine lv_iload hx hb dX7_count_172 (lv_at hl 0 rfl) ?_
          refine lv_istore (lv' := [(10, .int z25), (9, .int z25), (8, .int r24), (0, .ref h), (1, .int x1), (2, .int x2), (3, .int x3), (4, .int x4), (5, .int x5), (6, .int x6), (7, .int x7)]) hx hb dX7_count_174 hl (by decide) rfl (fun ls hl => ?_)
          exact w_176 N _ _ _ _ _ _ _ _ _ _ _ _ _ hE hT hS (lv_sub hl [3, 4, 5, 6, 8, 9, 10, 2, 1, 0] rfl)
      · have hE := z_f c22 hE
        refine lv_iload hx hb dX7_count_74 (lv_at hl 4 rfl) ?_
        refine lv_bipush (v := (50 : Int32)) hx hb dX7_count_76 rfl ?_
        refine lv_aload_n hx hb dX7_count_78 rfl (lv_at hl 0 rfl) ?_
        refine lv_bipush (v := (101 : Int32)) hx hb dX7_count_79 rfl ?_
        obtain ⟨r28, u27, hc, hE⟩ := o_bd2_some hE
        refine tc_X7_draw C hT hS (kX7_draw hc) rfl rfl ⟨Nat.le_of_ble_eq_true rfl, Nat.le_of_ble_eq_true rfl⟩ ⟨Nat.le_refl 0, Nat.le_refl 0⟩ dX7_count_81 hl.1 (Nat.le_of_ble_eq_true rfl) (fun H locs hT hS => ?_)
        refine lv_iadd hx hb dX7_count_84 ?_
        refine lv_imul hx hb dX7_count_85 ?_
        refine lv_bipush (v := (100 : Int32)) hx hb dX7_count_86 rfl ?_
        refine lv_idiv hx hb dX7_count_88 (by decide) ?_
        refine z_nmi hE (fun z29 hE => ?_)
        refine lv_istore (lv' := [(9, .int z29), (0, .ref h), (1, .int x1), (2, .int x2), (3, .int x3), (4, .int x4), (5, .int x5), (6, .int x6), (7, .int x7), (8, .int x8)]) hx hb dX7_count_89 hl (by decide) rfl (fun ls hl => ?_)
        refine lv_iload hx hb dX7_count_91 (lv_at hl 6 rfl) ?_
        refine lv_iload hx hb dX7_count_93 (lv_at hl 0 rfl) ?_
        refine lv_iadd hx hb dX7_count_95 ?_
        refine z_nmi hE (fun z30 hE => ?_)
        refine lv_istore (lv' := [(5, .int z30), (9, .int z29), (0, .ref h), (1, .int x1), (2, .int x2), (3, .int x3), (4, .int x4), (6, .int x6), (7, .int x7), (8, .int x8)]) hx hb dX7_count_96 hl (by decide) rfl (fun ls hl => ?_)
        refine lv_iload hx hb dX7_count_98 (lv_at hl 9 rfl) ?_
        refine lv_if_eq (tgt := 110) hx hb dX7_count_100 (by decide) (fun c31 => ?_) (fun c31 => ?_)
        · have hE := z_t c31 hE
          exact w_110 (fX7_count_68 N n) ih _ _ _ _ _ _ _ _ _ _ _ _ hE hT hS (lv_sub hl [2, 3, 4, 5, 6, 0, 8, 9, 1] rfl)
        · have hE := z_f c31 hE
          refine lv_iload hx hb dX7_count_103 (lv_at hl 1 rfl) ?_
          refine lv_iload hx hb dX7_count_105 (lv_at hl 7 rfl) ?_
          refine lv_icmp_ge (tgt := 115) hx hb dX7_count_107 (by decide) (fun c32 => ?_) (fun c32 => ?_)
          · have hE := z_t c32 hE
            refine lv_iload hx hb dX7_count_115 (lv_at hl 7 rfl) ?_
            exact w_117 (fX7_count_68 N n) ih _ _ _ _ _ _ _ _ _ _ _ _ _ hE hT hS (lv_sub hl [2, 3, 4, 5, 6, 0, 8, 9, 1] rfl)
          · have hE := z_f c32 hE
            exact w_110 (fX7_count_68 N n) ih _ _ _ _ _ _ _ _ _ _ _ _ hE hT hS (lv_sub hl [2, 3, 4, 5, 6, 0, 8, 9, 1] rfl)
  unfold fX7_count at hE
  refine lv_aload_n hx hb dX7_count_0 rfl (lv_at hl 0 rfl) ?_
  refine lv_iload_n hx hb dX7_count_1 rfl (lv_at hl 1 rfl) ?_
  obtain ⟨r34, u33, hc, hE⟩ := o_bd2_some hE
  refine tc_X7_isStand C hT hS (kX7_isStand hc) rfl rfl ⟨Nat.le_of_ble_eq_true rfl, Nat.le_of_ble_eq_true rfl⟩ ⟨Nat.le_refl 0, Nat.le_refl 0⟩ dX7_count_2 hl.1 (Nat.le_of_ble_eq_true rfl) (fun H locs hT hS => ?_)
  refine lv_if_ne (tgt := 15) hx hb dX7_count_5 (by decide) (fun c35 => ?_) (fun c35 => ?_)
  · have hE := z_f c35 hE
    refine lv_iload_n hx hb dX7_count_15 rfl (lv_at hl 2 rfl) ?_
    refine lv_iconst (v := (1 : Int32)) hx hb dX7_count_16 rfl ?_
    refine lv_bipush (v := (20 : Int32)) hx hb dX7_count_17 rfl ?_
    obtain ⟨r36, hc, hE⟩ := o_bd_some hE
    refine sc_X7_in C.1 (kX7_in hc) rfl rfl ⟨Nat.le_of_ble_eq_true rfl, Nat.le_of_ble_eq_true rfl⟩ ⟨Nat.le_refl 0, Nat.le_refl 0⟩ dX7_count_19 hl.1 (Nat.le_of_ble_eq_true rfl) ?_
    refine lv_if_eq (tgt := 33) hx hb dX7_count_22 (by decide) (fun c37 => ?_) (fun c37 => ?_)
    · have hE := z_t c37 hE
      exact w_33 _ _ _ _ hE hT hS (lv_sub hl [0] rfl)
    · have hE := z_f c37 hE
      refine lv_aload_n hx hb dX7_count_25 rfl (lv_at hl 0 rfl) ?_
      refine lv_iload_n hx hb dX7_count_26 rfl (lv_at hl 1 rfl) ?_
      obtain ⟨r39, u38, hc, hE⟩ := o_bd2_some hE
      refine tc_X7_isBare C hT hS (kX7_isBare hc) rfl rfl ⟨Nat.le_of_ble_eq_true rfl, Nat.le_of_ble_eq_true rfl⟩ ⟨Nat.le_refl 0, Nat.le_refl 0⟩ dX7_count_27 hl.1 (Nat.le_of_ble_eq_true rfl) (fun H locs hT hS => ?_)
      refine lv_if_eq (tgt := 40) hx hb dX7_count_30 (by decide) (fun c40 => ?_) (fun c40 => ?_)
      · have hE := z_t c40 hE
        refine lv_aload_n hx hb dX7_count_40 rfl (lv_at hl 0 rfl) ?_
        refine lv_iload_n hx hb dX7_count_41 rfl (lv_at hl 1 rfl) ?_
        refine lv_iconst (v := (4 : Int32)) hx hb dX7_count_42 rfl ?_
        obtain ⟨r42, u41, hc, hE⟩ := o_bd2_some hE
        refine tc_X7_st C hT hS (kX7_st hc) rfl rfl ⟨Nat.le_of_ble_eq_true rfl, Nat.le_of_ble_eq_true rfl⟩ ⟨Nat.le_refl 0, Nat.le_refl 0⟩ dX7_count_43 hl.1 (Nat.le_of_ble_eq_true rfl) (fun H locs hT hS => ?_)
        refine lv_istore_n (lv' := [(3, .int r42), (0, .ref h), (1, .int a1), (2, .int a2)]) hx hb dX7_count_46 rfl hl (by decide) rfl (fun ls hl => ?_)
        refine lv_aload_n hx hb dX7_count_47 rfl (lv_at hl 1 rfl) ?_
        refine lv_iload_n hx hb dX7_count_48 rfl (lv_at hl 2 rfl) ?_
        obtain ⟨r44, u43, hc, hE⟩ := o_bd2_some hE
        refine tc_X7_wood C hT hS (kX7_wood hc) rfl rfl ⟨Nat.le_of_ble_eq_true rfl, Nat.le_of_ble_eq_true rfl⟩ ⟨Nat.le_refl 0, Nat.le_refl 0⟩ dX7_count_49 hl.1 (Nat.le_of_ble_eq_true rfl) (fun H locs hT hS => ?_)
        refine lv_iload_n hx hb dX7_count_52 rfl (lv_at hl 0 rfl) ?_
        obtain ⟨hz, hE⟩ := o_nz_some hE
        refine lv_idiv hx hb dX7_count_53 hz ?_
        refine z_nmi hE (fun z45 hE => ?_)
        refine lv_istore (lv' := [(4, .int z45), (3, .int r42), (0, .ref h), (1, .int a1), (2, .int a2)]) hx hb dX7_count_54 hl (by decide) rfl (fun ls hl => ?_)
        refine lv_iconst (v := (0 : Int32)) hx hb dX7_count_56 rfl ?_
        refine lv_istore (lv' := [(5, .int (0 : Int32)), (4, .int z45), (3, .int r42), (0, .ref h), (1, .int a1), (2, .int a2)]) hx hb dX7_count_57 hl (by decide) rfl (fun ls hl => ?_)
        refine lv_iconst (v := (0 : Int32)) hx hb dX7_count_59 rfl ?_
        refine lv_istore (lv' := [(6, .int (0 : Int32)), (5, .int (0 : Int32)), (4, .int z45), (3, .int r42), (0, .ref h), (1, .int a1), (2, .int a2)]) hx hb dX7_count_60 hl (by decide) rfl (fun ls hl => ?_)
        refine lv_iconst (v := (0 : Int32)) hx hb dX7_count_62 rfl ?_
        refine lv_istore (lv' := [(7, .int (0 : Int32)), (6, .int (0 : Int32)), (5, .int (0 : Int32)), (4, .int z45), (3, .int r42), (0, .ref h), (1, .int a1), (2, .int a2)]) hx hb dX7_count_63 hl (by decide) rfl (fun ls hl => ?_)
        refine lv_iconst (v := (0 : Int32)) hx hb dX7_count_65 rfl ?_
        refine lv_istore (lv' := [(8, .int (0 : Int32)), (7, .int (0 : Int32)), (6, .int (0 : Int32)), (5, .int (0 : Int32)), (4, .int z45), (3, .int r42), (0, .ref h), (1, .int a1), (2, .int a2)]) hx hb dX7_count_66 hl (by decide) rfl (fun ls hl => ?_)
        exact w_68 N _ _ _ _ _ _ _ _ _ _ _ _ hE hT hS (lv_sub hl [6, 7, 8, 5, 4, 3, 2, 1, 0] rfl)
      · have hE := z_f c40 hE
        exact w_33 _ _ _ _ hE hT hS (lv_sub hl [0] rfl)
  · have hE := z_t c35 hE
    refine lv_aload_n hx hb dX7_count_8 rfl (lv_at hl 0 rfl) ?_
    refine lv_bipush (v := (-3 : Int32)) hx hb dX7_count_9 rfl ?_
    obtain ⟨r47, u46, hc, hE⟩ := o_bd2_some hE
    refine tc_X7_refuse C hT hS (kX7_refuse hc) rfl rfl ⟨Nat.le_of_ble_eq_true rfl, Nat.le_of_ble_eq_true rfl⟩ ⟨Nat.le_refl 0, Nat.le_refl 0⟩ dX7_count_11 hl.1 (Nat.le_of_ble_eq_true rfl) (fun H locs hT hS => ?_)
    exact mt_iret C hr hlocks hT hS hE dX7_count_14
set_option maxHeartbeats 4000000 in
set_option maxRecDepth 100000 in
theorem kX7_counted {l : Launch} {D : va_G} {dA : Nat → ClassId} {h N : Nat} {u u1 : TS} {a1 : Int32} {a2 : Int32} {a3 : Int32} {r : Int32} (hE : fX7_counted N u a1 a2 a3 = some (r, u1)) : Met l yX7_counted (ws_ yX7_counted cX7_counted 4 (some .int)) ({ frames := 2, cells := 0, slots := 0, locals := 52 }) (va_Pc [.ref h, .int a1, .int a2, .int a3] (mt_B D dA h u)) (mt_Q D dA h (some (.int r)) u1) 0 0 (TA h) := by
  refine mt_met (by decide) rfl rfl rfl ?_
  intro p e s m args below meth c ls C hr hlocks hT hS hl
  have hx := C.1.1
  have hb := C.1.2.1
  have w_25 : ∀ (u : TS) (H : Heap) (locs : List Loc) (ls : Array Slot), fX7_counted_25 N u = some (r, u1) → TW D dA h u H → va_S (TA h) s.heap H locs → lv_has ls 4 [(0, .ref h)] → W p l e { frames := 2, cells := 0, slots := 0, locals := 52 } s m args below meth c H locs 0 0 (MQ below (mt_Q D dA h (some (.int r)) u1) args s 0 0 (TA h)) (F0 m 25 ls []) := by
    intro u H locs ls hE hT hS hl
    unfold fX7_counted_25 at hE
    refine lv_aload_n hx hb dX7_counted_25 rfl (lv_at hl 0 rfl) ?_
    refine lv_bipush (v := (-3 : Int32)) hx hb dX7_counted_26 rfl ?_
    obtain ⟨r2, u1, hc, hE⟩ := o_bd2_some hE
    refine tc_X7_refuse C hT hS (kX7_refuse hc) rfl rfl ⟨Nat.le_of_ble_eq_true rfl, Nat.le_of_ble_eq_true rfl⟩ ⟨Nat.le_refl 0, Nat.le_refl 0⟩ dX7_counted_28 hl.1 (Nat.le_of_ble_eq_true rfl) (fun H locs hT hS => ?_)
    exact mt_iret C hr hlocks hT hS hE dX7_counted_31
  have w_83 : ∀ (u : TS) (y0 : Int32) (H : Heap) (locs : List Loc) (ls : Array Slot), fX7_counted_83 N u y0 = some (r, u1) → TW D dA h u H → va_S (TA h) s.heap H locs → lv_has ls 4 [] → W p l e { frames := 2, cells := 0, slots := 0, locals := 52 } s m args below meth c H locs 0 0 (MQ below (mt_Q D dA h (some (.int r)) u1) args s 0 0 (TA h)) (F0 m 83 ls [.int y0]) := by
    intro u y0 H locs ls hE hT hS hl
    unfold fX7_counted_83 at hE
    exact mt_iret C hr hlocks hT hS hE dX7_counted_83
  unfold fX7_counted at hE
  refine lv_aload_n hx hb dX7_counted_0 rfl (lv_at hl 0 rfl) ?_
  refine lv_iload_n hx hb dX7_counted_1 rfl (lv_at hl 1 rfl) ?_
  obtain ⟨r4, u3, hc, hE⟩ := o_bd2_some hE
  refine tc_X7_isStand C hT hS (kX7_isStand hc) rfl rfl ⟨Nat.le_of_ble_eq_true rfl, Nat.le_of_ble_eq_true rfl⟩ ⟨Nat.le_refl 0, Nat.le_refl 0⟩ dX7_counted_2 hl.1 (Nat.le_of_ble_eq_true rfl) (fun H locs hT hS => ?_)
  refine lv_if_eq (tgt := 25) hx hb dX7_counted_5 (by decide) (fun c5 => ?_) (fun c5 => ?_)
  · have hE := z_t c5 hE
    exact w_25 _ _ _ _ hE hT hS (lv_sub hl [0] rfl)
  · have hE := z_f c5 hE
    refine lv_iload_n hx hb dX7_counted_8 rfl (lv_at hl 2 rfl) ?_
    refine lv_iconst (v := (0 : Int32)) hx hb dX7_counted_9 rfl ?_
    refine lv_aload_n hx hb dX7_counted_10 rfl (lv_at hl 0 rfl) ?_
    refine lv_iload_n hx hb dX7_counted_11 rfl (lv_at hl 1 rfl) ?_
    refine lv_bipush (v := (11 : Int32)) hx hb dX7_counted_12 rfl ?_
    obtain ⟨r7, u6, hc, hE⟩ := o_bd2_some hE
    refine tc_X7_st C hT hS (kX7_st hc) rfl rfl ⟨Nat.le_of_ble_eq_true rfl, Nat.le_of_ble_eq_true rfl⟩ ⟨Nat.le_refl 0, Nat.le_refl 0⟩ dX7_counted_14 hl.1 (Nat.le_of_ble_eq_true rfl) (fun H locs hT hS => ?_)
    refine lv_iconst (v := (1 : Int32)) hx hb dX7_counted_17 rfl ?_
    refine lv_isub hx hb dX7_counted_18 ?_
    obtain ⟨r8, hc, hE⟩ := o_bd_some hE
    refine sc_X7_in C.1 (kX7_in hc) rfl rfl ⟨Nat.le_of_ble_eq_true rfl, Nat.le_of_ble_eq_true rfl⟩ ⟨Nat.le_refl 0, Nat.le_refl 0⟩ dX7_counted_19 hl.1 (Nat.le_of_ble_eq_true rfl) ?_
    refine lv_if_ne (tgt := 32) hx hb dX7_counted_22 (by decide) (fun c9 => ?_) (fun c9 => ?_)
    · have hE := z_f c9 hE
      refine lv_iload_n hx hb dX7_counted_32 rfl (lv_at hl 3 rfl) ?_
      refine lv_iconst (v := (5 : Int32)) hx hb dX7_counted_33 rfl ?_
      refine lv_icmp_ne (tgt := 46) hx hb dX7_counted_34 (by decide) (fun c10 => ?_) (fun c10 => ?_)
      · have hE := z_f c10 hE
        refine lv_iload_n hx hb dX7_counted_46 rfl (lv_at hl 3 rfl) ?_
        refine lv_iconst (v := (0 : Int32)) hx hb dX7_counted_47 rfl ?_
        refine lv_iconst (v := (4 : Int32)) hx hb dX7_counted_48 rfl ?_
        obtain ⟨r11, hc, hE⟩ := o_bd_some hE
        refine sc_X7_in C.1 (kX7_in hc) rfl rfl ⟨Nat.le_of_ble_eq_true rfl, Nat.le_of_ble_eq_true rfl⟩ ⟨Nat.le_refl 0, Nat.le_refl 0⟩ dX7_counted_49 hl.1 (Nat.le_of_ble_eq_true rfl) ?_
        refine lv_if_eq (tgt := 77) hx hb dX7_counted_52 (by decide) (fun c12 => ?_) (fun c12 => ?_)
        · have hE := z_t c12 hE
          refine lv_aload_n hx hb dX7_counted_77 rfl (lv_at hl 0 rfl) ?_
          refine lv_bipush (v := (-7 : Int32)) hx hb dX7_counted_78 rfl ?_
          obtain ⟨r14, u13, hc, hE⟩ := o_bd2_some hE
          refine tc_X7_refuse C hT hS (kX7_refuse hc) rfl rfl ⟨Nat.le_of_ble_eq_true rfl, Nat.le_of_ble_eq_true rfl⟩ ⟨Nat.le_refl 0, Nat.le_refl 0⟩ dX7_counted_80 hl.1 (Nat.le_of_ble_eq_true rfl) (fun H locs hT hS => ?_)
          exact w_83 _ _ _ _ _ hE hT hS (lv_sub hl [] rfl)
        · have hE := z_f c12 hE
          refine lv_aload_n hx hb dX7_counted_55 rfl (lv_at hl 0 rfl) ?_
          refine tg_s C hT dX7_counted_56 ?_
          refine lv_sipush (v := (3570 : Int32)) hx hb dX7_counted_59 rfl ?_
          refine lv_bipush (v := (40 : Int32)) hx hb dX7_counted_62 rfl ?_
          refine lv_iload_n hx hb dX7_counted_64 rfl (lv_at hl 1 rfl) ?_
          refine lv_imul hx hb dX7_counted_65 ?_
          refine lv_iadd hx hb dX7_counted_66 ?_
          refine lv_iconst (v := (5 : Int32)) hx hb dX7_counted_67 rfl ?_
          refine lv_iload_n hx hb dX7_counted_68 rfl (lv_at hl 2 rfl) ?_
          refine lv_imul hx hb dX7_counted_69 ?_
          refine lv_iadd hx hb dX7_counted_70 ?_
          refine lv_iload_n hx hb dX7_counted_71 rfl (lv_at hl 3 rfl) ?_
          refine lv_iadd hx hb dX7_counted_72 ?_
          refine tl_s C hT hE dX7_counted_73 (fun hE => ?_)
          refine z_nmi hE (fun v15 hE => ?_)
          refine lv_goto (tgt := 83) hx hb dX7_counted_74 (by decide) ?_
          exact w_83 _ _ _ _ _ hE hT hS (lv_sub hl [] rfl)
      · have hE := z_t c10 hE
        refine lv_aload_n hx hb dX7_counted_37 rfl (lv_at hl 0 rfl) ?_
        refine lv_iload_n hx hb dX7_counted_38 rfl (lv_at hl 1 rfl) ?_
        refine lv_iload_n hx hb dX7_counted_39 rfl (lv_at hl 2 rfl) ?_
        obtain ⟨r17, u16, hc, hE⟩ := o_bd2_some hE
        refine tc_X7_grown C hT hS (kX7_grown hc) rfl rfl ⟨Nat.le_of_ble_eq_true rfl, Nat.le_of_ble_eq_true rfl⟩ ⟨Nat.le_refl 0, Nat.le_refl 0⟩ dX7_counted_40 hl.1 (Nat.le_of_ble_eq_true rfl) (fun H locs hT hS => ?_)
        refine lv_goto (tgt := 83) hx hb dX7_counted_43 (by decide) ?_
        exact w_83 _ _ _ _ _ hE hT hS (lv_sub hl [] rfl)
    · have hE := z_t c9 hE
      exact w_25 _ _ _ _ hE hT hS (lv_sub hl [0] rfl)
set_option maxHeartbeats 4000000 in
set_option maxRecDepth 100000 in
theorem kX7_lack {l : Launch} {D : va_G} {dA : Nat → ClassId} {h N : Nat} {u u1 : TS} {a1 : Int32} {r : Int32} (hE : fX7_lack N u a1 = some (r, u1)) : Met l yX7_lack (ws_ yX7_lack cX7_lack 2 (some .int)) ({ frames := 3, cells := 0, slots := 0, locals := 74 }) (va_Pc [.ref h, .int a1] (mt_B D dA h u)) (mt_Q D dA h (some (.int r)) u1) 0 0 (TA h) := by
  refine mt_met (by decide) rfl rfl rfl ?_
  intro p e s m args below meth c ls C hr hlocks hT hS hl
  have hx := C.1.1
  have hb := C.1.2.1
  have w_40 : ∀ (u : TS) (y0 : Int32) (H : Heap) (locs : List Loc) (ls : Array Slot), fX7_lack_40 N u y0 = some (r, u1) → TW D dA h u H → va_S (TA h) s.heap H locs → lv_has ls 2 [] → W p l e { frames := 3, cells := 0, slots := 0, locals := 74 } s m args below meth c H locs 0 0 (MQ below (mt_Q D dA h (some (.int r)) u1) args s 0 0 (TA h)) (F0 m 40 ls [.int y0]) := by
    intro u y0 H locs ls hE hT hS hl
    unfold fX7_lack_40 at hE
    exact mt_iret C hr hlocks hT hS hE dX7_lack_40
  unfold fX7_lack at hE
  refine lv_aload_n hx hb dX7_lack_0 rfl (lv_at hl 0 rfl) ?_
  refine lv_iload_n hx hb dX7_lack_1 rfl (lv_at hl 1 rfl) ?_
  obtain ⟨r2, u1, hc, hE⟩ := o_bd2_some hE
  refine tc_X7_isStand C hT hS (kX7_isStand hc) rfl rfl ⟨Nat.le_of_ble_eq_true rfl, Nat.le_of_ble_eq_true rfl⟩ ⟨Nat.le_refl 0, Nat.le_refl 0⟩ dX7_lack_2 hl.1 (Nat.le_of_ble_eq_true rfl) (fun H locs hT hS => ?_)
  refine lv_if_ne (tgt := 15) hx hb dX7_lack_5 (by decide) (fun c3 => ?_) (fun c3 => ?_)
  · have hE := z_f c3 hE
    refine lv_aload_n hx hb dX7_lack_15 rfl (lv_at hl 0 rfl) ?_
    refine lv_iload_n hx hb dX7_lack_16 rfl (lv_at hl 1 rfl) ?_
    refine lv_bipush (v := (11 : Int32)) hx hb dX7_lack_17 rfl ?_
    obtain ⟨r5, u4, hc, hE⟩ := o_bd2_some hE
    refine tc_X7_st C hT hS (kX7_st hc) rfl rfl ⟨Nat.le_of_ble_eq_true rfl, Nat.le_of_ble_eq_true rfl⟩ ⟨Nat.le_refl 0, Nat.le_refl 0⟩ dX7_lack_19 hl.1 (Nat.le_of_ble_eq_true rfl) (fun H locs hT hS => ?_)
    refine lv_iconst (v := (2 : Int32)) hx hb dX7_lack_22 rfl ?_
    refine lv_icmp_ge (tgt := 35) hx hb dX7_lack_23 (by decide) (fun c6 => ?_) (fun c6 => ?_)
    · have hE := z_t c6 hE
      refine lv_aload_n hx hb dX7_lack_35 rfl (lv_at hl 0 rfl) ?_
      refine lv_iload_n hx hb dX7_lack_36 rfl (lv_at hl 1 rfl) ?_
      obtain ⟨r8, u7, hc, hE⟩ := o_bd2_some hE
      refine tc_X7_lackOf C hT hS (kX7_lackOf hc) rfl rfl ⟨Nat.le_of_ble_eq_true rfl, Nat.le_of_ble_eq_true rfl⟩ ⟨Nat.le_refl 0, Nat.le_refl 0⟩ dX7_lack_37 hl.1 (Nat.le_of_ble_eq_true rfl) (fun H locs hT hS => ?_)
      exact w_40 _ _ _ _ _ hE hT hS (lv_sub hl [] rfl)
    · have hE := z_f c6 hE
      refine lv_aload_n hx hb dX7_lack_26 rfl (lv_at hl 0 rfl) ?_
      refine lv_bipush (v := (-2 : Int32)) hx hb dX7_lack_27 rfl ?_
      obtain ⟨r10, u9, hc, hE⟩ := o_bd2_some hE
      refine tc_X7_refuse C hT hS (kX7_refuse hc) rfl rfl ⟨Nat.le_of_ble_eq_true rfl, Nat.le_of_ble_eq_true rfl⟩ ⟨Nat.le_refl 0, Nat.le_refl 0⟩ dX7_lack_29 hl.1 (Nat.le_of_ble_eq_true rfl) (fun H locs hT hS => ?_)
      refine lv_goto (tgt := 40) hx hb dX7_lack_32 (by decide) ?_
      exact w_40 _ _ _ _ _ hE hT hS (lv_sub hl [] rfl)
  · have hE := z_t c3 hE
    refine lv_aload_n hx hb dX7_lack_8 rfl (lv_at hl 0 rfl) ?_
    refine lv_bipush (v := (-3 : Int32)) hx hb dX7_lack_9 rfl ?_
    obtain ⟨r12, u11, hc, hE⟩ := o_bd2_some hE
    refine tc_X7_refuse C hT hS (kX7_refuse hc) rfl rfl ⟨Nat.le_of_ble_eq_true rfl, Nat.le_of_ble_eq_true rfl⟩ ⟨Nat.le_refl 0, Nat.le_refl 0⟩ dX7_lack_11 hl.1 (Nat.le_of_ble_eq_true rfl) (fun H locs hT hS => ?_)
    exact mt_iret C hr hlocks hT hS hE dX7_lack_14
theorem tc_X7_noSet {a1 : Int32} {a2 : Int32} {r : Int32} {u u1 : TS} {rm : Room} (C : TC p m c cc nL s args D dA) (hT : TW D dA h u H) (hS : va_S (TA h) H0 H locs) (hM : Met l yX7_noSet (ws_ yX7_noSet cX7_noSet 5 (some .int)) rm (va_Pc [.ref h, .int a1, .int a2] (mt_B D dA h u)) (mt_Q D dA h (some (.int r)) u1) 0 0 (TA h)) (hrc : rm.cells = 0) (hrs : rm.slots = 0) (hR : rm.frames + 1 ≤ R.frames ∧ 8 + (5 + 11) + rm.locals ≤ R.locals) (hf : cells + 0 ≤ R.cells ∧ slots + 0 ≤ R.slots) (d : decode cc pc = .ok (.invokevirtual 412, 3)) (hsz : ls.size = nL) (hro : (rest.map fun v => v.category).sum ≤ 8) (kk : ∀ (H1 : Heap) (locs1 : List Loc), TW D dA h u1 H1 → va_S (TA h) H0 H1 locs1 → W p l e R s m args below meth c H1 locs1 cells slots Q (F0 m (pc + 3) ls (.int r :: rest))) : W p l e R s m args below meth c H locs cells slots Q (F0 m pc ls (.int a2 :: .int a1 :: .ref h :: rest)) :=
  mt_call (v := (some (.int r))) (va_runV (As := [.int a1, .int a2]) (rest := rest) C.1 hM (cwV 2 C.1.2.2.2.2 (lw_V q2168 q2170 qs154 q177 q2171) rfl hrc hrs (by decide +kernel) hR) (mt_preV C.2 hT _) rfl rfl hsz rfl (lv_room hro) d hf) hS (fun _ z => z) (fun H1 locs1 a b _ _ => kk H1 locs1 a b)
set_option maxHeartbeats 4000000 in
set_option maxRecDepth 100000 in
theorem kX7_noSet {l : Launch} {D : va_G} {dA : Nat → ClassId} {h N : Nat} {u u1 : TS} {a1 : Int32} {a2 : Int32} {r : Int32} (hE : fX7_noSet N u a1 a2 = some (r, u1)) : Met l yX7_noSet (ws_ yX7_noSet cX7_noSet 5 (some .int)) ({ frames := 1, cells := 0, slots := 0, locals := 22 }) (va_Pc [.ref h, .int a1, .int a2] (mt_B D dA h u)) (mt_Q D dA h (some (.int r)) u1) 0 0 (TA h) := by
  refine mt_met (by decide) rfl rfl rfl ?_
  intro p e s m args below meth c ls C hr hlocks hT hS hl
  have hx := C.1.1
  have hb := C.1.2.1
  have w_15 : ∀ (u : TS) (H : Heap) (locs : List Loc) (ls : Array Slot), fX7_noSet_15 N u = some (r, u1) → TW D dA h u H → va_S (TA h) s.heap H locs → lv_has ls 5 [] → W p l e { frames := 1, cells := 0, slots := 0, locals := 22 } s m args below meth c H locs 0 0 (MQ below (mt_Q D dA h (some (.int r)) u1) args s 0 0 (TA h)) (F0 m 15 ls []) := by
    intro u H locs ls hE hT hS hl
    unfold fX7_noSet_15 at hE
    refine lv_bipush (v := (-3 : Int32)) hx hb dX7_noSet_15 rfl ?_
    exact mt_iret C hr hlocks hT hS hE dX7_noSet_17
  have w_68 : ∀ (u : TS) (y0 : Int32) (H : Heap) (locs : List Loc) (ls : Array Slot), fX7_noSet_68 N u y0 = some (r, u1) → TW D dA h u H → va_S (TA h) s.heap H locs → lv_has ls 5 [] → W p l e { frames := 1, cells := 0, slots := 0, locals := 22 } s m args below meth c H locs 0 0 (MQ below (mt_Q D dA h (some (.int r)) u1) args s 0 0 (TA h)) (F0 m 68 ls [.int y0]) := by
    intro u y0 H locs ls hE hT hS hl
    unfold fX7_noSet_68 at hE
    exact mt_iret C hr hlocks hT hS hE dX7_noSet_68
  have w_62 : ∀ (u : TS) (H : Heap) (locs : List Loc) (ls : Array Slot), fX7_noSet_62 N u = some (r, u1) → TW D dA h u H → va_S (TA h) s.heap H locs → lv_has ls 5 [] → W p l e { frames := 1, cells := 0, slots := 0, locals := 22 } s m args below meth c H locs 0 0 (MQ below (mt_Q D dA h (some (.int r)) u1) args s 0 0 (TA h)) (F0 m 62 ls []) := by
    intro u H locs ls hE hT hS hl
    unfold fX7_noSet_62 at hE
    refine lv_bipush (v := (-7 : Int32)) hx hb dX7_noSet_62 rfl ?_
    refine lv_goto (tgt := 68) hx hb dX7_noSet_64 (by decide) ?_
    exact w_68 _ _ _ _ _ hE hT hS (lv_sub hl [] rfl)
  have w_23 : ∀ (n : Nat) (u : TS) (x2 : Int32) (x3 : Int32) (x4 : Int32) (H : Heap) (locs : List Loc) (ls : Array Slot), fX7_noSet_23 N n u x2 x3 x4 = some (r, u1) → TW D dA h u H → va_S (TA h) s.heap H locs → lv_has ls 5 [(2, .int x2), (3, .int x3), (4, .int x4)] → W p l e { frames := 1, cells := 0, slots := 0, locals := 22 } s m args below meth c H locs 0 0 (MQ below (mt_Q D dA h (some (.int r)) u1) args s 0 0 (TA h)) (F0 m 23 ls []) := by
    intro n
    induction n with
    | zero =>
      intro u x2 x3 x4 H locs ls hE hT hS hl
      cases (show (none : Option (Int32 × TS)) = some (r, u1) from hE)
    | succ n ih =>
      intro u x2 x3 x4 H locs ls hE hT hS hl
      rw [fX7_noSet_23] at hE
      refine lv_iload hx hb dX7_noSet_23 (lv_at hl 2 rfl) ?_
      refine lv_if_eq (tgt := 43) hx hb dX7_noSet_25 (by decide) (fun c1 => ?_) (fun c1 => ?_)
      · have hE := z_t c1 hE
        refine lv_iload_n hx hb dX7_noSet_43 rfl (lv_at hl 1 rfl) ?_
        refine lv_iconst (v := (1 : Int32)) hx hb dX7_noSet_44 rfl ?_
        refine lv_bipush (v := (7 : Int32)) hx hb dX7_noSet_45 rfl ?_
        obtain ⟨r2, hc, hE⟩ := o_bd_some hE
        refine sc_X7_in C.1 (kX7_in hc) rfl rfl ⟨Nat.le_of_ble_eq_true rfl, Nat.le_of_ble_eq_true rfl⟩ ⟨Nat.le_refl 0, Nat.le_refl 0⟩ dX7_noSet_47 hl.1 (Nat.le_of_ble_eq_true rfl) ?_
        refine lv_if_eq (tgt := 62) hx hb dX7_noSet_50 (by decide) (fun c3 => ?_) (fun c3 => ?_)
        · have hE := z_t c3 hE
          exact w_62 _ _ _ _ hE hT hS (lv_sub hl [] rfl)
        · have hE := z_f c3 hE
          refine lv_iload_n hx hb dX7_noSet_53 rfl (lv_at hl 0 rfl) ?_
          refine lv_iconst (v := (1 : Int32)) hx hb dX7_noSet_54 rfl ?_
          refine lv_iconst (v := (4 : Int32)) hx hb dX7_noSet_55 rfl ?_
          obtain ⟨r4, hc, hE⟩ := o_bd_some hE
          refine sc_X7_in C.1 (kX7_in hc) rfl rfl ⟨Nat.le_of_ble_eq_true rfl, Nat.le_of_ble_eq_true rfl⟩ ⟨Nat.le_refl 0, Nat.le_refl 0⟩ dX7_noSet_56 hl.1 (Nat.le_of_ble_eq_true rfl) ?_
          refine lv_if_ne (tgt := 67) hx hb dX7_noSet_59 (by decide) (fun c5 => ?_) (fun c5 => ?_)
          · have hE := z_f c5 hE
            refine lv_iconst (v := (0 : Int32)) hx hb dX7_noSet_67 rfl ?_
            exact w_68 _ _ _ _ _ hE hT hS (lv_sub hl [] rfl)
          · have hE := z_t c5 hE
            exact w_62 _ _ _ _ hE hT hS (lv_sub hl [] rfl)
      · have hE := z_f c1 hE
        refine z_iinc (v := (x3 + (1 : Int32))) (lw := (fun y_ => [(3, .int y_), (2, .int x2), (4, .int x4)])) hx hb dX7_noSet_28 hl hE (k := 1) rfl rfl (by decide) (fun _ => rfl) (fun z6 ls hE hl => ?_)
        refine lv_iload hx hb dX7_noSet_31 (lv_at hl 2 rfl) ?_
        refine lv_iload hx hb dX7_noSet_33 (lv_at hl 2 rfl) ?_
        refine lv_iconst (v := (1 : Int32)) hx hb dX7_noSet_35 rfl ?_
        refine lv_isub hx hb dX7_noSet_36 ?_
        refine lv_iand hx hb dX7_noSet_37 ?_
        refine z_nmi hE (fun z7 hE => ?_)
        refine lv_istore (lv' := [(4, .int z7), (3, .int z6), (2, .int x2)]) hx hb dX7_noSet_38 hl (by decide) rfl (fun ls hl => ?_)
        refine lv_goto (tgt := 23) hx hb dX7_noSet_40 (by decide) ?_
        exact ih _ _ _ _ _ _ _ hE hT hS (lv_sub hl [2, 1, 0] rfl)
  unfold fX7_noSet at hE
  refine lv_iload_n hx hb dX7_noSet_0 rfl (lv_at hl 1 rfl) ?_
  refine lv_if_lt (tgt := 15) hx hb dX7_noSet_1 (by decide) (fun c8 => ?_) (fun c8 => ?_)
  · have hE := z_t c8 hE
    exact w_15 _ _ _ _ hE hT hS (lv_sub hl [] rfl)
  · have hE := z_f c8 hE
    refine lv_iload_n hx hb dX7_noSet_4 rfl (lv_at hl 1 rfl) ?_
    refine lv_aload_n hx hb dX7_noSet_5 rfl (lv_at hl 0 rfl) ?_
    refine tg_s C hT dX7_noSet_6 ?_
    refine lv_iconst (v := (1 : Int32)) hx hb dX7_noSet_9 rfl ?_
    refine tl_s C hT hE dX7_noSet_10 (fun hE => ?_)
    refine z_nmi hE (fun v9 hE => ?_)
    refine lv_ishr hx hb dX7_noSet_11 ?_
    refine lv_if_eq (tgt := 18) hx hb dX7_noSet_12 (by decide) (fun c10 => ?_) (fun c10 => ?_)
    · have hE := z_t c10 hE
      refine lv_iconst (v := (0 : Int32)) hx hb dX7_noSet_18 rfl ?_
      refine lv_istore_n (lv' := [(3, .int (0 : Int32)), (0, .ref h), (1, .int a1), (2, .int a2)]) hx hb dX7_noSet_19 rfl hl (by decide) rfl (fun ls hl => ?_)
      refine lv_iload_n hx hb dX7_noSet_20 rfl (lv_at hl 2 rfl) ?_
      refine lv_istore (lv' := [(4, .int a1), (3, .int (0 : Int32)), (0, .ref h), (1, .int a1), (2, .int a2)]) hx hb dX7_noSet_21 hl (by decide) rfl (fun ls hl => ?_)
      exact w_23 N _ _ _ _ _ _ _ hE hT hS (lv_sub hl [4, 1, 0] rfl)
    · have hE := z_f c10 hE
      exact w_15 _ _ _ _ hE hT hS (lv_sub hl [] rfl)
end TRG6
