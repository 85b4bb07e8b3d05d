section TRG2
variable {p : Program} {l : Launch} {e : Env} {R : Room} {s : State} {m : MethodId} {args : Array Value} {below : List Frame} {meth : Method} {c : Code} {H : Heap} {locs : List Loc} {cells slots : Nat} {Q : State → Prop} {cc : ByteArray} {nL pc : Nat} {ls : Array Slot} {rest : List Value} {D : va_G} {dA : Nat → ClassId} {h : Nat} {H0 : Heap}
theorem tc_X7_readLine {a1 : Int32} {a2 : Int32} {u u1 : TS} {rm : Room} (C : TC p m c cc nL s args D dA) (hT : TW D dA h u H) (hS : va_S (TA h) H0 H locs) (hM : Met l yX7_readLine (ws_ yX7_readLine cX7_readLine 3 none) rm (va_Pc [.ref h, .int a1, .int a2] (mt_B D dA h u)) (mt_Q D dA h none u1) 0 0 (TA h)) (hrc : rm.cells = 0) (hrs : rm.slots = 0) (hR : rm.frames + 1 ≤ R.frames ∧ 8 + (3 + 11) + rm.locals ≤ R.locals) (hf : cells + 0 ≤ R.cells ∧ slots + 0 ≤ R.slots) (d : decode cc pc = .ok (.invokevirtual 319, 3)) (hsz : ls.size = nL) (hro : (rest.map fun v => v.category).sum ≤ 8) (kk : ∀ (H1 : Heap) (locs1 : List Loc), TW D dA h u1 H1 → va_S (TA h) H0 H1 locs1 → W p l e R s m args below meth c H1 locs1 cells slots Q (F0 m (pc + 3) ls (rest))) : W p l e R s m args below meth c H locs cells slots Q (F0 m pc ls (.int a2 :: .int a1 :: .ref h :: rest)) :=
  mt_call (v := none) (va_runV (As := [.int a1, .int a2]) (rest := rest) C.1 hM (cwV 2 C.1.2.2.2.2 (lw_V q1825 q1827 qs111 q177 q1828) rfl hrc hrs (by decide +kernel) hR) (mt_preV C.2 hT _) rfl rfl hsz rfl (lv_room hro) d hf) hS (fun _ z => z) (fun H1 locs1 a b _ _ => kk H1 locs1 a b)
set_option maxHeartbeats 4000000 in
set_option maxRecDepth 100000 in
theorem kX7_readLine {l : Launch} {D : va_G} {dA : Nat → ClassId} {h N : Nat} {u u_ : TS} {a1 : Int32} {a2 : Int32} (hE : fX7_readLine N u a1 a2 = some u_) : Met l yX7_readLine (ws_ yX7_readLine cX7_readLine 3 none) ({ frames := 68, cells := 0, slots := 0, locals := 2134 }) (va_Pc [.ref h, .int a1, .int a2] (mt_B D dA h u)) (mt_Q D dA h none u_) 0 0 (TA h) := by
  refine mt_met (by decide) rfl rfl rfl ?_
  intro p e s m args below meth c ls C hr hlocks hT hS hl
  have hx := C.1.1
  have hb := C.1.2.1
  have w_195 : ∀ (u : TS) (H : Heap) (locs : List Loc) (ls : Array Slot), fX7_readLine_195 N u = some u_ → TW D dA h u H → va_S (TA h) s.heap H locs → lv_has ls 3 [] → W p l e { frames := 68, cells := 0, slots := 0, locals := 2134 } s m args below meth c H locs 0 0 (MQ below (mt_Q D dA h none u_) args s 0 0 (TA h)) (F0 m 195 ls []) := by
    intro u H locs ls hE hT hS hl
    unfold fX7_readLine_195 at hE
    exact mt_vret C hr hlocks hT hS hE dX7_readLine_195
  have w_177 : ∀ (u : TS) (H : Heap) (locs : List Loc) (ls : Array Slot), fX7_readLine_177 N u = some u_ → TW D dA h u H → va_S (TA h) s.heap H locs → lv_has ls 3 [(0, .ref h)] → W p l e { frames := 68, cells := 0, slots := 0, locals := 2134 } s m args below meth c H locs 0 0 (MQ below (mt_Q D dA h none u_) args s 0 0 (TA h)) (F0 m 177 ls []) := by
    intro u H locs ls hE hT hS hl
    unfold fX7_readLine_177 at hE
    refine lv_aload_n hx hb dX7_readLine_177 rfl (lv_at hl 0 rfl) ?_
    refine tg_bad C hT dX7_readLine_178 ?_
    refine lv_if_ne (tgt := 195) hx hb dX7_readLine_181 (by decide) (fun c1 => ?_) (fun c1 => ?_)
    · have hE := z_f c1 hE
      exact w_195 _ _ _ _ hE hT hS (lv_sub hl [] rfl)
    · have hE := z_t c1 hE
      refine lv_aload_n hx hb dX7_readLine_184 rfl (lv_at hl 0 rfl) ?_
      refine tg_token C hT dX7_readLine_185 ?_
      refine lv_if_eq (tgt := 195) hx hb dX7_readLine_188 (by decide) (fun c2 => ?_) (fun c2 => ?_)
      · have hE := z_t c2 hE
        exact w_195 _ _ _ _ hE hT hS (lv_sub hl [] rfl)
      · have hE := z_f c2 hE
        refine lv_aload_n hx hb dX7_readLine_191 rfl (lv_at hl 0 rfl) ?_
        obtain ⟨u3, hc, hE⟩ := o_bd_some hE
        refine tc_X7_fail C hT hS (kX7_fail hc) rfl rfl ⟨Nat.le_of_ble_eq_true rfl, Nat.le_of_ble_eq_true rfl⟩ ⟨Nat.le_refl 0, Nat.le_refl 0⟩ dX7_readLine_192 hl.1 (Nat.le_of_ble_eq_true rfl) (fun H locs hT hS => ?_)
        exact w_195 _ _ _ _ hE hT hS (lv_sub hl [] rfl)
  have w_174 : ∀ (u : TS) (y1 : Int32) (H : Heap) (locs : List Loc) (ls : Array Slot), fX7_readLine_174 N u y1 = some u_ → TW D dA h u H → va_S (TA h) s.heap H locs → lv_has ls 3 [(0, .ref h)] → W p l e { frames := 68, cells := 0, slots := 0, locals := 2134 } s m args below meth c H locs 0 0 (MQ below (mt_Q D dA h none u_) args s 0 0 (TA h)) (F0 m 174 ls [.int y1, .ref h]) := by
    intro u y1 H locs ls hE hT hS hl
    unfold fX7_readLine_174 at hE
    obtain ⟨hb1, hE⟩ := o_bl_some hE
    refine tp_isSo C hT hS hb1 hE dX7_readLine_174 (fun u4 H locs hE hT hS => ?_)
    exact w_177 _ _ _ _ hE hT hS (lv_sub hl [0] rfl)
  have w_144 : ∀ (u : TS) (y1 : Int32) (H : Heap) (locs : List Loc) (ls : Array Slot), fX7_readLine_144 N u y1 = some u_ → TW D dA h u H → va_S (TA h) s.heap H locs → lv_has ls 3 [(0, .ref h)] → W p l e { frames := 68, cells := 0, slots := 0, locals := 2134 } s m args below meth c H locs 0 0 (MQ below (mt_Q D dA h none u_) args s 0 0 (TA h)) (F0 m 144 ls [.int y1, .ref h]) := by
    intro u y1 H locs ls hE hT hS hl
    unfold fX7_readLine_144 at hE
    refine tp_said C hT hS hE dX7_readLine_144 (fun u5 H locs hE hT hS => ?_)
    refine lv_aload_n hx hb dX7_readLine_147 rfl (lv_at hl 0 rfl) ?_
    refine lv_ldc2 (v := (249 : Int64)) hx hb C.1.2.2.2.1 (C.1.2.2.2.2 _ q1917) dX7_readLine_148 ?_
    obtain ⟨r7, u6, hc, hE⟩ := o_bd2_some hE
    refine tc_X7_isWord C hT hS (kX7_isWord hc) rfl rfl ⟨Nat.le_of_ble_eq_true rfl, Nat.le_of_ble_eq_true rfl⟩ ⟨Nat.le_refl 0, Nat.le_refl 0⟩ dX7_readLine_151 hl.1 (Nat.le_of_ble_eq_true rfl) (fun H locs hT hS => ?_)
    refine lv_if_eq (tgt := 177) hx hb dX7_readLine_154 (by decide) (fun c8 => ?_) (fun c8 => ?_)
    · have hE := z_t c8 hE
      exact w_177 _ _ _ _ hE hT hS (lv_sub hl [0] rfl)
    · have hE := z_f c8 hE
      refine lv_aload_n hx hb dX7_readLine_157 rfl (lv_at hl 0 rfl) ?_
      obtain ⟨u9, hc, hE⟩ := o_bd_some hE
      refine tc_X7_next C hT hS (kX7_next hc) rfl rfl ⟨Nat.le_of_ble_eq_true rfl, Nat.le_of_ble_eq_true rfl⟩ ⟨Nat.le_refl 0, Nat.le_refl 0⟩ dX7_readLine_158 hl.1 (Nat.le_of_ble_eq_true rfl) (fun H locs hT hS => ?_)
      refine lv_aload_n hx hb dX7_readLine_161 rfl (lv_at hl 0 rfl) ?_
      refine lv_aload_n hx hb dX7_readLine_162 rfl (lv_at hl 0 rfl) ?_
      obtain ⟨r11, u10, hc, hE⟩ := o_bd2_some hE
      refine tc_X7_either C hT hS (kX7_either hc) rfl rfl ⟨Nat.le_of_ble_eq_true rfl, Nat.le_of_ble_eq_true rfl⟩ ⟨Nat.le_refl 0, Nat.le_refl 0⟩ dX7_readLine_163 hl.1 (Nat.le_of_ble_eq_true rfl) (fun H locs hT hS => ?_)
      refine lv_if_eq (tgt := 173) hx hb dX7_readLine_166 (by decide) (fun c12 => ?_) (fun c12 => ?_)
      · have hE := z_t c12 hE
        refine lv_iconst (v := (0 : Int32)) hx hb dX7_readLine_173 rfl ?_
        exact w_174 _ _ _ _ _ hE hT hS (lv_sub hl [0] rfl)
      · have hE := z_f c12 hE
        refine lv_iconst (v := (1 : Int32)) hx hb dX7_readLine_169 rfl ?_
        refine lv_goto (tgt := 174) hx hb dX7_readLine_170 (by decide) ?_
        exact w_174 _ _ _ _ _ hE hT hS (lv_sub hl [0] rfl)
  have w_111 : ∀ (u : TS) (y1 : Int32) (H : Heap) (locs : List Loc) (ls : Array Slot), fX7_readLine_111 N u y1 = some u_ → TW D dA h u H → va_S (TA h) s.heap H locs → lv_has ls 3 [(0, .ref h)] → W p l e { frames := 68, cells := 0, slots := 0, locals := 2134 } s m args below meth c H locs 0 0 (MQ below (mt_Q D dA h none u_) args s 0 0 (TA h)) (F0 m 111 ls [.int y1, .ref h]) := by
    intro u y1 H locs ls hE hT hS hl
    unfold fX7_readLine_111 at hE
    refine tp_said C hT hS hE dX7_readLine_111 (fun u13 H locs hE hT hS => ?_)
    refine lv_aload_n hx hb dX7_readLine_114 rfl (lv_at hl 0 rfl) ?_
    refine tg_bad C hT dX7_readLine_115 ?_
    refine lv_if_ne (tgt := 177) hx hb dX7_readLine_118 (by decide) (fun c14 => ?_) (fun c14 => ?_)
    · have hE := z_f c14 hE
      exact w_177 _ _ _ _ hE hT hS (lv_sub hl [0] rfl)
    · have hE := z_t c14 hE
      refine lv_aload_n hx hb dX7_readLine_121 rfl (lv_at hl 0 rfl) ?_
      obtain ⟨u15, hc, hE⟩ := o_bd_some hE
      refine tc_X7_next C hT hS (kX7_next hc) rfl rfl ⟨Nat.le_of_ble_eq_true rfl, Nat.le_of_ble_eq_true rfl⟩ ⟨Nat.le_refl 0, Nat.le_refl 0⟩ dX7_readLine_122 hl.1 (Nat.le_of_ble_eq_true rfl) (fun H locs hT hS => ?_)
      refine lv_goto (tgt := 177) hx hb dX7_readLine_125 (by decide) ?_
      exact w_177 _ _ _ _ hE hT hS (lv_sub hl [0] rfl)
  have w_94 : ∀ (u : TS) (H : Heap) (locs : List Loc) (ls : Array Slot), fX7_readLine_94 N u = some u_ → TW D dA h u H → va_S (TA h) s.heap H locs → lv_has ls 3 [(0, .ref h)] → W p l e { frames := 68, cells := 0, slots := 0, locals := 2134 } s m args below meth c H locs 0 0 (MQ below (mt_Q D dA h none u_) args s 0 0 (TA h)) (F0 m 94 ls []) := by
    intro u H locs ls hE hT hS hl
    unfold fX7_readLine_94 at hE
    refine lv_aload_n hx hb dX7_readLine_94 rfl (lv_at hl 0 rfl) ?_
    refine lv_aload_n hx hb dX7_readLine_95 rfl (lv_at hl 0 rfl) ?_
    refine tg_bad C hT dX7_readLine_96 ?_
    refine lv_if_eq (tgt := 106) hx hb dX7_readLine_99 (by decide) (fun c16 => ?_) (fun c16 => ?_)
    · have hE := z_t c16 hE
      refine lv_aload_n hx hb dX7_readLine_106 rfl (lv_at hl 0 rfl) ?_
      refine tg_tokenWorth C hT dX7_readLine_107 ?_
      refine lv_l2i hx hb dX7_readLine_110 rfl ?_
      exact w_111 _ _ _ _ _ hE hT hS (lv_sub hl [0] rfl)
    · have hE := z_f c16 hE
      refine lv_iconst (v := (0 : Int32)) hx hb dX7_readLine_102 rfl ?_
      refine lv_goto (tgt := 111) hx hb dX7_readLine_103 (by decide) ?_
      exact w_111 _ _ _ _ _ hE hT hS (lv_sub hl [0] rfl)
  have w_90 : ∀ (u : TS) (H : Heap) (locs : List Loc) (ls : Array Slot), fX7_readLine_90 N u = some u_ → TW D dA h u H → va_S (TA h) s.heap H locs → lv_has ls 3 [(0, .ref h)] → W p l e { frames := 68, cells := 0, slots := 0, locals := 2134 } s m args below meth c H locs 0 0 (MQ below (mt_Q D dA h none u_) args s 0 0 (TA h)) (F0 m 90 ls []) := by
    intro u H locs ls hE hT hS hl
    unfold fX7_readLine_90 at hE
    refine lv_aload_n hx hb dX7_readLine_90 rfl (lv_at hl 0 rfl) ?_
    obtain ⟨u17, hc, hE⟩ := o_bd_some hE
    refine tc_X7_fail C hT hS (kX7_fail hc) rfl rfl ⟨Nat.le_of_ble_eq_true rfl, Nat.le_of_ble_eq_true rfl⟩ ⟨Nat.le_refl 0, Nat.le_refl 0⟩ dX7_readLine_91 hl.1 (Nat.le_of_ble_eq_true rfl) (fun H locs hT hS => ?_)
    exact w_94 _ _ _ _ hE hT hS (lv_sub hl [0] rfl)
  have w_56 : ∀ (u : TS) (H : Heap) (locs : List Loc) (ls : Array Slot), fX7_readLine_56 N u = some u_ → TW D dA h u H → va_S (TA h) s.heap H locs → lv_has ls 3 [(0, .ref h)] → W p l e { frames := 68, cells := 0, slots := 0, locals := 2134 } s m args below meth c H locs 0 0 (MQ below (mt_Q D dA h none u_) args s 0 0 (TA h)) (F0 m 56 ls []) := by
    intro u H locs ls hE hT hS hl
    unfold fX7_readLine_56 at hE
    refine lv_aload_n hx hb dX7_readLine_56 rfl (lv_at hl 0 rfl) ?_
    refine lv_iconst (v := (1 : Int32)) hx hb dX7_readLine_57 rfl ?_
    refine tp_isSo C hT hS (Or.inr rfl) hE dX7_readLine_58 (fun u18 H locs hE hT hS => ?_)
    refine lv_aload_n hx hb dX7_readLine_61 rfl (lv_at hl 0 rfl) ?_
    refine lv_iconst (v := (0 : Int32)) hx hb dX7_readLine_62 rfl ?_
    refine tp_said C hT hS hE dX7_readLine_63 (fun u19 H locs hE hT hS => ?_)
    refine lv_aload_n hx hb dX7_readLine_66 rfl (lv_at hl 0 rfl) ?_
    refine tg_key C hT dX7_readLine_67 ?_
    refine lv_bipush (v := (8 : Int32)) hx hb dX7_readLine_70 rfl ?_
    refine lv_icmp_ne (tgt := 128) hx hb dX7_readLine_72 (by decide) (fun c20 => ?_) (fun c20 => ?_)
    · have hE := z_f c20 hE
      refine lv_aload_n hx hb dX7_readLine_128 rfl (lv_at hl 0 rfl) ?_
      refine lv_aload_n hx hb dX7_readLine_129 rfl (lv_at hl 0 rfl) ?_
      refine tg_bad C hT dX7_readLine_130 ?_
      refine lv_if_eq (tgt := 140) hx hb dX7_readLine_133 (by decide) (fun c21 => ?_) (fun c21 => ?_)
      · have hE := z_t c21 hE
        refine lv_aload_n hx hb dX7_readLine_140 rfl (lv_at hl 0 rfl) ?_
        obtain ⟨r23, u22, hc, hE⟩ := o_bd2_some hE
        refine tc_X7_either C hT hS (kX7_either hc) rfl rfl ⟨Nat.le_of_ble_eq_true rfl, Nat.le_of_ble_eq_true rfl⟩ ⟨Nat.le_refl 0, Nat.le_refl 0⟩ dX7_readLine_141 hl.1 (Nat.le_of_ble_eq_true rfl) (fun H locs hT hS => ?_)
        exact w_144 _ _ _ _ _ hE hT hS (lv_sub hl [0] rfl)
      · have hE := z_f c21 hE
        refine lv_iconst (v := (0 : Int32)) hx hb dX7_readLine_136 rfl ?_
        refine lv_goto (tgt := 144) hx hb dX7_readLine_137 (by decide) ?_
        exact w_144 _ _ _ _ _ hE hT hS (lv_sub hl [0] rfl)
    · have hE := z_t c20 hE
      refine lv_aload_n hx hb dX7_readLine_75 rfl (lv_at hl 0 rfl) ?_
      refine tg_bad C hT dX7_readLine_76 ?_
      refine lv_if_ne (tgt := 90) hx hb dX7_readLine_79 (by decide) (fun c24 => ?_) (fun c24 => ?_)
      · have hE := z_f c24 hE
        exact w_90 _ _ _ _ hE hT hS (lv_sub hl [0] rfl)
      · have hE := z_t c24 hE
        refine lv_aload_n hx hb dX7_readLine_82 rfl (lv_at hl 0 rfl) ?_
        refine tg_token C hT dX7_readLine_83 ?_
        refine lv_iconst (v := (2 : Int32)) hx hb dX7_readLine_86 rfl ?_
        refine lv_icmp_eq (tgt := 94) hx hb dX7_readLine_87 (by decide) (fun c25 => ?_) (fun c25 => ?_)
        · have hE := z_t c25 hE
          exact w_94 _ _ _ _ hE hT hS (lv_sub hl [0] rfl)
        · have hE := z_f c25 hE
          exact w_90 _ _ _ _ hE hT hS (lv_sub hl [0] rfl)
  unfold fX7_readLine at hE
  refine lv_aload_n hx hb dX7_readLine_0 rfl (lv_at hl 0 rfl) ?_
  refine lv_iload_n hx hb dX7_readLine_1 rfl (lv_at hl 1 rfl) ?_
  refine tp_about C hT hS hE dX7_readLine_2 (fun u26 H locs hE hT hS => ?_)
  refine lv_aload_n hx hb dX7_readLine_5 rfl (lv_at hl 0 rfl) ?_
  refine lv_iload_n hx hb dX7_readLine_6 rfl (lv_at hl 2 rfl) ?_
  refine tp_asked C hT hS hE dX7_readLine_7 (fun u27 H locs hE hT hS => ?_)
  refine lv_aload_n hx hb dX7_readLine_10 rfl (lv_at hl 0 rfl) ?_
  refine lv_iconst (v := (0 : Int32)) hx hb dX7_readLine_11 rfl ?_
  refine tp_here C hT hS hE dX7_readLine_12 (fun u28 H locs hE hT hS => ?_)
  refine lv_aload_n hx hb dX7_readLine_15 rfl (lv_at hl 0 rfl) ?_
  refine lv_iconst (v := (0 : Int32)) hx hb dX7_readLine_16 rfl ?_
  refine tp_open C hT hS hE dX7_readLine_17 (fun u29 H locs hE hT hS => ?_)
  refine lv_aload_n hx hb dX7_readLine_20 rfl (lv_at hl 0 rfl) ?_
  refine lv_iconst (v := (0 : Int32)) hx hb dX7_readLine_21 rfl ?_
  refine tp_bad C hT hS (Or.inl rfl) hE dX7_readLine_22 (fun u30 H locs hE hT hS => ?_)
  refine lv_aload_n hx hb dX7_readLine_25 rfl (lv_at hl 0 rfl) ?_
  obtain ⟨u31, hc, hE⟩ := o_bd_some hE
  refine tc_X7_next C hT hS (kX7_next hc) rfl rfl ⟨Nat.le_of_ble_eq_true rfl, Nat.le_of_ble_eq_true rfl⟩ ⟨Nat.le_refl 0, Nat.le_refl 0⟩ dX7_readLine_26 hl.1 (Nat.le_of_ble_eq_true rfl) (fun H locs hT hS => ?_)
  refine lv_aload_n hx hb dX7_readLine_29 rfl (lv_at hl 0 rfl) ?_
  refine lv_aload_n hx hb dX7_readLine_30 rfl (lv_at hl 0 rfl) ?_
  obtain ⟨r33, u32, hc, hE⟩ := o_bd2_some hE
  refine tc_X7_keyHere C hT hS (kX7_keyHere hc) rfl rfl ⟨Nat.le_of_ble_eq_true rfl, Nat.le_of_ble_eq_true rfl⟩ ⟨Nat.le_refl 0, Nat.le_refl 0⟩ dX7_readLine_31 hl.1 (Nat.le_of_ble_eq_true rfl) (fun H locs hT hS => ?_)
  refine tp_key C hT hS hE dX7_readLine_34 (fun u34 H locs hE hT hS => ?_)
  refine lv_aload_n hx hb dX7_readLine_37 rfl (lv_at hl 0 rfl) ?_
  refine tg_key C hT dX7_readLine_38 ?_
  refine lv_iconst (v := (-1 : Int32)) hx hb dX7_readLine_41 rfl ?_
  refine lv_icmp_ne (tgt := 52) hx hb dX7_readLine_42 (by decide) (fun c35 => ?_) (fun c35 => ?_)
  · have hE := z_f c35 hE
    refine lv_aload_n hx hb dX7_readLine_52 rfl (lv_at hl 0 rfl) ?_
    obtain ⟨u36, hc, hE⟩ := o_bd_some hE
    refine tc_X7_next C hT hS (kX7_next hc) rfl rfl ⟨Nat.le_of_ble_eq_true rfl, Nat.le_of_ble_eq_true rfl⟩ ⟨Nat.le_refl 0, Nat.le_refl 0⟩ dX7_readLine_53 hl.1 (Nat.le_of_ble_eq_true rfl) (fun H locs hT hS => ?_)
    exact w_56 _ _ _ _ hE hT hS (lv_sub hl [0] rfl)
  · have hE := z_t c35 hE
    refine lv_aload_n hx hb dX7_readLine_45 rfl (lv_at hl 0 rfl) ?_
    obtain ⟨u37, hc, hE⟩ := o_bd_some hE
    refine tc_X7_fail C hT hS (kX7_fail hc) rfl rfl ⟨Nat.le_of_ble_eq_true rfl, Nat.le_of_ble_eq_true rfl⟩ ⟨Nat.le_refl 0, Nat.le_refl 0⟩ dX7_readLine_46 hl.1 (Nat.le_of_ble_eq_true rfl) (fun H locs hT hS => ?_)
    refine lv_goto (tgt := 56) hx hb dX7_readLine_49 (by decide) ?_
    exact w_56 _ _ _ _ hE hT hS (lv_sub hl [0] rfl)
theorem tc_X7_rules {a1 : Int32} {a2 : Int32} {a3 : Int32} {r : Int32} {u u1 : TS} {rm : Room} (C : TC p m c cc nL s args D dA) (hT : TW D dA h u H) (hS : va_S (TA h) H0 H locs) (hM : Met l yX7_rules (ws_ yX7_rules cX7_rules 7 (some .int)) rm (va_Pc [.ref h, .int a1, .int a2, .int a3] (mt_B D dA h u)) (mt_Q D dA h (some (.int r)) u1) 0 0 (TA h)) (hrc : rm.cells = 0) (hrs : rm.slots = 0) (hR : rm.frames + 1 ≤ R.frames ∧ 8 + (7 + 11) + rm.locals ≤ R.locals) (hf : cells + 0 ≤ R.cells ∧ slots + 0 ≤ R.slots) (d : decode cc pc = .ok (.invokevirtual 323, 3)) (hsz : ls.size = nL) (hro : (rest.map fun v => v.category).sum ≤ 8) (kk : ∀ (H1 : Heap) (locs1 : List Loc), TW D dA h u1 H1 → va_S (TA h) H0 H1 locs1 → W p l e R s m args below meth c H1 locs1 cells slots Q (F0 m (pc + 3) ls (.int r :: rest))) : W p l e R s m args below meth c H locs cells slots Q (F0 m pc ls (.int a3 :: .int a2 :: .int a1 :: .ref h :: rest)) :=
  mt_call (v := (some (.int r))) (va_runV (As := [.int a1, .int a2, .int a3]) (rest := rest) C.1 hM (cwV 3 C.1.2.2.2.2 (lw_V q1821 q1823 qs110 q177 q1824) rfl hrc hrs (by decide +kernel) hR) (mt_preV C.2 hT _) rfl rfl hsz rfl (lv_room hro) d hf) hS (fun _ z => z) (fun H1 locs1 a b _ _ => kk H1 locs1 a b)
set_option maxHeartbeats 4000000 in
set_option maxRecDepth 100000 in
theorem kX7_rules {l : Launch} {D : va_G} {dA : Nat → ClassId} {h N : Nat} {u u1 : TS} {a1 : Int32} {a2 : Int32} {a3 : Int32} {r : Int32} (hE : fX7_rules N u a1 a2 a3 = some (r, u1)) : Met l yX7_rules (ws_ yX7_rules cX7_rules 7 (some .int)) ({ frames := 69, cells := 0, slots := 0, locals := 2156 }) (va_Pc [.ref h, .int a1, .int a2, .int a3] (mt_B D dA h u)) (mt_Q D dA h (some (.int r)) u1) 0 0 (TA h) := by
  refine mt_met (by decide) rfl rfl rfl ?_
  intro p e s m args below meth c ls C hr hlocks hT hS hl
  have hx := C.1.1
  have hb := C.1.2.1
  have w_145 : ∀ (ag10 : TS → Int32 → Int32 → Int32 → Int32 → Option (Int32 × TS)) (hag10 : (∀ (u : TS) (x1 : Int32) (x2 : Int32) (x3 : Int32) (x4 : Int32) (H : Heap) (locs : List Loc) (ls : Array Slot), ag10 u x1 x2 x3 x4 = some (r, u1) → TW D dA h u H → va_S (TA h) s.heap H locs → lv_has ls 7 [(0, .ref h), (1, .int x1), (2, .int x2), (3, .int x3), (4, .int x4)] → W p l e { frames := 69, cells := 0, slots := 0, locals := 2156 } s m args below meth c H locs 0 0 (MQ below (mt_Q D dA h (some (.int r)) u1) args s 0 0 (TA h)) (F0 m 10 ls []))) (u : TS) (x1 : Int32) (x2 : Int32) (x3 : Int32) (x4 : Int32) (H : Heap) (locs : List Loc) (ls : Array Slot), fX7_rules_145 N ag10 u x1 x2 x3 x4 = some (r, u1) → TW D dA h u H → va_S (TA h) s.heap H locs → lv_has ls 7 [(0, .ref h), (1, .int x1), (2, .int x2), (3, .int x3), (4, .int x4)] → W p l e { frames := 69, cells := 0, slots := 0, locals := 2156 } s m args below meth c H locs 0 0 (MQ below (mt_Q D dA h (some (.int r)) u1) args s 0 0 (TA h)) (F0 m 145 ls []) := by
    intro ag10 hag10 u x1 x2 x3 x4 H locs ls hE hT hS hl
    unfold fX7_rules_145 at hE
    refine z_iinc (v := (x4 + (-1 : Int32))) (lw := (fun y_ => [(4, .int y_), (0, .ref h), (1, .int x1), (2, .int x2), (3, .int x3)])) hx hb dX7_rules_145 hl hE (k := 4) rfl rfl (by decide) (fun _ => rfl) (fun z1 ls hE hl => ?_)
    refine lv_goto (tgt := 10) hx hb dX7_rules_148 (by decide) ?_
    exact hag10 _ _ _ _ _ _ _ _ hE hT hS (lv_sub hl [1, 2, 3, 4, 0] rfl)
  have w_95 : ∀ (ag10 : TS → Int32 → Int32 → Int32 → Int32 → Option (Int32 × TS)) (hag10 : (∀ (u : TS) (x1 : Int32) (x2 : Int32) (x3 : Int32) (x4 : Int32) (H : Heap) (locs : List Loc) (ls : Array Slot), ag10 u x1 x2 x3 x4 = some (r, u1) → TW D dA h u H → va_S (TA h) s.heap H locs → lv_has ls 7 [(0, .ref h), (1, .int x1), (2, .int x2), (3, .int x3), (4, .int x4)] → W p l e { frames := 69, cells := 0, slots := 0, locals := 2156 } s m args below meth c H locs 0 0 (MQ below (mt_Q D dA h (some (.int r)) u1) args s 0 0 (TA h)) (F0 m 10 ls []))) (n : Nat) (u : TS) (x1 : Int32) (x2 : Int32) (x3 : Int32) (x4 : Int32) (x5 : Int32) (x6 : Int32) (H : Heap) (locs : List Loc) (ls : Array Slot), fX7_rules_95 N ag10 n u x1 x2 x3 x4 x5 x6 = some (r, u1) → TW D dA h u H → va_S (TA h) s.heap H locs → lv_has ls 7 [(0, .ref h), (1, .int x1), (2, .int x2), (3, .int x3), (4, .int x4), (5, .int x5), (6, .int x6)] → W p l e { frames := 69, cells := 0, slots := 0, locals := 2156 } s m args below meth c H locs 0 0 (MQ below (mt_Q D dA h (some (.int r)) u1) args s 0 0 (TA h)) (F0 m 95 ls []) := by
    intro ag10 hag10 n
    induction n with
    | zero =>
      intro u x1 x2 x3 x4 x5 x6 H locs ls hE hT hS hl
      cases (show (none : Option (Int32 × TS)) = some (r, u1) from hE)
    | succ n ih =>
      intro u x1 x2 x3 x4 x5 x6 H locs ls hE hT hS hl
      rw [fX7_rules_95] at hE
      refine lv_iload hx hb dX7_rules_95 (lv_at hl 6 rfl) ?_
      refine lv_aload_n hx hb dX7_rules_97 rfl (lv_at hl 0 rfl) ?_
      refine tg_size C hT dX7_rules_98 ?_
      refine lv_icmp_ge (tgt := 129) hx hb dX7_rules_101 (by decide) (fun c2 => ?_) (fun c2 => ?_)
      · have hE := z_t c2 hE
        refine lv_aload_n hx hb dX7_rules_129 rfl (lv_at hl 0 rfl) ?_
        refine lv_iload_n hx hb dX7_rules_130 rfl (lv_at hl 2 rfl) ?_
        refine lv_iload_n hx hb dX7_rules_131 rfl (lv_at hl 3 rfl) ?_
        obtain ⟨u3, hc, hE⟩ := o_bd_some hE
        refine tc_X7_readLine C hT hS (kX7_readLine hc) rfl rfl ⟨Nat.le_of_ble_eq_true rfl, Nat.le_of_ble_eq_true rfl⟩ ⟨Nat.le_refl 0, Nat.le_refl 0⟩ dX7_rules_132 hl.1 (Nat.le_of_ble_eq_true rfl) (fun H locs hT hS => ?_)
        refine lv_aload_n hx hb dX7_rules_135 rfl (lv_at hl 0 rfl) ?_
        refine tg_isSo C hT dX7_rules_136 ?_
        refine lv_if_eq (tgt := 145) hx hb dX7_rules_139 (by decide) (fun c4 => ?_) (fun c4 => ?_)
        · have hE := z_t c4 hE
          exact w_145 ag10 hag10 _ _ _ _ _ _ _ _ hE hT hS (lv_sub hl [0, 1, 2, 3, 4] rfl)
        · have hE := z_f c4 hE
          refine lv_iload hx hb dX7_rules_142 (lv_at hl 4 rfl) ?_
          exact mt_iret C hr hlocks hT hS hE dX7_rules_144
      · have hE := z_f c2 hE
        refine lv_aload_n hx hb dX7_rules_104 rfl (lv_at hl 0 rfl) ?_
        refine tg_text C hT dX7_rules_105 ?_
        refine lv_iload hx hb dX7_rules_108 (lv_at hl 6 rfl) ?_
        refine lv_aload_n hx hb dX7_rules_110 rfl (lv_at hl 0 rfl) ?_
        refine tg_s C hT dX7_rules_111 ?_
        refine lv_iload hx hb dX7_rules_114 (lv_at hl 5 rfl) ?_
        refine lv_iconst (v := (5 : Int32)) hx hb dX7_rules_116 rfl ?_
        refine lv_iadd hx hb dX7_rules_117 ?_
        refine lv_iload hx hb dX7_rules_118 (lv_at hl 6 rfl) ?_
        refine lv_iadd hx hb dX7_rules_120 ?_
        refine tl_s C hT hE dX7_rules_121 (fun hE => ?_)
        refine z_nmi hE (fun v5 hE => ?_)
        refine ts_text C hT hS hE dX7_rules_122 (fun u6 H locs hE hT hS => ?_)
        refine z_iinc (v := (x6 + (1 : Int32))) (lw := (fun y_ => [(6, .int y_), (0, .ref h), (1, .int x1), (2, .int x2), (3, .int x3), (4, .int x4), (5, .int x5)])) hx hb dX7_rules_123 hl hE (k := 6) rfl rfl (by decide) (fun _ => rfl) (fun z7 ls hE hl => ?_)
        refine lv_goto (tgt := 95) hx hb dX7_rules_126 (by decide) ?_
        exact ih _ _ _ _ _ _ _ _ _ _ hE hT hS (lv_sub hl [1, 2, 3, 4, 5, 6, 0] rfl)
  have w_79 : ∀ (ag10 : TS → Int32 → Int32 → Int32 → Int32 → Option (Int32 × TS)) (hag10 : (∀ (u : TS) (x1 : Int32) (x2 : Int32) (x3 : Int32) (x4 : Int32) (H : Heap) (locs : List Loc) (ls : Array Slot), ag10 u x1 x2 x3 x4 = some (r, u1) → TW D dA h u H → va_S (TA h) s.heap H locs → lv_has ls 7 [(0, .ref h), (1, .int x1), (2, .int x2), (3, .int x3), (4, .int x4)] → W p l e { frames := 69, cells := 0, slots := 0, locals := 2156 } s m args below meth c H locs 0 0 (MQ below (mt_Q D dA h (some (.int r)) u1) args s 0 0 (TA h)) (F0 m 10 ls []))) (u : TS) (x1 : Int32) (x2 : Int32) (x3 : Int32) (x4 : Int32) (x5 : Int32) (H : Heap) (locs : List Loc) (ls : Array Slot), fX7_rules_79 N ag10 u x1 x2 x3 x4 x5 = some (r, u1) → TW D dA h u H → va_S (TA h) s.heap H locs → lv_has ls 7 [(0, .ref h), (1, .int x1), (2, .int x2), (3, .int x3), (4, .int x4), (5, .int x5)] → W p l e { frames := 69, cells := 0, slots := 0, locals := 2156 } s m args below meth c H locs 0 0 (MQ below (mt_Q D dA h (some (.int r)) u1) args s 0 0 (TA h)) (F0 m 79 ls []) := by
    intro ag10 hag10 u x1 x2 x3 x4 x5 H locs ls hE hT hS hl
    unfold fX7_rules_79 at hE
    refine lv_aload_n hx hb dX7_rules_79 rfl (lv_at hl 0 rfl) ?_
    refine lv_aload_n hx hb dX7_rules_80 rfl (lv_at hl 0 rfl) ?_
    refine tg_s C hT dX7_rules_81 ?_
    refine lv_iload hx hb dX7_rules_84 (lv_at hl 5 rfl) ?_
    refine lv_iconst (v := (4 : Int32)) hx hb dX7_rules_86 rfl ?_
    refine lv_iadd hx hb dX7_rules_87 ?_
    refine tl_s C hT hE dX7_rules_88 (fun hE => ?_)
    refine z_nmi hE (fun v8 hE => ?_)
    refine tp_size C hT hS hE dX7_rules_89 (fun u9 H locs hE hT hS => ?_)
    refine lv_iconst (v := (0 : Int32)) hx hb dX7_rules_92 rfl ?_
    refine lv_istore (lv' := [(6, .int (0 : Int32)), (0, .ref h), (1, .int x1), (2, .int x2), (3, .int x3), (4, .int x4), (5, .int x5)]) hx hb dX7_rules_93 hl (by decide) rfl (fun ls hl => ?_)
    exact w_95 ag10 hag10 N _ _ _ _ _ _ _ _ _ _ hE hT hS (lv_sub hl [1, 2, 3, 4, 5, 6, 0] rfl)
  have w_10 : ∀ (n : Nat) (u : TS) (x1 : Int32) (x2 : Int32) (x3 : Int32) (x4 : Int32) (H : Heap) (locs : List Loc) (ls : Array Slot), fX7_rules_10 N n u x1 x2 x3 x4 = some (r, u1) → TW D dA h u H → va_S (TA h) s.heap H locs → lv_has ls 7 [(0, .ref h), (1, .int x1), (2, .int x2), (3, .int x3), (4, .int x4)] → W p l e { frames := 69, cells := 0, slots := 0, locals := 2156 } s m args below meth c H locs 0 0 (MQ below (mt_Q D dA h (some (.int r)) u1) args s 0 0 (TA h)) (F0 m 10 ls []) := by
    intro n
    induction n with
    | zero =>
      intro u x1 x2 x3 x4 H locs ls hE hT hS hl
      cases (show (none : Option (Int32 × TS)) = some (r, u1) from hE)
    | succ n ih =>
      intro u x1 x2 x3 x4 H locs ls hE hT hS hl
      rw [fX7_rules_10] at hE
      refine lv_iload hx hb dX7_rules_10 (lv_at hl 4 rfl) ?_
      refine lv_if_lt (tgt := 151) hx hb dX7_rules_12 (by decide) (fun c10 => ?_) (fun c10 => ?_)
      · have hE := z_t c10 hE
        refine lv_iconst (v := (-1 : Int32)) hx hb dX7_rules_151 rfl ?_
        exact mt_iret C hr hlocks hT hS hE dX7_rules_152
      · have hE := z_f c10 hE
        refine lv_sipush (v := (1320 : Int32)) hx hb dX7_rules_15 rfl ?_
        refine lv_bipush (v := (125 : Int32)) hx hb dX7_rules_18 rfl ?_
        refine lv_iload hx hb dX7_rules_20 (lv_at hl 4 rfl) ?_
        refine lv_imul hx hb dX7_rules_22 ?_
        refine lv_iadd hx hb dX7_rules_23 ?_
        refine z_nmi hE (fun z11 hE => ?_)
        refine lv_istore (lv' := [(5, .int z11), (0, .ref h), (1, .int x1), (2, .int x2), (3, .int x3), (4, .int x4)]) hx hb dX7_rules_24 hl (by decide) rfl (fun ls hl => ?_)
        refine lv_aload_n hx hb dX7_rules_26 rfl (lv_at hl 1 rfl) ?_
        refine tg_s C hT dX7_rules_27 ?_
        refine lv_iload hx hb dX7_rules_30 (lv_at hl 0 rfl) ?_
        refine tl_s C hT hE dX7_rules_32 (fun hE => ?_)
        refine z_nmi hE (fun v12 hE => ?_)
        refine lv_iload_n hx hb dX7_rules_33 rfl (lv_at hl 2 rfl) ?_
        refine lv_icmp_ne (tgt := 145) hx hb dX7_rules_34 (by decide) (fun c13 => ?_) (fun c13 => ?_)
        · have hE := z_f c13 hE
          exact w_145 (fX7_rules_10 N n) ih _ _ _ _ _ _ _ _ hE hT hS (lv_sub hl [1, 2, 3, 4, 5] rfl)
        · have hE := z_t c13 hE
          refine lv_aload_n hx hb dX7_rules_37 rfl (lv_at hl 1 rfl) ?_
          refine tg_s C hT dX7_rules_38 ?_
          refine lv_iload hx hb dX7_rules_41 (lv_at hl 0 rfl) ?_
          refine lv_iconst (v := (1 : Int32)) hx hb dX7_rules_43 rfl ?_
          refine lv_iadd hx hb dX7_rules_44 ?_
          refine tl_s C hT hE dX7_rules_45 (fun hE => ?_)
          refine z_nmi hE (fun v14 hE => ?_)
          refine lv_iload_n hx hb dX7_rules_46 rfl (lv_at hl 4 rfl) ?_
          refine lv_icmp_gt (tgt := 145) hx hb dX7_rules_47 (by decide) (fun c15 => ?_) (fun c15 => ?_)
          · have hE := z_t c15 hE
            exact w_145 (fX7_rules_10 N n) ih _ _ _ _ _ _ _ _ hE hT hS (lv_sub hl [1, 2, 3, 4, 5] rfl)
          · have hE := z_f c15 hE
            refine lv_aload_n hx hb dX7_rules_50 rfl (lv_at hl 1 rfl) ?_
            refine tg_s C hT dX7_rules_51 ?_
            refine lv_iload hx hb dX7_rules_54 (lv_at hl 0 rfl) ?_
            refine lv_iconst (v := (2 : Int32)) hx hb dX7_rules_56 rfl ?_
            refine lv_iadd hx hb dX7_rules_57 ?_
            refine tl_s C hT hE dX7_rules_58 (fun hE => ?_)
            refine z_nmi hE (fun v16 hE => ?_)
            refine lv_iconst (v := (-1 : Int32)) hx hb dX7_rules_59 rfl ?_
            refine lv_icmp_eq (tgt := 79) hx hb dX7_rules_60 (by decide) (fun c17 => ?_) (fun c17 => ?_)
            · have hE := z_t c17 hE
              exact w_79 (fX7_rules_10 N n) ih _ _ _ _ _ _ _ _ _ hE hT hS (lv_sub hl [1, 2, 3, 4, 5, 0] rfl)
            · have hE := z_f c17 hE
              refine lv_aload_n hx hb dX7_rules_63 rfl (lv_at hl 1 rfl) ?_
              refine tg_s C hT dX7_rules_64 ?_
              refine lv_iload hx hb dX7_rules_67 (lv_at hl 0 rfl) ?_
              refine lv_iconst (v := (2 : Int32)) hx hb dX7_rules_69 rfl ?_
              refine lv_iadd hx hb dX7_rules_70 ?_
              refine tl_s C hT hE dX7_rules_71 (fun hE => ?_)
              refine z_nmi hE (fun v18 hE => ?_)
              refine lv_iload_n hx hb dX7_rules_72 rfl (lv_at hl 4 rfl) ?_
              refine lv_icmp_gt (tgt := 79) hx hb dX7_rules_73 (by decide) (fun c19 => ?_) (fun c19 => ?_)
              · have hE := z_t c19 hE
                exact w_79 (fX7_rules_10 N n) ih _ _ _ _ _ _ _ _ _ hE hT hS (lv_sub hl [1, 2, 3, 4, 5, 0] rfl)
              · have hE := z_f c19 hE
                refine lv_goto (tgt := 145) hx hb dX7_rules_76 (by decide) ?_
                exact w_145 (fX7_rules_10 N n) ih _ _ _ _ _ _ _ _ hE hT hS (lv_sub hl [1, 2, 3, 4, 5] rfl)
  unfold fX7_rules at hE
  refine lv_aload_n hx hb dX7_rules_0 rfl (lv_at hl 0 rfl) ?_
  refine tg_s C hT dX7_rules_1 ?_
  refine lv_iconst (v := (4 : Int32)) hx hb dX7_rules_4 rfl ?_
  refine tl_s C hT hE dX7_rules_5 (fun hE => ?_)
  refine z_nmi hE (fun v20 hE => ?_)
  refine lv_iconst (v := (1 : Int32)) hx hb dX7_rules_6 rfl ?_
  refine lv_isub hx hb dX7_rules_7 ?_
  refine z_nmi hE (fun z21 hE => ?_)
  refine lv_istore (lv' := [(4, .int z21), (0, .ref h), (1, .int a1), (2, .int a2), (3, .int a3)]) hx hb dX7_rules_8 hl (by decide) rfl (fun ls hl => ?_)
  exact w_10 N _ _ _ _ _ _ _ _ hE hT hS (lv_sub hl [1, 2, 3, 4, 0] rfl)
theorem tc_X7_ruled {a1 : Int32} {a2 : Int32} {a3 : Int32} {a4 : Int32} {r : Int32} {u u1 : TS} {rm : Room} (C : TC p m c cc nL s args D dA) (hT : TW D dA h u H) (hS : va_S (TA h) H0 H locs) (hM : Met l yX7_ruled (ws_ yX7_ruled cX7_ruled 5 (some .int)) rm (va_Pc [.ref h, .int a1, .int a2, .int a3, .int a4] (mt_B D dA h u)) (mt_Q D dA h (some (.int r)) u1) 0 0 (TA h)) (hrc : rm.cells = 0) (hrs : rm.slots = 0) (hR : rm.frames + 1 ≤ R.frames ∧ 8 + (5 + 11) + rm.locals ≤ R.locals) (hf : cells + 0 ≤ R.cells ∧ slots + 0 ≤ R.slots) (d : decode cc pc = .ok (.invokevirtual 129, 3)) (hsz : ls.size = nL) (hro : (rest.map fun v => v.category).sum ≤ 8) (kk : ∀ (H1 : Heap) (locs1 : List Loc), TW D dA h u1 H1 → va_S (TA h) H0 H1 locs1 → W p l e R s m args below meth c H1 locs1 cells slots Q (F0 m (pc + 3) ls (.int r :: rest))) : W p l e R s m args below meth c H locs cells slots Q (F0 m pc ls (.int a4 :: .int a3 :: .int a2 :: .int a1 :: .ref h :: rest)) :=
  mt_call (v := (some (.int r))) (va_runV (As := [.int a1, .int a2, .int a3, .int a4]) (rest := rest) C.1 hM (cwV 4 C.1.2.2.2.2 (lw_V q1817 q1819 qs109 q177 q1820) rfl hrc hrs (by decide +kernel) hR) (mt_preV C.2 hT _) rfl rfl hsz rfl (lv_room hro) d hf) hS (fun _ z => z) (fun H1 locs1 a b _ _ => kk H1 locs1 a b)
set_option maxHeartbeats 4000000 in
set_option maxRecDepth 100000 in
theorem kX7_ruled {l : Launch} {D : va_G} {dA : Nat → ClassId} {h N : Nat} {u u1 : TS} {a1 : Int32} {a2 : Int32} {a3 : Int32} {a4 : Int32} {r : Int32} (hE : fX7_ruled N u a1 a2 a3 a4 = some (r, u1)) : Met l yX7_ruled (ws_ yX7_ruled cX7_ruled 5 (some .int)) ({ frames := 70, cells := 0, slots := 0, locals := 2182 }) (va_Pc [.ref h, .int a1, .int a2, .int a3, .int a4] (mt_B D dA h u)) (mt_Q D dA h (some (.int r)) u1) 0 0 (TA h) := by
  refine mt_met (by decide) rfl rfl rfl ?_
  intro p e s m args below meth c ls C hr hlocks hT hS hl
  have hx := C.1.1
  have hb := C.1.2.1
  have w_20 : ∀ (u : TS) (y0 : Int32) (H : Heap) (locs : List Loc) (ls : Array Slot), fX7_ruled_20 N u y0 = some (r, u1) → TW D dA h u H → va_S (TA h) s.heap H locs → lv_has ls 5 [] → W p l e { frames := 70, cells := 0, slots := 0, locals := 2182 } s m args below meth c H locs 0 0 (MQ below (mt_Q D dA h (some (.int r)) u1) args s 0 0 (TA h)) (F0 m 20 ls [.int y0]) := by
    intro u y0 H locs ls hE hT hS hl
    unfold fX7_ruled_20 at hE
    exact mt_iret C hr hlocks hT hS hE dX7_ruled_20
  unfold fX7_ruled at hE
  refine lv_aload_n hx hb dX7_ruled_0 rfl (lv_at hl 0 rfl) ?_
  refine lv_iload_n hx hb dX7_ruled_1 rfl (lv_at hl 1 rfl) ?_
  refine lv_iload_n hx hb dX7_ruled_2 rfl (lv_at hl 2 rfl) ?_
  refine lv_iload_n hx hb dX7_ruled_3 rfl (lv_at hl 3 rfl) ?_
  obtain ⟨r2, u1, hc, hE⟩ := o_bd2_some hE
  refine tc_X7_rules C hT hS (kX7_rules hc) rfl rfl ⟨Nat.le_of_ble_eq_true rfl, Nat.le_of_ble_eq_true rfl⟩ ⟨Nat.le_refl 0, Nat.le_refl 0⟩ dX7_ruled_4 hl.1 (Nat.le_of_ble_eq_true rfl) (fun H locs hT hS => ?_)
  refine lv_iconst (v := (-1 : Int32)) hx hb dX7_ruled_7 rfl ?_
  refine lv_icmp_eq (tgt := 18) hx hb dX7_ruled_8 (by decide) (fun c3 => ?_) (fun c3 => ?_)
  · have hE := z_t c3 hE
    refine lv_iload hx hb dX7_ruled_18 (lv_at hl 4 rfl) ?_
    exact w_20 _ _ _ _ _ hE hT hS (lv_sub hl [] rfl)
  · have hE := z_f c3 hE
    refine lv_aload_n hx hb dX7_ruled_11 rfl (lv_at hl 0 rfl) ?_
    refine tg_said C hT dX7_ruled_12 ?_
    refine lv_goto (tgt := 20) hx hb dX7_ruled_15 (by decide) ?_
    exact w_20 _ _ _ _ _ hE hT hS (lv_sub hl [] rfl)
theorem tc_X7_isLate {a1 : Int32} {r : Int32} {u u1 : TS} {rm : Room} (C : TC p m c cc nL s args D dA) (hT : TW D dA h u H) (hS : va_S (TA h) H0 H locs) (hM : Met l yX7_isLate (ws_ yX7_isLate cX7_isLate 2 (some .boolean)) rm (va_Pc [.ref h, .int a1] (mt_B D dA h u)) (mt_Q D dA h (some (.int r)) u1) 0 0 (TA h)) (hrc : rm.cells = 0) (hrs : rm.slots = 0) (hR : rm.frames + 1 ≤ R.frames ∧ 8 + (2 + 11) + rm.locals ≤ R.locals) (hf : cells + 0 ≤ R.cells ∧ slots + 0 ≤ R.slots) (d : decode cc pc = .ok (.invokevirtual 133, 3)) (hsz : ls.size = nL) (hro : (rest.map fun v => v.category).sum ≤ 8) (kk : ∀ (H1 : Heap) (locs1 : List Loc), TW D dA h u1 H1 → va_S (TA h) H0 H1 locs1 → W p l e R s m args below meth c H1 locs1 cells slots Q (F0 m (pc + 3) ls (.int r :: rest))) : W p l e R s m args below meth c H locs cells slots Q (F0 m pc ls (.int a1 :: .ref h :: rest)) :=
  mt_call (v := (some (.int r))) (va_runV (As := [.int a1]) (rest := rest) C.1 hM (cwV 1 C.1.2.2.2.2 (lw_V q1809 q1811 qs107 q177 q1812) rfl hrc hrs (by decide +kernel) hR) (mt_preV C.2 hT _) rfl rfl hsz rfl (lv_room hro) d hf) hS (fun _ z => z) (fun H1 locs1 a b _ _ => kk H1 locs1 a b)
set_option maxHeartbeats 4000000 in
set_option maxRecDepth 100000 in
theorem kX7_isLate {l : Launch} {D : va_G} {dA : Nat → ClassId} {h N : Nat} {u u1 : TS} {a1 : Int32} {r : Int32} (hE : fX7_isLate N u a1 = some (r, u1)) : Met l yX7_isLate (ws_ yX7_isLate cX7_isLate 2 (some .boolean)) ({ frames := 71, cells := 0, slots := 0, locals := 2206 }) (va_Pc [.ref h, .int a1] (mt_B D dA h u)) (mt_Q D dA h (some (.int r)) u1) 0 0 (TA h) := by
  refine mt_met (by decide) rfl rfl rfl ?_
  intro p e s m args below meth c ls C hr hlocks hT hS hl
  have hx := C.1.1
  have hb := C.1.2.1
  have w_56 : ∀ (u : TS) (y0 : Int32) (H : Heap) (locs : List Loc) (ls : Array Slot), fX7_isLate_56 N u y0 = some (r, u1) → TW D dA h u H → va_S (TA h) s.heap H locs → lv_has ls 2 [] → W p l e { frames := 71, cells := 0, slots := 0, locals := 2206 } s m args below meth c H locs 0 0 (MQ below (mt_Q D dA h (some (.int r)) u1) args s 0 0 (TA h)) (F0 m 56 ls [.int y0]) := by
    intro u y0 H locs ls hE hT hS hl
    unfold fX7_isLate_56 at hE
    obtain ⟨hb1, hE⟩ := o_bl_some hE
    exact mt_zret C hr hlocks hT hS hb1 hE dX7_isLate_56
  have w_55 : ∀ (u : TS) (H : Heap) (locs : List Loc) (ls : Array Slot), fX7_isLate_55 N u = some (r, u1) → TW D dA h u H → va_S (TA h) s.heap H locs → lv_has ls 2 [] → W p l e { frames := 71, cells := 0, slots := 0, locals := 2206 } s m args below meth c H locs 0 0 (MQ below (mt_Q D dA h (some (.int r)) u1) args s 0 0 (TA h)) (F0 m 55 ls []) := by
    intro u H locs ls hE hT hS hl
    unfold fX7_isLate_55 at hE
    refine lv_iconst (v := (0 : Int32)) hx hb dX7_isLate_55 rfl ?_
    exact w_56 _ _ _ _ _ hE hT hS (lv_sub hl [] rfl)
  unfold fX7_isLate at hE
  refine lv_aload_n hx hb dX7_isLate_0 rfl (lv_at hl 0 rfl) ?_
  refine lv_iload_n hx hb dX7_isLate_1 rfl (lv_at hl 1 rfl) ?_
  obtain ⟨r2, u1, hc, hE⟩ := o_bd2_some hE
  refine tc_X7_isBare C hT hS (kX7_isBare hc) rfl rfl ⟨Nat.le_of_ble_eq_true rfl, Nat.le_of_ble_eq_true rfl⟩ ⟨Nat.le_refl 0, Nat.le_refl 0⟩ dX7_isLate_2 hl.1 (Nat.le_of_ble_eq_true rfl) (fun H locs hT hS => ?_)
  refine lv_if_eq (tgt := 55) hx hb dX7_isLate_5 (by decide) (fun c3 => ?_) (fun c3 => ?_)
  · have hE := z_t c3 hE
    exact w_55 _ _ _ _ hE hT hS (lv_sub hl [] rfl)
  · have hE := z_f c3 hE
    refine lv_aload_n hx hb dX7_isLate_8 rfl (lv_at hl 0 rfl) ?_
    refine lv_iload_n hx hb dX7_isLate_9 rfl (lv_at hl 1 rfl) ?_
    refine lv_bipush (v := (9 : Int32)) hx hb dX7_isLate_10 rfl ?_
    obtain ⟨r5, u4, hc, hE⟩ := o_bd2_some hE
    refine tc_X7_st C hT hS (kX7_st hc) rfl rfl ⟨Nat.le_of_ble_eq_true rfl, Nat.le_of_ble_eq_true rfl⟩ ⟨Nat.le_refl 0, Nat.le_refl 0⟩ dX7_isLate_12 hl.1 (Nat.le_of_ble_eq_true rfl) (fun H locs hT hS => ?_)
    refine lv_iconst (v := (-1 : Int32)) hx hb dX7_isLate_15 rfl ?_
    refine lv_icmp_eq (tgt := 55) hx hb dX7_isLate_16 (by decide) (fun c6 => ?_) (fun c6 => ?_)
    · have hE := z_t c6 hE
      exact w_55 _ _ _ _ hE hT hS (lv_sub hl [] rfl)
    · have hE := z_f c6 hE
      refine lv_aload_n hx hb dX7_isLate_19 rfl (lv_at hl 0 rfl) ?_
      refine tg_s C hT dX7_isLate_20 ?_
      refine lv_iconst (v := (0 : Int32)) hx hb dX7_isLate_23 rfl ?_
      refine tl_s C hT hE dX7_isLate_24 (fun hE => ?_)
      refine z_nmi hE (fun v7 hE => ?_)
      refine lv_aload_n hx hb dX7_isLate_25 rfl (lv_at hl 0 rfl) ?_
      refine lv_iload_n hx hb dX7_isLate_26 rfl (lv_at hl 1 rfl) ?_
      refine lv_bipush (v := (9 : Int32)) hx hb dX7_isLate_27 rfl ?_
      obtain ⟨r9, u8, hc, hE⟩ := o_bd2_some hE
      refine tc_X7_st C hT hS (kX7_st hc) rfl rfl ⟨Nat.le_of_ble_eq_true rfl, Nat.le_of_ble_eq_true rfl⟩ ⟨Nat.le_refl 0, Nat.le_refl 0⟩ dX7_isLate_29 hl.1 (Nat.le_of_ble_eq_true rfl) (fun H locs hT hS => ?_)
      refine lv_isub hx hb dX7_isLate_32 ?_
      refine lv_aload_n hx hb dX7_isLate_33 rfl (lv_at hl 0 rfl) ?_
      refine lv_bipush (v := (7 : Int32)) hx hb dX7_isLate_34 rfl ?_
      refine lv_iload_n hx hb dX7_isLate_36 rfl (lv_at hl 1 rfl) ?_
      refine lv_aload_n hx hb dX7_isLate_37 rfl (lv_at hl 0 rfl) ?_
      refine tg_s C hT dX7_isLate_38 ?_
      refine lv_iconst (v := (0 : Int32)) hx hb dX7_isLate_41 rfl ?_
      refine tl_s C hT hE dX7_isLate_42 (fun hE => ?_)
      refine z_nmi hE (fun v10 hE => ?_)
      refine lv_bipush (v := (99 : Int32)) hx hb dX7_isLate_43 rfl ?_
      obtain ⟨r12, u11, hc, hE⟩ := o_bd2_some hE
      refine tc_X7_ruled C hT hS (kX7_ruled hc) rfl rfl ⟨Nat.le_of_ble_eq_true rfl, Nat.le_of_ble_eq_true rfl⟩ ⟨Nat.le_refl 0, Nat.le_refl 0⟩ dX7_isLate_45 hl.1 (Nat.le_of_ble_eq_true rfl) (fun H locs hT hS => ?_)
      refine lv_icmp_lt (tgt := 55) hx hb dX7_isLate_48 (by decide) (fun c13 => ?_) (fun c13 => ?_)
      · have hE := z_t c13 hE
        exact w_55 _ _ _ _ hE hT hS (lv_sub hl [] rfl)
      · have hE := z_f c13 hE
        refine lv_iconst (v := (1 : Int32)) hx hb dX7_isLate_51 rfl ?_
        refine lv_goto (tgt := 56) hx hb dX7_isLate_52 (by decide) ?_
        exact w_56 _ _ _ _ _ hE hT hS (lv_sub hl [] rfl)
set_option maxHeartbeats 4000000 in
set_option maxRecDepth 100000 in
theorem kX7_look {l : Launch} {D : va_G} {dA : Nat → ClassId} {h N : Nat} {u u1 : TS} {a1 : Int32} {a2 : Int32} {r : Int32} (hE : fX7_look N u a1 a2 = some (r, u1)) : Met l yX7_look (ws_ yX7_look cX7_look 3 (some .int)) ({ frames := 72, cells := 0, slots := 0, locals := 2227 }) (va_Pc [.ref h, .int a1, .int a2] (mt_B D dA h u)) (mt_Q D dA h (some (.int r)) u1) 0 0 (TA h) := by
  refine mt_met (by decide) rfl rfl rfl ?_
  intro p e s m args below meth c ls C hr hlocks hT hS hl
  have hx := C.1.1
  have hb := C.1.2.1
  have w_197 : ∀ (u : TS) (y0 : Int32) (H : Heap) (locs : List Loc) (ls : Array Slot), fX7_look_197 N u y0 = some (r, u1) → TW D dA h u H → va_S (TA h) s.heap H locs → lv_has ls 3 [] → W p l e { frames := 72, cells := 0, slots := 0, locals := 2227 } s m args below meth c H locs 0 0 (MQ below (mt_Q D dA h (some (.int r)) u1) args s 0 0 (TA h)) (F0 m 197 ls [.int y0]) := by
    intro u y0 H locs ls hE hT hS hl
    unfold fX7_look_197 at hE
    exact mt_iret C hr hlocks hT hS hE dX7_look_197
  unfold fX7_look at hE
  refine lv_aload_n hx hb dX7_look_0 rfl (lv_at hl 0 rfl) ?_
  refine lv_iload_n hx hb dX7_look_1 rfl (lv_at hl 1 rfl) ?_
  obtain ⟨r2, u1, hc, hE⟩ := o_bd2_some hE
  refine tc_X7_isStand C hT hS (kX7_isStand hc) rfl rfl ⟨Nat.le_of_ble_eq_true rfl, Nat.le_of_ble_eq_true rfl⟩ ⟨Nat.le_refl 0, Nat.le_refl 0⟩ dX7_look_2 hl.1 (Nat.le_of_ble_eq_true rfl) (fun H locs hT hS => ?_)
  refine lv_if_ne (tgt := 15) hx hb dX7_look_5 (by decide) (fun c3 => ?_) (fun c3 => ?_)
  · have hE := z_f c3 hE
    refine lv_iload_n hx hb dX7_look_15 rfl (lv_at hl 2 rfl) ?_
    by_cases c4 : a2 = (0 : Int32)
    · have hE := z_t c4 hE
      refine lv_tableIn (tgt := 88) hx hb dX7_look_16 (by rw [c4]; decide) (by rw [c4]; decide) (by rw [c4]; rfl) (by decide) ?_
      refine lv_aload_n hx hb dX7_look_88 rfl (lv_at hl 0 rfl) ?_
      refine lv_iload_n hx hb dX7_look_89 rfl (lv_at hl 1 rfl) ?_
      refine lv_iconst (v := (0 : Int32)) hx hb dX7_look_90 rfl ?_
      obtain ⟨r6, u5, hc, hE⟩ := o_bd2_some hE
      refine tc_X7_st C hT hS (kX7_st hc) rfl rfl ⟨Nat.le_of_ble_eq_true rfl, Nat.le_of_ble_eq_true rfl⟩ ⟨Nat.le_refl 0, Nat.le_refl 0⟩ dX7_look_91 hl.1 (Nat.le_of_ble_eq_true rfl) (fun H locs hT hS => ?_)
      exact mt_iret C hr hlocks hT hS hE dX7_look_94
    have hE := z_f c4 hE
    by_cases c7 : a2 = (1 : Int32)
    · have hE := z_t c7 hE
      refine lv_tableIn (tgt := 95) hx hb dX7_look_16 (by rw [c7]; decide) (by rw [c7]; decide) (by rw [c7]; rfl) (by decide) ?_
      refine lv_aload_n hx hb dX7_look_95 rfl (lv_at hl 0 rfl) ?_
      refine lv_iload_n hx hb dX7_look_96 rfl (lv_at hl 1 rfl) ?_
      refine lv_iconst (v := (1 : Int32)) hx hb dX7_look_97 rfl ?_
      obtain ⟨r9, u8, hc, hE⟩ := o_bd2_some hE
      refine tc_X7_st C hT hS (kX7_st hc) rfl rfl ⟨Nat.le_of_ble_eq_true rfl, Nat.le_of_ble_eq_true rfl⟩ ⟨Nat.le_refl 0, Nat.le_refl 0⟩ dX7_look_98 hl.1 (Nat.le_of_ble_eq_true rfl) (fun H locs hT hS => ?_)
      exact mt_iret C hr hlocks hT hS hE dX7_look_101
    have hE := z_f c7 hE
    by_cases c10 : a2 = (2 : Int32)
    · have hE := z_t c10 hE
      refine lv_tableIn (tgt := 102) hx hb dX7_look_16 (by rw [c10]; decide) (by rw [c10]; decide) (by rw [c10]; rfl) (by decide) ?_
      refine lv_aload_n hx hb dX7_look_102 rfl (lv_at hl 0 rfl) ?_
      refine lv_iload_n hx hb dX7_look_103 rfl (lv_at hl 1 rfl) ?_
      refine lv_iconst (v := (2 : Int32)) hx hb dX7_look_104 rfl ?_
      obtain ⟨r12, u11, hc, hE⟩ := o_bd2_some hE
      refine tc_X7_st C hT hS (kX7_st hc) rfl rfl ⟨Nat.le_of_ble_eq_true rfl, Nat.le_of_ble_eq_true rfl⟩ ⟨Nat.le_refl 0, Nat.le_refl 0⟩ dX7_look_105 hl.1 (Nat.le_of_ble_eq_true rfl) (fun H locs hT hS => ?_)
      exact mt_iret C hr hlocks hT hS hE dX7_look_108
    have hE := z_f c10 hE
    by_cases c13 : a2 = (3 : Int32)
    · have hE := z_t c13 hE
      refine lv_tableIn (tgt := 109) hx hb dX7_look_16 (by rw [c13]; decide) (by rw [c13]; decide) (by rw [c13]; rfl) (by decide) ?_
      refine lv_aload_n hx hb dX7_look_109 rfl (lv_at hl 0 rfl) ?_
      refine lv_iload_n hx hb dX7_look_110 rfl (lv_at hl 1 rfl) ?_
      refine lv_iconst (v := (3 : Int32)) hx hb dX7_look_111 rfl ?_
      obtain ⟨r15, u14, hc, hE⟩ := o_bd2_some hE
      refine tc_X7_st C hT hS (kX7_st hc) rfl rfl ⟨Nat.le_of_ble_eq_true rfl, Nat.le_of_ble_eq_true rfl⟩ ⟨Nat.le_refl 0, Nat.le_refl 0⟩ dX7_look_112 hl.1 (Nat.le_of_ble_eq_true rfl) (fun H locs hT hS => ?_)
      exact mt_iret C hr hlocks hT hS hE dX7_look_115
    have hE := z_f c13 hE
    by_cases c16 : a2 = (4 : Int32)
    · have hE := z_t c16 hE
      refine lv_tableIn (tgt := 116) hx hb dX7_look_16 (by rw [c16]; decide) (by rw [c16]; decide) (by rw [c16]; rfl) (by decide) ?_
      refine lv_aload_n hx hb dX7_look_116 rfl (lv_at hl 0 rfl) ?_
      refine lv_iload_n hx hb dX7_look_117 rfl (lv_at hl 1 rfl) ?_
      refine lv_iconst (v := (4 : Int32)) hx hb dX7_look_118 rfl ?_
      obtain ⟨r18, u17, hc, hE⟩ := o_bd2_some hE
      refine tc_X7_st C hT hS (kX7_st hc) rfl rfl ⟨Nat.le_of_ble_eq_true rfl, Nat.le_of_ble_eq_true rfl⟩ ⟨Nat.le_refl 0, Nat.le_refl 0⟩ dX7_look_119 hl.1 (Nat.le_of_ble_eq_true rfl) (fun H locs hT hS => ?_)
      exact mt_iret C hr hlocks hT hS hE dX7_look_122
    have hE := z_f c16 hE
    by_cases c19 : a2 = (5 : Int32)
    · have hE := z_t c19 hE
      refine lv_tableIn (tgt := 123) hx hb dX7_look_16 (by rw [c19]; decide) (by rw [c19]; decide) (by rw [c19]; rfl) (by decide) ?_
      refine lv_aload_n hx hb dX7_look_123 rfl (lv_at hl 0 rfl) ?_
      refine lv_iload_n hx hb dX7_look_124 rfl (lv_at hl 1 rfl) ?_
      refine lv_iconst (v := (5 : Int32)) hx hb dX7_look_125 rfl ?_
      obtain ⟨r21, u20, hc, hE⟩ := o_bd2_some hE
      refine tc_X7_st C hT hS (kX7_st hc) rfl rfl ⟨Nat.le_of_ble_eq_true rfl, Nat.le_of_ble_eq_true rfl⟩ ⟨Nat.le_refl 0, Nat.le_refl 0⟩ dX7_look_126 hl.1 (Nat.le_of_ble_eq_true rfl) (fun H locs hT hS => ?_)
      exact mt_iret C hr hlocks hT hS hE dX7_look_129
    have hE := z_f c19 hE
    by_cases c22 : a2 = (6 : Int32)
    · have hE := z_t c22 hE
      refine lv_tableIn (tgt := 130) hx hb dX7_look_16 (by rw [c22]; decide) (by rw [c22]; decide) (by rw [c22]; rfl) (by decide) ?_
      refine lv_aload_n hx hb dX7_look_130 rfl (lv_at hl 0 rfl) ?_
      refine lv_iload_n hx hb dX7_look_131 rfl (lv_at hl 1 rfl) ?_
      refine lv_bipush (v := (6 : Int32)) hx hb dX7_look_132 rfl ?_
      obtain ⟨r24, u23, hc, hE⟩ := o_bd2_some hE
      refine tc_X7_st C hT hS (kX7_st hc) rfl rfl ⟨Nat.le_of_ble_eq_true rfl, Nat.le_of_ble_eq_true rfl⟩ ⟨Nat.le_refl 0, Nat.le_refl 0⟩ dX7_look_134 hl.1 (Nat.le_of_ble_eq_true rfl) (fun H locs hT hS => ?_)
      exact mt_iret C hr hlocks hT hS hE dX7_look_137
    have hE := z_f c22 hE
    by_cases c25 : a2 = (7 : Int32)
    · have hE := z_t c25 hE
      refine lv_tableIn (tgt := 138) hx hb dX7_look_16 (by rw [c25]; decide) (by rw [c25]; decide) (by rw [c25]; rfl) (by decide) ?_
      refine lv_aload_n hx hb dX7_look_138 rfl (lv_at hl 0 rfl) ?_
      refine lv_iload_n hx hb dX7_look_139 rfl (lv_at hl 1 rfl) ?_
      obtain ⟨r27, u26, hc, hE⟩ := o_bd2_some hE
      refine tc_X7_wood C hT hS (kX7_wood hc) rfl rfl ⟨Nat.le_of_ble_eq_true rfl, Nat.le_of_ble_eq_true rfl⟩ ⟨Nat.le_refl 0, Nat.le_refl 0⟩ dX7_look_140 hl.1 (Nat.le_of_ble_eq_true rfl) (fun H locs hT hS => ?_)
      exact mt_iret C hr hlocks hT hS hE dX7_look_143
    have hE := z_f c25 hE
    by_cases c28 : a2 = (8 : Int32)
    · have hE := z_t c28 hE
      refine lv_tableIn (tgt := 144) hx hb dX7_look_16 (by rw [c28]; decide) (by rw [c28]; decide) (by rw [c28]; rfl) (by decide) ?_
      refine lv_aload_n hx hb dX7_look_144 rfl (lv_at hl 0 rfl) ?_
      refine lv_iload_n hx hb dX7_look_145 rfl (lv_at hl 1 rfl) ?_
      refine lv_bipush (v := (7 : Int32)) hx hb dX7_look_146 rfl ?_
      obtain ⟨r30, u29, hc, hE⟩ := o_bd2_some hE
      refine tc_X7_st C hT hS (kX7_st hc) rfl rfl ⟨Nat.le_of_ble_eq_true rfl, Nat.le_of_ble_eq_true rfl⟩ ⟨Nat.le_refl 0, Nat.le_refl 0⟩ dX7_look_148 hl.1 (Nat.le_of_ble_eq_true rfl) (fun H locs hT hS => ?_)
      exact mt_iret C hr hlocks hT hS hE dX7_look_151
    have hE := z_f c28 hE
    by_cases c31 : a2 = (9 : Int32)
    · have hE := z_t c31 hE
      refine lv_tableIn (tgt := 152) hx hb dX7_look_16 (by rw [c31]; decide) (by rw [c31]; decide) (by rw [c31]; rfl) (by decide) ?_
      refine lv_aload_n hx hb dX7_look_152 rfl (lv_at hl 0 rfl) ?_
      refine lv_iload_n hx hb dX7_look_153 rfl (lv_at hl 1 rfl) ?_
      refine lv_bipush (v := (8 : Int32)) hx hb dX7_look_154 rfl ?_
      obtain ⟨r33, u32, hc, hE⟩ := o_bd2_some hE
      refine tc_X7_st C hT hS (kX7_st hc) rfl rfl ⟨Nat.le_of_ble_eq_true rfl, Nat.le_of_ble_eq_true rfl⟩ ⟨Nat.le_refl 0, Nat.le_refl 0⟩ dX7_look_156 hl.1 (Nat.le_of_ble_eq_true rfl) (fun H locs hT hS => ?_)
      exact mt_iret C hr hlocks hT hS hE dX7_look_159
    have hE := z_f c31 hE
    by_cases c34 : a2 = (10 : Int32)
    · have hE := z_t c34 hE
      refine lv_tableIn (tgt := 160) hx hb dX7_look_16 (by rw [c34]; decide) (by rw [c34]; decide) (by rw [c34]; rfl) (by decide) ?_
      refine lv_aload_n hx hb dX7_look_160 rfl (lv_at hl 0 rfl) ?_
      refine lv_iload_n hx hb dX7_look_161 rfl (lv_at hl 1 rfl) ?_
      refine lv_bipush (v := (9 : Int32)) hx hb dX7_look_162 rfl ?_
      obtain ⟨r36, u35, hc, hE⟩ := o_bd2_some hE
      refine tc_X7_st C hT hS (kX7_st hc) rfl rfl ⟨Nat.le_of_ble_eq_true rfl, Nat.le_of_ble_eq_true rfl⟩ ⟨Nat.le_refl 0, Nat.le_refl 0⟩ dX7_look_164 hl.1 (Nat.le_of_ble_eq_true rfl) (fun H locs hT hS => ?_)
      exact mt_iret C hr hlocks hT hS hE dX7_look_167
    have hE := z_f c34 hE
    by_cases c37 : a2 = (11 : Int32)
    · have hE := z_t c37 hE
      refine lv_tableIn (tgt := 168) hx hb dX7_look_16 (by rw [c37]; decide) (by rw [c37]; decide) (by rw [c37]; rfl) (by decide) ?_
      refine lv_aload_n hx hb dX7_look_168 rfl (lv_at hl 0 rfl) ?_
      refine lv_iload_n hx hb dX7_look_169 rfl (lv_at hl 1 rfl) ?_
      refine lv_bipush (v := (10 : Int32)) hx hb dX7_look_170 rfl ?_
      obtain ⟨r39, u38, hc, hE⟩ := o_bd2_some hE
      refine tc_X7_st C hT hS (kX7_st hc) rfl rfl ⟨Nat.le_of_ble_eq_true rfl, Nat.le_of_ble_eq_true rfl⟩ ⟨Nat.le_refl 0, Nat.le_refl 0⟩ dX7_look_172 hl.1 (Nat.le_of_ble_eq_true rfl) (fun H locs hT hS => ?_)
      exact mt_iret C hr hlocks hT hS hE dX7_look_175
    have hE := z_f c37 hE
    by_cases c40 : a2 = (12 : Int32)
    · have hE := z_t c40 hE
      refine lv_tableIn (tgt := 176) hx hb dX7_look_16 (by rw [c40]; decide) (by rw [c40]; decide) (by rw [c40]; rfl) (by decide) ?_
      refine lv_aload_n hx hb dX7_look_176 rfl (lv_at hl 0 rfl) ?_
      refine lv_iload_n hx hb dX7_look_177 rfl (lv_at hl 1 rfl) ?_
      refine lv_bipush (v := (11 : Int32)) hx hb dX7_look_178 rfl ?_
      obtain ⟨r42, u41, hc, hE⟩ := o_bd2_some hE
      refine tc_X7_st C hT hS (kX7_st hc) rfl rfl ⟨Nat.le_of_ble_eq_true rfl, Nat.le_of_ble_eq_true rfl⟩ ⟨Nat.le_refl 0, Nat.le_refl 0⟩ dX7_look_180 hl.1 (Nat.le_of_ble_eq_true rfl) (fun H locs hT hS => ?_)
      exact mt_iret C hr hlocks hT hS hE dX7_look_183
    have hE := z_f c40 hE
    by_cases c43 : a2 = (13 : Int32)
    · have hE := z_t c43 hE
      refine lv_tableIn (tgt := 184) hx hb dX7_look_16 (by rw [c43]; decide) (by rw [c43]; decide) (by rw [c43]; rfl) (by decide) ?_
      refine lv_aload_n hx hb dX7_look_184 rfl (lv_at hl 0 rfl) ?_
      refine lv_iload_n hx hb dX7_look_185 rfl (lv_at hl 1 rfl) ?_
      obtain ⟨r45, u44, hc, hE⟩ := o_bd2_some hE
      refine tc_X7_isLate C hT hS (kX7_isLate hc) rfl rfl ⟨Nat.le_of_ble_eq_true rfl, Nat.le_of_ble_eq_true rfl⟩ ⟨Nat.le_refl 0, Nat.le_refl 0⟩ dX7_look_186 hl.1 (Nat.le_of_ble_eq_true rfl) (fun H locs hT hS => ?_)
      refine lv_if_eq (tgt := 196) hx hb dX7_look_189 (by decide) (fun c46 => ?_) (fun c46 => ?_)
      · have hE := z_t c46 hE
        refine lv_iconst (v := (0 : Int32)) hx hb dX7_look_196 rfl ?_
        exact w_197 _ _ _ _ _ hE hT hS (lv_sub hl [] rfl)
      · have hE := z_f c46 hE
        refine lv_iconst (v := (1 : Int32)) hx hb dX7_look_192 rfl ?_
        refine lv_goto (tgt := 197) hx hb dX7_look_193 (by decide) ?_
        exact w_197 _ _ _ _ _ hE hT hS (lv_sub hl [] rfl)
    have hE := z_f c43 hE
    refine lv_tableOut (tgt := 198) hx hb dX7_look_16 (z_swOut (fun k_ h1_ h2_ => ?_)) (by decide) ?_
    · rcases (show k_ = 0 ∨ k_ = 1 ∨ k_ = 2 ∨ k_ = 3 ∨ k_ = 4 ∨ k_ = 5 ∨ k_ = 6 ∨ k_ = 7 ∨ k_ = 8 ∨ k_ = 9 ∨ k_ = 10 ∨ k_ = 11 ∨ k_ = 12 ∨ k_ = 13 by omega) with rfl | rfl | rfl | rfl | rfl | rfl | rfl | rfl | rfl | rfl | rfl | rfl | rfl | rfl
      · exact c4
      · exact c7
      · exact c10
      · exact c13
      · exact c16
      · exact c19
      · exact c22
      · exact c25
      · exact c28
      · exact c31
      · exact c34
      · exact c37
      · exact c40
      · exact c43
    refine lv_aload_n hx hb dX7_look_198 rfl (lv_at hl 0 rfl) ?_
    refine lv_bipush (v := (-7 : Int32)) hx hb dX7_look_199 rfl ?_
    obtain ⟨r48, u47, hc, hE⟩ := o_bd2_some hE
    refine tc_X7_refuse C hT hS (kX7_refuse hc) rfl rfl ⟨Nat.le_of_ble_eq_true rfl, Nat.le_of_ble_eq_true rfl⟩ ⟨Nat.le_refl 0, Nat.le_refl 0⟩ dX7_look_201 hl.1 (Nat.le_of_ble_eq_true rfl) (fun H locs hT hS => ?_)
    exact mt_iret C hr hlocks hT hS hE dX7_look_204
  · have hE := z_t c3 hE
    refine lv_aload_n hx hb dX7_look_8 rfl (lv_at hl 0 rfl) ?_
    refine lv_bipush (v := (-3 : Int32)) hx hb dX7_look_9 rfl ?_
    obtain ⟨r50, u49, hc, hE⟩ := o_bd2_some hE
    refine tc_X7_refuse C hT hS (kX7_refuse hc) rfl rfl ⟨Nat.le_of_ble_eq_true rfl, Nat.le_of_ble_eq_true rfl⟩ ⟨Nat.le_refl 0, Nat.le_refl 0⟩ dX7_look_11 hl.1 (Nat.le_of_ble_eq_true rfl) (fun H locs hT hS => ?_)
    exact mt_iret C hr hlocks hT hS hE dX7_look_14
set_option maxHeartbeats 4000000 in
set_option maxRecDepth 100000 in
theorem kX7_feet {l : Launch} {D : va_G} {dA : Nat → ClassId} {h N : Nat} {u u1 : TS} {a1 : Int32} {a2 : Int32} {a3 : Int32} {r : Int32} (hE : fX7_feet N u a1 a2 a3 = some (r, u1)) : Met l yX7_feet (ws_ yX7_feet cX7_feet 4 (some .int)) ({ frames := 1, cells := 0, slots := 0, locals := 28 }) (va_Pc [.ref h, .int a1, .int a2, .int a3] (mt_B D dA h u)) (mt_Q D dA h (some (.int r)) u1) 0 0 (TA h) := by
  refine mt_met (by decide) rfl rfl rfl ?_
  intro p e s m args below meth c ls C hr hlocks hT hS hl
  have hx := C.1.1
  have hb := C.1.2.1
  have w_18 : ∀ (u : TS) (H : Heap) (locs : List Loc) (ls : Array Slot), fX7_feet_18 N u = some (r, u1) → TW D dA h u H → va_S (TA h) s.heap H locs → lv_has ls 4 [(0, .ref h)] → W p l e { frames := 1, cells := 0, slots := 0, locals := 28 } s m args below meth c H locs 0 0 (MQ below (mt_Q D dA h (some (.int r)) u1) args s 0 0 (TA h)) (F0 m 18 ls []) := by
    intro u H locs ls hE hT hS hl
    unfold fX7_feet_18 at hE
    refine lv_aload_n hx hb dX7_feet_18 rfl (lv_at hl 0 rfl) ?_
    refine lv_bipush (v := (-5 : Int32)) hx hb dX7_feet_19 rfl ?_
    obtain ⟨r2, u1, hc, hE⟩ := o_bd2_some hE
    refine tc_X7_refuse C hT hS (kX7_refuse hc) rfl rfl ⟨Nat.le_of_ble_eq_true rfl, Nat.le_of_ble_eq_true rfl⟩ ⟨Nat.le_refl 0, Nat.le_refl 0⟩ dX7_feet_21 hl.1 (Nat.le_of_ble_eq_true rfl) (fun H locs hT hS => ?_)
    exact mt_iret C hr hlocks hT hS hE dX7_feet_24
  have w_51 : ∀ (u : TS) (y0 : Int32) (H : Heap) (locs : List Loc) (ls : Array Slot), fX7_feet_51 N u y0 = some (r, u1) → TW D dA h u H → va_S (TA h) s.heap H locs → lv_has ls 4 [] → W p l e { frames := 1, cells := 0, slots := 0, locals := 28 } s m args below meth c H locs 0 0 (MQ below (mt_Q D dA h (some (.int r)) u1) args s 0 0 (TA h)) (F0 m 51 ls [.int y0]) := by
    intro u y0 H locs ls hE hT hS hl
    unfold fX7_feet_51 at hE
    exact mt_iret C hr hlocks hT hS hE dX7_feet_51
  unfold fX7_feet at hE
  refine lv_iload_n hx hb dX7_feet_0 rfl (lv_at hl 1 rfl) ?_
  refine lv_iconst (v := (0 : Int32)) hx hb dX7_feet_1 rfl ?_
  refine lv_iconst (v := (3 : Int32)) hx hb dX7_feet_2 rfl ?_
  obtain ⟨r3, hc, hE⟩ := o_bd_some hE
  refine sc_X7_in C.1 (kX7_in hc) rfl rfl ⟨Nat.le_of_ble_eq_true rfl, Nat.le_of_ble_eq_true rfl⟩ ⟨Nat.le_refl 0, Nat.le_refl 0⟩ dX7_feet_3 hl.1 (Nat.le_of_ble_eq_true rfl) ?_
  refine lv_if_eq (tgt := 18) hx hb dX7_feet_6 (by decide) (fun c4 => ?_) (fun c4 => ?_)
  · have hE := z_t c4 hE
    exact w_18 _ _ _ _ hE hT hS (lv_sub hl [0] rfl)
  · have hE := z_f c4 hE
    refine lv_iload_n hx hb dX7_feet_9 rfl (lv_at hl 2 rfl) ?_
    refine lv_iconst (v := (0 : Int32)) hx hb dX7_feet_10 rfl ?_
    refine lv_iconst (v := (4 : Int32)) hx hb dX7_feet_11 rfl ?_
    obtain ⟨r5, hc, hE⟩ := o_bd_some hE
    refine sc_X7_in C.1 (kX7_in hc) rfl rfl ⟨Nat.le_of_ble_eq_true rfl, Nat.le_of_ble_eq_true rfl⟩ ⟨Nat.le_refl 0, Nat.le_refl 0⟩ dX7_feet_12 hl.1 (Nat.le_of_ble_eq_true rfl) ?_
    refine lv_if_ne (tgt := 25) hx hb dX7_feet_15 (by decide) (fun c6 => ?_) (fun c6 => ?_)
    · have hE := z_f c6 hE
      refine lv_iload_n hx hb dX7_feet_25 rfl (lv_at hl 3 rfl) ?_
      refine lv_iconst (v := (0 : Int32)) hx hb dX7_feet_26 rfl ?_
      refine lv_sipush (v := (500 : Int32)) hx hb dX7_feet_27 rfl ?_
      obtain ⟨r7, hc, hE⟩ := o_bd_some hE
      refine sc_X7_in C.1 (kX7_in hc) rfl rfl ⟨Nat.le_of_ble_eq_true rfl, Nat.le_of_ble_eq_true rfl⟩ ⟨Nat.le_refl 0, Nat.le_refl 0⟩ dX7_feet_30 hl.1 (Nat.le_of_ble_eq_true rfl) ?_
      refine lv_if_eq (tgt := 45) hx hb dX7_feet_33 (by decide) (fun c8 => ?_) (fun c8 => ?_)
      · have hE := z_t c8 hE
        refine lv_aload_n hx hb dX7_feet_45 rfl (lv_at hl 0 rfl) ?_
        refine lv_bipush (v := (-7 : Int32)) hx hb dX7_feet_46 rfl ?_
        obtain ⟨r10, u9, hc, hE⟩ := o_bd2_some hE
        refine tc_X7_refuse C hT hS (kX7_refuse hc) rfl rfl ⟨Nat.le_of_ble_eq_true rfl, Nat.le_of_ble_eq_true rfl⟩ ⟨Nat.le_refl 0, Nat.le_refl 0⟩ dX7_feet_48 hl.1 (Nat.le_of_ble_eq_true rfl) (fun H locs hT hS => ?_)
        exact w_51 _ _ _ _ _ hE hT hS (lv_sub hl [] rfl)
      · have hE := z_f c8 hE
        refine lv_iload_n hx hb dX7_feet_36 rfl (lv_at hl 1 rfl) ?_
        refine lv_iload_n hx hb dX7_feet_37 rfl (lv_at hl 2 rfl) ?_
        refine lv_iload_n hx hb dX7_feet_38 rfl (lv_at hl 3 rfl) ?_
        obtain ⟨r11, hc, hE⟩ := o_bd_some hE
        refine sc_X7_feetOf C.1 (kX7_feetOf hc) rfl rfl ⟨Nat.le_of_ble_eq_true rfl, Nat.le_of_ble_eq_true rfl⟩ ⟨Nat.le_refl 0, Nat.le_refl 0⟩ dX7_feet_39 hl.1 (Nat.le_of_ble_eq_true rfl) ?_
        refine lv_goto (tgt := 51) hx hb dX7_feet_42 (by decide) ?_
        exact w_51 _ _ _ _ _ hE hT hS (lv_sub hl [] rfl)
    · have hE := z_t c6 hE
      exact w_18 _ _ _ _ hE hT hS (lv_sub hl [0] rfl)
theorem sc_X7_isBlock {a1 : Int32} {r : Int32} {rm : Room} (C : CallFix p m c cc nL s args lw_all RX7) (hM : Met l yX7_isBlock (ws_ yX7_isBlock cX7_isBlock 1 (some .boolean)) rm (va_Pc [.int a1] (fun _ => True)) (s_Q (some (.int r))) 0 0 (fun _ => False)) (hrc : rm.cells = 0) (hrs : rm.slots = 0) (hR : rm.frames + 1 ≤ R.frames ∧ 8 + (1 + 11) + rm.locals ≤ R.locals) (hf : cells + 0 ≤ R.cells ∧ slots + 0 ≤ R.slots) (d : decode cc pc = .ok (.invokestatic 137, 3)) (hsz : ls.size = nL) (hro : (rest.map fun v => v.category).sum ≤ 8) (kk : W p l e R s m args below meth c H locs cells slots Q (F0 m (pc + 3) ls (.int r :: rest))) : W p l e R s m args below meth c H locs cells slots Q (F0 m pc ls (.int a1 :: rest)) :=
  s_call (v := (some (.int r))) (va_runS (As := [.int a1]) (rest := rest) C hM (va_cwS 1 C.2.2.2.2 (lw_S q1926 q1927 q177 q1928) rfl hrc hrs (by decide +kernel) hR) (s_pre _) rfl rfl hsz rfl (lv_room hro) d hf) kk
set_option maxHeartbeats 4000000 in
set_option maxRecDepth 100000 in
theorem kX7_isBlock {l : Launch} {a1 : Int32} {r : Int32} (hE : fX7_isBlock a1 = some r) : Met l yX7_isBlock (ws_ yX7_isBlock cX7_isBlock 1 (some .boolean)) ({ frames := 1, cells := 0, slots := 0, locals := 22 }) (va_Pc [.int a1] (fun _ => True)) (s_Q (some (.int r))) 0 0 (fun _ => False) := by
  refine s_met (own := RX7) (by decide) rfl rfl rfl ?_
  intro p e s m args below meth c ls C hr hlocks hl
  have hx := C.1
  have hb := C.2.1
  unfold fX7_isBlock at hE
  refine lv_iload_n hx hb dX7_isBlock_0 rfl (lv_at hl 0 rfl) ?_
  refine lv_iconst (v := (0 : Int32)) hx hb dX7_isBlock_1 rfl ?_
  refine lv_iconst (v := (5 : Int32)) hx hb dX7_isBlock_2 rfl ?_
  obtain ⟨r1, hc, hE⟩ := o_bd_some hE
  refine sc_X7_in C (kX7_in hc) rfl rfl ⟨Nat.le_of_ble_eq_true rfl, Nat.le_of_ble_eq_true rfl⟩ ⟨Nat.le_refl 0, Nat.le_refl 0⟩ dX7_isBlock_3 hl.1 (Nat.le_of_ble_eq_true rfl) ?_
  obtain ⟨hb1, hE⟩ := o_bl_some hE
  exact s_zret C hr hlocks hb1 hE dX7_isBlock_6
set_option maxHeartbeats 4000000 in
set_option maxRecDepth 100000 in
theorem kX7_road {l : Launch} {D : va_G} {dA : Nat → ClassId} {h N : Nat} {u u1 : TS} {a1 : Int32} {a2 : Int32} {a3 : Int32} {r : Int32} (hE : fX7_road N u a1 a2 a3 = some (r, u1)) : Met l yX7_road (ws_ yX7_road cX7_road 5 (some .int)) ({ frames := 2, cells := 0, slots := 0, locals := 42 }) (va_Pc [.ref h, .int a1, .int a2, .int a3] (mt_B D dA h u)) (mt_Q D dA h (some (.int r)) u1) 0 0 (TA h) := by
  refine mt_met (by decide) rfl rfl rfl ?_
  intro p e s m args below meth c ls C hr hlocks hT hS hl
  have hx := C.1.1
  have hb := C.1.2.1
  have w_14 : ∀ (u : TS) (H : Heap) (locs : List Loc) (ls : Array Slot), fX7_road_14 N u = some (r, u1) → TW D dA h u H → va_S (TA h) s.heap H locs → lv_has ls 5 [(0, .ref h)] → W p l e { frames := 2, cells := 0, slots := 0, locals := 42 } s m args below meth c H locs 0 0 (MQ below (mt_Q D dA h (some (.int r)) u1) args s 0 0 (TA h)) (F0 m 14 ls []) := by
    intro u H locs ls hE hT hS hl
    unfold fX7_road_14 at hE
    refine lv_aload_n hx hb dX7_road_14 rfl (lv_at hl 0 rfl) ?_
    refine lv_bipush (v := (-3 : Int32)) hx hb dX7_road_15 rfl ?_
    obtain ⟨r2, u1, hc, hE⟩ := o_bd2_some hE
    refine tc_X7_refuse C hT hS (kX7_refuse hc) rfl rfl ⟨Nat.le_of_ble_eq_true rfl, Nat.le_of_ble_eq_true rfl⟩ ⟨Nat.le_refl 0, Nat.le_refl 0⟩ dX7_road_17 hl.1 (Nat.le_of_ble_eq_true rfl) (fun H locs hT hS => ?_)
    exact mt_iret C hr hlocks hT hS hE dX7_road_20
  have w_37 : ∀ (u : TS) (H : Heap) (locs : List Loc) (ls : Array Slot), fX7_road_37 N u = some (r, u1) → TW D dA h u H → va_S (TA h) s.heap H locs → lv_has ls 5 [(0, .ref h)] → W p l e { frames := 2, cells := 0, slots := 0, locals := 42 } s m args below meth c H locs 0 0 (MQ below (mt_Q D dA h (some (.int r)) u1) args s 0 0 (TA h)) (F0 m 37 ls []) := by
    intro u H locs ls hE hT hS hl
    unfold fX7_road_37 at hE
    refine lv_aload_n hx hb dX7_road_37 rfl (lv_at hl 0 rfl) ?_
    refine lv_bipush (v := (-7 : Int32)) hx hb dX7_road_38 rfl ?_
    obtain ⟨r4, u3, hc, hE⟩ := o_bd2_some hE
    refine tc_X7_refuse C hT hS (kX7_refuse hc) rfl rfl ⟨Nat.le_of_ble_eq_true rfl, Nat.le_of_ble_eq_true rfl⟩ ⟨Nat.le_refl 0, Nat.le_refl 0⟩ dX7_road_40 hl.1 (Nat.le_of_ble_eq_true rfl) (fun H locs hT hS => ?_)
    exact mt_iret C hr hlocks hT hS hE dX7_road_43
  unfold fX7_road at hE
  refine lv_iload_n hx hb dX7_road_0 rfl (lv_at hl 1 rfl) ?_
  obtain ⟨r5, hc, hE⟩ := o_bd_some hE
  refine sc_X7_isBlock C.1 (kX7_isBlock hc) rfl rfl ⟨Nat.le_of_ble_eq_true rfl, Nat.le_of_ble_eq_true rfl⟩ ⟨Nat.le_refl 0, Nat.le_refl 0⟩ dX7_road_1 hl.1 (Nat.le_of_ble_eq_true rfl) ?_
  refine lv_if_eq (tgt := 14) hx hb dX7_road_4 (by decide) (fun c6 => ?_) (fun c6 => ?_)
  · have hE := z_t c6 hE
    exact w_14 _ _ _ _ hE hT hS (lv_sub hl [0] rfl)
  · have hE := z_f c6 hE
    refine lv_iload_n hx hb dX7_road_7 rfl (lv_at hl 2 rfl) ?_
    obtain ⟨r7, hc, hE⟩ := o_bd_some hE
    refine sc_X7_isBlock C.1 (kX7_isBlock hc) rfl rfl ⟨Nat.le_of_ble_eq_true rfl, Nat.le_of_ble_eq_true rfl⟩ ⟨Nat.le_refl 0, Nat.le_refl 0⟩ dX7_road_8 hl.1 (Nat.le_of_ble_eq_true rfl) ?_
    refine lv_if_ne (tgt := 21) hx hb dX7_road_11 (by decide) (fun c8 => ?_) (fun c8 => ?_)
    · have hE := z_f c8 hE
      refine lv_iload_n hx hb dX7_road_21 rfl (lv_at hl 1 rfl) ?_
      refine lv_iload_n hx hb dX7_road_22 rfl (lv_at hl 2 rfl) ?_
      refine lv_icmp_eq (tgt := 37) hx hb dX7_road_23 (by decide) (fun c9 => ?_) (fun c9 => ?_)
      · have hE := z_t c9 hE
        exact w_37 _ _ _ _ hE hT hS (lv_sub hl [0] rfl)
      · have hE := z_f c9 hE
        refine lv_iload_n hx hb dX7_road_26 rfl (lv_at hl 3 rfl) ?_
        refine lv_iconst (v := (1 : Int32)) hx hb dX7_road_27 rfl ?_
        refine lv_sipush (v := (999 : Int32)) hx hb dX7_road_28 rfl ?_
        obtain ⟨r10, hc, hE⟩ := o_bd_some hE
        refine sc_X7_in C.1 (kX7_in hc) rfl rfl ⟨Nat.le_of_ble_eq_true rfl, Nat.le_of_ble_eq_true rfl⟩ ⟨Nat.le_refl 0, Nat.le_refl 0⟩ dX7_road_31 hl.1 (Nat.le_of_ble_eq_true rfl) ?_
        refine lv_if_ne (tgt := 44) hx hb dX7_road_34 (by decide) (fun c11 => ?_) (fun c11 => ?_)
        · have hE := z_f c11 hE
          refine lv_aload_n hx hb dX7_road_44 rfl (lv_at hl 0 rfl) ?_
          refine tg_s C hT dX7_road_45 ?_
          refine lv_bipush (v := (6 : Int32)) hx hb dX7_road_48 rfl ?_
          refine tl_s C hT hE dX7_road_50 (fun hE => ?_)
          refine z_nmi hE (fun v12 hE => ?_)
          refine lv_bipush (v := (12 : Int32)) hx hb dX7_road_51 rfl ?_
          refine lv_icmp_ne (tgt := 63) hx hb dX7_road_53 (by decide) (fun c13 => ?_) (fun c13 => ?_)
          · have hE := z_f c13 hE
            refine lv_sipush (v := (3410 : Int32)) hx hb dX7_road_63 rfl ?_
            refine lv_iconst (v := (3 : Int32)) hx hb dX7_road_66 rfl ?_
            refine lv_aload_n hx hb dX7_road_67 rfl (lv_at hl 0 rfl) ?_
            refine tg_s C hT dX7_road_68 ?_
            refine lv_bipush (v := (6 : Int32)) hx hb dX7_road_71 rfl ?_
            refine tl_s C hT hE dX7_road_73 (fun hE => ?_)
            refine z_nmi hE (fun v14 hE => ?_)
            refine lv_imul hx hb dX7_road_74 ?_
            refine lv_iadd hx hb dX7_road_75 ?_
            refine z_nmi hE (fun z15 hE => ?_)
            refine lv_istore (lv' := [(4, .int z15), (0, .ref h), (1, .int a1), (2, .int a2), (3, .int a3)]) hx hb dX7_road_76 hl (by decide) rfl (fun ls hl => ?_)
            refine lv_aload_n hx hb dX7_road_78 rfl (lv_at hl 1 rfl) ?_
            refine tg_s C hT dX7_road_79 ?_
            refine lv_iload hx hb dX7_road_82 (lv_at hl 0 rfl) ?_
            refine lv_iload_n hx hb dX7_road_84 rfl (lv_at hl 2 rfl) ?_
            refine ts_s C hT hS hE dX7_road_85 (fun u16 H locs hE hT hS => ?_)
            refine lv_aload_n hx hb dX7_road_86 rfl (lv_at hl 1 rfl) ?_
            refine tg_s C hT dX7_road_87 ?_
            refine lv_iload hx hb dX7_road_90 (lv_at hl 0 rfl) ?_
            refine lv_iconst (v := (1 : Int32)) hx hb dX7_road_92 rfl ?_
            refine lv_iadd hx hb dX7_road_93 ?_
            refine lv_iload_n hx hb dX7_road_94 rfl (lv_at hl 3 rfl) ?_
            refine ts_s C hT hS hE dX7_road_95 (fun u17 H locs hE hT hS => ?_)
            refine lv_aload_n hx hb dX7_road_96 rfl (lv_at hl 1 rfl) ?_
            refine tg_s C hT dX7_road_97 ?_
            refine lv_iload hx hb dX7_road_100 (lv_at hl 0 rfl) ?_
            refine lv_iconst (v := (2 : Int32)) hx hb dX7_road_102 rfl ?_
            refine lv_iadd hx hb dX7_road_103 ?_
            refine lv_iload_n hx hb dX7_road_104 rfl (lv_at hl 4 rfl) ?_
            refine ts_s C hT hS hE dX7_road_105 (fun u18 H locs hE hT hS => ?_)
            refine lv_aload_n hx hb dX7_road_106 rfl (lv_at hl 1 rfl) ?_
            refine tg_s C hT dX7_road_107 ?_
            refine lv_bipush (v := (6 : Int32)) hx hb dX7_road_110 rfl ?_
            refine lv_dup2_11 hx hb dX7_road_112 rfl rfl ?_
            refine tl_s C hT hE dX7_road_113 (fun hE => ?_)
            refine z_nmi hE (fun v19 hE => ?_)
            refine lv_iconst (v := (1 : Int32)) hx hb dX7_road_114 rfl ?_
            refine lv_iadd hx hb dX7_road_115 ?_
            refine ts_s C hT hS hE dX7_road_116 (fun u20 H locs hE hT hS => ?_)
            refine lv_aload_n hx hb dX7_road_117 rfl (lv_at hl 1 rfl) ?_
            obtain ⟨u21, hc, hE⟩ := o_bd_some hE
            refine tc_X7_measure C hT hS (kX7_measure hc) rfl rfl ⟨Nat.le_of_ble_eq_true rfl, Nat.le_of_ble_eq_true rfl⟩ ⟨Nat.le_refl 0, Nat.le_refl 0⟩ dX7_road_118 hl.1 (Nat.le_of_ble_eq_true rfl) (fun H locs hT hS => ?_)
            refine lv_aload_n hx hb dX7_road_121 rfl (lv_at hl 1 rfl) ?_
            refine tg_s C hT dX7_road_122 ?_
            refine lv_bipush (v := (6 : Int32)) hx hb dX7_road_125 rfl ?_
            refine tl_s C hT hE dX7_road_127 (fun hE => ?_)
            refine z_nmi hE (fun v22 hE => ?_)
            exact mt_iret C hr hlocks hT hS hE dX7_road_128
          · have hE := z_t c13 hE
            refine lv_aload_n hx hb dX7_road_56 rfl (lv_at hl 0 rfl) ?_
            refine lv_bipush (v := (-8 : Int32)) hx hb dX7_road_57 rfl ?_
            obtain ⟨r24, u23, hc, hE⟩ := o_bd2_some hE
            refine tc_X7_refuse C hT hS (kX7_refuse hc) rfl rfl ⟨Nat.le_of_ble_eq_true rfl, Nat.le_of_ble_eq_true rfl⟩ ⟨Nat.le_refl 0, Nat.le_refl 0⟩ dX7_road_59 hl.1 (Nat.le_of_ble_eq_true rfl) (fun H locs hT hS => ?_)
            exact mt_iret C hr hlocks hT hS hE dX7_road_62
        · have hE := z_t c11 hE
          exact w_37 _ _ _ _ hE hT hS (lv_sub hl [0] rfl)
    · have hE := z_t c8 hE
      exact w_14 _ _ _ _ hE hT hS (lv_sub hl [0] rfl)
set_option maxHeartbeats 4000000 in
set_option maxRecDepth 100000 in
theorem kX7_haul {l : Launch} {D : va_G} {dA : Nat → ClassId} {h N : Nat} {u u1 : TS} {a1 : Int32} {r : Int32} (hE : fX7_haul N u a1 = some (r, u1)) : Met l yX7_haul (ws_ yX7_haul cX7_haul 2 (some .int)) ({ frames := 2, cells := 0, slots := 0, locals := 42 }) (va_Pc [.ref h, .int a1] (mt_B D dA h u)) (mt_Q D dA h (some (.int r)) u1) 0 0 (TA h) := by
  refine mt_met (by decide) rfl rfl rfl ?_
  intro p e s m args below meth c ls C hr hlocks hT hS hl
  have hx := C.1.1
  have hb := C.1.2.1
  have w_43 : ∀ (u : TS) (y0 : Int32) (H : Heap) (locs : List Loc) (ls : Array Slot), fX7_haul_43 N u y0 = some (r, u1) → TW D dA h u H → va_S (TA h) s.heap H locs → lv_has ls 2 [] → W p l e { frames := 2, cells := 0, slots := 0, locals := 42 } s m args below meth c H locs 0 0 (MQ below (mt_Q D dA h (some (.int r)) u1) args s 0 0 (TA h)) (F0 m 43 ls [.int y0]) := by
    intro u y0 H locs ls hE hT hS hl
    unfold fX7_haul_43 at hE
    exact mt_iret C hr hlocks hT hS hE dX7_haul_43
  unfold fX7_haul at hE
  refine lv_iload_n hx hb dX7_haul_0 rfl (lv_at hl 1 rfl) ?_
  obtain ⟨r1, hc, hE⟩ := o_bd_some hE
  refine sc_X7_isBlock C.1 (kX7_isBlock hc) rfl rfl ⟨Nat.le_of_ble_eq_true rfl, Nat.le_of_ble_eq_true rfl⟩ ⟨Nat.le_refl 0, Nat.le_refl 0⟩ dX7_haul_1 hl.1 (Nat.le_of_ble_eq_true rfl) ?_
  refine lv_if_ne (tgt := 14) hx hb dX7_haul_4 (by decide) (fun c2 => ?_) (fun c2 => ?_)
  · have hE := z_f c2 hE
    refine lv_aload_n hx hb dX7_haul_14 rfl (lv_at hl 0 rfl) ?_
    refine tg_s C hT dX7_haul_15 ?_
    refine lv_sipush (v := (4530 : Int32)) hx hb dX7_haul_18 rfl ?_
    refine lv_iload_n hx hb dX7_haul_21 rfl (lv_at hl 1 rfl) ?_
    refine lv_iadd hx hb dX7_haul_22 ?_
    refine tl_s C hT hE dX7_haul_23 (fun hE => ?_)
    refine z_nmi hE (fun v3 hE => ?_)
    refine lv_ldc (v := (999999 : Int32)) hx hb C.1.2.2.2.1 (C.1.2.2.2.2 _ q1629) dX7_haul_24 ?_
    refine lv_icmp_lt (tgt := 33) hx hb dX7_haul_26 (by decide) (fun c4 => ?_) (fun c4 => ?_)
    · have hE := z_t c4 hE
      refine lv_aload_n hx hb dX7_haul_33 rfl (lv_at hl 0 rfl) ?_
      refine tg_s C hT dX7_haul_34 ?_
      refine lv_sipush (v := (4530 : Int32)) hx hb dX7_haul_37 rfl ?_
      refine lv_iload_n hx hb dX7_haul_40 rfl (lv_at hl 1 rfl) ?_
      refine lv_iadd hx hb dX7_haul_41 ?_
      refine tl_s C hT hE dX7_haul_42 (fun hE => ?_)
      refine z_nmi hE (fun v5 hE => ?_)
      exact w_43 _ _ _ _ _ hE hT hS (lv_sub hl [] rfl)
    · have hE := z_f c4 hE
      refine lv_iconst (v := (-1 : Int32)) hx hb dX7_haul_29 rfl ?_
      refine lv_goto (tgt := 43) hx hb dX7_haul_30 (by decide) ?_
      exact w_43 _ _ _ _ _ hE hT hS (lv_sub hl [] rfl)
  · have hE := z_t c2 hE
    refine lv_aload_n hx hb dX7_haul_7 rfl (lv_at hl 0 rfl) ?_
    refine lv_bipush (v := (-3 : Int32)) hx hb dX7_haul_8 rfl ?_
    obtain ⟨r7, u6, hc, hE⟩ := o_bd2_some hE
    refine tc_X7_refuse C hT hS (kX7_refuse hc) rfl rfl ⟨Nat.le_of_ble_eq_true rfl, Nat.le_of_ble_eq_true rfl⟩ ⟨Nat.le_refl 0, Nat.le_refl 0⟩ dX7_haul_10 hl.1 (Nat.le_of_ble_eq_true rfl) (fun H locs hT hS => ?_)
    exact mt_iret C hr hlocks hT hS hE dX7_haul_13
set_option maxHeartbeats 4000000 in
set_option maxRecDepth 100000 in
theorem kX7_village {l : Launch} {D : va_G} {dA : Nat → ClassId} {h N : Nat} {u u1 : TS} {a1 : Int32} {a2 : Int32} {a3 : Int32} {r : Int32} (hE : fX7_village N u a1 a2 a3 = some (r, u1)) : Met l yX7_village (ws_ yX7_village cX7_village 5 (some .int)) ({ frames := 2, cells := 0, slots := 0, locals := 42 }) (va_Pc [.ref h, .int a1, .int a2, .int a3] (mt_B D dA h u)) (mt_Q D dA h (some (.int r)) u1) 0 0 (TA h) := by
  refine mt_met (by decide) rfl rfl rfl ?_
  intro p e s m args below meth c ls C hr hlocks hT hS hl
  have hx := C.1.1
  have hb := C.1.2.1
  have w_36 : ∀ (u : TS) (H : Heap) (locs : List Loc) (ls : Array Slot), fX7_village_36 N u = some (r, u1) → TW D dA h u H → va_S (TA h) s.heap H locs → lv_has ls 5 [(0, .ref h)] → W p l e { frames := 2, cells := 0, slots := 0, locals := 42 } s m args below meth c H locs 0 0 (MQ below (mt_Q D dA h (some (.int r)) u1) args s 0 0 (TA h)) (F0 m 36 ls []) := by
    intro u H locs ls hE hT hS hl
    unfold fX7_village_36 at hE
    refine lv_aload_n hx hb dX7_village_36 rfl (lv_at hl 0 rfl) ?_
    refine lv_bipush (v := (-7 : Int32)) hx hb dX7_village_37 rfl ?_
    obtain ⟨r2, u1, hc, hE⟩ := o_bd2_some hE
    refine tc_X7_refuse C hT hS (kX7_refuse hc) rfl rfl ⟨Nat.le_of_ble_eq_true rfl, Nat.le_of_ble_eq_true rfl⟩ ⟨Nat.le_refl 0, Nat.le_refl 0⟩ dX7_village_39 hl.1 (Nat.le_of_ble_eq_true rfl) (fun H locs hT hS => ?_)
    exact mt_iret C hr hlocks hT hS hE dX7_village_42
  unfold fX7_village at hE
  refine lv_iload_n hx hb dX7_village_0 rfl (lv_at hl 1 rfl) ?_
  obtain ⟨r3, hc, hE⟩ := o_bd_some hE
  refine sc_X7_isBlock C.1 (kX7_isBlock hc) rfl rfl ⟨Nat.le_of_ble_eq_true rfl, Nat.le_of_ble_eq_true rfl⟩ ⟨Nat.le_refl 0, Nat.le_refl 0⟩ dX7_village_1 hl.1 (Nat.le_of_ble_eq_true rfl) ?_
  refine lv_if_ne (tgt := 14) hx hb dX7_village_4 (by decide) (fun c4 => ?_) (fun c4 => ?_)
  · have hE := z_f c4 hE
    refine lv_iload_n hx hb dX7_village_14 rfl (lv_at hl 2 rfl) ?_
    refine lv_iconst (v := (0 : Int32)) hx hb dX7_village_15 rfl ?_
    refine lv_sipush (v := (999 : Int32)) hx hb dX7_village_16 rfl ?_
    obtain ⟨r5, hc, hE⟩ := o_bd_some hE
    refine sc_X7_in C.1 (kX7_in hc) rfl rfl ⟨Nat.le_of_ble_eq_true rfl, Nat.le_of_ble_eq_true rfl⟩ ⟨Nat.le_refl 0, Nat.le_refl 0⟩ dX7_village_19 hl.1 (Nat.le_of_ble_eq_true rfl) ?_
    refine lv_if_eq (tgt := 36) hx hb dX7_village_22 (by decide) (fun c6 => ?_) (fun c6 => ?_)
    · have hE := z_t c6 hE
      exact w_36 _ _ _ _ hE hT hS (lv_sub hl [0] rfl)
    · have hE := z_f c6 hE
      refine lv_iload_n hx hb dX7_village_25 rfl (lv_at hl 3 rfl) ?_
      refine lv_iconst (v := (0 : Int32)) hx hb dX7_village_26 rfl ?_
      refine lv_sipush (v := (999 : Int32)) hx hb dX7_village_27 rfl ?_
      obtain ⟨r7, hc, hE⟩ := o_bd_some hE
      refine sc_X7_in C.1 (kX7_in hc) rfl rfl ⟨Nat.le_of_ble_eq_true rfl, Nat.le_of_ble_eq_true rfl⟩ ⟨Nat.le_refl 0, Nat.le_refl 0⟩ dX7_village_30 hl.1 (Nat.le_of_ble_eq_true rfl) ?_
      refine lv_if_ne (tgt := 43) hx hb dX7_village_33 (by decide) (fun c8 => ?_) (fun c8 => ?_)
      · have hE := z_f c8 hE
        refine lv_aload_n hx hb dX7_village_43 rfl (lv_at hl 0 rfl) ?_
        refine tg_s C hT dX7_village_44 ?_
        refine lv_iconst (v := (3 : Int32)) hx hb dX7_village_47 rfl ?_
        refine tl_s C hT hE dX7_village_48 (fun hE => ?_)
        refine z_nmi hE (fun v9 hE => ?_)
        refine lv_bipush (v := (8 : Int32)) hx hb dX7_village_49 rfl ?_
        refine lv_icmp_ne (tgt := 61) hx hb dX7_village_51 (by decide) (fun c10 => ?_) (fun c10 => ?_)
        · have hE := z_f c10 hE
          refine lv_sipush (v := (928 : Int32)) hx hb dX7_village_61 rfl ?_
          refine lv_iconst (v := (4 : Int32)) hx hb dX7_village_64 rfl ?_
          refine lv_aload_n hx hb dX7_village_65 rfl (lv_at hl 0 rfl) ?_
          refine tg_s C hT dX7_village_66 ?_
          refine lv_iconst (v := (3 : Int32)) hx hb dX7_village_69 rfl ?_
          refine tl_s C hT hE dX7_village_70 (fun hE => ?_)
          refine z_nmi hE (fun v11 hE => ?_)
          refine lv_imul hx hb dX7_village_71 ?_
          refine lv_iadd hx hb dX7_village_72 ?_
          refine z_nmi hE (fun z12 hE => ?_)
          refine lv_istore (lv' := [(4, .int z12), (0, .ref h), (1, .int a1), (2, .int a2), (3, .int a3)]) hx hb dX7_village_73 hl (by decide) rfl (fun ls hl => ?_)
          refine lv_aload_n hx hb dX7_village_75 rfl (lv_at hl 1 rfl) ?_
          refine tg_s C hT dX7_village_76 ?_
          refine lv_iload hx hb dX7_village_79 (lv_at hl 0 rfl) ?_
          refine lv_iload_n hx hb dX7_village_81 rfl (lv_at hl 2 rfl) ?_
          refine ts_s C hT hS hE dX7_village_82 (fun u13 H locs hE hT hS => ?_)
          refine lv_aload_n hx hb dX7_village_83 rfl (lv_at hl 1 rfl) ?_
          refine tg_s C hT dX7_village_84 ?_
          refine lv_iload hx hb dX7_village_87 (lv_at hl 0 rfl) ?_
          refine lv_iconst (v := (1 : Int32)) hx hb dX7_village_89 rfl ?_
          refine lv_iadd hx hb dX7_village_90 ?_
          refine lv_iload_n hx hb dX7_village_91 rfl (lv_at hl 3 rfl) ?_
          refine ts_s C hT hS hE dX7_village_92 (fun u14 H locs hE hT hS => ?_)
          refine lv_aload_n hx hb dX7_village_93 rfl (lv_at hl 1 rfl) ?_
          refine tg_s C hT dX7_village_94 ?_
          refine lv_iload hx hb dX7_village_97 (lv_at hl 0 rfl) ?_
          refine lv_iconst (v := (2 : Int32)) hx hb dX7_village_99 rfl ?_
          refine lv_iadd hx hb dX7_village_100 ?_
          refine lv_iload_n hx hb dX7_village_101 rfl (lv_at hl 4 rfl) ?_
          refine ts_s C hT hS hE dX7_village_102 (fun u15 H locs hE hT hS => ?_)
          refine lv_aload_n hx hb dX7_village_103 rfl (lv_at hl 1 rfl) ?_
          refine tg_s C hT dX7_village_104 ?_
          refine lv_iload hx hb dX7_village_107 (lv_at hl 0 rfl) ?_
          refine lv_iconst (v := (3 : Int32)) hx hb dX7_village_109 rfl ?_
          refine lv_iadd hx hb dX7_village_110 ?_
          refine lv_iconst (v := (0 : Int32)) hx hb dX7_village_111 rfl ?_
          refine ts_s C hT hS hE dX7_village_112 (fun u16 H locs hE hT hS => ?_)
          refine lv_aload_n hx hb dX7_village_113 rfl (lv_at hl 1 rfl) ?_
          refine tg_s C hT dX7_village_114 ?_
          refine lv_iconst (v := (3 : Int32)) hx hb dX7_village_117 rfl ?_
          refine lv_dup2_11 hx hb dX7_village_118 rfl rfl ?_
          refine tl_s C hT hE dX7_village_119 (fun hE => ?_)
          refine z_nmi hE (fun v17 hE => ?_)
          refine lv_iconst (v := (1 : Int32)) hx hb dX7_village_120 rfl ?_
          refine lv_iadd hx hb dX7_village_121 ?_
          refine ts_s C hT hS hE dX7_village_122 (fun u18 H locs hE hT hS => ?_)
          refine lv_aload_n hx hb dX7_village_123 rfl (lv_at hl 1 rfl) ?_
          refine tg_s C hT dX7_village_124 ?_
          refine lv_iconst (v := (3 : Int32)) hx hb dX7_village_127 rfl ?_
          refine tl_s C hT hE dX7_village_128 (fun hE => ?_)
          refine z_nmi hE (fun v19 hE => ?_)
          refine lv_iconst (v := (1 : Int32)) hx hb dX7_village_129 rfl ?_
          refine lv_isub hx hb dX7_village_130 ?_
          exact mt_iret C hr hlocks hT hS hE dX7_village_131
        · have hE := z_t c10 hE
          refine lv_aload_n hx hb dX7_village_54 rfl (lv_at hl 0 rfl) ?_
          refine lv_bipush (v := (-8 : Int32)) hx hb dX7_village_55 rfl ?_
          obtain ⟨r21, u20, hc, hE⟩ := o_bd2_some hE
          refine tc_X7_refuse C hT hS (kX7_refuse hc) rfl rfl ⟨Nat.le_of_ble_eq_true rfl, Nat.le_of_ble_eq_true rfl⟩ ⟨Nat.le_refl 0, Nat.le_refl 0⟩ dX7_village_57 hl.1 (Nat.le_of_ble_eq_true rfl) (fun H locs hT hS => ?_)
          exact mt_iret C hr hlocks hT hS hE dX7_village_60
      · have hE := z_t c8 hE
        exact w_36 _ _ _ _ hE hT hS (lv_sub hl [0] rfl)
  · have hE := z_t c4 hE
    refine lv_aload_n hx hb dX7_village_7 rfl (lv_at hl 0 rfl) ?_
    refine lv_bipush (v := (-3 : Int32)) hx hb dX7_village_8 rfl ?_
    obtain ⟨r23, u22, hc, hE⟩ := o_bd2_some hE
    refine tc_X7_refuse C hT hS (kX7_refuse hc) rfl rfl ⟨Nat.le_of_ble_eq_true rfl, Nat.le_of_ble_eq_true rfl⟩ ⟨Nat.le_refl 0, Nat.le_refl 0⟩ dX7_village_10 hl.1 (Nat.le_of_ble_eq_true rfl) (fun H locs hT hS => ?_)
    exact mt_iret C hr hlocks hT hS hE dX7_village_13
theorem tc_X7_isVillage {a1 : Int32} {r : Int32} {u u1 : TS} {rm : Room} (C : TC p m c cc nL s args D dA) (hT : TW D dA h u H) (hS : va_S (TA h) H0 H locs) (hM : Met l yX7_isVillage (ws_ yX7_isVillage cX7_isVillage 2 (some .boolean)) rm (va_Pc [.ref h, .int a1] (mt_B D dA h u)) (mt_Q D dA h (some (.int r)) u1) 0 0 (TA h)) (hrc : rm.cells = 0) (hrs : rm.slots = 0) (hR : rm.frames + 1 ≤ R.frames ∧ 8 + (2 + 11) + rm.locals ≤ R.locals) (hf : cells + 0 ≤ R.cells ∧ slots + 0 ≤ R.slots) (d : decode cc pc = .ok (.invokevirtual 140, 3)) (hsz : ls.size = nL) (hro : (rest.map fun v => v.category).sum ≤ 8) (kk : ∀ (H1 : Heap) (locs1 : List Loc), TW D dA h u1 H1 → va_S (TA h) H0 H1 locs1 → W p l e R s m args below meth c H1 locs1 cells slots Q (F0 m (pc + 3) ls (.int r :: rest))) : W p l e R s m args below meth c H locs cells slots Q (F0 m pc ls (.int a1 :: .ref h :: rest)) :=
  mt_call (v := (some (.int r))) (va_runV (As := [.int a1]) (rest := rest) C.1 hM (cwV 1 C.1.2.2.2.2 (lw_V q1941 q1943 qs126 q177 q1944) rfl hrc hrs (by decide +kernel) hR) (mt_preV C.2 hT _) rfl rfl hsz rfl (lv_room hro) d hf) hS (fun _ z => z) (fun H1 locs1 a b _ _ => kk H1 locs1 a b)
set_option maxHeartbeats 4000000 in
set_option maxRecDepth 100000 in
theorem kX7_isVillage {l : Launch} {D : va_G} {dA : Nat → ClassId} {h N : Nat} {u u1 : TS} {a1 : Int32} {r : Int32} (hE : fX7_isVillage N u a1 = some (r, u1)) : Met l yX7_isVillage (ws_ yX7_isVillage cX7_isVillage 2 (some .boolean)) ({ frames := 1, cells := 0, slots := 0, locals := 22 }) (va_Pc [.ref h, .int a1] (mt_B D dA h u)) (mt_Q D dA h (some (.int r)) u1) 0 0 (TA h) := by
  refine mt_met (by decide) rfl rfl rfl ?_
  intro p e s m args below meth c ls C hr hlocks hT hS hl
  have hx := C.1.1
  have hb := C.1.2.1
  unfold fX7_isVillage at hE
  refine lv_iload_n hx hb dX7_isVillage_0 rfl (lv_at hl 1 rfl) ?_
  refine lv_iconst (v := (0 : Int32)) hx hb dX7_isVillage_1 rfl ?_
  refine lv_aload_n hx hb dX7_isVillage_2 rfl (lv_at hl 0 rfl) ?_
  refine tg_s C hT dX7_isVillage_3 ?_
  refine lv_iconst (v := (3 : Int32)) hx hb dX7_isVillage_6 rfl ?_
  refine tl_s C hT hE dX7_isVillage_7 (fun hE => ?_)
  refine z_nmi hE (fun v1 hE => ?_)
  refine lv_iconst (v := (1 : Int32)) hx hb dX7_isVillage_8 rfl ?_
  refine lv_isub hx hb dX7_isVillage_9 ?_
  obtain ⟨r2, hc, hE⟩ := o_bd_some hE
  refine sc_X7_in C.1 (kX7_in hc) rfl rfl ⟨Nat.le_of_ble_eq_true rfl, Nat.le_of_ble_eq_true rfl⟩ ⟨Nat.le_refl 0, Nat.le_refl 0⟩ dX7_isVillage_10 hl.1 (Nat.le_of_ble_eq_true rfl) ?_
  obtain ⟨hb1, hE⟩ := o_bl_some hE
  exact mt_zret C hr hlocks hT hS hb1 hE dX7_isVillage_13
set_option maxHeartbeats 4000000 in
set_option maxRecDepth 100000 in
theorem kX7_people {l : Launch} {D : va_G} {dA : Nat → ClassId} {h N : Nat} {u u1 : TS} {a1 : Int32} {a2 : Int32} {a3 : Int32} {r : Int32} (hE : fX7_people N u a1 a2 a3 = some (r, u1)) : Met l yX7_people (ws_ yX7_people cX7_people 5 (some .int)) ({ frames := 2, cells := 0, slots := 0, locals := 43 }) (va_Pc [.ref h, .int a1, .int a2, .int a3] (mt_B D dA h u)) (mt_Q D dA h (some (.int r)) u1) 0 0 (TA h) := by
  refine mt_met (by decide) rfl rfl rfl ?_
  intro p e s m args below meth c ls C hr hlocks hT hS hl
  have hx := C.1.1
  have hb := C.1.2.1
  have w_37 : ∀ (u : TS) (H : Heap) (locs : List Loc) (ls : Array Slot), fX7_people_37 N u = some (r, u1) → TW D dA h u H → va_S (TA h) s.heap H locs → lv_has ls 5 [(0, .ref h)] → W p l e { frames := 2, cells := 0, slots := 0, locals := 43 } s m args below meth c H locs 0 0 (MQ below (mt_Q D dA h (some (.int r)) u1) args s 0 0 (TA h)) (F0 m 37 ls []) := by
    intro u H locs ls hE hT hS hl
    unfold fX7_people_37 at hE
    refine lv_aload_n hx hb dX7_people_37 rfl (lv_at hl 0 rfl) ?_
    refine lv_bipush (v := (-7 : Int32)) hx hb dX7_people_38 rfl ?_
    obtain ⟨r2, u1, hc, hE⟩ := o_bd2_some hE
    refine tc_X7_refuse C hT hS (kX7_refuse hc) rfl rfl ⟨Nat.le_of_ble_eq_true rfl, Nat.le_of_ble_eq_true rfl⟩ ⟨Nat.le_refl 0, Nat.le_refl 0⟩ dX7_people_40 hl.1 (Nat.le_of_ble_eq_true rfl) (fun H locs hT hS => ?_)
    exact mt_iret C hr hlocks hT hS hE dX7_people_43
  unfold fX7_people at hE
  refine lv_aload_n hx hb dX7_people_0 rfl (lv_at hl 0 rfl) ?_
  refine lv_iload_n hx hb dX7_people_1 rfl (lv_at hl 1 rfl) ?_
  obtain ⟨r4, u3, hc, hE⟩ := o_bd2_some hE
  refine tc_X7_isVillage C hT hS (kX7_isVillage hc) rfl rfl ⟨Nat.le_of_ble_eq_true rfl, Nat.le_of_ble_eq_true rfl⟩ ⟨Nat.le_refl 0, Nat.le_refl 0⟩ dX7_people_2 hl.1 (Nat.le_of_ble_eq_true rfl) (fun H locs hT hS => ?_)
  refine lv_if_ne (tgt := 15) hx hb dX7_people_5 (by decide) (fun c5 => ?_) (fun c5 => ?_)
  · have hE := z_f c5 hE
    refine lv_iload_n hx hb dX7_people_15 rfl (lv_at hl 2 rfl) ?_
    refine lv_iconst (v := (0 : Int32)) hx hb dX7_people_16 rfl ?_
    refine lv_sipush (v := (999 : Int32)) hx hb dX7_people_17 rfl ?_
    obtain ⟨r6, hc, hE⟩ := o_bd_some hE
    refine sc_X7_in C.1 (kX7_in hc) rfl rfl ⟨Nat.le_of_ble_eq_true rfl, Nat.le_of_ble_eq_true rfl⟩ ⟨Nat.le_refl 0, Nat.le_refl 0⟩ dX7_people_20 hl.1 (Nat.le_of_ble_eq_true rfl) ?_
    refine lv_if_eq (tgt := 37) hx hb dX7_people_23 (by decide) (fun c7 => ?_) (fun c7 => ?_)
    · have hE := z_t c7 hE
      exact w_37 _ _ _ _ hE hT hS (lv_sub hl [0] rfl)
    · have hE := z_f c7 hE
      refine lv_iload_n hx hb dX7_people_26 rfl (lv_at hl 3 rfl) ?_
      refine lv_iconst (v := (0 : Int32)) hx hb dX7_people_27 rfl ?_
      refine lv_sipush (v := (999 : Int32)) hx hb dX7_people_28 rfl ?_
      obtain ⟨r8, hc, hE⟩ := o_bd_some hE
      refine sc_X7_in C.1 (kX7_in hc) rfl rfl ⟨Nat.le_of_ble_eq_true rfl, Nat.le_of_ble_eq_true rfl⟩ ⟨Nat.le_refl 0, Nat.le_refl 0⟩ dX7_people_31 hl.1 (Nat.le_of_ble_eq_true rfl) ?_
      refine lv_if_ne (tgt := 44) hx hb dX7_people_34 (by decide) (fun c9 => ?_) (fun c9 => ?_)
      · have hE := z_f c9 hE
        refine lv_aload_n hx hb dX7_people_44 rfl (lv_at hl 0 rfl) ?_
        refine tg_s C hT dX7_people_45 ?_
        refine lv_sipush (v := (928 : Int32)) hx hb dX7_people_48 rfl ?_
        refine lv_iconst (v := (4 : Int32)) hx hb dX7_people_51 rfl ?_
        refine lv_iload_n hx hb dX7_people_52 rfl (lv_at hl 1 rfl) ?_
        refine lv_imul hx hb dX7_people_53 ?_
        refine lv_iadd hx hb dX7_people_54 ?_
        refine lv_iconst (v := (1 : Int32)) hx hb dX7_people_55 rfl ?_
        refine lv_iadd hx hb dX7_people_56 ?_
        refine tl_s C hT hE dX7_people_57 (fun hE => ?_)
        refine z_nmi hE (fun v10 hE => ?_)
        refine lv_istore (lv' := [(4, .int v10), (0, .ref h), (1, .int a1), (2, .int a2), (3, .int a3)]) hx hb dX7_people_58 hl (by decide) rfl (fun ls hl => ?_)
        refine lv_aload_n hx hb dX7_people_60 rfl (lv_at hl 1 rfl) ?_
        refine tg_s C hT dX7_people_61 ?_
        refine lv_sipush (v := (928 : Int32)) hx hb dX7_people_64 rfl ?_
        refine lv_iconst (v := (4 : Int32)) hx hb dX7_people_67 rfl ?_
        refine lv_iload_n hx hb dX7_people_68 rfl (lv_at hl 2 rfl) ?_
        refine lv_imul hx hb dX7_people_69 ?_
        refine lv_iadd hx hb dX7_people_70 ?_
        refine lv_iconst (v := (1 : Int32)) hx hb dX7_people_71 rfl ?_
        refine lv_iadd hx hb dX7_people_72 ?_
        refine lv_iload_n hx hb dX7_people_73 rfl (lv_at hl 3 rfl) ?_
        refine ts_s C hT hS hE dX7_people_74 (fun u11 H locs hE hT hS => ?_)
        refine lv_aload_n hx hb dX7_people_75 rfl (lv_at hl 1 rfl) ?_
        refine tg_s C hT dX7_people_76 ?_
        refine lv_sipush (v := (928 : Int32)) hx hb dX7_people_79 rfl ?_
        refine lv_iconst (v := (4 : Int32)) hx hb dX7_people_82 rfl ?_
        refine lv_iload_n hx hb dX7_people_83 rfl (lv_at hl 2 rfl) ?_
        refine lv_imul hx hb dX7_people_84 ?_
        refine lv_iadd hx hb dX7_people_85 ?_
        refine lv_iconst (v := (2 : Int32)) hx hb dX7_people_86 rfl ?_
        refine lv_iadd hx hb dX7_people_87 ?_
        refine lv_iload_n hx hb dX7_people_88 rfl (lv_at hl 4 rfl) ?_
        refine ts_s C hT hS hE dX7_people_89 (fun u12 H locs hE hT hS => ?_)
        refine lv_iload hx hb dX7_people_90 (lv_at hl 0 rfl) ?_
        exact mt_iret C hr hlocks hT hS hE dX7_people_92
      · have hE := z_t c9 hE
        exact w_37 _ _ _ _ hE hT hS (lv_sub hl [0] rfl)
  · have hE := z_t c5 hE
    refine lv_aload_n hx hb dX7_people_8 rfl (lv_at hl 0 rfl) ?_
    refine lv_bipush (v := (-3 : Int32)) hx hb dX7_people_9 rfl ?_
    obtain ⟨r14, u13, hc, hE⟩ := o_bd2_some hE
    refine tc_X7_refuse C hT hS (kX7_refuse hc) rfl rfl ⟨Nat.le_of_ble_eq_true rfl, Nat.le_of_ble_eq_true rfl⟩ ⟨Nat.le_refl 0, Nat.le_refl 0⟩ dX7_people_11 hl.1 (Nat.le_of_ble_eq_true rfl) (fun H locs hT hS => ?_)
    exact mt_iret C hr hlocks hT hS hE dX7_people_14
theorem sc_X7_within {a1 : Int32} {a2 : Int32} {a3 : Int32} {r : Int32} {rm : Room} (C : CallFix p m c cc nL s args lw_all RX7) (hM : Met l yX7_within (ws_ yX7_within cX7_within 3 (some .int)) rm (va_Pc [.int a1, .int a2, .int a3] (fun _ => True)) (s_Q (some (.int r))) 0 0 (fun _ => False)) (hrc : rm.cells = 0) (hrs : rm.slots = 0) (hR : rm.frames + 1 ≤ R.frames ∧ 8 + (3 + 11) + rm.locals ≤ R.locals) (hf : cells + 0 ≤ R.cells ∧ slots + 0 ≤ R.slots) (d : decode cc pc = .ok (.invokestatic 143, 3)) (hsz : ls.size = nL) (hro : (rest.map fun v => v.category).sum ≤ 8) (kk : W p l e R s m args below meth c H locs cells slots Q (F0 m (pc + 3) ls (.int r :: rest))) : W p l e R s m args below meth c H locs cells slots Q (F0 m pc ls (.int a3 :: .int a2 :: .int a1 :: rest)) :=
  s_call (v := (some (.int r))) (va_runS (As := [.int a1, .int a2, .int a3]) (rest := rest) C hM (va_cwS 3 C.2.2.2.2 (lw_S q1953 q1954 q177 q1955) rfl hrc hrs (by decide +kernel) hR) (s_pre _) rfl rfl hsz rfl (lv_room hro) d hf) kk
set_option maxHeartbeats 4000000 in
set_option maxRecDepth 100000 in
theorem kX7_within {l : Launch} {a1 : Int32} {a2 : Int32} {a3 : Int32} {r : Int32} (hE : fX7_within a1 a2 a3 = some r) : Met l yX7_within (ws_ yX7_within cX7_within 3 (some .int)) ({ frames := 0, cells := 0, slots := 0, locals := 0 }) (va_Pc [.int a1, .int a2, .int a3] (fun _ => True)) (s_Q (some (.int r))) 0 0 (fun _ => False) := by
  refine s_met (own := RX7) (by decide) rfl rfl rfl ?_
  intro p e s m args below meth c ls C hr hlocks hl
  have hx := C.1
  have hb := C.2.1
  have w_19 : ∀ (y0 : Int32) (ls : Array Slot), fX7_within_19 y0 = some r → lv_has ls 3 [] → W p l e { frames := 0, cells := 0, slots := 0, locals := 0 } s m args below meth c s.heap [] 0 0 (MQ below (s_Q (some (.int r))) args s 0 0 (fun _ => False)) (F0 m 19 ls [.int y0]) := by
    intro y0 ls hE hl
    unfold fX7_within_19 at hE
    exact s_iret C hr hlocks hE dX7_within_19
  unfold fX7_within at hE
  refine lv_iload_n hx hb dX7_within_0 rfl (lv_at hl 0 rfl) ?_
  refine lv_iload_n hx hb dX7_within_1 rfl (lv_at hl 1 rfl) ?_
  refine lv_icmp_ge (tgt := 9) hx hb dX7_within_2 (by decide) (fun c1 => ?_) (fun c1 => ?_)
  · have hE := z_t c1 hE
    refine lv_iload_n hx hb dX7_within_9 rfl (lv_at hl 0 rfl) ?_
    refine lv_iload_n hx hb dX7_within_10 rfl (lv_at hl 2 rfl) ?_
    refine lv_icmp_le (tgt := 18) hx hb dX7_within_11 (by decide) (fun c2 => ?_) (fun c2 => ?_)
    · have hE := z_t c2 hE
      refine lv_iload_n hx hb dX7_within_18 rfl (lv_at hl 0 rfl) ?_
      exact w_19 _ _ hE (lv_sub hl [] rfl)
    · have hE := z_f c2 hE
      refine lv_iload_n hx hb dX7_within_14 rfl (lv_at hl 2 rfl) ?_
      refine lv_goto (tgt := 19) hx hb dX7_within_15 (by decide) ?_
      exact w_19 _ _ hE (lv_sub hl [] rfl)
  · have hE := z_f c1 hE
    refine lv_iload_n hx hb dX7_within_5 rfl (lv_at hl 1 rfl) ?_
    refine lv_goto (tgt := 19) hx hb dX7_within_6 (by decide) ?_
    exact w_19 _ _ hE (lv_sub hl [] rfl)
theorem tc_X7_mast {a1 : Int32} {r : Int32} {u u1 : TS} {rm : Room} (C : TC p m c cc nL s args D dA) (hT : TW D dA h u H) (hS : va_S (TA h) H0 H locs) (hM : Met l yX7_mast (ws_ yX7_mast cX7_mast 6 (some .int)) rm (va_Pc [.ref h, .int a1] (mt_B D dA h u)) (mt_Q D dA h (some (.int r)) u1) 0 0 (TA h)) (hrc : rm.cells = 0) (hrs : rm.slots = 0) (hR : rm.frames + 1 ≤ R.frames ∧ 8 + (6 + 11) + rm.locals ≤ R.locals) (hf : cells + 0 ≤ R.cells ∧ slots + 0 ≤ R.slots) (d : decode cc pc = .ok (.invokevirtual 146, 3)) (hsz : ls.size = nL) (hro : (rest.map fun v => v.category).sum ≤ 8) (kk : ∀ (H1 : Heap) (locs1 : List Loc), TW D dA h u1 H1 → va_S (TA h) H0 H1 locs1 → W p l e R s m args below meth c H1 locs1 cells slots Q (F0 m (pc + 3) ls (.int r :: rest))) : W p l e R s m args below meth c H locs cells slots Q (F0 m pc ls (.int a1 :: .ref h :: rest)) :=
  mt_call (v := (some (.int r))) (va_runV (As := [.int a1]) (rest := rest) C.1 hM (cwV 1 C.1.2.2.2.2 (lw_V q1949 q1951 qs127 q177 q1952) rfl hrc hrs (by decide +kernel) hR) (mt_preV C.2 hT _) rfl rfl hsz rfl (lv_room hro) d hf) hS (fun _ z => z) (fun H1 locs1 a b _ _ => kk H1 locs1 a b)
set_option maxHeartbeats 4000000 in
set_option maxRecDepth 100000 in
theorem kX7_mast {l : Launch} {D : va_G} {dA : Nat → ClassId} {h N : Nat} {u u1 : TS} {a1 : Int32} {r : Int32} (hE : fX7_mast N u a1 = some (r, u1)) : Met l yX7_mast (ws_ yX7_mast cX7_mast 6 (some .int)) ({ frames := 71, cells := 0, slots := 0, locals := 2206 }) (va_Pc [.ref h, .int a1] (mt_B D dA h u)) (mt_Q D dA h (some (.int r)) u1) 0 0 (TA h) := by
  refine mt_met (by decide) rfl rfl rfl ?_
  intro p e s m args below meth c ls C hr hlocks hT hS hl
  have hx := C.1.1
  have hb := C.1.2.1
  have w_160 : ∀ (u : TS) (y0 : Int32) (H : Heap) (locs : List Loc) (ls : Array Slot), fX7_mast_160 N u y0 = some (r, u1) → TW D dA h u H → va_S (TA h) s.heap H locs → lv_has ls 6 [] → W p l e { frames := 71, cells := 0, slots := 0, locals := 2206 } s m args below meth c H locs 0 0 (MQ below (mt_Q D dA h (some (.int r)) u1) args s 0 0 (TA h)) (F0 m 160 ls [.int y0]) := by
    intro u y0 H locs ls hE hT hS hl
    unfold fX7_mast_160 at hE
    exact mt_iret C hr hlocks hT hS hE dX7_mast_160
  have w_81 : ∀ (ag5 : TS → Int32 → Int64 → Int32 → Option (Int32 × TS)) (hag5 : (∀ (u : TS) (x1 : Int32) (x2 : Int64) (x4 : Int32) (H : Heap) (locs : List Loc) (ls : Array Slot), ag5 u x1 x2 x4 = some (r, u1) → TW D dA h u H → va_S (TA h) s.heap H locs → lv_has ls 6 [(0, .ref h), (1, .int x1), (2, .long x2), (4, .int x4)] → W p l e { frames := 71, cells := 0, slots := 0, locals := 2206 } s m args below meth c H locs 0 0 (MQ below (mt_Q D dA h (some (.int r)) u1) args s 0 0 (TA h)) (F0 m 5 ls []))) (u : TS) (x1 : Int32) (x2 : Int64) (x4 : Int32) (H : Heap) (locs : List Loc) (ls : Array Slot), fX7_mast_81 N ag5 u x1 x2 x4 = some (r, u1) → TW D dA h u H → va_S (TA h) s.heap H locs → lv_has ls 6 [(0, .ref h), (1, .int x1), (2, .long x2), (4, .int x4)] → W p l e { frames := 71, cells := 0, slots := 0, locals := 2206 } s m args below meth c H locs 0 0 (MQ below (mt_Q D dA h (some (.int r)) u1) args s 0 0 (TA h)) (F0 m 81 ls []) := by
    intro ag5 hag5 u x1 x2 x4 H locs ls hE hT hS hl
    unfold fX7_mast_81 at hE
    refine z_iinc (v := (x4 + (1 : Int32))) (lw := (fun y_ => [(4, .int y_), (0, .ref h), (1, .int x1), (2, .long x2)])) hx hb dX7_mast_81 hl hE (k := 3) rfl rfl (by decide) (fun _ => rfl) (fun z1 ls hE hl => ?_)
    refine lv_goto (tgt := 5) hx hb dX7_mast_84 (by decide) ?_
    exact hag5 _ _ _ _ _ _ _ hE hT hS (lv_sub hl [1, 2, 3, 0] rfl)
  have w_5 : ∀ (n : Nat) (u : TS) (x1 : Int32) (x2 : Int64) (x4 : Int32) (H : Heap) (locs : List Loc) (ls : Array Slot), fX7_mast_5 N n u x1 x2 x4 = some (r, u1) → TW D dA h u H → va_S (TA h) s.heap H locs → lv_has ls 6 [(0, .ref h), (1, .int x1), (2, .long x2), (4, .int x4)] → W p l e { frames := 71, cells := 0, slots := 0, locals := 2206 } s m args below meth c H locs 0 0 (MQ below (mt_Q D dA h (some (.int r)) u1) args s 0 0 (TA h)) (F0 m 5 ls []) := by
    intro n
    induction n with
    | zero =>
      intro u x1 x2 x4 H locs ls hE hT hS hl
      cases (show (none : Option (Int32 × TS)) = some (r, u1) from hE)
    | succ n ih =>
      intro u x1 x2 x4 H locs ls hE hT hS hl
      rw [fX7_mast_5] at hE
      refine lv_iload hx hb dX7_mast_5 (lv_at hl 3 rfl) ?_
      refine lv_aload_n hx hb dX7_mast_7 rfl (lv_at hl 0 rfl) ?_
      refine tg_s C hT dX7_mast_8 ?_
      refine lv_iconst (v := (1 : Int32)) hx hb dX7_mast_11 rfl ?_
      refine tl_s C hT hE dX7_mast_12 (fun hE => ?_)
      refine z_nmi hE (fun v2 hE => ?_)
      refine lv_icmp_ge (tgt := 87) hx hb dX7_mast_13 (by decide) (fun c3 => ?_) (fun c3 => ?_)
      · have hE := z_t c3 hE
        refine lv_aload_n hx hb dX7_mast_87 rfl (lv_at hl 0 rfl) ?_
        refine lv_iconst (v := (5 : Int32)) hx hb dX7_mast_88 rfl ?_
        refine lv_bipush (v := (100 : Int32)) hx hb dX7_mast_89 rfl ?_
        refine lv_iload_n hx hb dX7_mast_91 rfl (lv_at hl 1 rfl) ?_
        refine lv_iadd hx hb dX7_mast_92 ?_
        refine lv_aload_n hx hb dX7_mast_93 rfl (lv_at hl 0 rfl) ?_
        refine tg_s C hT dX7_mast_94 ?_
        refine lv_iconst (v := (0 : Int32)) hx hb dX7_mast_97 rfl ?_
        refine tl_s C hT hE dX7_mast_98 (fun hE => ?_)
        refine z_nmi hE (fun v4 hE => ?_)
        refine lv_iconst (v := (0 : Int32)) hx hb dX7_mast_99 rfl ?_
        obtain ⟨r6, u5, hc, hE⟩ := o_bd2_some hE
        refine tc_X7_ruled C hT hS (kX7_ruled hc) rfl rfl ⟨Nat.le_of_ble_eq_true rfl, Nat.le_of_ble_eq_true rfl⟩ ⟨Nat.le_refl 0, Nat.le_refl 0⟩ dX7_mast_100 hl.1 (Nat.le_of_ble_eq_true rfl) (fun H locs hT hS => ?_)
        refine lv_iconst (v := (0 : Int32)) hx hb dX7_mast_103 rfl ?_
        refine lv_sipush (v := (10000 : Int32)) hx hb dX7_mast_104 rfl ?_
        obtain ⟨r7, hc, hE⟩ := o_bd_some hE
        refine sc_X7_within C.1 (kX7_within hc) rfl rfl ⟨Nat.le_of_ble_eq_true rfl, Nat.le_of_ble_eq_true rfl⟩ ⟨Nat.le_refl 0, Nat.le_refl 0⟩ dX7_mast_107 hl.1 (Nat.le_of_ble_eq_true rfl) ?_
        refine lv_i2l hx hb dX7_mast_110 rfl ?_
        refine lv_lload_n hx hb dX7_mast_111 rfl (lv_at hl 2 rfl) ?_
        refine lv_lmul hx hb dX7_mast_112 ?_
        refine lv_ldc2 (v := (100 : Int64)) hx hb C.1.2.2.2.1 (C.1.2.2.2.2 _ q1808) dX7_mast_113 ?_
        refine lv_ldiv hx hb dX7_mast_116 (by decide) ?_
        refine z_nml hE (fun z8 hE => ?_)
        refine lv_lstore (lv' := [(4, .long z8), (0, .ref h), (1, .int x1), (2, .long x2)]) hx hb dX7_mast_117 hl (by decide) rfl (fun ls hl => ?_)
        refine lv_lload hx hb dX7_mast_119 (lv_at hl 0 rfl) ?_
        refine lv_aload_n hx hb dX7_mast_121 rfl (lv_at hl 1 rfl) ?_
        refine tg_s C hT dX7_mast_122 ?_
        refine lv_sipush (v := (928 : Int32)) hx hb dX7_mast_125 rfl ?_
        refine lv_iconst (v := (4 : Int32)) hx hb dX7_mast_128 rfl ?_
        refine lv_iload_n hx hb dX7_mast_129 rfl (lv_at hl 2 rfl) ?_
        refine lv_imul hx hb dX7_mast_130 ?_
        refine lv_iadd hx hb dX7_mast_131 ?_
        refine lv_iconst (v := (2 : Int32)) hx hb dX7_mast_132 rfl ?_
        refine lv_iadd hx hb dX7_mast_133 ?_
        refine tl_s C hT hE dX7_mast_134 (fun hE => ?_)
        refine z_nmi hE (fun v9 hE => ?_)
        refine lv_i2l hx hb dX7_mast_135 rfl ?_
        refine W.lcmp hx hb dX7_mast_136 ?_
        refine lv_if_ge (tgt := 146) hx hb dX7_mast_137 (by decide) (fun c10 => ?_) (fun c10 => ?_)
        · have hE := z_t c10 hE
          refine lv_aload_n hx hb dX7_mast_146 rfl (lv_at hl 1 rfl) ?_
          refine tg_s C hT dX7_mast_147 ?_
          refine lv_sipush (v := (928 : Int32)) hx hb dX7_mast_150 rfl ?_
          refine lv_iconst (v := (4 : Int32)) hx hb dX7_mast_153 rfl ?_
          refine lv_iload_n hx hb dX7_mast_154 rfl (lv_at hl 2 rfl) ?_
          refine lv_imul hx hb dX7_mast_155 ?_
          refine lv_iadd hx hb dX7_mast_156 ?_
          refine lv_iconst (v := (2 : Int32)) hx hb dX7_mast_157 rfl ?_
          refine lv_iadd hx hb dX7_mast_158 ?_
          refine tl_s C hT hE dX7_mast_159 (fun hE => ?_)
          refine z_nmi hE (fun v11 hE => ?_)
          exact w_160 _ _ _ _ _ hE hT hS (lv_sub hl [] rfl)
        · have hE := z_f c10 hE
          refine lv_lload hx hb dX7_mast_140 (lv_at hl 0 rfl) ?_
          refine lv_l2i hx hb dX7_mast_142 rfl ?_
          refine lv_goto (tgt := 160) hx hb dX7_mast_143 (by decide) ?_
          exact w_160 _ _ _ _ _ hE hT hS (lv_sub hl [] rfl)
      · have hE := z_f c3 hE
        refine lv_aload_n hx hb dX7_mast_16 rfl (lv_at hl 0 rfl) ?_
        refine lv_iload hx hb dX7_mast_17 (lv_at hl 3 rfl) ?_
        refine lv_iconst (v := (0 : Int32)) hx hb dX7_mast_19 rfl ?_
        obtain ⟨r13, u12, hc, hE⟩ := o_bd2_some hE
        refine tc_X7_st C hT hS (kX7_st hc) rfl rfl ⟨Nat.le_of_ble_eq_true rfl, Nat.le_of_ble_eq_true rfl⟩ ⟨Nat.le_refl 0, Nat.le_refl 0⟩ dX7_mast_20 hl.1 (Nat.le_of_ble_eq_true rfl) (fun H locs hT hS => ?_)
        refine lv_aload_n hx hb dX7_mast_23 rfl (lv_at hl 0 rfl) ?_
        refine tg_s C hT dX7_mast_24 ?_
        refine lv_sipush (v := (928 : Int32)) hx hb dX7_mast_27 rfl ?_
        refine lv_iconst (v := (4 : Int32)) hx hb dX7_mast_30 rfl ?_
        refine lv_iload_n hx hb dX7_mast_31 rfl (lv_at hl 1 rfl) ?_
        refine lv_imul hx hb dX7_mast_32 ?_
        refine lv_iadd hx hb dX7_mast_33 ?_
        refine tl_s C hT hE dX7_mast_34 (fun hE => ?_)
        refine z_nmi hE (fun v14 hE => ?_)
        refine lv_icmp_ne (tgt := 81) hx hb dX7_mast_35 (by decide) (fun c15 => ?_) (fun c15 => ?_)
        · have hE := z_f c15 hE
          exact w_81 (fX7_mast_5 N n) ih _ _ _ _ _ _ _ hE hT hS (lv_sub hl [0, 1, 2, 3] rfl)
        · have hE := z_t c15 hE
          refine lv_aload_n hx hb dX7_mast_38 rfl (lv_at hl 0 rfl) ?_
          refine lv_iload hx hb dX7_mast_39 (lv_at hl 3 rfl) ?_
          refine lv_iconst (v := (2 : Int32)) hx hb dX7_mast_41 rfl ?_
          obtain ⟨r17, u16, hc, hE⟩ := o_bd2_some hE
          refine tc_X7_st C hT hS (kX7_st hc) rfl rfl ⟨Nat.le_of_ble_eq_true rfl, Nat.le_of_ble_eq_true rfl⟩ ⟨Nat.le_refl 0, Nat.le_refl 0⟩ dX7_mast_42 hl.1 (Nat.le_of_ble_eq_true rfl) (fun H locs hT hS => ?_)
          refine lv_iconst (v := (1 : Int32)) hx hb dX7_mast_45 rfl ?_
          refine lv_icmp_le (tgt := 81) hx hb dX7_mast_46 (by decide) (fun c18 => ?_) (fun c18 => ?_)
          · have hE := z_t c18 hE
            exact w_81 (fX7_mast_5 N n) ih _ _ _ _ _ _ _ hE hT hS (lv_sub hl [0, 1, 2, 3] rfl)
          · have hE := z_f c18 hE
            refine lv_aload_n hx hb dX7_mast_49 rfl (lv_at hl 0 rfl) ?_
            refine lv_iload hx hb dX7_mast_50 (lv_at hl 3 rfl) ?_
            obtain ⟨r20, u19, hc, hE⟩ := o_bd2_some hE
            refine tc_X7_isBare C hT hS (kX7_isBare hc) rfl rfl ⟨Nat.le_of_ble_eq_true rfl, Nat.le_of_ble_eq_true rfl⟩ ⟨Nat.le_refl 0, Nat.le_refl 0⟩ dX7_mast_52 hl.1 (Nat.le_of_ble_eq_true rfl) (fun H locs hT hS => ?_)
            refine lv_if_ne (tgt := 81) hx hb dX7_mast_55 (by decide) (fun c21 => ?_) (fun c21 => ?_)
            · have hE := z_f c21 hE
              exact w_81 (fX7_mast_5 N n) ih _ _ _ _ _ _ _ hE hT hS (lv_sub hl [0, 1, 2, 3] rfl)
            · have hE := z_t c21 hE
              refine lv_aload_n hx hb dX7_mast_58 rfl (lv_at hl 0 rfl) ?_
              refine lv_iload hx hb dX7_mast_59 (lv_at hl 3 rfl) ?_
              refine lv_iconst (v := (5 : Int32)) hx hb dX7_mast_61 rfl ?_
              obtain ⟨r23, u22, hc, hE⟩ := o_bd2_some hE
              refine tc_X7_st C hT hS (kX7_st hc) rfl rfl ⟨Nat.le_of_ble_eq_true rfl, Nat.le_of_ble_eq_true rfl⟩ ⟨Nat.le_refl 0, Nat.le_refl 0⟩ dX7_mast_62 hl.1 (Nat.le_of_ble_eq_true rfl) (fun H locs hT hS => ?_)
              refine lv_bipush (v := (60 : Int32)) hx hb dX7_mast_65 rfl ?_
              refine lv_icmp_lt (tgt := 81) hx hb dX7_mast_67 (by decide) (fun c24 => ?_) (fun c24 => ?_)
              · have hE := z_t c24 hE
                exact w_81 (fX7_mast_5 N n) ih _ _ _ _ _ _ _ hE hT hS (lv_sub hl [0, 1, 2, 3] rfl)
              · have hE := z_f c24 hE
                refine lv_lload_n hx hb dX7_mast_70 rfl (lv_at hl 2 rfl) ?_
                refine lv_aload_n hx hb dX7_mast_71 rfl (lv_at hl 0 rfl) ?_
                refine lv_iload hx hb dX7_mast_72 (lv_at hl 3 rfl) ?_
                refine lv_iconst (v := (4 : Int32)) hx hb dX7_mast_74 rfl ?_
                obtain ⟨r26, u25, hc, hE⟩ := o_bd2_some hE
                refine tc_X7_st C hT hS (kX7_st hc) rfl rfl ⟨Nat.le_of_ble_eq_true rfl, Nat.le_of_ble_eq_true rfl⟩ ⟨Nat.le_refl 0, Nat.le_refl 0⟩ dX7_mast_75 hl.1 (Nat.le_of_ble_eq_true rfl) (fun H locs hT hS => ?_)
                refine lv_i2l hx hb dX7_mast_78 rfl ?_
                refine lv_ladd hx hb dX7_mast_79 ?_
                refine z_nml hE (fun z27 hE => ?_)
                refine lv_lstore_n (lv' := [(2, .long z27), (0, .ref h), (1, .int x1), (4, .int x4)]) hx hb dX7_mast_80 rfl hl (by decide) rfl (fun ls hl => ?_)
                exact w_81 (fX7_mast_5 N n) ih _ _ _ _ _ _ _ hE hT hS (lv_sub hl [1, 2, 0, 3] rfl)
  unfold fX7_mast at hE
  refine lv_lconst (v := (0 : Int64)) hx hb dX7_mast_0 rfl ?_
  refine lv_lstore_n (lv' := [(2, .long (0 : Int64)), (0, .ref h), (1, .int a1)]) hx hb dX7_mast_1 rfl hl (by decide) rfl (fun ls hl => ?_)
  refine lv_iconst (v := (0 : Int32)) hx hb dX7_mast_2 rfl ?_
  refine lv_istore (lv' := [(4, .int (0 : Int32)), (2, .long (0 : Int64)), (0, .ref h), (1, .int a1)]) hx hb dX7_mast_3 hl (by decide) rfl (fun ls hl => ?_)
  exact w_5 N _ _ _ _ _ _ _ hE hT hS (lv_sub hl [2, 3, 1, 0] rfl)
end TRG2
