section TRG1
variable {p : Program} {l : Launch} {e : Env} {R : Room} {s : State} {m : MethodId} {args : Array Value} {below : List Frame} {meth : Method} {c : Code} {H : Heap} {locs : List Loc} {cells slots : Nat} {Q : State → Prop} {cc : ByteArray} {nL pc : Nat} {ls : Array Slot} {rest : List Value} {D : va_G} {dA : Nat → ClassId} {h : Nat} {H0 : Heap}
theorem tc_X7_keyHere {r : Int32} {u u1 : TS} {rm : Room} (C : TC p m c cc nL s args D dA) (hT : TW D dA h u H) (hS : va_S (TA h) H0 H locs) (hM : Met l yX7_keyHere (ws_ yX7_keyHere cX7_keyHere 1 (some .int)) rm (va_Pc [.ref h] (mt_B D dA h u)) (mt_Q D dA h (some (.int r)) u1) 0 0 (TA h)) (hrc : rm.cells = 0) (hrs : rm.slots = 0) (hR : rm.frames + 1 ≤ R.frames ∧ 8 + (1 + 11) + rm.locals ≤ R.locals) (hf : cells + 0 ≤ R.cells ∧ slots + 0 ≤ R.slots) (d : decode cc pc = .ok (.invokevirtual 305, 3)) (hsz : ls.size = nL) (hro : (rest.map fun v => v.category).sum ≤ 8) (kk : ∀ (H1 : Heap) (locs1 : List Loc), TW D dA h u1 H1 → va_S (TA h) H0 H1 locs1 → W p l e R s m args below meth c H1 locs1 cells slots Q (F0 m (pc + 3) ls (.int r :: rest))) : W p l e R s m args below meth c H locs cells slots Q (F0 m pc ls (.ref h :: rest)) :=
  mt_call (v := (some (.int r))) (va_runV (As := []) (rest := rest) C.1 hM (cwV 0 C.1.2.2.2.2 (lw_V q1842 q1844 qs114 q177 q1845) rfl hrc hrs (by decide +kernel) hR) (mt_preV C.2 hT _) rfl rfl hsz rfl (lv_room hro) d hf) hS (fun _ z => z) (fun H1 locs1 a b _ _ => kk H1 locs1 a b)
set_option maxHeartbeats 4000000 in
set_option maxRecDepth 100000 in
theorem kX7_keyHere {l : Launch} {D : va_G} {dA : Nat → ClassId} {h N : Nat} {u u1 : TS} {r : Int32} (hE : fX7_keyHere N u = some (r, u1)) : Met l yX7_keyHere (ws_ yX7_keyHere cX7_keyHere 1 (some .int)) ({ frames := 1, cells := 0, slots := 0, locals := 22 }) (va_Pc [.ref h] (mt_B D dA h u)) (mt_Q D dA h (some (.int r)) u1) 0 0 (TA h) := by
  refine mt_met (by decide) rfl rfl rfl ?_
  intro p e s m args below meth c ls C hr hlocks hT hS hl
  have hx := C.1.1
  have hb := C.1.2.1
  have w_130 : ∀ (u : TS) (y0 : Int32) (H : Heap) (locs : List Loc) (ls : Array Slot), fX7_keyHere_130 N u y0 = some (r, u1) → TW D dA h u H → va_S (TA h) s.heap H locs → lv_has ls 1 [] → W p l e { frames := 1, cells := 0, slots := 0, locals := 22 } s m args below meth c H locs 0 0 (MQ below (mt_Q D dA h (some (.int r)) u1) args s 0 0 (TA h)) (F0 m 130 ls [.int y0]) := by
    intro u y0 H locs ls hE hT hS hl
    unfold fX7_keyHere_130 at hE
    exact mt_iret C hr hlocks hT hS hE dX7_keyHere_130
  unfold fX7_keyHere at hE
  refine lv_aload_n hx hb dX7_keyHere_0 rfl (lv_at hl 0 rfl) ?_
  refine lv_ldc2 (v := (923 : Int64)) hx hb C.1.2.2.2.1 (C.1.2.2.2.2 _ q1846) dX7_keyHere_1 ?_
  obtain ⟨r2, u1, hc, hE⟩ := o_bd2_some hE
  refine tc_X7_isWord C hT hS (kX7_isWord hc) rfl rfl ⟨Nat.le_of_ble_eq_true rfl, Nat.le_of_ble_eq_true rfl⟩ ⟨Nat.le_refl 0, Nat.le_refl 0⟩ dX7_keyHere_4 hl.1 (Nat.le_of_ble_eq_true rfl) (fun H locs hT hS => ?_)
  refine lv_if_eq (tgt := 14) hx hb dX7_keyHere_7 (by decide) (fun c3 => ?_) (fun c3 => ?_)
  · have hE := z_t c3 hE
    refine lv_aload_n hx hb dX7_keyHere_14 rfl (lv_at hl 0 rfl) ?_
    refine lv_ldc2 (v := (32941 : Int64)) hx hb C.1.2.2.2.1 (C.1.2.2.2.2 _ q1851) dX7_keyHere_15 ?_
    obtain ⟨r5, u4, hc, hE⟩ := o_bd2_some hE
    refine tc_X7_isWord C hT hS (kX7_isWord hc) rfl rfl ⟨Nat.le_of_ble_eq_true rfl, Nat.le_of_ble_eq_true rfl⟩ ⟨Nat.le_refl 0, Nat.le_refl 0⟩ dX7_keyHere_18 hl.1 (Nat.le_of_ble_eq_true rfl) (fun H locs hT hS => ?_)
    refine lv_if_eq (tgt := 28) hx hb dX7_keyHere_21 (by decide) (fun c6 => ?_) (fun c6 => ?_)
    · have hE := z_t c6 hE
      refine lv_aload_n hx hb dX7_keyHere_28 rfl (lv_at hl 0 rfl) ?_
      refine lv_ldc2 (v := (279252 : Int64)) hx hb C.1.2.2.2.1 (C.1.2.2.2.2 _ q1852) dX7_keyHere_29 ?_
      obtain ⟨r8, u7, hc, hE⟩ := o_bd2_some hE
      refine tc_X7_isWord C hT hS (kX7_isWord hc) rfl rfl ⟨Nat.le_of_ble_eq_true rfl, Nat.le_of_ble_eq_true rfl⟩ ⟨Nat.le_refl 0, Nat.le_refl 0⟩ dX7_keyHere_32 hl.1 (Nat.le_of_ble_eq_true rfl) (fun H locs hT hS => ?_)
      refine lv_if_eq (tgt := 42) hx hb dX7_keyHere_35 (by decide) (fun c9 => ?_) (fun c9 => ?_)
      · have hE := z_t c9 hE
        refine lv_aload_n hx hb dX7_keyHere_42 rfl (lv_at hl 0 rfl) ?_
        refine lv_ldc2 (v := (220309 : Int64)) hx hb C.1.2.2.2.1 (C.1.2.2.2.2 _ q1853) dX7_keyHere_43 ?_
        obtain ⟨r11, u10, hc, hE⟩ := o_bd2_some hE
        refine tc_X7_isWord C hT hS (kX7_isWord hc) rfl rfl ⟨Nat.le_of_ble_eq_true rfl, Nat.le_of_ble_eq_true rfl⟩ ⟨Nat.le_refl 0, Nat.le_refl 0⟩ dX7_keyHere_46 hl.1 (Nat.le_of_ble_eq_true rfl) (fun H locs hT hS => ?_)
        refine lv_if_eq (tgt := 56) hx hb dX7_keyHere_49 (by decide) (fun c12 => ?_) (fun c12 => ?_)
        · have hE := z_t c12 hE
          refine lv_aload_n hx hb dX7_keyHere_56 rfl (lv_at hl 0 rfl) ?_
          refine lv_ldc2 (v := (464053 : Int64)) hx hb C.1.2.2.2.1 (C.1.2.2.2.2 _ q1854) dX7_keyHere_57 ?_
          obtain ⟨r14, u13, hc, hE⟩ := o_bd2_some hE
          refine tc_X7_isWord C hT hS (kX7_isWord hc) rfl rfl ⟨Nat.le_of_ble_eq_true rfl, Nat.le_of_ble_eq_true rfl⟩ ⟨Nat.le_refl 0, Nat.le_refl 0⟩ dX7_keyHere_60 hl.1 (Nat.le_of_ble_eq_true rfl) (fun H locs hT hS => ?_)
          refine lv_if_eq (tgt := 70) hx hb dX7_keyHere_63 (by decide) (fun c15 => ?_) (fun c15 => ?_)
          · have hE := z_t c15 hE
            refine lv_aload_n hx hb dX7_keyHere_70 rfl (lv_at hl 0 rfl) ?_
            refine lv_ldc2 (v := (321697 : Int64)) hx hb C.1.2.2.2.1 (C.1.2.2.2.2 _ q1855) dX7_keyHere_71 ?_
            obtain ⟨r17, u16, hc, hE⟩ := o_bd2_some hE
            refine tc_X7_isWord C hT hS (kX7_isWord hc) rfl rfl ⟨Nat.le_of_ble_eq_true rfl, Nat.le_of_ble_eq_true rfl⟩ ⟨Nat.le_refl 0, Nat.le_refl 0⟩ dX7_keyHere_74 hl.1 (Nat.le_of_ble_eq_true rfl) (fun H locs hT hS => ?_)
            refine lv_if_eq (tgt := 84) hx hb dX7_keyHere_77 (by decide) (fun c18 => ?_) (fun c18 => ?_)
            · have hE := z_t c18 hE
              refine lv_aload_n hx hb dX7_keyHere_84 rfl (lv_at hl 0 rfl) ?_
              refine lv_ldc2 (v := (125042 : Int64)) hx hb C.1.2.2.2.1 (C.1.2.2.2.2 _ q1856) dX7_keyHere_85 ?_
              obtain ⟨r20, u19, hc, hE⟩ := o_bd2_some hE
              refine tc_X7_isWord C hT hS (kX7_isWord hc) rfl rfl ⟨Nat.le_of_ble_eq_true rfl, Nat.le_of_ble_eq_true rfl⟩ ⟨Nat.le_refl 0, Nat.le_refl 0⟩ dX7_keyHere_88 hl.1 (Nat.le_of_ble_eq_true rfl) (fun H locs hT hS => ?_)
              refine lv_if_eq (tgt := 99) hx hb dX7_keyHere_91 (by decide) (fun c21 => ?_) (fun c21 => ?_)
              · have hE := z_t c21 hE
                refine lv_aload_n hx hb dX7_keyHere_99 rfl (lv_at hl 0 rfl) ?_
                refine lv_ldc2 (v := (8740379 : Int64)) hx hb C.1.2.2.2.1 (C.1.2.2.2.2 _ q1857) dX7_keyHere_100 ?_
                obtain ⟨r23, u22, hc, hE⟩ := o_bd2_some hE
                refine tc_X7_isWord C hT hS (kX7_isWord hc) rfl rfl ⟨Nat.le_of_ble_eq_true rfl, Nat.le_of_ble_eq_true rfl⟩ ⟨Nat.le_refl 0, Nat.le_refl 0⟩ dX7_keyHere_103 hl.1 (Nat.le_of_ble_eq_true rfl) (fun H locs hT hS => ?_)
                refine lv_if_eq (tgt := 114) hx hb dX7_keyHere_106 (by decide) (fun c24 => ?_) (fun c24 => ?_)
                · have hE := z_t c24 hE
                  refine lv_aload_n hx hb dX7_keyHere_114 rfl (lv_at hl 0 rfl) ?_
                  refine lv_ldc2 (v := (283619210 : Int64)) hx hb C.1.2.2.2.1 (C.1.2.2.2.2 _ q1858) dX7_keyHere_115 ?_
                  obtain ⟨r26, u25, hc, hE⟩ := o_bd2_some hE
                  refine tc_X7_isWord C hT hS (kX7_isWord hc) rfl rfl ⟨Nat.le_of_ble_eq_true rfl, Nat.le_of_ble_eq_true rfl⟩ ⟨Nat.le_refl 0, Nat.le_refl 0⟩ dX7_keyHere_118 hl.1 (Nat.le_of_ble_eq_true rfl) (fun H locs hT hS => ?_)
                  refine lv_if_eq (tgt := 129) hx hb dX7_keyHere_121 (by decide) (fun c27 => ?_) (fun c27 => ?_)
                  · have hE := z_t c27 hE
                    refine lv_iconst (v := (-1 : Int32)) hx hb dX7_keyHere_129 rfl ?_
                    exact w_130 _ _ _ _ _ hE hT hS (lv_sub hl [] rfl)
                  · have hE := z_f c27 hE
                    refine lv_bipush (v := (8 : Int32)) hx hb dX7_keyHere_124 rfl ?_
                    refine lv_goto (tgt := 130) hx hb dX7_keyHere_126 (by decide) ?_
                    exact w_130 _ _ _ _ _ hE hT hS (lv_sub hl [] rfl)
                · have hE := z_f c24 hE
                  refine lv_bipush (v := (7 : Int32)) hx hb dX7_keyHere_109 rfl ?_
                  refine lv_goto (tgt := 130) hx hb dX7_keyHere_111 (by decide) ?_
                  exact w_130 _ _ _ _ _ hE hT hS (lv_sub hl [] rfl)
              · have hE := z_f c21 hE
                refine lv_bipush (v := (6 : Int32)) hx hb dX7_keyHere_94 rfl ?_
                refine lv_goto (tgt := 130) hx hb dX7_keyHere_96 (by decide) ?_
                exact w_130 _ _ _ _ _ hE hT hS (lv_sub hl [] rfl)
            · have hE := z_f c18 hE
              refine lv_iconst (v := (5 : Int32)) hx hb dX7_keyHere_80 rfl ?_
              refine lv_goto (tgt := 130) hx hb dX7_keyHere_81 (by decide) ?_
              exact w_130 _ _ _ _ _ hE hT hS (lv_sub hl [] rfl)
          · have hE := z_f c15 hE
            refine lv_iconst (v := (4 : Int32)) hx hb dX7_keyHere_66 rfl ?_
            refine lv_goto (tgt := 130) hx hb dX7_keyHere_67 (by decide) ?_
            exact w_130 _ _ _ _ _ hE hT hS (lv_sub hl [] rfl)
        · have hE := z_f c12 hE
          refine lv_iconst (v := (3 : Int32)) hx hb dX7_keyHere_52 rfl ?_
          refine lv_goto (tgt := 130) hx hb dX7_keyHere_53 (by decide) ?_
          exact w_130 _ _ _ _ _ hE hT hS (lv_sub hl [] rfl)
      · have hE := z_f c9 hE
        refine lv_iconst (v := (2 : Int32)) hx hb dX7_keyHere_38 rfl ?_
        refine lv_goto (tgt := 130) hx hb dX7_keyHere_39 (by decide) ?_
        exact w_130 _ _ _ _ _ hE hT hS (lv_sub hl [] rfl)
    · have hE := z_f c6 hE
      refine lv_iconst (v := (1 : Int32)) hx hb dX7_keyHere_24 rfl ?_
      refine lv_goto (tgt := 130) hx hb dX7_keyHere_25 (by decide) ?_
      exact w_130 _ _ _ _ _ hE hT hS (lv_sub hl [] rfl)
  · have hE := z_f c3 hE
    refine lv_iconst (v := (0 : Int32)) hx hb dX7_keyHere_10 rfl ?_
    refine lv_goto (tgt := 130) hx hb dX7_keyHere_11 (by decide) ?_
    exact w_130 _ _ _ _ _ hE hT hS (lv_sub hl [] rfl)
theorem tc_X7_fail {u u1 : TS} {rm : Room} (C : TC p m c cc nL s args D dA) (hT : TW D dA h u H) (hS : va_S (TA h) H0 H locs) (hM : Met l yX7_fail (ws_ yX7_fail cX7_fail 1 none) rm (va_Pc [.ref h] (mt_B D dA h u)) (mt_Q D dA h none u1) 0 0 (TA h)) (hrc : rm.cells = 0) (hrs : rm.slots = 0) (hR : rm.frames + 1 ≤ R.frames ∧ 8 + (1 + 11) + rm.locals ≤ R.locals) (hf : cells + 0 ≤ R.cells ∧ slots + 0 ≤ R.slots) (d : decode cc pc = .ok (.invokevirtual 207, 3)) (hsz : ls.size = nL) (hro : (rest.map fun v => v.category).sum ≤ 8) (kk : ∀ (H1 : Heap) (locs1 : List Loc), TW D dA h u1 H1 → va_S (TA h) H0 H1 locs1 → W p l e R s m args below meth c H1 locs1 cells slots Q (F0 m (pc + 3) ls (rest))) : W p l e R s m args below meth c H locs cells slots Q (F0 m pc ls (.ref h :: rest)) :=
  mt_call (v := none) (va_runV (As := []) (rest := rest) C.1 hM (cwV 0 C.1.2.2.2.2 (lw_V q1859 q1861 qs116 q177 q1862) rfl hrc hrs (by decide +kernel) hR) (mt_preV C.2 hT _) rfl rfl hsz rfl (lv_room hro) d hf) hS (fun _ z => z) (fun H1 locs1 a b _ _ => kk H1 locs1 a b)
set_option maxHeartbeats 4000000 in
set_option maxRecDepth 100000 in
theorem kX7_fail {l : Launch} {D : va_G} {dA : Nat → ClassId} {h N : Nat} {u u_ : TS} (hE : fX7_fail N u = some u_) : Met l yX7_fail (ws_ yX7_fail cX7_fail 1 none) ({ frames := 0, cells := 0, slots := 0, locals := 0 }) (va_Pc [.ref h] (mt_B D dA h u)) (mt_Q D dA h none u_) 0 0 (TA h) := by
  refine mt_met (by decide) rfl rfl rfl ?_
  intro p e s m args below meth c ls C hr hlocks hT hS hl
  have hx := C.1.1
  have hb := C.1.2.1
  have w_20 : ∀ (u : TS) (H : Heap) (locs : List Loc) (ls : Array Slot), fX7_fail_20 N u = some u_ → TW D dA h u H → va_S (TA h) s.heap H locs → lv_has ls 1 [] → W p l e { frames := 0, cells := 0, slots := 0, locals := 0 } s m args below meth c H locs 0 0 (MQ below (mt_Q D dA h none u_) args s 0 0 (TA h)) (F0 m 20 ls []) := by
    intro u H locs ls hE hT hS hl
    unfold fX7_fail_20 at hE
    exact mt_vret C hr hlocks hT hS hE dX7_fail_20
  unfold fX7_fail at hE
  refine lv_aload_n hx hb dX7_fail_0 rfl (lv_at hl 0 rfl) ?_
  refine tg_bad C hT dX7_fail_1 ?_
  refine lv_if_ne (tgt := 20) hx hb dX7_fail_4 (by decide) (fun c1 => ?_) (fun c1 => ?_)
  · have hE := z_f c1 hE
    exact w_20 _ _ _ _ hE hT hS (lv_sub hl [] rfl)
  · have hE := z_t c1 hE
    refine lv_aload_n hx hb dX7_fail_7 rfl (lv_at hl 0 rfl) ?_
    refine lv_iconst (v := (1 : Int32)) hx hb dX7_fail_8 rfl ?_
    refine tp_bad C hT hS (Or.inr rfl) hE dX7_fail_9 (fun u2 H locs hE hT hS => ?_)
    refine lv_aload_n hx hb dX7_fail_12 rfl (lv_at hl 0 rfl) ?_
    refine lv_aload_n hx hb dX7_fail_13 rfl (lv_at hl 0 rfl) ?_
    refine tg_tokenAt C hT dX7_fail_14 ?_
    refine tp_fault C hT hS hE dX7_fail_17 (fun u3 H locs hE hT hS => ?_)
    exact w_20 _ _ _ _ hE hT hS (lv_sub hl [] rfl)
theorem tc_X7_isSign {a1 : Int32} {r : Int32} {u u1 : TS} {rm : Room} (C : TC p m c cc nL s args D dA) (hT : TW D dA h u H) (hS : va_S (TA h) H0 H locs) (hM : Met l yX7_isSign (ws_ yX7_isSign cX7_isSign 2 (some .boolean)) rm (va_Pc [.ref h, .int a1] (mt_B D dA h u)) (mt_Q D dA h (some (.int r)) u1) 0 0 (TA h)) (hrc : rm.cells = 0) (hrs : rm.slots = 0) (hR : rm.frames + 1 ≤ R.frames ∧ 8 + (2 + 11) + rm.locals ≤ R.locals) (hf : cells + 0 ≤ R.cells ∧ slots + 0 ≤ R.slots) (d : decode cc pc = .ok (.invokevirtual 243, 3)) (hsz : ls.size = nL) (hro : (rest.map fun v => v.category).sum ≤ 8) (kk : ∀ (H1 : Heap) (locs1 : List Loc), TW D dA h u1 H1 → va_S (TA h) H0 H1 locs1 → W p l e R s m args below meth c H1 locs1 cells slots Q (F0 m (pc + 3) ls (.int r :: rest))) : W p l e R s m args below meth c H locs cells slots Q (F0 m pc ls (.int a1 :: .ref h :: rest)) :=
  mt_call (v := (some (.int r))) (va_runV (As := [.int a1]) (rest := rest) C.1 hM (cwV 1 C.1.2.2.2.2 (lw_V q1892 q1894 qs124 q177 q1895) rfl hrc hrs (by decide +kernel) hR) (mt_preV C.2 hT _) rfl rfl hsz rfl (lv_room hro) d hf) hS (fun _ z => z) (fun H1 locs1 a b _ _ => kk H1 locs1 a b)
set_option maxHeartbeats 4000000 in
set_option maxRecDepth 100000 in
theorem kX7_isSign {l : Launch} {D : va_G} {dA : Nat → ClassId} {h N : Nat} {u u1 : TS} {a1 : Int32} {r : Int32} (hE : fX7_isSign N u a1 = some (r, u1)) : Met l yX7_isSign (ws_ yX7_isSign cX7_isSign 2 (some .boolean)) ({ frames := 0, cells := 0, slots := 0, locals := 0 }) (va_Pc [.ref h, .int a1] (mt_B D dA h u)) (mt_Q D dA h (some (.int r)) u1) 0 0 (TA h) := by
  refine mt_met (by decide) rfl rfl rfl ?_
  intro p e s m args below meth c ls C hr hlocks hT hS hl
  have hx := C.1.1
  have hb := C.1.2.1
  have w_30 : ∀ (u : TS) (y0 : Int32) (H : Heap) (locs : List Loc) (ls : Array Slot), fX7_isSign_30 N u y0 = some (r, u1) → TW D dA h u H → va_S (TA h) s.heap H locs → lv_has ls 2 [] → W p l e { frames := 0, cells := 0, slots := 0, locals := 0 } s m args below meth c H locs 0 0 (MQ below (mt_Q D dA h (some (.int r)) u1) args s 0 0 (TA h)) (F0 m 30 ls [.int y0]) := by
    intro u y0 H locs ls hE hT hS hl
    unfold fX7_isSign_30 at hE
    obtain ⟨hb1, hE⟩ := o_bl_some hE
    exact mt_zret C hr hlocks hT hS hb1 hE dX7_isSign_30
  have w_29 : ∀ (u : TS) (H : Heap) (locs : List Loc) (ls : Array Slot), fX7_isSign_29 N u = some (r, u1) → TW D dA h u H → va_S (TA h) s.heap H locs → lv_has ls 2 [] → W p l e { frames := 0, cells := 0, slots := 0, locals := 0 } s m args below meth c H locs 0 0 (MQ below (mt_Q D dA h (some (.int r)) u1) args s 0 0 (TA h)) (F0 m 29 ls []) := by
    intro u H locs ls hE hT hS hl
    unfold fX7_isSign_29 at hE
    refine lv_iconst (v := (0 : Int32)) hx hb dX7_isSign_29 rfl ?_
    exact w_30 _ _ _ _ _ hE hT hS (lv_sub hl [] rfl)
  unfold fX7_isSign at hE
  refine lv_aload_n hx hb dX7_isSign_0 rfl (lv_at hl 0 rfl) ?_
  refine tg_bad C hT dX7_isSign_1 ?_
  refine lv_if_ne (tgt := 29) hx hb dX7_isSign_4 (by decide) (fun c1 => ?_) (fun c1 => ?_)
  · have hE := z_f c1 hE
    exact w_29 _ _ _ _ hE hT hS (lv_sub hl [] rfl)
  · have hE := z_t c1 hE
    refine lv_aload_n hx hb dX7_isSign_7 rfl (lv_at hl 0 rfl) ?_
    refine tg_token C hT dX7_isSign_8 ?_
    refine lv_iconst (v := (3 : Int32)) hx hb dX7_isSign_11 rfl ?_
    refine lv_icmp_ne (tgt := 29) hx hb dX7_isSign_12 (by decide) (fun c2 => ?_) (fun c2 => ?_)
    · have hE := z_f c2 hE
      exact w_29 _ _ _ _ hE hT hS (lv_sub hl [] rfl)
    · have hE := z_t c2 hE
      refine lv_aload_n hx hb dX7_isSign_15 rfl (lv_at hl 0 rfl) ?_
      refine tg_tokenWorth C hT dX7_isSign_16 ?_
      refine lv_iload_n hx hb dX7_isSign_19 rfl (lv_at hl 1 rfl) ?_
      refine lv_i2l hx hb dX7_isSign_20 rfl ?_
      refine W.lcmp hx hb dX7_isSign_21 ?_
      refine lv_if_ne (tgt := 29) hx hb dX7_isSign_22 (by decide) (fun c3 => ?_) (fun c3 => ?_)
      · have hE := z_f c3 hE
        exact w_29 _ _ _ _ hE hT hS (lv_sub hl [] rfl)
      · have hE := z_t c3 hE
        refine lv_iconst (v := (1 : Int32)) hx hb dX7_isSign_25 rfl ?_
        refine lv_goto (tgt := 30) hx hb dX7_isSign_26 (by decide) ?_
        exact w_30 _ _ _ _ _ hE hT hS (lv_sub hl [] rfl)
theorem tc_X7_opens {r : Int32} {u u1 : TS} {rm : Room} (C : TC p m c cc nL s args D dA) (hT : TW D dA h u H) (hS : va_S (TA h) H0 H locs) (hM : Met l yX7_opens (ws_ yX7_opens cX7_opens 1 (some .boolean)) rm (va_Pc [.ref h] (mt_B D dA h u)) (mt_Q D dA h (some (.int r)) u1) 0 0 (TA h)) (hrc : rm.cells = 0) (hrs : rm.slots = 0) (hR : rm.frames + 1 ≤ R.frames ∧ 8 + (1 + 11) + rm.locals ≤ R.locals) (hf : cells + 0 ≤ R.cells ∧ slots + 0 ≤ R.slots) (d : decode cc pc = .ok (.invokevirtual 246, 3)) (hsz : ls.size = nL) (hro : (rest.map fun v => v.category).sum ≤ 8) (kk : ∀ (H1 : Heap) (locs1 : List Loc), TW D dA h u1 H1 → va_S (TA h) H0 H1 locs1 → W p l e R s m args below meth c H1 locs1 cells slots Q (F0 m (pc + 3) ls (.int r :: rest))) : W p l e R s m args below meth c H locs cells slots Q (F0 m pc ls (.ref h :: rest)) :=
  mt_call (v := (some (.int r))) (va_runV (As := []) (rest := rest) C.1 hM (cwV 0 C.1.2.2.2.2 (lw_V q1876 q1878 qs120 q177 q1879) rfl hrc hrs (by decide +kernel) hR) (mt_preV C.2 hT _) rfl rfl hsz rfl (lv_room hro) d hf) hS (fun _ z => z) (fun H1 locs1 a b _ _ => kk H1 locs1 a b)
set_option maxHeartbeats 4000000 in
set_option maxRecDepth 100000 in
theorem kX7_opens {l : Launch} {D : va_G} {dA : Nat → ClassId} {h N : Nat} {u u1 : TS} {r : Int32} (hE : fX7_opens N u = some (r, u1)) : Met l yX7_opens (ws_ yX7_opens cX7_opens 1 (some .boolean)) ({ frames := 2, cells := 0, slots := 0, locals := 44 }) (va_Pc [.ref h] (mt_B D dA h u)) (mt_Q D dA h (some (.int r)) u1) 0 0 (TA h) := by
  refine mt_met (by decide) rfl rfl rfl ?_
  intro p e s m args below meth c ls C hr hlocks hT hS hl
  have hx := C.1.1
  have hb := C.1.2.1
  unfold fX7_opens at hE
  refine lv_aload_n hx hb dX7_opens_0 rfl (lv_at hl 0 rfl) ?_
  refine tg_open C hT dX7_opens_1 ?_
  refine lv_bipush (v := (6 : Int32)) hx hb dX7_opens_4 rfl ?_
  refine lv_icmp_ne (tgt := 15) hx hb dX7_opens_6 (by decide) (fun c1 => ?_) (fun c1 => ?_)
  · have hE := z_f c1 hE
    refine lv_aload_n hx hb dX7_opens_15 rfl (lv_at hl 0 rfl) ?_
    refine lv_dup hx hb dX7_opens_16 rfl ?_
    refine tg_open C hT dX7_opens_17 ?_
    refine lv_iconst (v := (1 : Int32)) hx hb dX7_opens_20 rfl ?_
    refine lv_iadd hx hb dX7_opens_21 ?_
    refine tp_open C hT hS hE dX7_opens_22 (fun u2 H locs hE hT hS => ?_)
    refine lv_aload_n hx hb dX7_opens_25 rfl (lv_at hl 0 rfl) ?_
    obtain ⟨u3, hc, hE⟩ := o_bd_some hE
    refine tc_X7_next C hT hS (kX7_next hc) rfl rfl ⟨Nat.le_of_ble_eq_true rfl, Nat.le_of_ble_eq_true rfl⟩ ⟨Nat.le_refl 0, Nat.le_refl 0⟩ dX7_opens_26 hl.1 (Nat.le_of_ble_eq_true rfl) (fun H locs hT hS => ?_)
    refine lv_iconst (v := (1 : Int32)) hx hb dX7_opens_29 rfl ?_
    exact mt_zret C hr hlocks hT hS (Or.inr rfl) hE dX7_opens_30
  · have hE := z_t c1 hE
    refine lv_aload_n hx hb dX7_opens_9 rfl (lv_at hl 0 rfl) ?_
    obtain ⟨u4, hc, hE⟩ := o_bd_some hE
    refine tc_X7_fail C hT hS (kX7_fail hc) rfl rfl ⟨Nat.le_of_ble_eq_true rfl, Nat.le_of_ble_eq_true rfl⟩ ⟨Nat.le_refl 0, Nat.le_refl 0⟩ dX7_opens_10 hl.1 (Nat.le_of_ble_eq_true rfl) (fun H locs hT hS => ?_)
    refine lv_iconst (v := (0 : Int32)) hx hb dX7_opens_13 rfl ?_
    exact mt_zret C hr hlocks hT hS (Or.inl rfl) hE dX7_opens_14
theorem tc_X7_name {r : Int32} {u u1 : TS} {rm : Room} (C : TC p m c cc nL s args D dA) (hT : TW D dA h u H) (hS : va_S (TA h) H0 H locs) (hM : Met l yX7_name (ws_ yX7_name cX7_name 4 (some .int)) rm (va_Pc [.ref h] (mt_B D dA h u)) (mt_Q D dA h (some (.int r)) u1) 0 0 (TA h)) (hrc : rm.cells = 0) (hrs : rm.slots = 0) (hR : rm.frames + 1 ≤ R.frames ∧ 8 + (4 + 11) + rm.locals ≤ R.locals) (hf : cells + 0 ≤ R.cells ∧ slots + 0 ≤ R.slots) (d : decode cc pc = .ok (.invokevirtual 256, 3)) (hsz : ls.size = nL) (hro : (rest.map fun v => v.category).sum ≤ 8) (kk : ∀ (H1 : Heap) (locs1 : List Loc), TW D dA h u1 H1 → va_S (TA h) H0 H1 locs1 → W p l e R s m args below meth c H1 locs1 cells slots Q (F0 m (pc + 3) ls (.int r :: rest))) : W p l e R s m args below meth c H locs cells slots Q (F0 m pc ls (.ref h :: rest)) :=
  mt_call (v := (some (.int r))) (va_runV (As := []) (rest := rest) C.1 hM (cwV 0 C.1.2.2.2.2 (lw_V q1896 q1898 qs125 q177 q1899) rfl hrc hrs (by decide +kernel) hR) (mt_preV C.2 hT _) rfl rfl hsz rfl (lv_room hro) d hf) hS (fun _ z => z) (fun H1 locs1 a b _ _ => kk H1 locs1 a b)
set_option maxHeartbeats 4000000 in
set_option maxRecDepth 100000 in
theorem kX7_name {l : Launch} {D : va_G} {dA : Nat → ClassId} {h N : Nat} {u u1 : TS} {r : Int32} (hE : fX7_name N u = some (r, u1)) : Met l yX7_name (ws_ yX7_name cX7_name 4 (some .int)) ({ frames := 1, cells := 0, slots := 0, locals := 22 }) (va_Pc [.ref h] (mt_B D dA h u)) (mt_Q D dA h (some (.int r)) u1) 0 0 (TA h) := by
  refine mt_met (by decide) rfl rfl rfl ?_
  intro p e s m args below meth c ls C hr hlocks hT hS hl
  have hx := C.1.1
  have hb := C.1.2.1
  have w_266 : ∀ (u : TS) (y0 : Int32) (H : Heap) (locs : List Loc) (ls : Array Slot), fX7_name_266 N u y0 = some (r, u1) → TW D dA h u H → va_S (TA h) s.heap H locs → lv_has ls 4 [] → W p l e { frames := 1, cells := 0, slots := 0, locals := 22 } s m args below meth c H locs 0 0 (MQ below (mt_Q D dA h (some (.int r)) u1) args s 0 0 (TA h)) (F0 m 266 ls [.int y0]) := by
    intro u y0 H locs ls hE hT hS hl
    unfold fX7_name_266 at hE
    exact mt_iret C hr hlocks hT hS hE dX7_name_266
  have w_257 : ∀ (u : TS) (x3 : Int32) (H : Heap) (locs : List Loc) (ls : Array Slot), fX7_name_257 N u x3 = some (r, u1) → TW D dA h u H → va_S (TA h) s.heap H locs → lv_has ls 4 [(0, .ref h), (3, .int x3)] → W p l e { frames := 1, cells := 0, slots := 0, locals := 22 } s m args below meth c H locs 0 0 (MQ below (mt_Q D dA h (some (.int r)) u1) args s 0 0 (TA h)) (F0 m 257 ls []) := by
    intro u x3 H locs ls hE hT hS hl
    unfold fX7_name_257 at hE
    refine lv_aload_n hx hb dX7_name_257 rfl (lv_at hl 0 rfl) ?_
    refine lv_aload_n hx hb dX7_name_258 rfl (lv_at hl 0 rfl) ?_
    refine tg_about C hT dX7_name_259 ?_
    refine lv_iload_n hx hb dX7_name_262 rfl (lv_at hl 1 rfl) ?_
    obtain ⟨r2, u1, hc, hE⟩ := o_bd2_some hE
    refine tc_X7_st C hT hS (kX7_st hc) rfl rfl ⟨Nat.le_of_ble_eq_true rfl, Nat.le_of_ble_eq_true rfl⟩ ⟨Nat.le_refl 0, Nat.le_refl 0⟩ dX7_name_263 hl.1 (Nat.le_of_ble_eq_true rfl) (fun H locs hT hS => ?_)
    exact w_266 _ _ _ _ _ hE hT hS (lv_sub hl [] rfl)
  have w_217 : ∀ (u : TS) (x1 : Int32) (y0 : Int32) (H : Heap) (locs : List Loc) (ls : Array Slot), fX7_name_217 N u x1 y0 = some (r, u1) → TW D dA h u H → va_S (TA h) s.heap H locs → lv_has ls 4 [(0, .ref h), (1, .int x1)] → W p l e { frames := 1, cells := 0, slots := 0, locals := 22 } s m args below meth c H locs 0 0 (MQ below (mt_Q D dA h (some (.int r)) u1) args s 0 0 (TA h)) (F0 m 217 ls [.int y0]) := by
    intro u x1 y0 H locs ls hE hT hS hl
    unfold fX7_name_217 at hE
    refine lv_istore_n (lv' := [(3, .int y0), (0, .ref h), (1, .int x1)]) hx hb dX7_name_217 rfl hl (by decide) rfl (fun ls hl => ?_)
    refine lv_iload_n hx hb dX7_name_218 rfl (lv_at hl 0 rfl) ?_
    refine lv_iconst (v := (-1 : Int32)) hx hb dX7_name_219 rfl ?_
    refine lv_icmp_ne (tgt := 229) hx hb dX7_name_220 (by decide) (fun c3 => ?_) (fun c3 => ?_)
    · have hE := z_f c3 hE
      refine lv_iload_n hx hb dX7_name_229 rfl (lv_at hl 2 rfl) ?_
      refine lv_if_eq (tgt := 237) hx hb dX7_name_230 (by decide) (fun c4 => ?_) (fun c4 => ?_)
      · have hE := z_t c4 hE
        refine lv_iload_n hx hb dX7_name_237 rfl (lv_at hl 0 rfl) ?_
        refine lv_iconst (v := (5 : Int32)) hx hb dX7_name_238 rfl ?_
        refine lv_icmp_ne (tgt := 257) hx hb dX7_name_239 (by decide) (fun c5 => ?_) (fun c5 => ?_)
        · have hE := z_f c5 hE
          exact w_257 _ _ _ _ _ hE hT hS (lv_sub hl [1, 0] rfl)
        · have hE := z_t c5 hE
          refine lv_aload_n hx hb dX7_name_242 rfl (lv_at hl 1 rfl) ?_
          refine tg_oldAs C hT dX7_name_243 ?_
          refine lv_iconst (v := (-1 : Int32)) hx hb dX7_name_246 rfl ?_
          refine lv_icmp_eq (tgt := 257) hx hb dX7_name_247 (by decide) (fun c6 => ?_) (fun c6 => ?_)
          · have hE := z_t c6 hE
            exact w_257 _ _ _ _ _ hE hT hS (lv_sub hl [1, 0] rfl)
          · have hE := z_f c6 hE
            refine lv_aload_n hx hb dX7_name_250 rfl (lv_at hl 1 rfl) ?_
            refine tg_oldAs C hT dX7_name_251 ?_
            refine lv_goto (tgt := 266) hx hb dX7_name_254 (by decide) ?_
            exact w_266 _ _ _ _ _ hE hT hS (lv_sub hl [] rfl)
      · have hE := z_f c4 hE
        refine lv_iconst (v := (0 : Int32)) hx hb dX7_name_233 rfl ?_
        refine lv_goto (tgt := 266) hx hb dX7_name_234 (by decide) ?_
        exact w_266 _ _ _ _ _ hE hT hS (lv_sub hl [] rfl)
    · have hE := z_t c3 hE
      refine lv_aload_n hx hb dX7_name_223 rfl (lv_at hl 1 rfl) ?_
      obtain ⟨u7, hc, hE⟩ := o_bd_some hE
      refine tc_X7_fail C hT hS (kX7_fail hc) rfl rfl ⟨Nat.le_of_ble_eq_true rfl, Nat.le_of_ble_eq_true rfl⟩ ⟨Nat.le_refl 0, Nat.le_refl 0⟩ dX7_name_224 hl.1 (Nat.le_of_ble_eq_true rfl) (fun H locs hT hS => ?_)
      refine lv_iconst (v := (0 : Int32)) hx hb dX7_name_227 rfl ?_
      exact mt_iret C hr hlocks hT hS hE dX7_name_228
  have w_130 : ∀ (u : TS) (y0 : Int32) (H : Heap) (locs : List Loc) (ls : Array Slot), fX7_name_130 N u y0 = some (r, u1) → TW D dA h u H → va_S (TA h) s.heap H locs → lv_has ls 4 [] → W p l e { frames := 1, cells := 0, slots := 0, locals := 22 } s m args below meth c H locs 0 0 (MQ below (mt_Q D dA h (some (.int r)) u1) args s 0 0 (TA h)) (F0 m 130 ls [.int y0]) := by
    intro u y0 H locs ls hE hT hS hl
    unfold fX7_name_130 at hE
    exact mt_iret C hr hlocks hT hS hE dX7_name_130
  have w_103 : ∀ (u : TS) (y0 : Int32) (H : Heap) (locs : List Loc) (ls : Array Slot), fX7_name_103 N u y0 = some (r, u1) → TW D dA h u H → va_S (TA h) s.heap H locs → lv_has ls 4 [] → W p l e { frames := 1, cells := 0, slots := 0, locals := 22 } s m args below meth c H locs 0 0 (MQ below (mt_Q D dA h (some (.int r)) u1) args s 0 0 (TA h)) (F0 m 103 ls [.int y0]) := by
    intro u y0 H locs ls hE hT hS hl
    unfold fX7_name_103 at hE
    exact mt_iret C hr hlocks hT hS hE dX7_name_103
  have w_76 : ∀ (u : TS) (y0 : Int32) (H : Heap) (locs : List Loc) (ls : Array Slot), fX7_name_76 N u y0 = some (r, u1) → TW D dA h u H → va_S (TA h) s.heap H locs → lv_has ls 4 [] → W p l e { frames := 1, cells := 0, slots := 0, locals := 22 } s m args below meth c H locs 0 0 (MQ below (mt_Q D dA h (some (.int r)) u1) args s 0 0 (TA h)) (F0 m 76 ls [.int y0]) := by
    intro u y0 H locs ls hE hT hS hl
    unfold fX7_name_76 at hE
    exact mt_iret C hr hlocks hT hS hE dX7_name_76
  have w_14 : ∀ (u : TS) (y0 : Int32) (H : Heap) (locs : List Loc) (ls : Array Slot), fX7_name_14 N u y0 = some (r, u1) → TW D dA h u H → va_S (TA h) s.heap H locs → lv_has ls 4 [(0, .ref h)] → W p l e { frames := 1, cells := 0, slots := 0, locals := 22 } s m args below meth c H locs 0 0 (MQ below (mt_Q D dA h (some (.int r)) u1) args s 0 0 (TA h)) (F0 m 14 ls [.int y0]) := by
    intro u y0 H locs ls hE hT hS hl
    unfold fX7_name_14 at hE
    refine lv_istore_n (lv' := [(1, .int y0), (0, .ref h)]) hx hb dX7_name_14 rfl hl (by decide) rfl (fun ls hl => ?_)
    refine lv_sipush (v := (928 : Int32)) hx hb dX7_name_15 rfl ?_
    refine lv_iconst (v := (4 : Int32)) hx hb dX7_name_18 rfl ?_
    refine lv_aload_n hx hb dX7_name_19 rfl (lv_at hl 1 rfl) ?_
    refine tg_about C hT dX7_name_20 ?_
    refine lv_bipush (v := (100 : Int32)) hx hb dX7_name_23 rfl ?_
    refine lv_isub hx hb dX7_name_25 ?_
    refine lv_imul hx hb dX7_name_26 ?_
    refine lv_iadd hx hb dX7_name_27 ?_
    refine z_nmi hE (fun z8 hE => ?_)
    refine lv_istore_n (lv' := [(2, .int z8), (1, .int y0), (0, .ref h)]) hx hb dX7_name_28 rfl hl (by decide) rfl (fun ls hl => ?_)
    refine lv_aload_n hx hb dX7_name_29 rfl (lv_at hl 2 rfl) ?_
    refine lv_ldc2 (v := (495765 : Int64)) hx hb C.1.2.2.2.1 (C.1.2.2.2.2 _ q1900) dX7_name_30 ?_
    obtain ⟨r10, u9, hc, hE⟩ := o_bd2_some hE
    refine tc_X7_isWord C hT hS (kX7_isWord hc) rfl rfl ⟨Nat.le_of_ble_eq_true rfl, Nat.le_of_ble_eq_true rfl⟩ ⟨Nat.le_refl 0, Nat.le_refl 0⟩ dX7_name_33 hl.1 (Nat.le_of_ble_eq_true rfl) (fun H locs hT hS => ?_)
    refine lv_if_eq (tgt := 44) hx hb dX7_name_36 (by decide) (fun c11 => ?_) (fun c11 => ?_)
    · have hE := z_t c11 hE
      refine lv_aload_n hx hb dX7_name_44 rfl (lv_at hl 2 rfl) ?_
      refine lv_ldc2 (v := (1310105 : Int64)) hx hb C.1.2.2.2.1 (C.1.2.2.2.2 _ q1901) dX7_name_45 ?_
      obtain ⟨r13, u12, hc, hE⟩ := o_bd2_some hE
      refine tc_X7_isWord C hT hS (kX7_isWord hc) rfl rfl ⟨Nat.le_of_ble_eq_true rfl, Nat.le_of_ble_eq_true rfl⟩ ⟨Nat.le_refl 0, Nat.le_refl 0⟩ dX7_name_48 hl.1 (Nat.le_of_ble_eq_true rfl) (fun H locs hT hS => ?_)
      refine lv_if_eq (tgt := 77) hx hb dX7_name_51 (by decide) (fun c14 => ?_) (fun c14 => ?_)
      · have hE := z_t c14 hE
        refine lv_aload_n hx hb dX7_name_77 rfl (lv_at hl 2 rfl) ?_
        refine lv_ldc2 (v := (3172008997 : Int64)) hx hb C.1.2.2.2.1 (C.1.2.2.2.2 _ q1902) dX7_name_78 ?_
        obtain ⟨r16, u15, hc, hE⟩ := o_bd2_some hE
        refine tc_X7_isWord C hT hS (kX7_isWord hc) rfl rfl ⟨Nat.le_of_ble_eq_true rfl, Nat.le_of_ble_eq_true rfl⟩ ⟨Nat.le_refl 0, Nat.le_refl 0⟩ dX7_name_81 hl.1 (Nat.le_of_ble_eq_true rfl) (fun H locs hT hS => ?_)
        refine lv_if_eq (tgt := 104) hx hb dX7_name_84 (by decide) (fun c17 => ?_) (fun c17 => ?_)
        · have hE := z_t c17 hE
          refine lv_aload_n hx hb dX7_name_104 rfl (lv_at hl 2 rfl) ?_
          refine lv_ldc2 (v := (4350799 : Int64)) hx hb C.1.2.2.2.1 (C.1.2.2.2.2 _ q1903) dX7_name_105 ?_
          obtain ⟨r19, u18, hc, hE⟩ := o_bd2_some hE
          refine tc_X7_isWord C hT hS (kX7_isWord hc) rfl rfl ⟨Nat.le_of_ble_eq_true rfl, Nat.le_of_ble_eq_true rfl⟩ ⟨Nat.le_refl 0, Nat.le_refl 0⟩ dX7_name_108 hl.1 (Nat.le_of_ble_eq_true rfl) (fun H locs hT hS => ?_)
          refine lv_if_eq (tgt := 131) hx hb dX7_name_111 (by decide) (fun c20 => ?_) (fun c20 => ?_)
          · have hE := z_t c20 hE
            refine lv_aload_n hx hb dX7_name_131 rfl (lv_at hl 2 rfl) ?_
            refine lv_ldc2 (v := (223456 : Int64)) hx hb C.1.2.2.2.1 (C.1.2.2.2.2 _ q1904) dX7_name_132 ?_
            obtain ⟨r22, u21, hc, hE⟩ := o_bd2_some hE
            refine tc_X7_isWord C hT hS (kX7_isWord hc) rfl rfl ⟨Nat.le_of_ble_eq_true rfl, Nat.le_of_ble_eq_true rfl⟩ ⟨Nat.le_refl 0, Nat.le_refl 0⟩ dX7_name_135 hl.1 (Nat.le_of_ble_eq_true rfl) (fun H locs hT hS => ?_)
            refine lv_if_eq (tgt := 145) hx hb dX7_name_138 (by decide) (fun c23 => ?_) (fun c23 => ?_)
            · have hE := z_t c23 hE
              refine lv_aload_n hx hb dX7_name_145 rfl (lv_at hl 2 rfl) ?_
              refine lv_ldc2 (v := (381083 : Int64)) hx hb C.1.2.2.2.1 (C.1.2.2.2.2 _ q1905) dX7_name_146 ?_
              obtain ⟨r25, u24, hc, hE⟩ := o_bd2_some hE
              refine tc_X7_isWord C hT hS (kX7_isWord hc) rfl rfl ⟨Nat.le_of_ble_eq_true rfl, Nat.le_of_ble_eq_true rfl⟩ ⟨Nat.le_refl 0, Nat.le_refl 0⟩ dX7_name_149 hl.1 (Nat.le_of_ble_eq_true rfl) (fun H locs hT hS => ?_)
              refine lv_if_eq (tgt := 159) hx hb dX7_name_152 (by decide) (fun c26 => ?_) (fun c26 => ?_)
              · have hE := z_t c26 hE
                refine lv_aload_n hx hb dX7_name_159 rfl (lv_at hl 2 rfl) ?_
                refine lv_ldc2 (v := (10494835 : Int64)) hx hb C.1.2.2.2.1 (C.1.2.2.2.2 _ q1906) dX7_name_160 ?_
                obtain ⟨r28, u27, hc, hE⟩ := o_bd2_some hE
                refine tc_X7_isWord C hT hS (kX7_isWord hc) rfl rfl ⟨Nat.le_of_ble_eq_true rfl, Nat.le_of_ble_eq_true rfl⟩ ⟨Nat.le_refl 0, Nat.le_refl 0⟩ dX7_name_163 hl.1 (Nat.le_of_ble_eq_true rfl) (fun H locs hT hS => ?_)
                refine lv_if_eq (tgt := 173) hx hb dX7_name_166 (by decide) (fun c29 => ?_) (fun c29 => ?_)
                · have hE := z_t c29 hE
                  refine lv_aload_n hx hb dX7_name_173 rfl (lv_at hl 2 rfl) ?_
                  refine lv_ldc2 (v := (11263 : Int64)) hx hb C.1.2.2.2.1 (C.1.2.2.2.2 _ q1907) dX7_name_174 ?_
                  obtain ⟨r31, u30, hc, hE⟩ := o_bd2_some hE
                  refine tc_X7_isWord C hT hS (kX7_isWord hc) rfl rfl ⟨Nat.le_of_ble_eq_true rfl, Nat.le_of_ble_eq_true rfl⟩ ⟨Nat.le_refl 0, Nat.le_refl 0⟩ dX7_name_177 hl.1 (Nat.le_of_ble_eq_true rfl) (fun H locs hT hS => ?_)
                  refine lv_if_eq (tgt := 187) hx hb dX7_name_180 (by decide) (fun c32 => ?_) (fun c32 => ?_)
                  · have hE := z_t c32 hE
                    refine lv_aload_n hx hb dX7_name_187 rfl (lv_at hl 2 rfl) ?_
                    refine lv_ldc2 (v := (133743 : Int64)) hx hb C.1.2.2.2.1 (C.1.2.2.2.2 _ q1908) dX7_name_188 ?_
                    obtain ⟨r34, u33, hc, hE⟩ := o_bd2_some hE
                    refine tc_X7_isWord C hT hS (kX7_isWord hc) rfl rfl ⟨Nat.le_of_ble_eq_true rfl, Nat.le_of_ble_eq_true rfl⟩ ⟨Nat.le_refl 0, Nat.le_refl 0⟩ dX7_name_191 hl.1 (Nat.le_of_ble_eq_true rfl) (fun H locs hT hS => ?_)
                    refine lv_if_eq (tgt := 202) hx hb dX7_name_194 (by decide) (fun c35 => ?_) (fun c35 => ?_)
                    · have hE := z_t c35 hE
                      refine lv_aload_n hx hb dX7_name_202 rfl (lv_at hl 2 rfl) ?_
                      refine lv_ldc2 (v := (603766 : Int64)) hx hb C.1.2.2.2.1 (C.1.2.2.2.2 _ q1909) dX7_name_203 ?_
                      obtain ⟨r37, u36, hc, hE⟩ := o_bd2_some hE
                      refine tc_X7_isWord C hT hS (kX7_isWord hc) rfl rfl ⟨Nat.le_of_ble_eq_true rfl, Nat.le_of_ble_eq_true rfl⟩ ⟨Nat.le_refl 0, Nat.le_refl 0⟩ dX7_name_206 hl.1 (Nat.le_of_ble_eq_true rfl) (fun H locs hT hS => ?_)
                      refine lv_if_eq (tgt := 216) hx hb dX7_name_209 (by decide) (fun c38 => ?_) (fun c38 => ?_)
                      · have hE := z_t c38 hE
                        refine lv_iconst (v := (-1 : Int32)) hx hb dX7_name_216 rfl ?_
                        exact w_217 _ _ _ _ _ _ hE hT hS (lv_sub hl [2, 1] rfl)
                      · have hE := z_f c38 hE
                        refine lv_iconst (v := (4 : Int32)) hx hb dX7_name_212 rfl ?_
                        refine lv_goto (tgt := 217) hx hb dX7_name_213 (by decide) ?_
                        exact w_217 _ _ _ _ _ _ hE hT hS (lv_sub hl [2, 1] rfl)
                    · have hE := z_f c35 hE
                      refine lv_bipush (v := (6 : Int32)) hx hb dX7_name_197 rfl ?_
                      refine lv_goto (tgt := 217) hx hb dX7_name_199 (by decide) ?_
                      exact w_217 _ _ _ _ _ _ hE hT hS (lv_sub hl [2, 1] rfl)
                  · have hE := z_f c32 hE
                    refine lv_iconst (v := (5 : Int32)) hx hb dX7_name_183 rfl ?_
                    refine lv_goto (tgt := 217) hx hb dX7_name_184 (by decide) ?_
                    exact w_217 _ _ _ _ _ _ hE hT hS (lv_sub hl [2, 1] rfl)
                · have hE := z_f c29 hE
                  refine lv_iconst (v := (3 : Int32)) hx hb dX7_name_169 rfl ?_
                  refine lv_goto (tgt := 217) hx hb dX7_name_170 (by decide) ?_
                  exact w_217 _ _ _ _ _ _ hE hT hS (lv_sub hl [2, 1] rfl)
              · have hE := z_f c26 hE
                refine lv_iconst (v := (1 : Int32)) hx hb dX7_name_155 rfl ?_
                refine lv_goto (tgt := 217) hx hb dX7_name_156 (by decide) ?_
                exact w_217 _ _ _ _ _ _ hE hT hS (lv_sub hl [2, 1] rfl)
            · have hE := z_f c23 hE
              refine lv_iconst (v := (2 : Int32)) hx hb dX7_name_141 rfl ?_
              refine lv_goto (tgt := 217) hx hb dX7_name_142 (by decide) ?_
              exact w_217 _ _ _ _ _ _ hE hT hS (lv_sub hl [2, 1] rfl)
          · have hE := z_f c20 hE
            refine lv_iload_n hx hb dX7_name_114 rfl (lv_at hl 1 rfl) ?_
            refine lv_if_eq (tgt := 129) hx hb dX7_name_115 (by decide) (fun c39 => ?_) (fun c39 => ?_)
            · have hE := z_t c39 hE
              refine lv_iconst (v := (0 : Int32)) hx hb dX7_name_129 rfl ?_
              exact w_130 _ _ _ _ _ hE hT hS (lv_sub hl [] rfl)
            · have hE := z_f c39 hE
              refine lv_aload_n hx hb dX7_name_118 rfl (lv_at hl 2 rfl) ?_
              refine tg_s C hT dX7_name_119 ?_
              refine lv_iload_n hx hb dX7_name_122 rfl (lv_at hl 0 rfl) ?_
              refine lv_iconst (v := (2 : Int32)) hx hb dX7_name_123 rfl ?_
              refine lv_iadd hx hb dX7_name_124 ?_
              refine tl_s C hT hE dX7_name_125 (fun hE => ?_)
              refine z_nmi hE (fun v40 hE => ?_)
              refine lv_goto (tgt := 130) hx hb dX7_name_126 (by decide) ?_
              exact w_130 _ _ _ _ _ hE hT hS (lv_sub hl [] rfl)
        · have hE := z_f c17 hE
          refine lv_iload_n hx hb dX7_name_87 rfl (lv_at hl 1 rfl) ?_
          refine lv_if_eq (tgt := 102) hx hb dX7_name_88 (by decide) (fun c41 => ?_) (fun c41 => ?_)
          · have hE := z_t c41 hE
            refine lv_iconst (v := (0 : Int32)) hx hb dX7_name_102 rfl ?_
            exact w_103 _ _ _ _ _ hE hT hS (lv_sub hl [] rfl)
          · have hE := z_f c41 hE
            refine lv_aload_n hx hb dX7_name_91 rfl (lv_at hl 2 rfl) ?_
            refine tg_s C hT dX7_name_92 ?_
            refine lv_iload_n hx hb dX7_name_95 rfl (lv_at hl 0 rfl) ?_
            refine lv_iconst (v := (1 : Int32)) hx hb dX7_name_96 rfl ?_
            refine lv_iadd hx hb dX7_name_97 ?_
            refine tl_s C hT hE dX7_name_98 (fun hE => ?_)
            refine z_nmi hE (fun v42 hE => ?_)
            refine lv_goto (tgt := 103) hx hb dX7_name_99 (by decide) ?_
            exact w_103 _ _ _ _ _ hE hT hS (lv_sub hl [] rfl)
      · have hE := z_f c14 hE
        refine lv_iload_n hx hb dX7_name_54 rfl (lv_at hl 1 rfl) ?_
        refine lv_if_eq (tgt := 67) hx hb dX7_name_55 (by decide) (fun c43 => ?_) (fun c43 => ?_)
        · have hE := z_t c43 hE
          refine lv_aload_n hx hb dX7_name_67 rfl (lv_at hl 2 rfl) ?_
          refine lv_aload_n hx hb dX7_name_68 rfl (lv_at hl 2 rfl) ?_
          refine tg_about C hT dX7_name_69 ?_
          refine lv_iconst (v := (0 : Int32)) hx hb dX7_name_72 rfl ?_
          obtain ⟨r45, u44, hc, hE⟩ := o_bd2_some hE
          refine tc_X7_st C hT hS (kX7_st hc) rfl rfl ⟨Nat.le_of_ble_eq_true rfl, Nat.le_of_ble_eq_true rfl⟩ ⟨Nat.le_refl 0, Nat.le_refl 0⟩ dX7_name_73 hl.1 (Nat.le_of_ble_eq_true rfl) (fun H locs hT hS => ?_)
          exact w_76 _ _ _ _ _ hE hT hS (lv_sub hl [] rfl)
        · have hE := z_f c43 hE
          refine lv_aload_n hx hb dX7_name_58 rfl (lv_at hl 2 rfl) ?_
          refine tg_s C hT dX7_name_59 ?_
          refine lv_iload_n hx hb dX7_name_62 rfl (lv_at hl 0 rfl) ?_
          refine tl_s C hT hE dX7_name_63 (fun hE => ?_)
          refine z_nmi hE (fun v46 hE => ?_)
          refine lv_goto (tgt := 76) hx hb dX7_name_64 (by decide) ?_
          exact w_76 _ _ _ _ _ hE hT hS (lv_sub hl [] rfl)
    · have hE := z_f c11 hE
      refine lv_aload_n hx hb dX7_name_39 rfl (lv_at hl 2 rfl) ?_
      refine tg_asked C hT dX7_name_40 ?_
      exact mt_iret C hr hlocks hT hS hE dX7_name_43
  unfold fX7_name at hE
  refine lv_aload_n hx hb dX7_name_0 rfl (lv_at hl 0 rfl) ?_
  refine tg_about C hT dX7_name_1 ?_
  refine lv_bipush (v := (100 : Int32)) hx hb dX7_name_4 rfl ?_
  refine lv_icmp_lt (tgt := 13) hx hb dX7_name_6 (by decide) (fun c47 => ?_) (fun c47 => ?_)
  · have hE := z_t c47 hE
    refine lv_iconst (v := (0 : Int32)) hx hb dX7_name_13 rfl ?_
    exact w_14 _ _ _ _ _ hE hT hS (lv_sub hl [0] rfl)
  · have hE := z_f c47 hE
    refine lv_iconst (v := (1 : Int32)) hx hb dX7_name_9 rfl ?_
    refine lv_goto (tgt := 14) hx hb dX7_name_10 (by decide) ?_
    exact w_14 _ _ _ _ _ hE hT hS (lv_sub hl [0] rfl)
def pg_rm (d : Nat) : Room := { frames := 3 + d, cells := 0, slots := 0, locals := 64 + 32 * d }
theorem pg_r {d f x : Nat} (h1 : f + 1 ≤ 3) (h2 : x ≤ 64) : f + 1 ≤ (pg_rm (d + 1)).frames ∧ x ≤ (pg_rm (d + 1)).locals := by
  constructor
  · show _ ≤ 3 + (d + 1)
    omega
  · show _ ≤ 64 + 32 * (d + 1)
    omega
theorem pg_rr {d k : Nat} (h : k ≤ 13) : (pg_rm d).frames + 1 ≤ (pg_rm (d + 1)).frames ∧ 8 + (k + 11) + (pg_rm d).locals ≤ (pg_rm (d + 1)).locals := by
  constructor
  · show 3 + d + 1 ≤ 3 + (d + 1)
    omega
  · show 8 + (k + 11) + (64 + 32 * d) ≤ 64 + 32 * (d + 1)
    omega
def pg_M (l : Launch) (D : va_G) (dA : Nat → ClassId) (h d w : Nat) (u u1 : TS) (r : Int32) : Prop := match w with
  | 0 => Met l yX7_one (ws_ yX7_one cX7_one 2 (some .int)) (pg_rm d) (va_Pc [.ref h] (mt_B D dA h u)) (mt_Q D dA h (some (.int r)) u1) 0 0 (TA h)
  | 1 => Met l yX7_term (ws_ yX7_term cX7_term 5 (some .int)) (pg_rm d) (va_Pc [.ref h] (mt_B D dA h u)) (mt_Q D dA h (some (.int r)) u1) 0 0 (TA h)
  | 2 => Met l yX7_added (ws_ yX7_added cX7_added 4 (some .int)) (pg_rm d) (va_Pc [.ref h] (mt_B D dA h u)) (mt_Q D dA h (some (.int r)) u1) 0 0 (TA h)
  | 3 => Met l yX7_not (ws_ yX7_not cX7_not 5 (some .int)) (pg_rm d) (va_Pc [.ref h] (mt_B D dA h u)) (mt_Q D dA h (some (.int r)) u1) 0 0 (TA h)
  | 4 => Met l yX7_both (ws_ yX7_both cX7_both 3 (some .int)) (pg_rm d) (va_Pc [.ref h] (mt_B D dA h u)) (mt_Q D dA h (some (.int r)) u1) 0 0 (TA h)
  | _ => Met l yX7_either (ws_ yX7_either cX7_either 3 (some .int)) (pg_rm d) (va_Pc [.ref h] (mt_B D dA h u)) (mt_Q D dA h (some (.int r)) u1) 0 0 (TA h)
def pg_hyp (l : Launch) (D : va_G) (dA : Nat → ClassId) (h d : Nat) (g : Nat → TS → Option (Int32 × TS)) : Prop := ∀ (w : Nat) (u u1 : TS) (r : Int32), g w u = some (r, u1) → pg_M l D dA h d w u u1 r
theorem tc_X7_one {r : Int32} {u u1 : TS} {rm : Room} (C : TC p m c cc nL s args D dA) (hT : TW D dA h u H) (hS : va_S (TA h) H0 H locs) (hM : Met l yX7_one (ws_ yX7_one cX7_one 2 (some .int)) rm (va_Pc [.ref h] (mt_B D dA h u)) (mt_Q D dA h (some (.int r)) u1) 0 0 (TA h)) (hrc : rm.cells = 0) (hrs : rm.slots = 0) (hR : rm.frames + 1 ≤ R.frames ∧ 8 + (2 + 11) + rm.locals ≤ R.locals) (hf : cells + 0 ≤ R.cells ∧ slots + 0 ≤ R.slots) (d : decode cc pc = .ok (.invokevirtual 250, 3)) (hsz : ls.size = nL) (hro : (rest.map fun v => v.category).sum ≤ 8) (kk : ∀ (H1 : Heap) (locs1 : List Loc), TW D dA h u1 H1 → va_S (TA h) H0 H1 locs1 → W p l e R s m args below meth c H1 locs1 cells slots Q (F0 m (pc + 3) ls (.int r :: rest))) : W p l e R s m args below meth c H locs cells slots Q (F0 m pc ls (.ref h :: rest)) :=
  mt_call (v := (some (.int r))) (va_runV (As := []) (rest := rest) C.1 hM (cwV 0 C.1.2.2.2.2 (lw_V q1888 q1890 qs123 q177 q1891) rfl hrc hrs (by decide +kernel) hR) (mt_preV C.2 hT _) rfl rfl hsz rfl (lv_room hro) d hf) hS (fun _ z => z) (fun H1 locs1 a b _ _ => kk H1 locs1 a b)
theorem tc_X7_term {r : Int32} {u u1 : TS} {rm : Room} (C : TC p m c cc nL s args D dA) (hT : TW D dA h u H) (hS : va_S (TA h) H0 H locs) (hM : Met l yX7_term (ws_ yX7_term cX7_term 5 (some .int)) rm (va_Pc [.ref h] (mt_B D dA h u)) (mt_Q D dA h (some (.int r)) u1) 0 0 (TA h)) (hrc : rm.cells = 0) (hrs : rm.slots = 0) (hR : rm.frames + 1 ≤ R.frames ∧ 8 + (5 + 11) + rm.locals ≤ R.locals) (hf : cells + 0 ≤ R.cells ∧ slots + 0 ≤ R.slots) (d : decode cc pc = .ok (.invokevirtual 263, 3)) (hsz : ls.size = nL) (hro : (rest.map fun v => v.category).sum ≤ 8) (kk : ∀ (H1 : Heap) (locs1 : List Loc), TW D dA h u1 H1 → va_S (TA h) H0 H1 locs1 → W p l e R s m args below meth c H1 locs1 cells slots Q (F0 m (pc + 3) ls (.int r :: rest))) : W p l e R s m args below meth c H locs cells slots Q (F0 m pc ls (.ref h :: rest)) :=
  mt_call (v := (some (.int r))) (va_runV (As := []) (rest := rest) C.1 hM (cwV 0 C.1.2.2.2.2 (lw_V q1884 q1886 qs122 q177 q1887) rfl hrc hrs (by decide +kernel) hR) (mt_preV C.2 hT _) rfl rfl hsz rfl (lv_room hro) d hf) hS (fun _ z => z) (fun H1 locs1 a b _ _ => kk H1 locs1 a b)
theorem tc_X7_added {r : Int32} {u u1 : TS} {rm : Room} (C : TC p m c cc nL s args D dA) (hT : TW D dA h u H) (hS : va_S (TA h) H0 H locs) (hM : Met l yX7_added (ws_ yX7_added cX7_added 4 (some .int)) rm (va_Pc [.ref h] (mt_B D dA h u)) (mt_Q D dA h (some (.int r)) u1) 0 0 (TA h)) (hrc : rm.cells = 0) (hrs : rm.slots = 0) (hR : rm.frames + 1 ≤ R.frames ∧ 8 + (4 + 11) + rm.locals ≤ R.locals) (hf : cells + 0 ≤ R.cells ∧ slots + 0 ≤ R.slots) (d : decode cc pc = .ok (.invokevirtual 273, 3)) (hsz : ls.size = nL) (hro : (rest.map fun v => v.category).sum ≤ 8) (kk : ∀ (H1 : Heap) (locs1 : List Loc), TW D dA h u1 H1 → va_S (TA h) H0 H1 locs1 → W p l e R s m args below meth c H1 locs1 cells slots Q (F0 m (pc + 3) ls (.int r :: rest))) : W p l e R s m args below meth c H locs cells slots Q (F0 m pc ls (.ref h :: rest)) :=
  mt_call (v := (some (.int r))) (va_runV (As := []) (rest := rest) C.1 hM (cwV 0 C.1.2.2.2.2 (lw_V q1880 q1882 qs121 q177 q1883) rfl hrc hrs (by decide +kernel) hR) (mt_preV C.2 hT _) rfl rfl hsz rfl (lv_room hro) d hf) hS (fun _ z => z) (fun H1 locs1 a b _ _ => kk H1 locs1 a b)
theorem tc_X7_not {r : Int32} {u u1 : TS} {rm : Room} (C : TC p m c cc nL s args D dA) (hT : TW D dA h u H) (hS : va_S (TA h) H0 H locs) (hM : Met l yX7_not (ws_ yX7_not cX7_not 5 (some .int)) rm (va_Pc [.ref h] (mt_B D dA h u)) (mt_Q D dA h (some (.int r)) u1) 0 0 (TA h)) (hrc : rm.cells = 0) (hrs : rm.slots = 0) (hR : rm.frames + 1 ≤ R.frames ∧ 8 + (5 + 11) + rm.locals ≤ R.locals) (hf : cells + 0 ≤ R.cells ∧ slots + 0 ≤ R.slots) (d : decode cc pc = .ok (.invokevirtual 270, 3)) (hsz : ls.size = nL) (hro : (rest.map fun v => v.category).sum ≤ 8) (kk : ∀ (H1 : Heap) (locs1 : List Loc), TW D dA h u1 H1 → va_S (TA h) H0 H1 locs1 → W p l e R s m args below meth c H1 locs1 cells slots Q (F0 m (pc + 3) ls (.int r :: rest))) : W p l e R s m args below meth c H locs cells slots Q (F0 m pc ls (.ref h :: rest)) :=
  mt_call (v := (some (.int r))) (va_runV (As := []) (rest := rest) C.1 hM (cwV 0 C.1.2.2.2.2 (lw_V q1871 q1873 qs119 q177 q1874) rfl hrc hrs (by decide +kernel) hR) (mt_preV C.2 hT _) rfl rfl hsz rfl (lv_room hro) d hf) hS (fun _ z => z) (fun H1 locs1 a b _ _ => kk H1 locs1 a b)
theorem tc_X7_both {r : Int32} {u u1 : TS} {rm : Room} (C : TC p m c cc nL s args D dA) (hT : TW D dA h u H) (hS : va_S (TA h) H0 H locs) (hM : Met l yX7_both (ws_ yX7_both cX7_both 3 (some .int)) rm (va_Pc [.ref h] (mt_B D dA h u)) (mt_Q D dA h (some (.int r)) u1) 0 0 (TA h)) (hrc : rm.cells = 0) (hrs : rm.slots = 0) (hR : rm.frames + 1 ≤ R.frames ∧ 8 + (3 + 11) + rm.locals ≤ R.locals) (hf : cells + 0 ≤ R.cells ∧ slots + 0 ≤ R.slots) (d : decode cc pc = .ok (.invokevirtual 282, 3)) (hsz : ls.size = nL) (hro : (rest.map fun v => v.category).sum ≤ 8) (kk : ∀ (H1 : Heap) (locs1 : List Loc), TW D dA h u1 H1 → va_S (TA h) H0 H1 locs1 → W p l e R s m args below meth c H1 locs1 cells slots Q (F0 m (pc + 3) ls (.int r :: rest))) : W p l e R s m args below meth c H locs cells slots Q (F0 m pc ls (.ref h :: rest)) :=
  mt_call (v := (some (.int r))) (va_runV (As := []) (rest := rest) C.1 hM (cwV 0 C.1.2.2.2.2 (lw_V q1867 q1869 qs118 q177 q1870) rfl hrc hrs (by decide +kernel) hR) (mt_preV C.2 hT _) rfl rfl hsz rfl (lv_room hro) d hf) hS (fun _ z => z) (fun H1 locs1 a b _ _ => kk H1 locs1 a b)
theorem tc_X7_either {r : Int32} {u u1 : TS} {rm : Room} (C : TC p m c cc nL s args D dA) (hT : TW D dA h u H) (hS : va_S (TA h) H0 H locs) (hM : Met l yX7_either (ws_ yX7_either cX7_either 3 (some .int)) rm (va_Pc [.ref h] (mt_B D dA h u)) (mt_Q D dA h (some (.int r)) u1) 0 0 (TA h)) (hrc : rm.cells = 0) (hrs : rm.slots = 0) (hR : rm.frames + 1 ≤ R.frames ∧ 8 + (3 + 11) + rm.locals ≤ R.locals) (hf : cells + 0 ≤ R.cells ∧ slots + 0 ≤ R.slots) (d : decode cc pc = .ok (.invokevirtual 253, 3)) (hsz : ls.size = nL) (hro : (rest.map fun v => v.category).sum ≤ 8) (kk : ∀ (H1 : Heap) (locs1 : List Loc), TW D dA h u1 H1 → va_S (TA h) H0 H1 locs1 → W p l e R s m args below meth c H1 locs1 cells slots Q (F0 m (pc + 3) ls (.int r :: rest))) : W p l e R s m args below meth c H locs cells slots Q (F0 m pc ls (.ref h :: rest)) :=
  mt_call (v := (some (.int r))) (va_runV (As := []) (rest := rest) C.1 hM (cwV 0 C.1.2.2.2.2 (lw_V q1863 q1865 qs117 q177 q1866) rfl hrc hrs (by decide +kernel) hR) (mt_preV C.2 hT _) rfl rfl hsz rfl (lv_room hro) d hf) hS (fun _ z => z) (fun H1 locs1 a b _ _ => kk H1 locs1 a b)
set_option maxHeartbeats 4000000 in
set_option maxRecDepth 100000 in
theorem kX7_one_open {l : Launch} {D : va_G} {dA : Nat → ClassId} {h N : Nat} {u u1 : TS} {r : Int32} {d : Nat} {g : Nat → TS → Option (Int32 × TS)} (hg : pg_hyp l D dA h d g) (hE : fX7_one N g u = some (r, u1)) : Met l yX7_one (ws_ yX7_one cX7_one 2 (some .int)) (pg_rm (d + 1)) (va_Pc [.ref h] (mt_B D dA h u)) (mt_Q D dA h (some (.int r)) u1) 0 0 (TA h) := by
  refine mt_met (by decide) rfl rfl rfl ?_
  intro p e s m args below meth c ls C hr hlocks hT hS hl
  have hx := C.1.1
  have hb := C.1.2.1
  have w_161 : ∀ (u : TS) (x1 : Int32) (H : Heap) (locs : List Loc) (ls : Array Slot), fX7_one_161 N g u x1 = some (r, u1) → TW D dA h u H → va_S (TA h) s.heap H locs → lv_has ls 2 [(1, .int x1)] → W p l e (pg_rm (d + 1)) s m args below meth c H locs 0 0 (MQ below (mt_Q D dA h (some (.int r)) u1) args s 0 0 (TA h)) (F0 m 161 ls []) := by
    intro u x1 H locs ls hE hT hS hl
    unfold fX7_one_161 at hE
    refine lv_iload_n hx hb dX7_one_161 rfl (lv_at hl 0 rfl) ?_
    exact mt_iret C hr hlocks hT hS hE dX7_one_162
  have w_157 : ∀ (u : TS) (x1 : Int32) (H : Heap) (locs : List Loc) (ls : Array Slot), fX7_one_157 N g u x1 = some (r, u1) → TW D dA h u H → va_S (TA h) s.heap H locs → lv_has ls 2 [(0, .ref h), (1, .int x1)] → W p l e (pg_rm (d + 1)) s m args below meth c H locs 0 0 (MQ below (mt_Q D dA h (some (.int r)) u1) args s 0 0 (TA h)) (F0 m 157 ls []) := by
    intro u x1 H locs ls hE hT hS hl
    unfold fX7_one_157 at hE
    refine lv_aload_n hx hb dX7_one_157 rfl (lv_at hl 0 rfl) ?_
    obtain ⟨u1, hc, hE⟩ := o_bd_some hE
    refine tc_X7_fail C hT hS (kX7_fail hc) rfl rfl (pg_r (by decide) (by decide)) ⟨Nat.le_refl 0, Nat.le_refl 0⟩ dX7_one_158 hl.1 (Nat.le_of_ble_eq_true rfl) (fun H locs hT hS => ?_)
    exact w_161 _ _ _ _ _ hE hT hS (lv_sub hl [1] rfl)
  have w_123 : ∀ (u : TS) (x1 : Int32) (H : Heap) (locs : List Loc) (ls : Array Slot), fX7_one_123 N g u x1 = some (r, u1) → TW D dA h u H → va_S (TA h) s.heap H locs → lv_has ls 2 [(0, .ref h), (1, .int x1)] → W p l e (pg_rm (d + 1)) s m args below meth c H locs 0 0 (MQ below (mt_Q D dA h (some (.int r)) u1) args s 0 0 (TA h)) (F0 m 123 ls []) := by
    intro u x1 H locs ls hE hT hS hl
    unfold fX7_one_123 at hE
    refine lv_aload_n hx hb dX7_one_123 rfl (lv_at hl 0 rfl) ?_
    refine tg_bad C hT dX7_one_124 ?_
    refine lv_if_ne (tgt := 157) hx hb dX7_one_127 (by decide) (fun c2 => ?_) (fun c2 => ?_)
    · have hE := z_f c2 hE
      exact w_157 _ _ _ _ _ hE hT hS (lv_sub hl [0, 1] rfl)
    · have hE := z_t c2 hE
      refine lv_aload_n hx hb dX7_one_130 rfl (lv_at hl 0 rfl) ?_
      refine tg_token C hT dX7_one_131 ?_
      refine lv_iconst (v := (1 : Int32)) hx hb dX7_one_134 rfl ?_
      refine lv_icmp_ne (tgt := 157) hx hb dX7_one_135 (by decide) (fun c3 => ?_) (fun c3 => ?_)
      · have hE := z_f c3 hE
        exact w_157 _ _ _ _ _ hE hT hS (lv_sub hl [0, 1] rfl)
      · have hE := z_t c3 hE
        refine lv_aload_n hx hb dX7_one_138 rfl (lv_at hl 0 rfl) ?_
        obtain ⟨r5, u4, hc, hE⟩ := o_bd2_some hE
        refine tc_X7_name C hT hS (kX7_name hc) rfl rfl (pg_r (by decide) (by decide)) ⟨Nat.le_refl 0, Nat.le_refl 0⟩ dX7_one_139 hl.1 (Nat.le_of_ble_eq_true rfl) (fun H locs hT hS => ?_)
        refine lv_istore_n (lv' := [(1, .int r5), (0, .ref h)]) hx hb dX7_one_142 rfl hl (by decide) rfl (fun ls hl => ?_)
        refine lv_aload_n hx hb dX7_one_143 rfl (lv_at hl 1 rfl) ?_
        refine tg_bad C hT dX7_one_144 ?_
        refine lv_if_ne (tgt := 161) hx hb dX7_one_147 (by decide) (fun c6 => ?_) (fun c6 => ?_)
        · have hE := z_f c6 hE
          exact w_161 _ _ _ _ _ hE hT hS (lv_sub hl [0] rfl)
        · have hE := z_t c6 hE
          refine lv_aload_n hx hb dX7_one_150 rfl (lv_at hl 1 rfl) ?_
          obtain ⟨u7, hc, hE⟩ := o_bd_some hE
          refine tc_X7_next C hT hS (kX7_next hc) rfl rfl (pg_r (by decide) (by decide)) ⟨Nat.le_refl 0, Nat.le_refl 0⟩ dX7_one_151 hl.1 (Nat.le_of_ble_eq_true rfl) (fun H locs hT hS => ?_)
          refine lv_goto (tgt := 161) hx hb dX7_one_154 (by decide) ?_
          exact w_161 _ _ _ _ _ hE hT hS (lv_sub hl [0] rfl)
  have w_71 : ∀ (u : TS) (x1 : Int32) (H : Heap) (locs : List Loc) (ls : Array Slot), fX7_one_71 N g u x1 = some (r, u1) → TW D dA h u H → va_S (TA h) s.heap H locs → lv_has ls 2 [(0, .ref h), (1, .int x1)] → W p l e (pg_rm (d + 1)) s m args below meth c H locs 0 0 (MQ below (mt_Q D dA h (some (.int r)) u1) args s 0 0 (TA h)) (F0 m 71 ls []) := by
    intro u x1 H locs ls hE hT hS hl
    unfold fX7_one_71 at hE
    refine lv_aload_n hx hb dX7_one_71 rfl (lv_at hl 0 rfl) ?_
    refine lv_dup hx hb dX7_one_72 rfl ?_
    refine tg_open C hT dX7_one_73 ?_
    refine lv_iconst (v := (1 : Int32)) hx hb dX7_one_76 rfl ?_
    refine lv_isub hx hb dX7_one_77 ?_
    refine tp_open C hT hS hE dX7_one_78 (fun u8 H locs hE hT hS => ?_)
    refine lv_aload_n hx hb dX7_one_81 rfl (lv_at hl 0 rfl) ?_
    refine tg_bad C hT dX7_one_82 ?_
    refine lv_if_ne (tgt := 161) hx hb dX7_one_85 (by decide) (fun c9 => ?_) (fun c9 => ?_)
    · have hE := z_f c9 hE
      exact w_161 _ _ _ _ _ hE hT hS (lv_sub hl [1] rfl)
    · have hE := z_t c9 hE
      refine lv_aload_n hx hb dX7_one_88 rfl (lv_at hl 0 rfl) ?_
      obtain ⟨u10, hc, hE⟩ := o_bd_some hE
      refine tc_X7_next C hT hS (kX7_next hc) rfl rfl (pg_r (by decide) (by decide)) ⟨Nat.le_refl 0, Nat.le_refl 0⟩ dX7_one_89 hl.1 (Nat.le_of_ble_eq_true rfl) (fun H locs hT hS => ?_)
      refine lv_goto (tgt := 161) hx hb dX7_one_92 (by decide) ?_
      exact w_161 _ _ _ _ _ hE hT hS (lv_sub hl [1] rfl)
  unfold fX7_one at hE
  refine lv_iconst (v := (0 : Int32)) hx hb dX7_one_0 rfl ?_
  refine lv_istore_n (lv' := [(1, .int (0 : Int32)), (0, .ref h)]) hx hb dX7_one_1 rfl hl (by decide) rfl (fun ls hl => ?_)
  refine lv_aload_n hx hb dX7_one_2 rfl (lv_at hl 1 rfl) ?_
  refine lv_bipush (v := (45 : Int32)) hx hb dX7_one_3 rfl ?_
  obtain ⟨r12, u11, hc, hE⟩ := o_bd2_some hE
  refine tc_X7_isSign C hT hS (kX7_isSign hc) rfl rfl (pg_r (by decide) (by decide)) ⟨Nat.le_refl 0, Nat.le_refl 0⟩ dX7_one_5 hl.1 (Nat.le_of_ble_eq_true rfl) (fun H locs hT hS => ?_)
  refine lv_if_eq (tgt := 37) hx hb dX7_one_8 (by decide) (fun c13 => ?_) (fun c13 => ?_)
  · have hE := z_t c13 hE
    refine lv_aload_n hx hb dX7_one_37 rfl (lv_at hl 1 rfl) ?_
    refine lv_bipush (v := (40 : Int32)) hx hb dX7_one_38 rfl ?_
    obtain ⟨r15, u14, hc, hE⟩ := o_bd2_some hE
    refine tc_X7_isSign C hT hS (kX7_isSign hc) rfl rfl (pg_r (by decide) (by decide)) ⟨Nat.le_refl 0, Nat.le_refl 0⟩ dX7_one_40 hl.1 (Nat.le_of_ble_eq_true rfl) (fun H locs hT hS => ?_)
    refine lv_if_eq (tgt := 95) hx hb dX7_one_43 (by decide) (fun c16 => ?_) (fun c16 => ?_)
    · have hE := z_t c16 hE
      refine lv_aload_n hx hb dX7_one_95 rfl (lv_at hl 1 rfl) ?_
      refine tg_bad C hT dX7_one_96 ?_
      refine lv_if_ne (tgt := 123) hx hb dX7_one_99 (by decide) (fun c17 => ?_) (fun c17 => ?_)
      · have hE := z_f c17 hE
        exact w_123 _ _ _ _ _ hE hT hS (lv_sub hl [1, 0] rfl)
      · have hE := z_t c17 hE
        refine lv_aload_n hx hb dX7_one_102 rfl (lv_at hl 1 rfl) ?_
        refine tg_token C hT dX7_one_103 ?_
        refine lv_iconst (v := (2 : Int32)) hx hb dX7_one_106 rfl ?_
        refine lv_icmp_ne (tgt := 123) hx hb dX7_one_107 (by decide) (fun c18 => ?_) (fun c18 => ?_)
        · have hE := z_f c18 hE
          exact w_123 _ _ _ _ _ hE hT hS (lv_sub hl [1, 0] rfl)
        · have hE := z_t c18 hE
          refine lv_aload_n hx hb dX7_one_110 rfl (lv_at hl 1 rfl) ?_
          refine tg_tokenWorth C hT dX7_one_111 ?_
          refine lv_l2i hx hb dX7_one_114 rfl ?_
          refine z_nmi hE (fun z19 hE => ?_)
          refine lv_istore_n (lv' := [(1, .int z19), (0, .ref h)]) hx hb dX7_one_115 rfl hl (by decide) rfl (fun ls hl => ?_)
          refine lv_aload_n hx hb dX7_one_116 rfl (lv_at hl 1 rfl) ?_
          obtain ⟨u20, hc, hE⟩ := o_bd_some hE
          refine tc_X7_next C hT hS (kX7_next hc) rfl rfl (pg_r (by decide) (by decide)) ⟨Nat.le_refl 0, Nat.le_refl 0⟩ dX7_one_117 hl.1 (Nat.le_of_ble_eq_true rfl) (fun H locs hT hS => ?_)
          refine lv_goto (tgt := 161) hx hb dX7_one_120 (by decide) ?_
          exact w_161 _ _ _ _ _ hE hT hS (lv_sub hl [0] rfl)
    · have hE := z_f c16 hE
      refine lv_aload_n hx hb dX7_one_46 rfl (lv_at hl 1 rfl) ?_
      obtain ⟨r22, u21, hc, hE⟩ := o_bd2_some hE
      refine tc_X7_opens C hT hS (kX7_opens hc) rfl rfl (pg_r (by decide) (by decide)) ⟨Nat.le_refl 0, Nat.le_refl 0⟩ dX7_one_47 hl.1 (Nat.le_of_ble_eq_true rfl) (fun H locs hT hS => ?_)
      refine lv_if_eq (tgt := 161) hx hb dX7_one_50 (by decide) (fun c23 => ?_) (fun c23 => ?_)
      · have hE := z_t c23 hE
        exact w_161 _ _ _ _ _ hE hT hS (lv_sub hl [0] rfl)
      · have hE := z_f c23 hE
        refine lv_aload_n hx hb dX7_one_53 rfl (lv_at hl 1 rfl) ?_
        obtain ⟨r25, u24, hc, hE⟩ := o_bd2_some hE
        refine tc_X7_either C hT hS (hg _ _ _ _ hc) rfl rfl (pg_rr (by decide)) ⟨Nat.le_refl 0, Nat.le_refl 0⟩ dX7_one_54 hl.1 (Nat.le_of_ble_eq_true rfl) (fun H locs hT hS => ?_)
        refine lv_istore_n (lv' := [(1, .int r25), (0, .ref h)]) hx hb dX7_one_57 rfl hl (by decide) rfl (fun ls hl => ?_)
        refine lv_aload_n hx hb dX7_one_58 rfl (lv_at hl 1 rfl) ?_
        refine lv_bipush (v := (41 : Int32)) hx hb dX7_one_59 rfl ?_
        obtain ⟨r27, u26, hc, hE⟩ := o_bd2_some hE
        refine tc_X7_isSign C hT hS (kX7_isSign hc) rfl rfl (pg_r (by decide) (by decide)) ⟨Nat.le_refl 0, Nat.le_refl 0⟩ dX7_one_61 hl.1 (Nat.le_of_ble_eq_true rfl) (fun H locs hT hS => ?_)
        refine lv_if_ne (tgt := 71) hx hb dX7_one_64 (by decide) (fun c28 => ?_) (fun c28 => ?_)
        · have hE := z_f c28 hE
          exact w_71 _ _ _ _ _ hE hT hS (lv_sub hl [1, 0] rfl)
        · have hE := z_t c28 hE
          refine lv_aload_n hx hb dX7_one_67 rfl (lv_at hl 1 rfl) ?_
          obtain ⟨u29, hc, hE⟩ := o_bd_some hE
          refine tc_X7_fail C hT hS (kX7_fail hc) rfl rfl (pg_r (by decide) (by decide)) ⟨Nat.le_refl 0, Nat.le_refl 0⟩ dX7_one_68 hl.1 (Nat.le_of_ble_eq_true rfl) (fun H locs hT hS => ?_)
          exact w_71 _ _ _ _ _ hE hT hS (lv_sub hl [1, 0] rfl)
  · have hE := z_f c13 hE
    refine lv_aload_n hx hb dX7_one_11 rfl (lv_at hl 1 rfl) ?_
    obtain ⟨r31, u30, hc, hE⟩ := o_bd2_some hE
    refine tc_X7_opens C hT hS (kX7_opens hc) rfl rfl (pg_r (by decide) (by decide)) ⟨Nat.le_refl 0, Nat.le_refl 0⟩ dX7_one_12 hl.1 (Nat.le_of_ble_eq_true rfl) (fun H locs hT hS => ?_)
    refine lv_if_eq (tgt := 161) hx hb dX7_one_15 (by decide) (fun c32 => ?_) (fun c32 => ?_)
    · have hE := z_t c32 hE
      exact w_161 _ _ _ _ _ hE hT hS (lv_sub hl [0] rfl)
    · have hE := z_f c32 hE
      refine lv_aload_n hx hb dX7_one_18 rfl (lv_at hl 1 rfl) ?_
      obtain ⟨r34, u33, hc, hE⟩ := o_bd2_some hE
      refine tc_X7_one C hT hS (hg _ _ _ _ hc) rfl rfl (pg_rr (by decide)) ⟨Nat.le_refl 0, Nat.le_refl 0⟩ dX7_one_19 hl.1 (Nat.le_of_ble_eq_true rfl) (fun H locs hT hS => ?_)
      refine lv_ineg hx hb dX7_one_22 ?_
      refine z_nmi hE (fun z35 hE => ?_)
      refine lv_istore_n (lv' := [(1, .int z35), (0, .ref h)]) hx hb dX7_one_23 rfl hl (by decide) rfl (fun ls hl => ?_)
      refine lv_aload_n hx hb dX7_one_24 rfl (lv_at hl 1 rfl) ?_
      refine lv_dup hx hb dX7_one_25 rfl ?_
      refine tg_open C hT dX7_one_26 ?_
      refine lv_iconst (v := (1 : Int32)) hx hb dX7_one_29 rfl ?_
      refine lv_isub hx hb dX7_one_30 ?_
      refine tp_open C hT hS hE dX7_one_31 (fun u36 H locs hE hT hS => ?_)
      refine lv_goto (tgt := 161) hx hb dX7_one_34 (by decide) ?_
      exact w_161 _ _ _ _ _ hE hT hS (lv_sub hl [0] rfl)
set_option maxHeartbeats 4000000 in
set_option maxRecDepth 100000 in
theorem kX7_term_open {l : Launch} {D : va_G} {dA : Nat → ClassId} {h N : Nat} {u u1 : TS} {r : Int32} {d : Nat} {g : Nat → TS → Option (Int32 × TS)} (hg : pg_hyp l D dA h d g) (hE : fX7_term N g u = some (r, u1)) : Met l yX7_term (ws_ yX7_term cX7_term 5 (some .int)) (pg_rm (d + 1)) (va_Pc [.ref h] (mt_B D dA h u)) (mt_Q D dA h (some (.int r)) u1) 0 0 (TA h) := by
  refine mt_met (by decide) rfl rfl rfl ?_
  intro p e s m args below meth c ls C hr hlocks hT hS hl
  have hx := C.1.1
  have hb := C.1.2.1
  have w_117 : ∀ (ag5 : TS → Int32 → Option (Int32 × TS)) (hag5 : (∀ (u : TS) (x1 : Int32) (H : Heap) (locs : List Loc) (ls : Array Slot), ag5 u x1 = some (r, u1) → TW D dA h u H → va_S (TA h) s.heap H locs → lv_has ls 5 [(0, .ref h), (1, .int x1)] → W p l e (pg_rm (d + 1)) s m args below meth c H locs 0 0 (MQ below (mt_Q D dA h (some (.int r)) u1) args s 0 0 (TA h)) (F0 m 5 ls []))) (u : TS) (x1 : Int32) (H : Heap) (locs : List Loc) (ls : Array Slot), fX7_term_117 N g ag5 u x1 = some (r, u1) → TW D dA h u H → va_S (TA h) s.heap H locs → lv_has ls 5 [(0, .ref h), (1, .int x1)] → W p l e (pg_rm (d + 1)) s m args below meth c H locs 0 0 (MQ below (mt_Q D dA h (some (.int r)) u1) args s 0 0 (TA h)) (F0 m 117 ls []) := by
    intro ag5 hag5 u x1 H locs ls hE hT hS hl
    unfold fX7_term_117 at hE
    refine lv_goto (tgt := 5) hx hb dX7_term_117 (by decide) ?_
    exact hag5 _ _ _ _ _ hE hT hS (lv_sub hl [0, 1] rfl)
  have w_116 : ∀ (ag5 : TS → Int32 → Option (Int32 × TS)) (hag5 : (∀ (u : TS) (x1 : Int32) (H : Heap) (locs : List Loc) (ls : Array Slot), ag5 u x1 = some (r, u1) → TW D dA h u H → va_S (TA h) s.heap H locs → lv_has ls 5 [(0, .ref h), (1, .int x1)] → W p l e (pg_rm (d + 1)) s m args below meth c H locs 0 0 (MQ below (mt_Q D dA h (some (.int r)) u1) args s 0 0 (TA h)) (F0 m 5 ls []))) (u : TS) (y0 : Int32) (H : Heap) (locs : List Loc) (ls : Array Slot), fX7_term_116 N g ag5 u y0 = some (r, u1) → TW D dA h u H → va_S (TA h) s.heap H locs → lv_has ls 5 [(0, .ref h)] → W p l e (pg_rm (d + 1)) s m args below meth c H locs 0 0 (MQ below (mt_Q D dA h (some (.int r)) u1) args s 0 0 (TA h)) (F0 m 116 ls [.int y0]) := by
    intro ag5 hag5 u y0 H locs ls hE hT hS hl
    unfold fX7_term_116 at hE
    refine lv_istore_n (lv' := [(1, .int y0), (0, .ref h)]) hx hb dX7_term_116 rfl hl (by decide) rfl (fun ls hl => ?_)
    exact w_117 ag5 hag5 _ _ _ _ _ hE hT hS (lv_sub hl [1, 0] rfl)
  have w_93 : ∀ (ag5 : TS → Int32 → Option (Int32 × TS)) (hag5 : (∀ (u : TS) (x1 : Int32) (H : Heap) (locs : List Loc) (ls : Array Slot), ag5 u x1 = some (r, u1) → TW D dA h u H → va_S (TA h) s.heap H locs → lv_has ls 5 [(0, .ref h), (1, .int x1)] → W p l e (pg_rm (d + 1)) s m args below meth c H locs 0 0 (MQ below (mt_Q D dA h (some (.int r)) u1) args s 0 0 (TA h)) (F0 m 5 ls []))) (u : TS) (y0 : Int32) (H : Heap) (locs : List Loc) (ls : Array Slot), fX7_term_93 N g ag5 u y0 = some (r, u1) → TW D dA h u H → va_S (TA h) s.heap H locs → lv_has ls 5 [(0, .ref h)] → W p l e (pg_rm (d + 1)) s m args below meth c H locs 0 0 (MQ below (mt_Q D dA h (some (.int r)) u1) args s 0 0 (TA h)) (F0 m 93 ls [.int y0]) := by
    intro ag5 hag5 u y0 H locs ls hE hT hS hl
    unfold fX7_term_93 at hE
    refine lv_istore_n (lv' := [(1, .int y0), (0, .ref h)]) hx hb dX7_term_93 rfl hl (by decide) rfl (fun ls hl => ?_)
    refine lv_goto (tgt := 117) hx hb dX7_term_94 (by decide) ?_
    exact w_117 ag5 hag5 _ _ _ _ _ hE hT hS (lv_sub hl [1, 0] rfl)
  have w_32 : ∀ (ag5 : TS → Int32 → Option (Int32 × TS)) (hag5 : (∀ (u : TS) (x1 : Int32) (H : Heap) (locs : List Loc) (ls : Array Slot), ag5 u x1 = some (r, u1) → TW D dA h u H → va_S (TA h) s.heap H locs → lv_has ls 5 [(0, .ref h), (1, .int x1)] → W p l e (pg_rm (d + 1)) s m args below meth c H locs 0 0 (MQ below (mt_Q D dA h (some (.int r)) u1) args s 0 0 (TA h)) (F0 m 5 ls []))) (u : TS) (x1 : Int32) (H : Heap) (locs : List Loc) (ls : Array Slot), fX7_term_32 N g ag5 u x1 = some (r, u1) → TW D dA h u H → va_S (TA h) s.heap H locs → lv_has ls 5 [(0, .ref h), (1, .int x1)] → W p l e (pg_rm (d + 1)) s m args below meth c H locs 0 0 (MQ below (mt_Q D dA h (some (.int r)) u1) args s 0 0 (TA h)) (F0 m 32 ls []) := by
    intro ag5 hag5 u x1 H locs ls hE hT hS hl
    unfold fX7_term_32 at hE
    refine lv_aload_n hx hb dX7_term_32 rfl (lv_at hl 0 rfl) ?_
    refine tg_tokenWorth C hT dX7_term_33 ?_
    refine z_nml hE (fun z1 hE => ?_)
    refine lv_lstore_n (lv' := [(2, .long z1), (0, .ref h), (1, .int x1)]) hx hb dX7_term_36 rfl hl (by decide) rfl (fun ls hl => ?_)
    refine lv_aload_n hx hb dX7_term_37 rfl (lv_at hl 1 rfl) ?_
    obtain ⟨u2, hc, hE⟩ := o_bd_some hE
    refine tc_X7_next C hT hS (kX7_next hc) rfl rfl (pg_r (by decide) (by decide)) ⟨Nat.le_refl 0, Nat.le_refl 0⟩ dX7_term_38 hl.1 (Nat.le_of_ble_eq_true rfl) (fun H locs hT hS => ?_)
    refine lv_aload_n hx hb dX7_term_41 rfl (lv_at hl 1 rfl) ?_
    obtain ⟨r4, u3, hc, hE⟩ := o_bd2_some hE
    refine tc_X7_one C hT hS (hg _ _ _ _ hc) rfl rfl (pg_rr (by decide)) ⟨Nat.le_refl 0, Nat.le_refl 0⟩ dX7_term_42 hl.1 (Nat.le_of_ble_eq_true rfl) (fun H locs hT hS => ?_)
    refine lv_istore (lv' := [(4, .int r4), (2, .long z1), (0, .ref h), (1, .int x1)]) hx hb dX7_term_45 hl (by decide) rfl (fun ls hl => ?_)
    refine lv_lload_n hx hb dX7_term_47 rfl (lv_at hl 1 rfl) ?_
    refine lv_ldc2 (v := (42 : Int64)) hx hb C.1.2.2.2.1 (C.1.2.2.2.2 _ q1910) dX7_term_48 ?_
    refine W.lcmp hx hb dX7_term_51 ?_
    refine lv_if_ne (tgt := 63) hx hb dX7_term_52 (by decide) (fun c5 => ?_) (fun c5 => ?_)
    · have hE := z_f c5 hE
      refine lv_iload hx hb dX7_term_63 (lv_at hl 0 rfl) ?_
      refine lv_if_ne (tgt := 73) hx hb dX7_term_65 (by decide) (fun c6 => ?_) (fun c6 => ?_)
      · have hE := z_f c6 hE
        refine lv_iload hx hb dX7_term_73 (lv_at hl 0 rfl) ?_
        refine lv_iconst (v := (-1 : Int32)) hx hb dX7_term_75 rfl ?_
        refine lv_icmp_ne (tgt := 97) hx hb dX7_term_76 (by decide) (fun c7 => ?_) (fun c7 => ?_)
        · have hE := z_f c7 hE
          refine lv_lload_n hx hb dX7_term_97 rfl (lv_at hl 1 rfl) ?_
          refine lv_ldc2 (v := (47 : Int64)) hx hb C.1.2.2.2.1 (C.1.2.2.2.2 _ q1911) dX7_term_98 ?_
          refine W.lcmp hx hb dX7_term_101 ?_
          refine lv_if_ne (tgt := 112) hx hb dX7_term_102 (by decide) (fun c8 => ?_) (fun c8 => ?_)
          · have hE := z_f c8 hE
            refine lv_iload_n hx hb dX7_term_112 rfl (lv_at hl 3 rfl) ?_
            refine lv_iload hx hb dX7_term_113 (lv_at hl 0 rfl) ?_
            obtain ⟨hz, hE⟩ := o_nz_some hE
            refine lv_irem hx hb dX7_term_115 hz ?_
            exact w_116 ag5 hag5 _ _ _ _ _ hE hT hS (lv_sub hl [2] rfl)
          · have hE := z_t c8 hE
            refine lv_iload_n hx hb dX7_term_105 rfl (lv_at hl 3 rfl) ?_
            refine lv_iload hx hb dX7_term_106 (lv_at hl 0 rfl) ?_
            obtain ⟨hz, hE⟩ := o_nz_some hE
            refine lv_idiv hx hb dX7_term_108 hz ?_
            refine lv_goto (tgt := 116) hx hb dX7_term_109 (by decide) ?_
            exact w_116 ag5 hag5 _ _ _ _ _ hE hT hS (lv_sub hl [2] rfl)
        · have hE := z_t c7 hE
          refine lv_lload_n hx hb dX7_term_79 rfl (lv_at hl 1 rfl) ?_
          refine lv_ldc2 (v := (47 : Int64)) hx hb C.1.2.2.2.1 (C.1.2.2.2.2 _ q1911) dX7_term_80 ?_
          refine W.lcmp hx hb dX7_term_83 ?_
          refine lv_if_ne (tgt := 92) hx hb dX7_term_84 (by decide) (fun c9 => ?_) (fun c9 => ?_)
          · have hE := z_f c9 hE
            refine lv_iconst (v := (0 : Int32)) hx hb dX7_term_92 rfl ?_
            exact w_93 ag5 hag5 _ _ _ _ _ hE hT hS (lv_sub hl [2] rfl)
          · have hE := z_t c9 hE
            refine lv_iload_n hx hb dX7_term_87 rfl (lv_at hl 3 rfl) ?_
            refine lv_ineg hx hb dX7_term_88 ?_
            refine lv_goto (tgt := 93) hx hb dX7_term_89 (by decide) ?_
            exact w_93 ag5 hag5 _ _ _ _ _ hE hT hS (lv_sub hl [2] rfl)
      · have hE := z_t c6 hE
        refine lv_iconst (v := (0 : Int32)) hx hb dX7_term_68 rfl ?_
        refine lv_istore_n (lv' := [(1, .int (0 : Int32)), (4, .int r4), (2, .long z1), (0, .ref h)]) hx hb dX7_term_69 rfl hl (by decide) rfl (fun ls hl => ?_)
        refine lv_goto (tgt := 117) hx hb dX7_term_70 (by decide) ?_
        exact w_117 ag5 hag5 _ _ _ _ _ hE hT hS (lv_sub hl [3, 0] rfl)
    · have hE := z_t c5 hE
      refine lv_iload_n hx hb dX7_term_55 rfl (lv_at hl 3 rfl) ?_
      refine lv_iload hx hb dX7_term_56 (lv_at hl 0 rfl) ?_
      refine lv_imul hx hb dX7_term_58 ?_
      refine z_nmi hE (fun z10 hE => ?_)
      refine lv_istore_n (lv' := [(1, .int z10), (4, .int r4), (2, .long z1), (0, .ref h)]) hx hb dX7_term_59 rfl hl (by decide) rfl (fun ls hl => ?_)
      refine lv_goto (tgt := 117) hx hb dX7_term_60 (by decide) ?_
      exact w_117 ag5 hag5 _ _ _ _ _ hE hT hS (lv_sub hl [3, 0] rfl)
  have w_5 : ∀ (n : Nat) (u : TS) (x1 : Int32) (H : Heap) (locs : List Loc) (ls : Array Slot), fX7_term_5 N g n u x1 = some (r, u1) → TW D dA h u H → va_S (TA h) s.heap H locs → lv_has ls 5 [(0, .ref h), (1, .int x1)] → W p l e (pg_rm (d + 1)) s m args below meth c H locs 0 0 (MQ below (mt_Q D dA h (some (.int r)) u1) args s 0 0 (TA h)) (F0 m 5 ls []) := by
    intro n
    induction n with
    | zero =>
      intro u x1 H locs ls hE hT hS hl
      cases (show (none : Option (Int32 × TS)) = some (r, u1) from hE)
    | succ n ih =>
      intro u x1 H locs ls hE hT hS hl
      rw [fX7_term_5] at hE
      refine lv_aload_n hx hb dX7_term_5 rfl (lv_at hl 0 rfl) ?_
      refine lv_bipush (v := (42 : Int32)) hx hb dX7_term_6 rfl ?_
      obtain ⟨r12, u11, hc, hE⟩ := o_bd2_some hE
      refine tc_X7_isSign C hT hS (kX7_isSign hc) rfl rfl (pg_r (by decide) (by decide)) ⟨Nat.le_refl 0, Nat.le_refl 0⟩ dX7_term_8 hl.1 (Nat.le_of_ble_eq_true rfl) (fun H locs hT hS => ?_)
      refine lv_if_ne (tgt := 32) hx hb dX7_term_11 (by decide) (fun c13 => ?_) (fun c13 => ?_)
      · have hE := z_f c13 hE
        exact w_32 (fX7_term_5 N g n) ih _ _ _ _ _ hE hT hS (lv_sub hl [0, 1] rfl)
      · have hE := z_t c13 hE
        refine lv_aload_n hx hb dX7_term_14 rfl (lv_at hl 0 rfl) ?_
        refine lv_bipush (v := (47 : Int32)) hx hb dX7_term_15 rfl ?_
        obtain ⟨r15, u14, hc, hE⟩ := o_bd2_some hE
        refine tc_X7_isSign C hT hS (kX7_isSign hc) rfl rfl (pg_r (by decide) (by decide)) ⟨Nat.le_refl 0, Nat.le_refl 0⟩ dX7_term_17 hl.1 (Nat.le_of_ble_eq_true rfl) (fun H locs hT hS => ?_)
        refine lv_if_ne (tgt := 32) hx hb dX7_term_20 (by decide) (fun c16 => ?_) (fun c16 => ?_)
        · have hE := z_f c16 hE
          exact w_32 (fX7_term_5 N g n) ih _ _ _ _ _ hE hT hS (lv_sub hl [0, 1] rfl)
        · have hE := z_t c16 hE
          refine lv_aload_n hx hb dX7_term_23 rfl (lv_at hl 0 rfl) ?_
          refine lv_bipush (v := (37 : Int32)) hx hb dX7_term_24 rfl ?_
          obtain ⟨r18, u17, hc, hE⟩ := o_bd2_some hE
          refine tc_X7_isSign C hT hS (kX7_isSign hc) rfl rfl (pg_r (by decide) (by decide)) ⟨Nat.le_refl 0, Nat.le_refl 0⟩ dX7_term_26 hl.1 (Nat.le_of_ble_eq_true rfl) (fun H locs hT hS => ?_)
          refine lv_if_eq (tgt := 120) hx hb dX7_term_29 (by decide) (fun c19 => ?_) (fun c19 => ?_)
          · have hE := z_t c19 hE
            refine lv_iload_n hx hb dX7_term_120 rfl (lv_at hl 1 rfl) ?_
            exact mt_iret C hr hlocks hT hS hE dX7_term_121
          · have hE := z_f c19 hE
            exact w_32 (fX7_term_5 N g n) ih _ _ _ _ _ hE hT hS (lv_sub hl [0, 1] rfl)
  unfold fX7_term at hE
  refine lv_aload_n hx hb dX7_term_0 rfl (lv_at hl 0 rfl) ?_
  obtain ⟨r21, u20, hc, hE⟩ := o_bd2_some hE
  refine tc_X7_one C hT hS (hg _ _ _ _ hc) rfl rfl (pg_rr (by decide)) ⟨Nat.le_refl 0, Nat.le_refl 0⟩ dX7_term_1 hl.1 (Nat.le_of_ble_eq_true rfl) (fun H locs hT hS => ?_)
  refine lv_istore_n (lv' := [(1, .int r21), (0, .ref h)]) hx hb dX7_term_4 rfl hl (by decide) rfl (fun ls hl => ?_)
  exact w_5 N _ _ _ _ _ hE hT hS (lv_sub hl [1, 0] rfl)
set_option maxHeartbeats 4000000 in
set_option maxRecDepth 100000 in
theorem kX7_added_open {l : Launch} {D : va_G} {dA : Nat → ClassId} {h N : Nat} {u u1 : TS} {r : Int32} {d : Nat} {g : Nat → TS → Option (Int32 × TS)} (hg : pg_hyp l D dA h d g) (hE : fX7_added N g u = some (r, u1)) : Met l yX7_added (ws_ yX7_added cX7_added 4 (some .int)) (pg_rm (d + 1)) (va_Pc [.ref h] (mt_B D dA h u)) (mt_Q D dA h (some (.int r)) u1) 0 0 (TA h) := by
  refine mt_met (by decide) rfl rfl rfl ?_
  intro p e s m args below meth c ls C hr hlocks hT hS hl
  have hx := C.1.1
  have hb := C.1.2.1
  have w_62 : ∀ (ag5 : TS → Int32 → Option (Int32 × TS)) (hag5 : (∀ (u : TS) (x1 : Int32) (H : Heap) (locs : List Loc) (ls : Array Slot), ag5 u x1 = some (r, u1) → TW D dA h u H → va_S (TA h) s.heap H locs → lv_has ls 4 [(0, .ref h), (1, .int x1)] → W p l e (pg_rm (d + 1)) s m args below meth c H locs 0 0 (MQ below (mt_Q D dA h (some (.int r)) u1) args s 0 0 (TA h)) (F0 m 5 ls []))) (u : TS) (y0 : Int32) (H : Heap) (locs : List Loc) (ls : Array Slot), fX7_added_62 N g ag5 u y0 = some (r, u1) → TW D dA h u H → va_S (TA h) s.heap H locs → lv_has ls 4 [(0, .ref h)] → W p l e (pg_rm (d + 1)) s m args below meth c H locs 0 0 (MQ below (mt_Q D dA h (some (.int r)) u1) args s 0 0 (TA h)) (F0 m 62 ls [.int y0]) := by
    intro ag5 hag5 u y0 H locs ls hE hT hS hl
    unfold fX7_added_62 at hE
    refine lv_istore_n (lv' := [(1, .int y0), (0, .ref h)]) hx hb dX7_added_62 rfl hl (by decide) rfl (fun ls hl => ?_)
    refine lv_goto (tgt := 5) hx hb dX7_added_63 (by decide) ?_
    exact hag5 _ _ _ _ _ hE hT hS (lv_sub hl [1, 0] rfl)
  have w_39 : ∀ (ag5 : TS → Int32 → Option (Int32 × TS)) (hag5 : (∀ (u : TS) (x1 : Int32) (H : Heap) (locs : List Loc) (ls : Array Slot), ag5 u x1 = some (r, u1) → TW D dA h u H → va_S (TA h) s.heap H locs → lv_has ls 4 [(0, .ref h), (1, .int x1)] → W p l e (pg_rm (d + 1)) s m args below meth c H locs 0 0 (MQ below (mt_Q D dA h (some (.int r)) u1) args s 0 0 (TA h)) (F0 m 5 ls []))) (u : TS) (x1 : Int32) (y0 : Int32) (H : Heap) (locs : List Loc) (ls : Array Slot), fX7_added_39 N g ag5 u x1 y0 = some (r, u1) → TW D dA h u H → va_S (TA h) s.heap H locs → lv_has ls 4 [(0, .ref h), (1, .int x1)] → W p l e (pg_rm (d + 1)) s m args below meth c H locs 0 0 (MQ below (mt_Q D dA h (some (.int r)) u1) args s 0 0 (TA h)) (F0 m 39 ls [.int y0]) := by
    intro ag5 hag5 u x1 y0 H locs ls hE hT hS hl
    unfold fX7_added_39 at hE
    refine lv_istore_n (lv' := [(2, .int y0), (0, .ref h), (1, .int x1)]) hx hb dX7_added_39 rfl hl (by decide) rfl (fun ls hl => ?_)
    refine lv_aload_n hx hb dX7_added_40 rfl (lv_at hl 1 rfl) ?_
    obtain ⟨u1, hc, hE⟩ := o_bd_some hE
    refine tc_X7_next C hT hS (kX7_next hc) rfl rfl (pg_r (by decide) (by decide)) ⟨Nat.le_refl 0, Nat.le_refl 0⟩ dX7_added_41 hl.1 (Nat.le_of_ble_eq_true rfl) (fun H locs hT hS => ?_)
    refine lv_aload_n hx hb dX7_added_44 rfl (lv_at hl 1 rfl) ?_
    obtain ⟨r3, u2, hc, hE⟩ := o_bd2_some hE
    refine tc_X7_term C hT hS (hg _ _ _ _ hc) rfl rfl (pg_rr (by decide)) ⟨Nat.le_refl 0, Nat.le_refl 0⟩ dX7_added_45 hl.1 (Nat.le_of_ble_eq_true rfl) (fun H locs hT hS => ?_)
    refine lv_istore_n (lv' := [(3, .int r3), (2, .int y0), (0, .ref h), (1, .int x1)]) hx hb dX7_added_48 rfl hl (by decide) rfl (fun ls hl => ?_)
    refine lv_iload_n hx hb dX7_added_49 rfl (lv_at hl 1 rfl) ?_
    refine lv_if_eq (tgt := 59) hx hb dX7_added_50 (by decide) (fun c4 => ?_) (fun c4 => ?_)
    · have hE := z_t c4 hE
      refine lv_iload_n hx hb dX7_added_59 rfl (lv_at hl 3 rfl) ?_
      refine lv_iload_n hx hb dX7_added_60 rfl (lv_at hl 0 rfl) ?_
      refine lv_isub hx hb dX7_added_61 ?_
      exact w_62 ag5 hag5 _ _ _ _ _ hE hT hS (lv_sub hl [2] rfl)
    · have hE := z_f c4 hE
      refine lv_iload_n hx hb dX7_added_53 rfl (lv_at hl 3 rfl) ?_
      refine lv_iload_n hx hb dX7_added_54 rfl (lv_at hl 0 rfl) ?_
      refine lv_iadd hx hb dX7_added_55 ?_
      refine lv_goto (tgt := 62) hx hb dX7_added_56 (by decide) ?_
      exact w_62 ag5 hag5 _ _ _ _ _ hE hT hS (lv_sub hl [2] rfl)
  have w_23 : ∀ (ag5 : TS → Int32 → Option (Int32 × TS)) (hag5 : (∀ (u : TS) (x1 : Int32) (H : Heap) (locs : List Loc) (ls : Array Slot), ag5 u x1 = some (r, u1) → TW D dA h u H → va_S (TA h) s.heap H locs → lv_has ls 4 [(0, .ref h), (1, .int x1)] → W p l e (pg_rm (d + 1)) s m args below meth c H locs 0 0 (MQ below (mt_Q D dA h (some (.int r)) u1) args s 0 0 (TA h)) (F0 m 5 ls []))) (u : TS) (x1 : Int32) (H : Heap) (locs : List Loc) (ls : Array Slot), fX7_added_23 N g ag5 u x1 = some (r, u1) → TW D dA h u H → va_S (TA h) s.heap H locs → lv_has ls 4 [(0, .ref h), (1, .int x1)] → W p l e (pg_rm (d + 1)) s m args below meth c H locs 0 0 (MQ below (mt_Q D dA h (some (.int r)) u1) args s 0 0 (TA h)) (F0 m 23 ls []) := by
    intro ag5 hag5 u x1 H locs ls hE hT hS hl
    unfold fX7_added_23 at hE
    refine lv_aload_n hx hb dX7_added_23 rfl (lv_at hl 0 rfl) ?_
    refine tg_tokenWorth C hT dX7_added_24 ?_
    refine lv_ldc2 (v := (43 : Int64)) hx hb C.1.2.2.2.1 (C.1.2.2.2.2 _ q1912) dX7_added_27 ?_
    refine W.lcmp hx hb dX7_added_30 ?_
    refine lv_if_ne (tgt := 38) hx hb dX7_added_31 (by decide) (fun c5 => ?_) (fun c5 => ?_)
    · have hE := z_f c5 hE
      refine lv_iconst (v := (0 : Int32)) hx hb dX7_added_38 rfl ?_
      exact w_39 ag5 hag5 _ _ _ _ _ _ hE hT hS (lv_sub hl [0, 1] rfl)
    · have hE := z_t c5 hE
      refine lv_iconst (v := (1 : Int32)) hx hb dX7_added_34 rfl ?_
      refine lv_goto (tgt := 39) hx hb dX7_added_35 (by decide) ?_
      exact w_39 ag5 hag5 _ _ _ _ _ _ hE hT hS (lv_sub hl [0, 1] rfl)
  have w_5 : ∀ (n : Nat) (u : TS) (x1 : Int32) (H : Heap) (locs : List Loc) (ls : Array Slot), fX7_added_5 N g n u x1 = some (r, u1) → TW D dA h u H → va_S (TA h) s.heap H locs → lv_has ls 4 [(0, .ref h), (1, .int x1)] → W p l e (pg_rm (d + 1)) s m args below meth c H locs 0 0 (MQ below (mt_Q D dA h (some (.int r)) u1) args s 0 0 (TA h)) (F0 m 5 ls []) := by
    intro n
    induction n with
    | zero =>
      intro u x1 H locs ls hE hT hS hl
      cases (show (none : Option (Int32 × TS)) = some (r, u1) from hE)
    | succ n ih =>
      intro u x1 H locs ls hE hT hS hl
      rw [fX7_added_5] at hE
      refine lv_aload_n hx hb dX7_added_5 rfl (lv_at hl 0 rfl) ?_
      refine lv_bipush (v := (43 : Int32)) hx hb dX7_added_6 rfl ?_
      obtain ⟨r7, u6, hc, hE⟩ := o_bd2_some hE
      refine tc_X7_isSign C hT hS (kX7_isSign hc) rfl rfl (pg_r (by decide) (by decide)) ⟨Nat.le_refl 0, Nat.le_refl 0⟩ dX7_added_8 hl.1 (Nat.le_of_ble_eq_true rfl) (fun H locs hT hS => ?_)
      refine lv_if_ne (tgt := 23) hx hb dX7_added_11 (by decide) (fun c8 => ?_) (fun c8 => ?_)
      · have hE := z_f c8 hE
        exact w_23 (fX7_added_5 N g n) ih _ _ _ _ _ hE hT hS (lv_sub hl [0, 1] rfl)
      · have hE := z_t c8 hE
        refine lv_aload_n hx hb dX7_added_14 rfl (lv_at hl 0 rfl) ?_
        refine lv_bipush (v := (45 : Int32)) hx hb dX7_added_15 rfl ?_
        obtain ⟨r10, u9, hc, hE⟩ := o_bd2_some hE
        refine tc_X7_isSign C hT hS (kX7_isSign hc) rfl rfl (pg_r (by decide) (by decide)) ⟨Nat.le_refl 0, Nat.le_refl 0⟩ dX7_added_17 hl.1 (Nat.le_of_ble_eq_true rfl) (fun H locs hT hS => ?_)
        refine lv_if_eq (tgt := 66) hx hb dX7_added_20 (by decide) (fun c11 => ?_) (fun c11 => ?_)
        · have hE := z_t c11 hE
          refine lv_iload_n hx hb dX7_added_66 rfl (lv_at hl 1 rfl) ?_
          exact mt_iret C hr hlocks hT hS hE dX7_added_67
        · have hE := z_f c11 hE
          exact w_23 (fX7_added_5 N g n) ih _ _ _ _ _ hE hT hS (lv_sub hl [0, 1] rfl)
  unfold fX7_added at hE
  refine lv_aload_n hx hb dX7_added_0 rfl (lv_at hl 0 rfl) ?_
  obtain ⟨r13, u12, hc, hE⟩ := o_bd2_some hE
  refine tc_X7_term C hT hS (hg _ _ _ _ hc) rfl rfl (pg_rr (by decide)) ⟨Nat.le_refl 0, Nat.le_refl 0⟩ dX7_added_1 hl.1 (Nat.le_of_ble_eq_true rfl) (fun H locs hT hS => ?_)
  refine lv_istore_n (lv' := [(1, .int r13), (0, .ref h)]) hx hb dX7_added_4 rfl hl (by decide) rfl (fun ls hl => ?_)
  exact w_5 N _ _ _ _ _ hE hT hS (lv_sub hl [1, 0] rfl)
set_option maxHeartbeats 4000000 in
set_option maxRecDepth 100000 in
theorem kX7_not_open {l : Launch} {D : va_G} {dA : Nat → ClassId} {h N : Nat} {u u1 : TS} {r : Int32} {d : Nat} {g : Nat → TS → Option (Int32 × TS)} (hg : pg_hyp l D dA h d g) (hE : fX7_not N g u = some (r, u1)) : Met l yX7_not (ws_ yX7_not cX7_not 5 (some .int)) (pg_rm (d + 1)) (va_Pc [.ref h] (mt_B D dA h u)) (mt_Q D dA h (some (.int r)) u1) 0 0 (TA h) := by
  refine mt_met (by decide) rfl rfl rfl ?_
  intro p e s m args below meth c ls C hr hlocks hT hS hl
  have hx := C.1.1
  have hb := C.1.2.1
  have w_138 : ∀ (u : TS) (y0 : Int32) (H : Heap) (locs : List Loc) (ls : Array Slot), fX7_not_138 N g u y0 = some (r, u1) → TW D dA h u H → va_S (TA h) s.heap H locs → lv_has ls 5 [] → W p l e (pg_rm (d + 1)) s m args below meth c H locs 0 0 (MQ below (mt_Q D dA h (some (.int r)) u1) args s 0 0 (TA h)) (F0 m 138 ls [.int y0]) := by
    intro u y0 H locs ls hE hT hS hl
    unfold fX7_not_138 at hE
    exact mt_iret C hr hlocks hT hS hE dX7_not_138
  have w_137 : ∀ (u : TS) (H : Heap) (locs : List Loc) (ls : Array Slot), fX7_not_137 N g u = some (r, u1) → TW D dA h u H → va_S (TA h) s.heap H locs → lv_has ls 5 [] → W p l e (pg_rm (d + 1)) s m args below meth c H locs 0 0 (MQ below (mt_Q D dA h (some (.int r)) u1) args s 0 0 (TA h)) (F0 m 137 ls []) := by
    intro u H locs ls hE hT hS hl
    unfold fX7_not_137 at hE
    refine lv_iconst (v := (0 : Int32)) hx hb dX7_not_137 rfl ?_
    exact w_138 _ _ _ _ _ hE hT hS (lv_sub hl [] rfl)
  have w_133 : ∀ (u : TS) (H : Heap) (locs : List Loc) (ls : Array Slot), fX7_not_133 N g u = some (r, u1) → TW D dA h u H → va_S (TA h) s.heap H locs → lv_has ls 5 [] → W p l e (pg_rm (d + 1)) s m args below meth c H locs 0 0 (MQ below (mt_Q D dA h (some (.int r)) u1) args s 0 0 (TA h)) (F0 m 133 ls []) := by
    intro u H locs ls hE hT hS hl
    unfold fX7_not_133 at hE
    refine lv_iconst (v := (1 : Int32)) hx hb dX7_not_133 rfl ?_
    refine lv_goto (tgt := 138) hx hb dX7_not_134 (by decide) ?_
    exact w_138 _ _ _ _ _ hE hT hS (lv_sub hl [] rfl)
  have w_78 : ∀ (u : TS) (x1 : Int32) (H : Heap) (locs : List Loc) (ls : Array Slot), fX7_not_78 N g u x1 = some (r, u1) → TW D dA h u H → va_S (TA h) s.heap H locs → lv_has ls 5 [(0, .ref h), (1, .int x1)] → W p l e (pg_rm (d + 1)) s m args below meth c H locs 0 0 (MQ below (mt_Q D dA h (some (.int r)) u1) args s 0 0 (TA h)) (F0 m 78 ls []) := by
    intro u x1 H locs ls hE hT hS hl
    unfold fX7_not_78 at hE
    refine lv_aload_n hx hb dX7_not_78 rfl (lv_at hl 0 rfl) ?_
    refine tg_tokenWorth C hT dX7_not_79 ?_
    refine z_nml hE (fun z1 hE => ?_)
    refine lv_lstore_n (lv' := [(2, .long z1), (0, .ref h), (1, .int x1)]) hx hb dX7_not_82 rfl hl (by decide) rfl (fun ls hl => ?_)
    refine lv_aload_n hx hb dX7_not_83 rfl (lv_at hl 1 rfl) ?_
    obtain ⟨u2, hc, hE⟩ := o_bd_some hE
    refine tc_X7_next C hT hS (kX7_next hc) rfl rfl (pg_r (by decide) (by decide)) ⟨Nat.le_refl 0, Nat.le_refl 0⟩ dX7_not_84 hl.1 (Nat.le_of_ble_eq_true rfl) (fun H locs hT hS => ?_)
    refine lv_aload_n hx hb dX7_not_87 rfl (lv_at hl 1 rfl) ?_
    obtain ⟨r4, u3, hc, hE⟩ := o_bd2_some hE
    refine tc_X7_added C hT hS (hg _ _ _ _ hc) rfl rfl (pg_rr (by decide)) ⟨Nat.le_refl 0, Nat.le_refl 0⟩ dX7_not_88 hl.1 (Nat.le_of_ble_eq_true rfl) (fun H locs hT hS => ?_)
    refine lv_istore (lv' := [(4, .int r4), (2, .long z1), (0, .ref h), (1, .int x1)]) hx hb dX7_not_91 hl (by decide) rfl (fun ls hl => ?_)
    refine lv_lload_n hx hb dX7_not_93 rfl (lv_at hl 1 rfl) ?_
    refine lv_ldc2 (v := (60 : Int64)) hx hb C.1.2.2.2.1 (C.1.2.2.2.2 _ q1913) dX7_not_94 ?_
    refine W.lcmp hx hb dX7_not_97 ?_
    refine lv_if_ne (tgt := 110) hx hb dX7_not_98 (by decide) (fun c5 => ?_) (fun c5 => ?_)
    · have hE := z_f c5 hE
      refine lv_lload_n hx hb dX7_not_110 rfl (lv_at hl 1 rfl) ?_
      refine lv_ldc2 (v := (61 : Int64)) hx hb C.1.2.2.2.1 (C.1.2.2.2.2 _ q1914) dX7_not_111 ?_
      refine W.lcmp hx hb dX7_not_114 ?_
      refine lv_if_ne (tgt := 127) hx hb dX7_not_115 (by decide) (fun c6 => ?_) (fun c6 => ?_)
      · have hE := z_f c6 hE
        refine lv_iload_n hx hb dX7_not_127 rfl (lv_at hl 3 rfl) ?_
        refine lv_iload hx hb dX7_not_128 (lv_at hl 0 rfl) ?_
        refine lv_icmp_le (tgt := 137) hx hb dX7_not_130 (by decide) (fun c7 => ?_) (fun c7 => ?_)
        · have hE := z_t c7 hE
          exact w_137 _ _ _ _ hE hT hS (lv_sub hl [] rfl)
        · have hE := z_f c7 hE
          exact w_133 _ _ _ _ hE hT hS (lv_sub hl [] rfl)
      · have hE := z_t c6 hE
        refine lv_iload_n hx hb dX7_not_118 rfl (lv_at hl 3 rfl) ?_
        refine lv_iload hx hb dX7_not_119 (lv_at hl 0 rfl) ?_
        refine lv_icmp_ne (tgt := 137) hx hb dX7_not_121 (by decide) (fun c8 => ?_) (fun c8 => ?_)
        · have hE := z_f c8 hE
          exact w_137 _ _ _ _ hE hT hS (lv_sub hl [] rfl)
        · have hE := z_t c8 hE
          refine lv_goto (tgt := 133) hx hb dX7_not_124 (by decide) ?_
          exact w_133 _ _ _ _ hE hT hS (lv_sub hl [] rfl)
    · have hE := z_t c5 hE
      refine lv_iload_n hx hb dX7_not_101 rfl (lv_at hl 3 rfl) ?_
      refine lv_iload hx hb dX7_not_102 (lv_at hl 0 rfl) ?_
      refine lv_icmp_ge (tgt := 137) hx hb dX7_not_104 (by decide) (fun c9 => ?_) (fun c9 => ?_)
      · have hE := z_t c9 hE
        exact w_137 _ _ _ _ hE hT hS (lv_sub hl [] rfl)
      · have hE := z_f c9 hE
        refine lv_goto (tgt := 133) hx hb dX7_not_107 (by decide) ?_
        exact w_133 _ _ _ _ hE hT hS (lv_sub hl [] rfl)
  have w_43 : ∀ (u : TS) (y0 : Int32) (H : Heap) (locs : List Loc) (ls : Array Slot), fX7_not_43 N g u y0 = some (r, u1) → TW D dA h u H → va_S (TA h) s.heap H locs → lv_has ls 5 [] → W p l e (pg_rm (d + 1)) s m args below meth c H locs 0 0 (MQ below (mt_Q D dA h (some (.int r)) u1) args s 0 0 (TA h)) (F0 m 43 ls [.int y0]) := by
    intro u y0 H locs ls hE hT hS hl
    unfold fX7_not_43 at hE
    exact mt_iret C hr hlocks hT hS hE dX7_not_43
  unfold fX7_not at hE
  refine lv_aload_n hx hb dX7_not_0 rfl (lv_at hl 0 rfl) ?_
  refine lv_ldc2 (v := (10631 : Int64)) hx hb C.1.2.2.2.1 (C.1.2.2.2.2 _ q1875) dX7_not_1 ?_
  obtain ⟨r11, u10, hc, hE⟩ := o_bd2_some hE
  refine tc_X7_isWord C hT hS (kX7_isWord hc) rfl rfl (pg_r (by decide) (by decide)) ⟨Nat.le_refl 0, Nat.le_refl 0⟩ dX7_not_4 hl.1 (Nat.le_of_ble_eq_true rfl) (fun H locs hT hS => ?_)
  refine lv_if_eq (tgt := 44) hx hb dX7_not_7 (by decide) (fun c12 => ?_) (fun c12 => ?_)
  · have hE := z_t c12 hE
    refine lv_aload_n hx hb dX7_not_44 rfl (lv_at hl 0 rfl) ?_
    obtain ⟨r14, u13, hc, hE⟩ := o_bd2_some hE
    refine tc_X7_added C hT hS (hg _ _ _ _ hc) rfl rfl (pg_rr (by decide)) ⟨Nat.le_refl 0, Nat.le_refl 0⟩ dX7_not_45 hl.1 (Nat.le_of_ble_eq_true rfl) (fun H locs hT hS => ?_)
    refine lv_istore_n (lv' := [(1, .int r14), (0, .ref h)]) hx hb dX7_not_48 rfl hl (by decide) rfl (fun ls hl => ?_)
    refine lv_aload_n hx hb dX7_not_49 rfl (lv_at hl 1 rfl) ?_
    refine lv_bipush (v := (60 : Int32)) hx hb dX7_not_50 rfl ?_
    obtain ⟨r16, u15, hc, hE⟩ := o_bd2_some hE
    refine tc_X7_isSign C hT hS (kX7_isSign hc) rfl rfl (pg_r (by decide) (by decide)) ⟨Nat.le_refl 0, Nat.le_refl 0⟩ dX7_not_52 hl.1 (Nat.le_of_ble_eq_true rfl) (fun H locs hT hS => ?_)
    refine lv_if_ne (tgt := 78) hx hb dX7_not_55 (by decide) (fun c17 => ?_) (fun c17 => ?_)
    · have hE := z_f c17 hE
      exact w_78 _ _ _ _ _ hE hT hS (lv_sub hl [1, 0] rfl)
    · have hE := z_t c17 hE
      refine lv_aload_n hx hb dX7_not_58 rfl (lv_at hl 1 rfl) ?_
      refine lv_bipush (v := (61 : Int32)) hx hb dX7_not_59 rfl ?_
      obtain ⟨r19, u18, hc, hE⟩ := o_bd2_some hE
      refine tc_X7_isSign C hT hS (kX7_isSign hc) rfl rfl (pg_r (by decide) (by decide)) ⟨Nat.le_refl 0, Nat.le_refl 0⟩ dX7_not_61 hl.1 (Nat.le_of_ble_eq_true rfl) (fun H locs hT hS => ?_)
      refine lv_if_ne (tgt := 78) hx hb dX7_not_64 (by decide) (fun c20 => ?_) (fun c20 => ?_)
      · have hE := z_f c20 hE
        exact w_78 _ _ _ _ _ hE hT hS (lv_sub hl [1, 0] rfl)
      · have hE := z_t c20 hE
        refine lv_aload_n hx hb dX7_not_67 rfl (lv_at hl 1 rfl) ?_
        refine lv_bipush (v := (62 : Int32)) hx hb dX7_not_68 rfl ?_
        obtain ⟨r22, u21, hc, hE⟩ := o_bd2_some hE
        refine tc_X7_isSign C hT hS (kX7_isSign hc) rfl rfl (pg_r (by decide) (by decide)) ⟨Nat.le_refl 0, Nat.le_refl 0⟩ dX7_not_70 hl.1 (Nat.le_of_ble_eq_true rfl) (fun H locs hT hS => ?_)
        refine lv_if_ne (tgt := 78) hx hb dX7_not_73 (by decide) (fun c23 => ?_) (fun c23 => ?_)
        · have hE := z_f c23 hE
          exact w_78 _ _ _ _ _ hE hT hS (lv_sub hl [1, 0] rfl)
        · have hE := z_t c23 hE
          refine lv_iload_n hx hb dX7_not_76 rfl (lv_at hl 0 rfl) ?_
          exact mt_iret C hr hlocks hT hS hE dX7_not_77
  · have hE := z_f c12 hE
    refine lv_aload_n hx hb dX7_not_10 rfl (lv_at hl 0 rfl) ?_
    obtain ⟨r25, u24, hc, hE⟩ := o_bd2_some hE
    refine tc_X7_opens C hT hS (kX7_opens hc) rfl rfl (pg_r (by decide) (by decide)) ⟨Nat.le_refl 0, Nat.le_refl 0⟩ dX7_not_11 hl.1 (Nat.le_of_ble_eq_true rfl) (fun H locs hT hS => ?_)
    refine lv_if_ne (tgt := 19) hx hb dX7_not_14 (by decide) (fun c26 => ?_) (fun c26 => ?_)
    · have hE := z_f c26 hE
      refine lv_aload_n hx hb dX7_not_19 rfl (lv_at hl 0 rfl) ?_
      obtain ⟨r28, u27, hc, hE⟩ := o_bd2_some hE
      refine tc_X7_not C hT hS (hg _ _ _ _ hc) rfl rfl (pg_rr (by decide)) ⟨Nat.le_refl 0, Nat.le_refl 0⟩ dX7_not_20 hl.1 (Nat.le_of_ble_eq_true rfl) (fun H locs hT hS => ?_)
      refine lv_istore_n (lv' := [(1, .int r28), (0, .ref h)]) hx hb dX7_not_23 rfl hl (by decide) rfl (fun ls hl => ?_)
      refine lv_aload_n hx hb dX7_not_24 rfl (lv_at hl 1 rfl) ?_
      refine lv_dup hx hb dX7_not_25 rfl ?_
      refine tg_open C hT dX7_not_26 ?_
      refine lv_iconst (v := (1 : Int32)) hx hb dX7_not_29 rfl ?_
      refine lv_isub hx hb dX7_not_30 ?_
      refine tp_open C hT hS hE dX7_not_31 (fun u29 H locs hE hT hS => ?_)
      refine lv_iload_n hx hb dX7_not_34 rfl (lv_at hl 0 rfl) ?_
      refine lv_if_ne (tgt := 42) hx hb dX7_not_35 (by decide) (fun c30 => ?_) (fun c30 => ?_)
      · have hE := z_f c30 hE
        refine lv_iconst (v := (0 : Int32)) hx hb dX7_not_42 rfl ?_
        exact w_43 _ _ _ _ _ hE hT hS (lv_sub hl [] rfl)
      · have hE := z_t c30 hE
        refine lv_iconst (v := (1 : Int32)) hx hb dX7_not_38 rfl ?_
        refine lv_goto (tgt := 43) hx hb dX7_not_39 (by decide) ?_
        exact w_43 _ _ _ _ _ hE hT hS (lv_sub hl [] rfl)
    · have hE := z_t c26 hE
      refine lv_iconst (v := (0 : Int32)) hx hb dX7_not_17 rfl ?_
      exact mt_iret C hr hlocks hT hS hE dX7_not_18
set_option maxHeartbeats 4000000 in
set_option maxRecDepth 100000 in
theorem kX7_both_open {l : Launch} {D : va_G} {dA : Nat → ClassId} {h N : Nat} {u u1 : TS} {r : Int32} {d : Nat} {g : Nat → TS → Option (Int32 × TS)} (hg : pg_hyp l D dA h d g) (hE : fX7_both N g u = some (r, u1)) : Met l yX7_both (ws_ yX7_both cX7_both 3 (some .int)) (pg_rm (d + 1)) (va_Pc [.ref h] (mt_B D dA h u)) (mt_Q D dA h (some (.int r)) u1) 0 0 (TA h) := by
  refine mt_met (by decide) rfl rfl rfl ?_
  intro p e s m args below meth c ls C hr hlocks hT hS hl
  have hx := C.1.1
  have hb := C.1.2.1
  have w_37 : ∀ (ag5 : TS → Int32 → Option (Int32 × TS)) (hag5 : (∀ (u : TS) (x1 : Int32) (H : Heap) (locs : List Loc) (ls : Array Slot), ag5 u x1 = some (r, u1) → TW D dA h u H → va_S (TA h) s.heap H locs → lv_has ls 3 [(0, .ref h), (1, .int x1)] → W p l e (pg_rm (d + 1)) s m args below meth c H locs 0 0 (MQ below (mt_Q D dA h (some (.int r)) u1) args s 0 0 (TA h)) (F0 m 5 ls []))) (u : TS) (y0 : Int32) (H : Heap) (locs : List Loc) (ls : Array Slot), fX7_both_37 N g ag5 u y0 = some (r, u1) → TW D dA h u H → va_S (TA h) s.heap H locs → lv_has ls 3 [(0, .ref h)] → W p l e (pg_rm (d + 1)) s m args below meth c H locs 0 0 (MQ below (mt_Q D dA h (some (.int r)) u1) args s 0 0 (TA h)) (F0 m 37 ls [.int y0]) := by
    intro ag5 hag5 u y0 H locs ls hE hT hS hl
    unfold fX7_both_37 at hE
    refine lv_istore_n (lv' := [(1, .int y0), (0, .ref h)]) hx hb dX7_both_37 rfl hl (by decide) rfl (fun ls hl => ?_)
    refine lv_goto (tgt := 5) hx hb dX7_both_38 (by decide) ?_
    exact hag5 _ _ _ _ _ hE hT hS (lv_sub hl [1, 0] rfl)
  have w_36 : ∀ (ag5 : TS → Int32 → Option (Int32 × TS)) (hag5 : (∀ (u : TS) (x1 : Int32) (H : Heap) (locs : List Loc) (ls : Array Slot), ag5 u x1 = some (r, u1) → TW D dA h u H → va_S (TA h) s.heap H locs → lv_has ls 3 [(0, .ref h), (1, .int x1)] → W p l e (pg_rm (d + 1)) s m args below meth c H locs 0 0 (MQ below (mt_Q D dA h (some (.int r)) u1) args s 0 0 (TA h)) (F0 m 5 ls []))) (u : TS) (H : Heap) (locs : List Loc) (ls : Array Slot), fX7_both_36 N g ag5 u = some (r, u1) → TW D dA h u H → va_S (TA h) s.heap H locs → lv_has ls 3 [(0, .ref h)] → W p l e (pg_rm (d + 1)) s m args below meth c H locs 0 0 (MQ below (mt_Q D dA h (some (.int r)) u1) args s 0 0 (TA h)) (F0 m 36 ls []) := by
    intro ag5 hag5 u H locs ls hE hT hS hl
    unfold fX7_both_36 at hE
    refine lv_iconst (v := (0 : Int32)) hx hb dX7_both_36 rfl ?_
    exact w_37 ag5 hag5 _ _ _ _ _ hE hT hS (lv_sub hl [0] rfl)
  have w_5 : ∀ (n : Nat) (u : TS) (x1 : Int32) (H : Heap) (locs : List Loc) (ls : Array Slot), fX7_both_5 N g n u x1 = some (r, u1) → TW D dA h u H → va_S (TA h) s.heap H locs → lv_has ls 3 [(0, .ref h), (1, .int x1)] → W p l e (pg_rm (d + 1)) s m args below meth c H locs 0 0 (MQ below (mt_Q D dA h (some (.int r)) u1) args s 0 0 (TA h)) (F0 m 5 ls []) := by
    intro n
    induction n with
    | zero =>
      intro u x1 H locs ls hE hT hS hl
      cases (show (none : Option (Int32 × TS)) = some (r, u1) from hE)
    | succ n ih =>
      intro u x1 H locs ls hE hT hS hl
      rw [fX7_both_5] at hE
      refine lv_aload_n hx hb dX7_both_5 rfl (lv_at hl 0 rfl) ?_
      refine lv_ldc2 (v := (1111 : Int64)) hx hb C.1.2.2.2.1 (C.1.2.2.2.2 _ q1915) dX7_both_6 ?_
      obtain ⟨r2, u1, hc, hE⟩ := o_bd2_some hE
      refine tc_X7_isWord C hT hS (kX7_isWord hc) rfl rfl (pg_r (by decide) (by decide)) ⟨Nat.le_refl 0, Nat.le_refl 0⟩ dX7_both_9 hl.1 (Nat.le_of_ble_eq_true rfl) (fun H locs hT hS => ?_)
      refine lv_if_eq (tgt := 41) hx hb dX7_both_12 (by decide) (fun c3 => ?_) (fun c3 => ?_)
      · have hE := z_t c3 hE
        refine lv_iload_n hx hb dX7_both_41 rfl (lv_at hl 1 rfl) ?_
        exact mt_iret C hr hlocks hT hS hE dX7_both_42
      · have hE := z_f c3 hE
        refine lv_aload_n hx hb dX7_both_15 rfl (lv_at hl 0 rfl) ?_
        obtain ⟨u4, hc, hE⟩ := o_bd_some hE
        refine tc_X7_next C hT hS (kX7_next hc) rfl rfl (pg_r (by decide) (by decide)) ⟨Nat.le_refl 0, Nat.le_refl 0⟩ dX7_both_16 hl.1 (Nat.le_of_ble_eq_true rfl) (fun H locs hT hS => ?_)
        refine lv_aload_n hx hb dX7_both_19 rfl (lv_at hl 0 rfl) ?_
        obtain ⟨r6, u5, hc, hE⟩ := o_bd2_some hE
        refine tc_X7_not C hT hS (hg _ _ _ _ hc) rfl rfl (pg_rr (by decide)) ⟨Nat.le_refl 0, Nat.le_refl 0⟩ dX7_both_20 hl.1 (Nat.le_of_ble_eq_true rfl) (fun H locs hT hS => ?_)
        refine lv_istore_n (lv' := [(2, .int r6), (0, .ref h), (1, .int x1)]) hx hb dX7_both_23 rfl hl (by decide) rfl (fun ls hl => ?_)
        refine lv_iload_n hx hb dX7_both_24 rfl (lv_at hl 2 rfl) ?_
        refine lv_if_eq (tgt := 36) hx hb dX7_both_25 (by decide) (fun c7 => ?_) (fun c7 => ?_)
        · have hE := z_t c7 hE
          exact w_36 (fX7_both_5 N g n) ih _ _ _ _ hE hT hS (lv_sub hl [1] rfl)
        · have hE := z_f c7 hE
          refine lv_iload_n hx hb dX7_both_28 rfl (lv_at hl 0 rfl) ?_
          refine lv_if_eq (tgt := 36) hx hb dX7_both_29 (by decide) (fun c8 => ?_) (fun c8 => ?_)
          · have hE := z_t c8 hE
            exact w_36 (fX7_both_5 N g n) ih _ _ _ _ hE hT hS (lv_sub hl [1] rfl)
          · have hE := z_f c8 hE
            refine lv_iconst (v := (1 : Int32)) hx hb dX7_both_32 rfl ?_
            refine lv_goto (tgt := 37) hx hb dX7_both_33 (by decide) ?_
            exact w_37 (fX7_both_5 N g n) ih _ _ _ _ _ hE hT hS (lv_sub hl [1] rfl)
  unfold fX7_both at hE
  refine lv_aload_n hx hb dX7_both_0 rfl (lv_at hl 0 rfl) ?_
  obtain ⟨r10, u9, hc, hE⟩ := o_bd2_some hE
  refine tc_X7_not C hT hS (hg _ _ _ _ hc) rfl rfl (pg_rr (by decide)) ⟨Nat.le_refl 0, Nat.le_refl 0⟩ dX7_both_1 hl.1 (Nat.le_of_ble_eq_true rfl) (fun H locs hT hS => ?_)
  refine lv_istore_n (lv' := [(1, .int r10), (0, .ref h)]) hx hb dX7_both_4 rfl hl (by decide) rfl (fun ls hl => ?_)
  exact w_5 N _ _ _ _ _ hE hT hS (lv_sub hl [1, 0] rfl)
set_option maxHeartbeats 4000000 in
set_option maxRecDepth 100000 in
theorem kX7_either_open {l : Launch} {D : va_G} {dA : Nat → ClassId} {h N : Nat} {u u1 : TS} {r : Int32} {d : Nat} {g : Nat → TS → Option (Int32 × TS)} (hg : pg_hyp l D dA h d g) (hE : fX7_either N g u = some (r, u1)) : Met l yX7_either (ws_ yX7_either cX7_either 3 (some .int)) (pg_rm (d + 1)) (va_Pc [.ref h] (mt_B D dA h u)) (mt_Q D dA h (some (.int r)) u1) 0 0 (TA h) := by
  refine mt_met (by decide) rfl rfl rfl ?_
  intro p e s m args below meth c ls C hr hlocks hT hS hl
  have hx := C.1.1
  have hb := C.1.2.1
  have w_37 : ∀ (ag5 : TS → Int32 → Option (Int32 × TS)) (hag5 : (∀ (u : TS) (x1 : Int32) (H : Heap) (locs : List Loc) (ls : Array Slot), ag5 u x1 = some (r, u1) → TW D dA h u H → va_S (TA h) s.heap H locs → lv_has ls 3 [(0, .ref h), (1, .int x1)] → W p l e (pg_rm (d + 1)) s m args below meth c H locs 0 0 (MQ below (mt_Q D dA h (some (.int r)) u1) args s 0 0 (TA h)) (F0 m 5 ls []))) (u : TS) (y0 : Int32) (H : Heap) (locs : List Loc) (ls : Array Slot), fX7_either_37 N g ag5 u y0 = some (r, u1) → TW D dA h u H → va_S (TA h) s.heap H locs → lv_has ls 3 [(0, .ref h)] → W p l e (pg_rm (d + 1)) s m args below meth c H locs 0 0 (MQ below (mt_Q D dA h (some (.int r)) u1) args s 0 0 (TA h)) (F0 m 37 ls [.int y0]) := by
    intro ag5 hag5 u y0 H locs ls hE hT hS hl
    unfold fX7_either_37 at hE
    refine lv_istore_n (lv' := [(1, .int y0), (0, .ref h)]) hx hb dX7_either_37 rfl hl (by decide) rfl (fun ls hl => ?_)
    refine lv_goto (tgt := 5) hx hb dX7_either_38 (by decide) ?_
    exact hag5 _ _ _ _ _ hE hT hS (lv_sub hl [1, 0] rfl)
  have w_32 : ∀ (ag5 : TS → Int32 → Option (Int32 × TS)) (hag5 : (∀ (u : TS) (x1 : Int32) (H : Heap) (locs : List Loc) (ls : Array Slot), ag5 u x1 = some (r, u1) → TW D dA h u H → va_S (TA h) s.heap H locs → lv_has ls 3 [(0, .ref h), (1, .int x1)] → W p l e (pg_rm (d + 1)) s m args below meth c H locs 0 0 (MQ below (mt_Q D dA h (some (.int r)) u1) args s 0 0 (TA h)) (F0 m 5 ls []))) (u : TS) (H : Heap) (locs : List Loc) (ls : Array Slot), fX7_either_32 N g ag5 u = some (r, u1) → TW D dA h u H → va_S (TA h) s.heap H locs → lv_has ls 3 [(0, .ref h)] → W p l e (pg_rm (d + 1)) s m args below meth c H locs 0 0 (MQ below (mt_Q D dA h (some (.int r)) u1) args s 0 0 (TA h)) (F0 m 32 ls []) := by
    intro ag5 hag5 u H locs ls hE hT hS hl
    unfold fX7_either_32 at hE
    refine lv_iconst (v := (1 : Int32)) hx hb dX7_either_32 rfl ?_
    refine lv_goto (tgt := 37) hx hb dX7_either_33 (by decide) ?_
    exact w_37 ag5 hag5 _ _ _ _ _ hE hT hS (lv_sub hl [0] rfl)
  have w_5 : ∀ (n : Nat) (u : TS) (x1 : Int32) (H : Heap) (locs : List Loc) (ls : Array Slot), fX7_either_5 N g n u x1 = some (r, u1) → TW D dA h u H → va_S (TA h) s.heap H locs → lv_has ls 3 [(0, .ref h), (1, .int x1)] → W p l e (pg_rm (d + 1)) s m args below meth c H locs 0 0 (MQ below (mt_Q D dA h (some (.int r)) u1) args s 0 0 (TA h)) (F0 m 5 ls []) := by
    intro n
    induction n with
    | zero =>
      intro u x1 H locs ls hE hT hS hl
      cases (show (none : Option (Int32 × TS)) = some (r, u1) from hE)
    | succ n ih =>
      intro u x1 H locs ls hE hT hS hl
      rw [fX7_either_5] at hE
      refine lv_aload_n hx hb dX7_either_5 rfl (lv_at hl 0 rfl) ?_
      refine lv_ldc2 (v := (423 : Int64)) hx hb C.1.2.2.2.1 (C.1.2.2.2.2 _ q1916) dX7_either_6 ?_
      obtain ⟨r2, u1, hc, hE⟩ := o_bd2_some hE
      refine tc_X7_isWord C hT hS (kX7_isWord hc) rfl rfl (pg_r (by decide) (by decide)) ⟨Nat.le_refl 0, Nat.le_refl 0⟩ dX7_either_9 hl.1 (Nat.le_of_ble_eq_true rfl) (fun H locs hT hS => ?_)
      refine lv_if_eq (tgt := 41) hx hb dX7_either_12 (by decide) (fun c3 => ?_) (fun c3 => ?_)
      · have hE := z_t c3 hE
        refine lv_iload_n hx hb dX7_either_41 rfl (lv_at hl 1 rfl) ?_
        exact mt_iret C hr hlocks hT hS hE dX7_either_42
      · have hE := z_f c3 hE
        refine lv_aload_n hx hb dX7_either_15 rfl (lv_at hl 0 rfl) ?_
        obtain ⟨u4, hc, hE⟩ := o_bd_some hE
        refine tc_X7_next C hT hS (kX7_next hc) rfl rfl (pg_r (by decide) (by decide)) ⟨Nat.le_refl 0, Nat.le_refl 0⟩ dX7_either_16 hl.1 (Nat.le_of_ble_eq_true rfl) (fun H locs hT hS => ?_)
        refine lv_aload_n hx hb dX7_either_19 rfl (lv_at hl 0 rfl) ?_
        obtain ⟨r6, u5, hc, hE⟩ := o_bd2_some hE
        refine tc_X7_both C hT hS (hg _ _ _ _ hc) rfl rfl (pg_rr (by decide)) ⟨Nat.le_refl 0, Nat.le_refl 0⟩ dX7_either_20 hl.1 (Nat.le_of_ble_eq_true rfl) (fun H locs hT hS => ?_)
        refine lv_istore_n (lv' := [(2, .int r6), (0, .ref h), (1, .int x1)]) hx hb dX7_either_23 rfl hl (by decide) rfl (fun ls hl => ?_)
        refine lv_iload_n hx hb dX7_either_24 rfl (lv_at hl 2 rfl) ?_
        refine lv_if_ne (tgt := 32) hx hb dX7_either_25 (by decide) (fun c7 => ?_) (fun c7 => ?_)
        · have hE := z_f c7 hE
          exact w_32 (fX7_either_5 N g n) ih _ _ _ _ hE hT hS (lv_sub hl [1] rfl)
        · have hE := z_t c7 hE
          refine lv_iload_n hx hb dX7_either_28 rfl (lv_at hl 0 rfl) ?_
          refine lv_if_eq (tgt := 36) hx hb dX7_either_29 (by decide) (fun c8 => ?_) (fun c8 => ?_)
          · have hE := z_t c8 hE
            refine lv_iconst (v := (0 : Int32)) hx hb dX7_either_36 rfl ?_
            exact w_37 (fX7_either_5 N g n) ih _ _ _ _ _ hE hT hS (lv_sub hl [1] rfl)
          · have hE := z_f c8 hE
            exact w_32 (fX7_either_5 N g n) ih _ _ _ _ hE hT hS (lv_sub hl [1] rfl)
  unfold fX7_either at hE
  refine lv_aload_n hx hb dX7_either_0 rfl (lv_at hl 0 rfl) ?_
  obtain ⟨r10, u9, hc, hE⟩ := o_bd2_some hE
  refine tc_X7_both C hT hS (hg _ _ _ _ hc) rfl rfl (pg_rr (by decide)) ⟨Nat.le_refl 0, Nat.le_refl 0⟩ dX7_either_1 hl.1 (Nat.le_of_ble_eq_true rfl) (fun H locs hT hS => ?_)
  refine lv_istore_n (lv' := [(1, .int r10), (0, .ref h)]) hx hb dX7_either_4 rfl hl (by decide) rfl (fun ls hl => ?_)
  exact w_5 N _ _ _ _ _ hE hT hS (lv_sub hl [1, 0] rfl)
set_option maxHeartbeats 1000000 in
theorem pg_all {l : Launch} {D : va_G} {dA : Nat → ClassId} {h N : Nat} : ∀ d : Nat, pg_hyp l D dA h d (pgX7 N d)
  | 0 => fun w u u1 r hE => by cases (show (none : Option (Int32 × TS)) = some (r, u1) from hE)
  | d + 1 => fun w u u1 r hE => match w, hE with
    | 0, hE => kX7_one_open (N := N) (pg_all d) hE
    | 1, hE => kX7_term_open (N := N) (pg_all d) hE
    | 2, hE => kX7_added_open (N := N) (pg_all d) hE
    | 3, hE => kX7_not_open (N := N) (pg_all d) hE
    | 4, hE => kX7_both_open (N := N) (pg_all d) hE
    | _ + 5, hE => kX7_either_open (N := N) (pg_all d) hE
theorem kX7_one {l : Launch} {D : va_G} {dA : Nat → ClassId} {h N : Nat} {u u1 : TS} {r : Int32} (hE : pgX7 N 64 0 u = some (r, u1)) : Met l yX7_one (ws_ yX7_one cX7_one 2 (some .int)) (pg_rm 64) (va_Pc [.ref h] (mt_B D dA h u)) (mt_Q D dA h (some (.int r)) u1) 0 0 (TA h) := pg_all 64 0 u u1 r hE
theorem kX7_term {l : Launch} {D : va_G} {dA : Nat → ClassId} {h N : Nat} {u u1 : TS} {r : Int32} (hE : pgX7 N 64 1 u = some (r, u1)) : Met l yX7_term (ws_ yX7_term cX7_term 5 (some .int)) (pg_rm 64) (va_Pc [.ref h] (mt_B D dA h u)) (mt_Q D dA h (some (.int r)) u1) 0 0 (TA h) := pg_all 64 1 u u1 r hE
theorem kX7_added {l : Launch} {D : va_G} {dA : Nat → ClassId} {h N : Nat} {u u1 : TS} {r : Int32} (hE : pgX7 N 64 2 u = some (r, u1)) : Met l yX7_added (ws_ yX7_added cX7_added 4 (some .int)) (pg_rm 64) (va_Pc [.ref h] (mt_B D dA h u)) (mt_Q D dA h (some (.int r)) u1) 0 0 (TA h) := pg_all 64 2 u u1 r hE
theorem kX7_not {l : Launch} {D : va_G} {dA : Nat → ClassId} {h N : Nat} {u u1 : TS} {r : Int32} (hE : pgX7 N 64 3 u = some (r, u1)) : Met l yX7_not (ws_ yX7_not cX7_not 5 (some .int)) (pg_rm 64) (va_Pc [.ref h] (mt_B D dA h u)) (mt_Q D dA h (some (.int r)) u1) 0 0 (TA h) := pg_all 64 3 u u1 r hE
theorem kX7_both {l : Launch} {D : va_G} {dA : Nat → ClassId} {h N : Nat} {u u1 : TS} {r : Int32} (hE : pgX7 N 64 4 u = some (r, u1)) : Met l yX7_both (ws_ yX7_both cX7_both 3 (some .int)) (pg_rm 64) (va_Pc [.ref h] (mt_B D dA h u)) (mt_Q D dA h (some (.int r)) u1) 0 0 (TA h) := pg_all 64 4 u u1 r hE
theorem kX7_either {l : Launch} {D : va_G} {dA : Nat → ClassId} {h N : Nat} {u u1 : TS} {r : Int32} (hE : pgX7 N 64 5 u = some (r, u1)) : Met l yX7_either (ws_ yX7_either cX7_either 3 (some .int)) (pg_rm 64) (va_Pc [.ref h] (mt_B D dA h u)) (mt_Q D dA h (some (.int r)) u1) 0 0 (TA h) := pg_all 64 5 u u1 r hE
end TRG1
