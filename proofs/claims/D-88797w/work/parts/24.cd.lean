section CG3
variable {p : Program} {l : Launch} {e : Env} {R : Room} {s : State} {m : MethodId} {args : Array Value} {below : List Frame} {meth : Method} {c : Code} {H : Heap} {locs : List Loc} {cells slots : Nat} {Q : State → Prop} {cc : ByteArray} {nL pc : Nat} {ls : Array Slot} {rest : List Value} {D : va_G} {dA : Nat → ClassId} {h : Nat} {H0 : Heap}
theorem cc_X0_341 {a1 : Int32} {r : Int32} {u u1 : CS} {rm : Room} (C : CC p m c cc nL s args D dA RX0) (hW : wc_W D dA h u H) (hS : wc_S u) (hV : va_S (CA h) H0 H locs) (ht : wc_T u 0 = some (.inl 0)) (hM : Met l yX0_mayStrike (ws_ yX0_mayStrike cX0_mayStrike 2 (some .boolean)) rm (va_Pc [.ref (h + 0), .int a1] (wc_St D dA h u)) (wc_Qr D dA h (some (.int r)) u1) 0 0 (CA h)) (hrc : rm.cells = 0) (hrs : rm.slots = 0) (hR : rm.frames + 1 ≤ R.frames ∧ 8 + (2 + 11) + rm.locals ≤ R.locals) (hf : cells + 0 ≤ R.cells ∧ slots + 0 ≤ R.slots) (d : decode cc pc = .ok (.invokevirtual 341, 3)) (hsz : ls.size = nL) (hro : (rest.map fun v => v.category).sum ≤ 8) (kk : ∀ (H1 : Heap) (locs1 : List Loc), wc_W D dA h u1 H1 → wc_S u1 → va_S (CA h) H0 H1 locs1 → W p l e R s m args below meth c H1 locs1 cells slots Q (F0 m (pc + 3) ls (.int r :: rest))) : W p l e R s m args below meth c H locs cells slots Q (F0 m pc ls (.int a1 :: .ref (h + 0) :: rest)) :=
  wc_call (v := (some (.int r))) (va_runV (As := [.int a1]) (rest := rest) C.1 hM (cwV 1 C.1.2.2.2.2 (lw_V q1154 q1156 qs50 q166 q1157) rfl hrc hrs (by decide +kernel) hR) (wc_preV (q := (RX0, TX0, 27)) C.2 hW hS ht rfl _) rfl rfl hsz rfl (lv_room hro) d hf) hV (fun _ z => z) (fun H1 locs1 a b c0 _ _ => kk H1 locs1 a b c0)
set_option maxHeartbeats 4000000 in
set_option maxRecDepth 100000 in
theorem kX0_mayStrike {l : Launch} {D : va_G} {dA : Nat → ClassId} {h N : Nat} {a1 : Int32} {u u1 : CS} {r : Int32} (hE : fX0_mayStrike N u a1 = some (r, u1)) : Met l yX0_mayStrike (ws_ yX0_mayStrike cX0_mayStrike 2 (some .boolean)) ({ frames := 0, cells := 0, slots := 0, locals := 0 }) (va_Pc [.ref (h + 0), .int a1] (wc_St D dA h u)) (wc_Qr D dA h (some (.int r)) u1) 0 0 (CA h) := by
  refine wc_met (own := RX0) (lv := [(0, .ref (h + 0)), (1, .int a1)]) (by decide) rfl rfl rfl ?_
  intro p e s m args below meth c ls C hr hlocks hW hS hV hl
  have hx := C.1.1
  have hb := C.1.2.1
  have w_45 : ∀ (u : CS) (y0 : Int32) (H : Heap) (locs : List Loc) (ls : Array Slot), fX0_mayStrike_45 N u y0 = some (r, u1) → wc_W D dA h u H → wc_S u → va_S (CA h) s.heap H locs → lv_has ls 2 [] → W p l e ({ frames := 0, cells := 0, slots := 0, locals := 0 }) s m args below meth c H locs 0 0 (MQ below (wc_Qr D dA h (some (.int r)) u1) args s 0 0 (CA h)) (F0 m 45 ls [.int y0]) := by
    intro u y0 H locs ls hE hW hS hV hl
    unfold fX0_mayStrike_45 at hE
    obtain ⟨hb1, hE⟩ := o_bl_some hE
    exact wc_zret C hr hlocks hW hS hV hb1 hE dX0_mayStrike_45
  have w_44 : ∀ (u : CS) (H : Heap) (locs : List Loc) (ls : Array Slot), fX0_mayStrike_44 N u = some (r, u1) → wc_W D dA h u H → wc_S u → va_S (CA h) s.heap H locs → lv_has ls 2 [] → W p l e ({ frames := 0, cells := 0, slots := 0, locals := 0 }) s m args below meth c H locs 0 0 (MQ below (wc_Qr D dA h (some (.int r)) u1) args s 0 0 (CA h)) (F0 m 44 ls []) := by
    intro u H locs ls hE hW hS hV hl
    unfold fX0_mayStrike_44 at hE
    refine lv_iconst (v := (0 : Int32)) hx hb dX0_mayStrike_44 rfl ?_
    exact w_45 _ _ _ _ _ hE hW hS hV (lv_sub hl [] rfl)
  unfold fX0_mayStrike at hE
  refine lv_iload_n hx hb dX0_mayStrike_0 rfl (lv_at hl 1 rfl) ?_
  refine lv_aload_n hx hb dX0_mayStrike_1 rfl (lv_at hl 0 rfl) ?_
  refine cgs_X0_19_0 C hW (st_0 hS) (sp_0_now hS) dX0_mayStrike_2 ?_
  refine cg_X0_322_1 C hW (st_F hS wc_F3) dX0_mayStrike_5 ?_
  refine lv_icmp_ge (tgt := 44) hx hb dX0_mayStrike_8 (by decide) (fun c3 => ?_) (fun c3 => ?_)
  · have hE := z_t c3 hE
    exact w_44 _ _ _ _ hE hW hS hV (lv_sub hl [] rfl)
  · have hE := z_f c3 hE
    refine lv_aload_n hx hb dX0_mayStrike_11 rfl (lv_at hl 0 rfl) ?_
    refine cgs_X0_19_0 C hW (st_0 hS) (sp_0_now hS) dX0_mayStrike_12 ?_
    refine cgs_X0_325_1 C hW (st_F hS wc_F3) (sp_F_struckIn hS wc_F3) dX0_mayStrike_15 ?_
    refine lv_iload_n hx hb dX0_mayStrike_18 rfl (lv_at hl 1 rfl) ?_
    refine wc_ldi C hW (st_F_struckIn hS wc_F3) hE dX0_mayStrike_19 (fun hE => ?_)
    refine z_nmi hE (fun v4 hE => ?_)
    refine lv_iconst (v := (-1 : Int32)) hx hb dX0_mayStrike_20 rfl ?_
    refine lv_icmp_ne (tgt := 44) hx hb dX0_mayStrike_21 (by decide) (fun c5 => ?_) (fun c5 => ?_)
    · have hE := z_f c5 hE
      exact w_44 _ _ _ _ hE hW hS hV (lv_sub hl [] rfl)
    · have hE := z_t c5 hE
      refine lv_aload_n hx hb dX0_mayStrike_24 rfl (lv_at hl 0 rfl) ?_
      refine cgs_X0_19_0 C hW (st_0 hS) (sp_0_now hS) dX0_mayStrike_25 ?_
      refine cgs_X0_328_1 C hW (st_F hS wc_F3) (sp_F_line hS wc_F3) dX0_mayStrike_28 ?_
      refine lv_iload_n hx hb dX0_mayStrike_31 rfl (lv_at hl 1 rfl) ?_
      refine wc_ldq7 C hW (st_F_line hS wc_F3) hE dX0_mayStrike_32 (fun hE => ?_)
      refine z_nmp hE (fun p6 hE => ?_)
      obtain ⟨n7, hp_, hE_⟩ := o_nn_some hE
      clear hE
      subst hp_
      have hE := hE_
      obtain ⟨ht, hE⟩ := o_sh_some hE
      refine cg_X0_332_5 C hW ht dX0_mayStrike_33 ?_
      refine lv_iconst (v := (-1 : Int32)) hx hb dX0_mayStrike_36 rfl ?_
      refine lv_icmp_ne (tgt := 44) hx hb dX0_mayStrike_37 (by decide) (fun c8 => ?_) (fun c8 => ?_)
      · have hE := z_f c8 hE
        exact w_44 _ _ _ _ hE hW hS hV (lv_sub hl [] rfl)
      · have hE := z_t c8 hE
        refine lv_iconst (v := (1 : Int32)) hx hb dX0_mayStrike_40 rfl ?_
        refine lv_goto (tgt := 45) hx hb dX0_mayStrike_41 (by decide) ?_
        exact w_45 _ _ _ _ _ hE hW hS hV (lv_sub hl [] rfl)
set_option maxHeartbeats 4000000 in
set_option maxRecDepth 100000 in
theorem kX0_lineOf {l : Launch} {D : va_G} {dA : Nat → ClassId} {h N : Nat} {a1 : Int32} {a2 : Int32} {u u1 : CS} {r : Int32} (hE : fX0_lineOf N u a1 a2 = some (r, u1)) : Met l yX0_lineOf (ws_ yX0_lineOf cX0_lineOf 3 (some .int)) ({ frames := 1, cells := 0, slots := 0, locals := 21 }) (va_Pc [.ref (h + 0), .int a1, .int a2] (wc_St D dA h u)) (wc_Qr D dA h (some (.int r)) u1) 0 0 (CA h) := by
  refine wc_met (own := RX0) (lv := [(0, .ref (h + 0)), (1, .int a1), (2, .int a2)]) (by decide) rfl rfl rfl ?_
  intro p e s m args below meth c ls C hr hlocks hW hS hV hl
  have hx := C.1.1
  have hb := C.1.2.1
  have w_15 : ∀ (u : CS) (H : Heap) (locs : List Loc) (ls : Array Slot), fX0_lineOf_15 N u = some (r, u1) → wc_W D dA h u H → wc_S u → va_S (CA h) s.heap H locs → lv_has ls 3 [(0, .ref (h + 0))] → W p l e ({ frames := 1, cells := 0, slots := 0, locals := 21 }) s m args below meth c H locs 0 0 (MQ below (wc_Qr D dA h (some (.int r)) u1) args s 0 0 (CA h)) (F0 m 15 ls []) := by
    intro u H locs ls hE hW hS hV hl
    unfold fX0_lineOf_15 at hE
    refine lv_aload_n hx hb dX0_lineOf_15 rfl (lv_at hl 0 rfl) ?_
    refine lv_bipush (v := (-3 : Int32)) hx hb dX0_lineOf_16 rfl ?_
    obtain ⟨r9, u10, hc, hE⟩ := o_bd2_some hE
    refine cc_X0_118 C hW hS hV (st_0 hS) (kX0_refuse hc) rfl rfl ⟨Nat.le_of_ble_eq_true rfl, Nat.le_of_ble_eq_true rfl⟩ ⟨Nat.le_refl 0, Nat.le_refl 0⟩ dX0_lineOf_18 hl.1 (Nat.le_of_ble_eq_true rfl) (fun H locs hW hS hV => ?_)
    exact wc_iret C hr hlocks hW hS hV hE dX0_lineOf_21
  unfold fX0_lineOf at hE
  refine lv_iload_n hx hb dX0_lineOf_0 rfl (lv_at hl 1 rfl) ?_
  refine lv_if_lt (tgt := 15) hx hb dX0_lineOf_1 (by decide) (fun c11 => ?_) (fun c11 => ?_)
  · have hE := z_t c11 hE
    exact w_15 _ _ _ _ hE hW hS hV (lv_sub hl [0] rfl)
  · have hE := z_f c11 hE
    refine lv_iload_n hx hb dX0_lineOf_4 rfl (lv_at hl 1 rfl) ?_
    refine lv_aload_n hx hb dX0_lineOf_5 rfl (lv_at hl 0 rfl) ?_
    refine cgs_X0_19_0 C hW (st_0 hS) (sp_0_now hS) dX0_lineOf_6 ?_
    refine cg_X0_322_1 C hW (st_F hS wc_F3) dX0_lineOf_9 ?_
    refine lv_icmp_lt (tgt := 22) hx hb dX0_lineOf_12 (by decide) (fun c12 => ?_) (fun c12 => ?_)
    · have hE := z_t c12 hE
      refine lv_iload_n hx hb dX0_lineOf_22 rfl (lv_at hl 2 rfl) ?_
      by_cases c13 : a2 = (0 : Int32)
      · have hE := z_t c13 hE
        refine lv_tableIn (tgt := 52) hx hb dX0_lineOf_23 (by rw [c13]; decide) (by rw [c13]; decide) (by rw [c13]; rfl) (by decide) ?_
        refine lv_aload_n hx hb dX0_lineOf_52 rfl (lv_at hl 0 rfl) ?_
        refine cgs_X0_19_0 C hW (st_0 hS) (sp_0_now hS) dX0_lineOf_53 ?_
        refine cgs_X0_328_1 C hW (st_F hS wc_F3) (sp_F_line hS wc_F3) dX0_lineOf_56 ?_
        refine lv_iload_n hx hb dX0_lineOf_59 rfl (lv_at hl 1 rfl) ?_
        refine wc_ldq7 C hW (st_F_line hS wc_F3) hE dX0_lineOf_60 (fun hE => ?_)
        refine z_nmp hE (fun p14 hE => ?_)
        obtain ⟨n15, hp_, hE_⟩ := o_nn_some hE
        clear hE
        subst hp_
        have hE := hE_
        obtain ⟨ht, hE⟩ := o_sh_some hE
        refine cg_X0_356_5 C hW ht dX0_lineOf_61 ?_
        exact wc_iret C hr hlocks hW hS hV hE dX0_lineOf_64
      have hE := z_f c13 hE
      by_cases c16 : a2 = (1 : Int32)
      · have hE := z_t c16 hE
        refine lv_tableIn (tgt := 65) hx hb dX0_lineOf_23 (by rw [c16]; decide) (by rw [c16]; decide) (by rw [c16]; rfl) (by decide) ?_
        refine lv_aload_n hx hb dX0_lineOf_65 rfl (lv_at hl 0 rfl) ?_
        refine cgs_X0_19_0 C hW (st_0 hS) (sp_0_now hS) dX0_lineOf_66 ?_
        refine cgs_X0_345_1 C hW (st_F hS wc_F3) (sp_F_cameIn hS wc_F3) dX0_lineOf_69 ?_
        refine lv_iload_n hx hb dX0_lineOf_72 rfl (lv_at hl 1 rfl) ?_
        refine wc_ldi C hW (st_F_cameIn hS wc_F3) hE dX0_lineOf_73 (fun hE => ?_)
        refine z_nmi hE (fun v17 hE => ?_)
        exact wc_iret C hr hlocks hW hS hV hE dX0_lineOf_74
      have hE := z_f c16 hE
      by_cases c18 : a2 = (2 : Int32)
      · have hE := z_t c18 hE
        refine lv_tableIn (tgt := 75) hx hb dX0_lineOf_23 (by rw [c18]; decide) (by rw [c18]; decide) (by rw [c18]; rfl) (by decide) ?_
        refine lv_aload_n hx hb dX0_lineOf_75 rfl (lv_at hl 0 rfl) ?_
        refine cgs_X0_19_0 C hW (st_0 hS) (sp_0_now hS) dX0_lineOf_76 ?_
        refine cgs_X0_325_1 C hW (st_F hS wc_F3) (sp_F_struckIn hS wc_F3) dX0_lineOf_79 ?_
        refine lv_iload_n hx hb dX0_lineOf_82 rfl (lv_at hl 1 rfl) ?_
        refine wc_ldi C hW (st_F_struckIn hS wc_F3) hE dX0_lineOf_83 (fun hE => ?_)
        refine z_nmi hE (fun v19 hE => ?_)
        exact wc_iret C hr hlocks hW hS hV hE dX0_lineOf_84
      have hE := z_f c18 hE
      by_cases c20 : a2 = (3 : Int32)
      · have hE := z_t c20 hE
        refine lv_tableIn (tgt := 85) hx hb dX0_lineOf_23 (by rw [c20]; decide) (by rw [c20]; decide) (by rw [c20]; rfl) (by decide) ?_
        refine lv_aload_n hx hb dX0_lineOf_85 rfl (lv_at hl 0 rfl) ?_
        refine cgs_X0_19_0 C hW (st_0 hS) (sp_0_now hS) dX0_lineOf_86 ?_
        refine cgs_X0_328_1 C hW (st_F hS wc_F3) (sp_F_line hS wc_F3) dX0_lineOf_89 ?_
        refine lv_iload_n hx hb dX0_lineOf_92 rfl (lv_at hl 1 rfl) ?_
        refine wc_ldq7 C hW (st_F_line hS wc_F3) hE dX0_lineOf_93 (fun hE => ?_)
        refine z_nmp hE (fun p21 hE => ?_)
        obtain ⟨n22, hp_, hE_⟩ := o_nn_some hE
        clear hE
        subst hp_
        have hE := hE_
        obtain ⟨ht, hE⟩ := o_sh_some hE
        refine cg_X0_332_5 C hW ht dX0_lineOf_94 ?_
        exact wc_iret C hr hlocks hW hS hV hE dX0_lineOf_97
      have hE := z_f c20 hE
      refine lv_tableOut (tgt := 98) hx hb dX0_lineOf_23 (z_swOut (fun k_ h1_ h2_ => ?_)) (by decide) ?_
      · rcases (show k_ = 0 ∨ k_ = 1 ∨ k_ = 2 ∨ k_ = 3 by omega) with rfl | rfl | rfl | rfl
        · exact c13
        · exact c16
        · exact c18
        · exact c20
      refine lv_aload_n hx hb dX0_lineOf_98 rfl (lv_at hl 0 rfl) ?_
      refine lv_bipush (v := (-7 : Int32)) hx hb dX0_lineOf_99 rfl ?_
      obtain ⟨r23, u24, hc, hE⟩ := o_bd2_some hE
      refine cc_X0_118 C hW hS hV (st_0 hS) (kX0_refuse hc) rfl rfl ⟨Nat.le_of_ble_eq_true rfl, Nat.le_of_ble_eq_true rfl⟩ ⟨Nat.le_refl 0, Nat.le_refl 0⟩ dX0_lineOf_101 hl.1 (Nat.le_of_ble_eq_true rfl) (fun H locs hW hS hV => ?_)
      exact wc_iret C hr hlocks hW hS hV hE dX0_lineOf_104
    · have hE := z_f c12 hE
      exact w_15 _ _ _ _ hE hW hS hV (lv_sub hl [0] rfl)
theorem cc_X0_359 {a1 : Int32} {r : Int32} {u u1 : CS} {rm : Room} (C : CC p m c cc nL s args D dA RX0) (hW : wc_W D dA h u H) (hS : wc_S u) (hV : va_S (CA h) H0 H locs) (ht : wc_T u 0 = some (.inl 0)) (hM : Met l yX0_isWho (ws_ yX0_isWho cX0_isWho 2 (some .boolean)) rm (va_Pc [.ref (h + 0), .int a1] (wc_St D dA h u)) (wc_Qr D dA h (some (.int r)) u1) 0 0 (CA h)) (hrc : rm.cells = 0) (hrs : rm.slots = 0) (hR : rm.frames + 1 ≤ R.frames ∧ 8 + (2 + 11) + rm.locals ≤ R.locals) (hf : cells + 0 ≤ R.cells ∧ slots + 0 ≤ R.slots) (d : decode cc pc = .ok (.invokevirtual 359, 3)) (hsz : ls.size = nL) (hro : (rest.map fun v => v.category).sum ≤ 8) (kk : ∀ (H1 : Heap) (locs1 : List Loc), wc_W D dA h u1 H1 → wc_S u1 → va_S (CA h) H0 H1 locs1 → W p l e R s m args below meth c H1 locs1 cells slots Q (F0 m (pc + 3) ls (.int r :: rest))) : W p l e R s m args below meth c H locs cells slots Q (F0 m pc ls (.int a1 :: .ref (h + 0) :: rest)) :=
  wc_call (v := (some (.int r))) (va_runV (As := [.int a1]) (rest := rest) C.1 hM (cwV 1 C.1.2.2.2.2 (lw_V q1166 q1168 qs51 q166 q1169) rfl hrc hrs (by decide +kernel) hR) (wc_preV (q := (RX0, TX0, 27)) C.2 hW hS ht rfl _) rfl rfl hsz rfl (lv_room hro) d hf) hV (fun _ z => z) (fun H1 locs1 a b c0 _ _ => kk H1 locs1 a b c0)
set_option maxHeartbeats 4000000 in
set_option maxRecDepth 100000 in
theorem kX0_isWho {l : Launch} {D : va_G} {dA : Nat → ClassId} {h N : Nat} {a1 : Int32} {u u1 : CS} {r : Int32} (hE : fX0_isWho N u a1 = some (r, u1)) : Met l yX0_isWho (ws_ yX0_isWho cX0_isWho 2 (some .boolean)) ({ frames := 1, cells := 0, slots := 0, locals := 21 }) (va_Pc [.ref (h + 0), .int a1] (wc_St D dA h u)) (wc_Qr D dA h (some (.int r)) u1) 0 0 (CA h) := by
  refine wc_met (own := RX0) (lv := [(0, .ref (h + 0)), (1, .int a1)]) (by decide) rfl rfl rfl ?_
  intro p e s m args below meth c ls C hr hlocks hW hS hV hl
  have hx := C.1.1
  have hb := C.1.2.1
  have w_24 : ∀ (u : CS) (y0 : Int32) (H : Heap) (locs : List Loc) (ls : Array Slot), fX0_isWho_24 N u y0 = some (r, u1) → wc_W D dA h u H → wc_S u → va_S (CA h) s.heap H locs → lv_has ls 2 [] → W p l e ({ frames := 1, cells := 0, slots := 0, locals := 21 }) s m args below meth c H locs 0 0 (MQ below (wc_Qr D dA h (some (.int r)) u1) args s 0 0 (CA h)) (F0 m 24 ls [.int y0]) := by
    intro u y0 H locs ls hE hW hS hV hl
    unfold fX0_isWho_24 at hE
    obtain ⟨hb1, hE⟩ := o_bl_some hE
    exact wc_zret C hr hlocks hW hS hV hb1 hE dX0_isWho_24
  have w_19 : ∀ (u : CS) (H : Heap) (locs : List Loc) (ls : Array Slot), fX0_isWho_19 N u = some (r, u1) → wc_W D dA h u H → wc_S u → va_S (CA h) s.heap H locs → lv_has ls 2 [] → W p l e ({ frames := 1, cells := 0, slots := 0, locals := 21 }) s m args below meth c H locs 0 0 (MQ below (wc_Qr D dA h (some (.int r)) u1) args s 0 0 (CA h)) (F0 m 19 ls []) := by
    intro u H locs ls hE hW hS hV hl
    unfold fX0_isWho_19 at hE
    refine lv_iconst (v := (1 : Int32)) hx hb dX0_isWho_19 rfl ?_
    refine lv_goto (tgt := 24) hx hb dX0_isWho_20 (by decide) ?_
    exact w_24 _ _ _ _ _ hE hW hS hV (lv_sub hl [] rfl)
  unfold fX0_isWho at hE
  refine lv_aload_n hx hb dX0_isWho_0 rfl (lv_at hl 0 rfl) ?_
  refine lv_iload_n hx hb dX0_isWho_1 rfl (lv_at hl 1 rfl) ?_
  obtain ⟨r5, u6, hc, hE⟩ := o_bd2_some hE
  refine cc_X0_148 C hW hS hV (st_0 hS) (kX0_isStand hc) rfl rfl ⟨Nat.le_of_ble_eq_true rfl, Nat.le_of_ble_eq_true rfl⟩ ⟨Nat.le_refl 0, Nat.le_refl 0⟩ dX0_isWho_2 hl.1 (Nat.le_of_ble_eq_true rfl) (fun H locs hW hS hV => ?_)
  refine lv_if_ne (tgt := 19) hx hb dX0_isWho_5 (by decide) (fun c7 => ?_) (fun c7 => ?_)
  · have hE := z_f c7 hE
    exact w_19 _ _ _ _ hE hW hS hV (lv_sub hl [] rfl)
  · have hE := z_t c7 hE
    refine lv_aload_n hx hb dX0_isWho_8 rfl (lv_at hl 0 rfl) ?_
    refine lv_iload_n hx hb dX0_isWho_9 rfl (lv_at hl 1 rfl) ?_
    refine lv_bipush (v := (100 : Int32)) hx hb dX0_isWho_10 rfl ?_
    refine lv_isub hx hb dX0_isWho_12 ?_
    obtain ⟨r8, u9, hc, hE⟩ := o_bd2_some hE
    refine cc_X0_223 C hW hS hV (st_0 hS) (kX0_isVillage hc) rfl rfl ⟨Nat.le_of_ble_eq_true rfl, Nat.le_of_ble_eq_true rfl⟩ ⟨Nat.le_refl 0, Nat.le_refl 0⟩ dX0_isWho_13 hl.1 (Nat.le_of_ble_eq_true rfl) (fun H locs hW hS hV => ?_)
    refine lv_if_eq (tgt := 23) hx hb dX0_isWho_16 (by decide) (fun c10 => ?_) (fun c10 => ?_)
    · have hE := z_t c10 hE
      refine lv_iconst (v := (0 : Int32)) hx hb dX0_isWho_23 rfl ?_
      exact w_24 _ _ _ _ _ hE hW hS hV (lv_sub hl [] rfl)
    · have hE := z_f c10 hE
      exact w_19 _ _ _ _ hE hW hS hV (lv_sub hl [] rfl)
set_option maxHeartbeats 4000000 in
set_option maxRecDepth 100000 in
theorem kX0_says {l : Launch} {D : va_G} {dA : Nat → ClassId} {h N : Nat} {a1 : Int32} {a2 : Int32} {a3 : Int32} {u u1 : CS} {r : Int32} (hE : fX0_says N u a1 a2 a3 = some (r, u1)) : Met l yX0_says (ws_ yX0_says cX0_says 4 (some .int)) ({ frames := 204, cells := 0, slots := 0, locals := 6500 }) (va_Pc [.ref (h + 0), .int a1, .int a2, .int a3] (wc_St D dA h u)) (wc_Qr D dA h (some (.int r)) u1) 0 0 (CA h) := by
  refine wc_met (own := RX0) (lv := [(0, .ref (h + 0)), (1, .int a1), (2, .int a2), (3, .int a3)]) (by decide) rfl rfl rfl ?_
  intro p e s m args below meth c ls C hr hlocks hW hS hV hl
  have hx := C.1.1
  have hb := C.1.2.1
  have w_20 : ∀ (u : CS) (H : Heap) (locs : List Loc) (ls : Array Slot), fX0_says_20 N u = some (r, u1) → wc_W D dA h u H → wc_S u → va_S (CA h) s.heap H locs → lv_has ls 4 [(0, .ref (h + 0))] → W p l e ({ frames := 204, cells := 0, slots := 0, locals := 6500 }) s m args below meth c H locs 0 0 (MQ below (wc_Qr D dA h (some (.int r)) u1) args s 0 0 (CA h)) (F0 m 20 ls []) := by
    intro u H locs ls hE hW hS hV hl
    unfold fX0_says_20 at hE
    refine lv_aload_n hx hb dX0_says_20 rfl (lv_at hl 0 rfl) ?_
    refine lv_bipush (v := (-3 : Int32)) hx hb dX0_says_21 rfl ?_
    obtain ⟨r11, u12, hc, hE⟩ := o_bd2_some hE
    refine cc_X0_312 C hW hS hV (st_0 hS) (kX0_refuseAsNought hc) rfl rfl ⟨Nat.le_of_ble_eq_true rfl, Nat.le_of_ble_eq_true rfl⟩ ⟨Nat.le_refl 0, Nat.le_refl 0⟩ dX0_says_23 hl.1 (Nat.le_of_ble_eq_true rfl) (fun H locs hW hS hV => ?_)
    exact wc_iret C hr hlocks hW hS hV hE dX0_says_26
  have w_58 : ∀ (u : CS) (y0 : Int32) (H : Heap) (locs : List Loc) (ls : Array Slot), fX0_says_58 N u y0 = some (r, u1) → wc_W D dA h u H → wc_S u → va_S (CA h) s.heap H locs → lv_has ls 4 [] → W p l e ({ frames := 204, cells := 0, slots := 0, locals := 6500 }) s m args below meth c H locs 0 0 (MQ below (wc_Qr D dA h (some (.int r)) u1) args s 0 0 (CA h)) (F0 m 58 ls [.int y0]) := by
    intro u y0 H locs ls hE hW hS hV hl
    unfold fX0_says_58 at hE
    exact wc_iret C hr hlocks hW hS hV hE dX0_says_58
  unfold fX0_says at hE
  refine lv_iload_n hx hb dX0_says_0 rfl (lv_at hl 1 rfl) ?_
  refine lv_i2l hx hb dX0_says_1 rfl ?_
  refine lv_lconst (v := (0 : Int64)) hx hb dX0_says_2 rfl ?_
  refine lv_ldc2 (v := (7 : Int64)) hx hb C.1.2.2.2.1 (C.1.2.2.2.2 _ q993) dX0_says_3 ?_
  obtain ⟨r13, hc, hE⟩ := o_bd_some hE
  refine sc_X0_31 C.1 (kX0_isIn hc) rfl rfl ⟨Nat.le_of_ble_eq_true rfl, Nat.le_of_ble_eq_true rfl⟩ ⟨Nat.le_refl 0, Nat.le_refl 0⟩ dX0_says_6 hl.1 (Nat.le_of_ble_eq_true rfl) ?_
  refine lv_if_eq (tgt := 20) hx hb dX0_says_9 (by decide) (fun c14 => ?_) (fun c14 => ?_)
  · have hE := z_t c14 hE
    exact w_20 _ _ _ _ hE hW hS hV (lv_sub hl [0] rfl)
  · have hE := z_f c14 hE
    refine lv_aload_n hx hb dX0_says_12 rfl (lv_at hl 0 rfl) ?_
    refine lv_iload_n hx hb dX0_says_13 rfl (lv_at hl 2 rfl) ?_
    obtain ⟨r15, u16, hc, hE⟩ := o_bd2_some hE
    refine cc_X0_359 C hW hS hV (st_0 hS) (kX0_isWho hc) rfl rfl ⟨Nat.le_of_ble_eq_true rfl, Nat.le_of_ble_eq_true rfl⟩ ⟨Nat.le_refl 0, Nat.le_refl 0⟩ dX0_says_14 hl.1 (Nat.le_of_ble_eq_true rfl) (fun H locs hW hS hV => ?_)
    refine lv_if_ne (tgt := 27) hx hb dX0_says_17 (by decide) (fun c17 => ?_) (fun c17 => ?_)
    · have hE := z_f c17 hE
      refine lv_iload_n hx hb dX0_says_27 rfl (lv_at hl 3 rfl) ?_
      refine lv_i2l hx hb dX0_says_28 rfl ?_
      refine lv_lconst (v := (0 : Int64)) hx hb dX0_says_29 rfl ?_
      refine lv_ldc2 (v := (399 : Int64)) hx hb C.1.2.2.2.1 (C.1.2.2.2.2 _ q1170) dX0_says_30 ?_
      obtain ⟨r18, hc, hE⟩ := o_bd_some hE
      refine sc_X0_31 C.1 (kX0_isIn hc) rfl rfl ⟨Nat.le_of_ble_eq_true rfl, Nat.le_of_ble_eq_true rfl⟩ ⟨Nat.le_refl 0, Nat.le_refl 0⟩ dX0_says_33 hl.1 (Nat.le_of_ble_eq_true rfl) ?_
      refine lv_if_eq (tgt := 52) hx hb dX0_says_36 (by decide) (fun c19 => ?_) (fun c19 => ?_)
      · have hE := z_t c19 hE
        refine lv_aload_n hx hb dX0_says_52 rfl (lv_at hl 0 rfl) ?_
        refine lv_bipush (v := (-7 : Int32)) hx hb dX0_says_53 rfl ?_
        obtain ⟨r20, u21, hc, hE⟩ := o_bd2_some hE
        refine cc_X0_312 C hW hS hV (st_0 hS) (kX0_refuseAsNought hc) rfl rfl ⟨Nat.le_of_ble_eq_true rfl, Nat.le_of_ble_eq_true rfl⟩ ⟨Nat.le_refl 0, Nat.le_refl 0⟩ dX0_says_55 hl.1 (Nat.le_of_ble_eq_true rfl) (fun H locs hW hS hV => ?_)
        exact w_58 _ _ _ _ _ hE hW hS hV (lv_sub hl [] rfl)
      · have hE := z_f c19 hE
        refine lv_aload_n hx hb dX0_says_39 rfl (lv_at hl 0 rfl) ?_
        refine cgs_X0_19_0 C hW (st_0 hS) (sp_0_now hS) dX0_says_40 ?_
        refine lv_iload_n hx hb dX0_says_43 rfl (lv_at hl 1 rfl) ?_
        refine lv_iload_n hx hb dX0_says_44 rfl (lv_at hl 2 rfl) ?_
        refine lv_iload_n hx hb dX0_says_45 rfl (lv_at hl 3 rfl) ?_
        obtain ⟨r22, u23, hc, hE⟩ := o_bd2_some hE
        refine cc_X0_364 C hW hS hV (st_F hS wc_F3) (kX1_says wc_F3 hc) rfl rfl ⟨Nat.le_of_ble_eq_true rfl, Nat.le_of_ble_eq_true rfl⟩ ⟨Nat.le_refl 0, Nat.le_refl 0⟩ dX0_says_46 hl.1 (Nat.le_of_ble_eq_true rfl) (fun H locs hW hS hV => ?_)
        refine lv_goto (tgt := 58) hx hb dX0_says_49 (by decide) ?_
        exact w_58 _ _ _ _ _ hE hW hS hV (lv_sub hl [] rfl)
    · have hE := z_t c17 hE
      exact w_20 _ _ _ _ hE hW hS hV (lv_sub hl [0] rfl)
set_option maxHeartbeats 4000000 in
set_option maxRecDepth 100000 in
theorem kX0_why {l : Launch} {D : va_G} {dA : Nat → ClassId} {h N : Nat} {a1 : Int32} {a2 : Int32} {a3 : Int32} {u u1 : CS} {r : Int32} (hE : fX0_why N u a1 a2 a3 = some (r, u1)) : Met l yX0_why (ws_ yX0_why cX0_why 4 (some .int)) ({ frames := 203, cells := 0, slots := 0, locals := 6476 }) (va_Pc [.ref (h + 0), .int a1, .int a2, .int a3] (wc_St D dA h u)) (wc_Qr D dA h (some (.int r)) u1) 0 0 (CA h) := by
  refine wc_met (own := RX0) (lv := [(0, .ref (h + 0)), (1, .int a1), (2, .int a2), (3, .int a3)]) (by decide) rfl rfl rfl ?_
  intro p e s m args below meth c ls C hr hlocks hW hS hV hl
  have hx := C.1.1
  have hb := C.1.2.1
  have w_20 : ∀ (u : CS) (H : Heap) (locs : List Loc) (ls : Array Slot), fX0_why_20 N u = some (r, u1) → wc_W D dA h u H → wc_S u → va_S (CA h) s.heap H locs → lv_has ls 4 [(0, .ref (h + 0))] → W p l e ({ frames := 203, cells := 0, slots := 0, locals := 6476 }) s m args below meth c H locs 0 0 (MQ below (wc_Qr D dA h (some (.int r)) u1) args s 0 0 (CA h)) (F0 m 20 ls []) := by
    intro u H locs ls hE hW hS hV hl
    unfold fX0_why_20 at hE
    refine lv_aload_n hx hb dX0_why_20 rfl (lv_at hl 0 rfl) ?_
    refine lv_bipush (v := (-3 : Int32)) hx hb dX0_why_21 rfl ?_
    obtain ⟨r11, u12, hc, hE⟩ := o_bd2_some hE
    refine cc_X0_118 C hW hS hV (st_0 hS) (kX0_refuse hc) rfl rfl ⟨Nat.le_of_ble_eq_true rfl, Nat.le_of_ble_eq_true rfl⟩ ⟨Nat.le_refl 0, Nat.le_refl 0⟩ dX0_why_23 hl.1 (Nat.le_of_ble_eq_true rfl) (fun H locs hW hS hV => ?_)
    exact wc_iret C hr hlocks hW hS hV hE dX0_why_26
  have w_58 : ∀ (u : CS) (y0 : Int32) (H : Heap) (locs : List Loc) (ls : Array Slot), fX0_why_58 N u y0 = some (r, u1) → wc_W D dA h u H → wc_S u → va_S (CA h) s.heap H locs → lv_has ls 4 [] → W p l e ({ frames := 203, cells := 0, slots := 0, locals := 6476 }) s m args below meth c H locs 0 0 (MQ below (wc_Qr D dA h (some (.int r)) u1) args s 0 0 (CA h)) (F0 m 58 ls [.int y0]) := by
    intro u y0 H locs ls hE hW hS hV hl
    unfold fX0_why_58 at hE
    exact wc_iret C hr hlocks hW hS hV hE dX0_why_58
  unfold fX0_why at hE
  refine lv_iload_n hx hb dX0_why_0 rfl (lv_at hl 1 rfl) ?_
  refine lv_i2l hx hb dX0_why_1 rfl ?_
  refine lv_lconst (v := (0 : Int64)) hx hb dX0_why_2 rfl ?_
  refine lv_ldc2 (v := (7 : Int64)) hx hb C.1.2.2.2.1 (C.1.2.2.2.2 _ q993) dX0_why_3 ?_
  obtain ⟨r13, hc, hE⟩ := o_bd_some hE
  refine sc_X0_31 C.1 (kX0_isIn hc) rfl rfl ⟨Nat.le_of_ble_eq_true rfl, Nat.le_of_ble_eq_true rfl⟩ ⟨Nat.le_refl 0, Nat.le_refl 0⟩ dX0_why_6 hl.1 (Nat.le_of_ble_eq_true rfl) ?_
  refine lv_if_eq (tgt := 20) hx hb dX0_why_9 (by decide) (fun c14 => ?_) (fun c14 => ?_)
  · have hE := z_t c14 hE
    exact w_20 _ _ _ _ hE hW hS hV (lv_sub hl [0] rfl)
  · have hE := z_f c14 hE
    refine lv_aload_n hx hb dX0_why_12 rfl (lv_at hl 0 rfl) ?_
    refine lv_iload_n hx hb dX0_why_13 rfl (lv_at hl 2 rfl) ?_
    obtain ⟨r15, u16, hc, hE⟩ := o_bd2_some hE
    refine cc_X0_359 C hW hS hV (st_0 hS) (kX0_isWho hc) rfl rfl ⟨Nat.le_of_ble_eq_true rfl, Nat.le_of_ble_eq_true rfl⟩ ⟨Nat.le_refl 0, Nat.le_refl 0⟩ dX0_why_14 hl.1 (Nat.le_of_ble_eq_true rfl) (fun H locs hW hS hV => ?_)
    refine lv_if_ne (tgt := 27) hx hb dX0_why_17 (by decide) (fun c17 => ?_) (fun c17 => ?_)
    · have hE := z_f c17 hE
      refine lv_iload_n hx hb dX0_why_27 rfl (lv_at hl 3 rfl) ?_
      refine lv_i2l hx hb dX0_why_28 rfl ?_
      refine lv_lconst (v := (0 : Int64)) hx hb dX0_why_29 rfl ?_
      refine lv_ldc2 (v := (399 : Int64)) hx hb C.1.2.2.2.1 (C.1.2.2.2.2 _ q1170) dX0_why_30 ?_
      obtain ⟨r18, hc, hE⟩ := o_bd_some hE
      refine sc_X0_31 C.1 (kX0_isIn hc) rfl rfl ⟨Nat.le_of_ble_eq_true rfl, Nat.le_of_ble_eq_true rfl⟩ ⟨Nat.le_refl 0, Nat.le_refl 0⟩ dX0_why_33 hl.1 (Nat.le_of_ble_eq_true rfl) ?_
      refine lv_if_eq (tgt := 52) hx hb dX0_why_36 (by decide) (fun c19 => ?_) (fun c19 => ?_)
      · have hE := z_t c19 hE
        refine lv_aload_n hx hb dX0_why_52 rfl (lv_at hl 0 rfl) ?_
        refine lv_bipush (v := (-7 : Int32)) hx hb dX0_why_53 rfl ?_
        obtain ⟨r20, u21, hc, hE⟩ := o_bd2_some hE
        refine cc_X0_118 C hW hS hV (st_0 hS) (kX0_refuse hc) rfl rfl ⟨Nat.le_of_ble_eq_true rfl, Nat.le_of_ble_eq_true rfl⟩ ⟨Nat.le_refl 0, Nat.le_refl 0⟩ dX0_why_55 hl.1 (Nat.le_of_ble_eq_true rfl) (fun H locs hW hS hV => ?_)
        exact w_58 _ _ _ _ _ hE hW hS hV (lv_sub hl [] rfl)
      · have hE := z_f c19 hE
        refine lv_aload_n hx hb dX0_why_39 rfl (lv_at hl 0 rfl) ?_
        refine cgs_X0_19_0 C hW (st_0 hS) (sp_0_now hS) dX0_why_40 ?_
        refine lv_iload_n hx hb dX0_why_43 rfl (lv_at hl 1 rfl) ?_
        refine lv_iload_n hx hb dX0_why_44 rfl (lv_at hl 2 rfl) ?_
        refine lv_iload_n hx hb dX0_why_45 rfl (lv_at hl 3 rfl) ?_
        obtain ⟨r22, u23, hc, hE⟩ := o_bd2_some hE
        refine cc_X0_367 C hW hS hV (st_F hS wc_F3) (kX1_lineFor wc_F3 hc) rfl rfl ⟨Nat.le_of_ble_eq_true rfl, Nat.le_of_ble_eq_true rfl⟩ ⟨Nat.le_refl 0, Nat.le_refl 0⟩ dX0_why_46 hl.1 (Nat.le_of_ble_eq_true rfl) (fun H locs hW hS hV => ?_)
        refine lv_goto (tgt := 58) hx hb dX0_why_49 (by decide) ?_
        exact w_58 _ _ _ _ _ hE hW hS hV (lv_sub hl [] rfl)
    · have hE := z_t c17 hE
      exact w_20 _ _ _ _ hE hW hS hV (lv_sub hl [0] rfl)
theorem cc_X1_236 {F : Nat} {a1 : Int32} {r : Int32} {u u1 : CS} {rm : Room} (C : CC p m c cc nL s args D dA RX1) (hW : wc_W D dA h u H) (hS : wc_S u) (hV : va_S (CA h) H0 H locs) (ht : wc_T u F = some (.inl 1)) (hM : Met l yX1_toBeCut (ws_ yX1_toBeCut cX1_toBeCut 4 (some .int)) rm (va_Pc [.ref (h + F), .int a1] (wc_St D dA h u)) (wc_Qr D dA h (some (.int r)) u1) 0 0 (CA h)) (hrc : rm.cells = 0) (hrs : rm.slots = 0) (hR : rm.frames + 1 ≤ R.frames ∧ 8 + (4 + 11) + rm.locals ≤ R.locals) (hf : cells + 0 ≤ R.cells ∧ slots + 0 ≤ R.slots) (d : decode cc pc = .ok (.invokevirtual 236, 3)) (hsz : ls.size = nL) (hro : (rest.map fun v => v.category).sum ≤ 8) (kk : ∀ (H1 : Heap) (locs1 : List Loc), wc_W D dA h u1 H1 → wc_S u1 → va_S (CA h) H0 H1 locs1 → W p l e R s m args below meth c H1 locs1 cells slots Q (F0 m (pc + 3) ls (.int r :: rest))) : W p l e R s m args below meth c H locs cells slots Q (F0 m pc ls (.int a1 :: .ref (h + F) :: rest)) :=
  wc_call (v := (some (.int r))) (va_runV (As := [.int a1]) (rest := rest) C.1 hM (cwV 1 C.1.2.2.2.2 (lw_V q1198 q1200 qs56 q167 q1201) rfl hrc hrs (by decide +kernel) hR) (wc_preV (q := (RX1, TX1, 46)) C.2 hW hS ht rfl _) rfl rfl hsz rfl (lv_room hro) d hf) hV (fun _ z => z) (fun H1 locs1 a b c0 _ _ => kk H1 locs1 a b c0)
set_option maxHeartbeats 4000000 in
set_option maxRecDepth 100000 in
theorem kX1_toBeCut {l : Launch} {D : va_G} {dA : Nat → ClassId} {h N : Nat} {F : Nat} {a1 : Int32} {u u1 : CS} {r : Int32} (hF : wc_F F) (hE : fX1_toBeCut N F u a1 = some (r, u1)) : Met l yX1_toBeCut (ws_ yX1_toBeCut cX1_toBeCut 4 (some .int)) ({ frames := 0, cells := 0, slots := 0, locals := 0 }) (va_Pc [.ref (h + F), .int a1] (wc_St D dA h u)) (wc_Qr D dA h (some (.int r)) u1) 0 0 (CA h) := by
  refine wc_met (own := RX1) (lv := [(0, .ref (h + F)), (1, .int a1)]) (by decide) rfl rfl rfl ?_
  intro p e s m args below meth c ls C hr hlocks hW hS hV hl
  have hx := C.1.1
  have hb := C.1.2.1
  have w_52 : ∀ (ag4 : CS → Int32 → Int32 → Int32 → Option (Int32 × CS)) (hag4 : (∀ (u : CS) (x1 : Int32) (x2 : Int32) (x3 : Int32) (H : Heap) (locs : List Loc) (ls : Array Slot), ag4 u x1 x2 x3 = some (r, u1) → wc_W D dA h u H → wc_S u → va_S (CA h) s.heap H locs → lv_has ls 4 [(0, .ref (h + F)), (1, .int x1), (2, .int x2), (3, .int x3)] → W p l e ({ frames := 0, cells := 0, slots := 0, locals := 0 }) s m args below meth c H locs 0 0 (MQ below (wc_Qr D dA h (some (.int r)) u1) args s 0 0 (CA h)) (F0 m 4 ls []))) (u : CS) (x1 : Int32) (x3 : Int32) (y0 : Int32) (y1 : Int32) (H : Heap) (locs : List Loc) (ls : Array Slot), fX1_toBeCut_52 N F ag4 u x1 x3 y0 y1 = some (r, u1) → wc_W D dA h u H → wc_S u → va_S (CA h) s.heap H locs → lv_has ls 4 [(0, .ref (h + F)), (1, .int x1), (3, .int x3)] → W p l e ({ frames := 0, cells := 0, slots := 0, locals := 0 }) s m args below meth c H locs 0 0 (MQ below (wc_Qr D dA h (some (.int r)) u1) args s 0 0 (CA h)) (F0 m 52 ls [.int y1, .int y0]) := by
    intro ag4 hag4 u x1 x3 y0 y1 H locs ls hE hW hS hV hl
    unfold fX1_toBeCut_52 at hE
    refine lv_iadd hx hb dX1_toBeCut_52 ?_
    refine z_nmi hE (fun z7 hE => ?_)
    refine lv_istore_n (lv' := [(2, .int z7), (0, .ref (h + F)), (1, .int x1), (3, .int x3)]) hx hb dX1_toBeCut_53 rfl hl (by decide) rfl (fun ls hl => ?_)
    refine z_iinc (v := (x3 + (1 : Int32))) (lw := (fun y_ => [(3, .int y_), (2, .int z7), (0, .ref (h + F)), (1, .int x1)])) hx hb dX1_toBeCut_54 hl hE (k := 3) rfl rfl (by decide) (fun _ => rfl) (fun z8 ls hE hl => ?_)
    refine lv_goto (tgt := 4) hx hb dX1_toBeCut_57 (by decide) ?_
    exact hag4 _ _ _ _ _ _ _ hE hW hS hV (lv_sub hl [2, 3, 1, 0] rfl)
  have w_51 : ∀ (ag4 : CS → Int32 → Int32 → Int32 → Option (Int32 × CS)) (hag4 : (∀ (u : CS) (x1 : Int32) (x2 : Int32) (x3 : Int32) (H : Heap) (locs : List Loc) (ls : Array Slot), ag4 u x1 x2 x3 = some (r, u1) → wc_W D dA h u H → wc_S u → va_S (CA h) s.heap H locs → lv_has ls 4 [(0, .ref (h + F)), (1, .int x1), (2, .int x2), (3, .int x3)] → W p l e ({ frames := 0, cells := 0, slots := 0, locals := 0 }) s m args below meth c H locs 0 0 (MQ below (wc_Qr D dA h (some (.int r)) u1) args s 0 0 (CA h)) (F0 m 4 ls []))) (u : CS) (x1 : Int32) (x3 : Int32) (y0 : Int32) (H : Heap) (locs : List Loc) (ls : Array Slot), fX1_toBeCut_51 N F ag4 u x1 x3 y0 = some (r, u1) → wc_W D dA h u H → wc_S u → va_S (CA h) s.heap H locs → lv_has ls 4 [(0, .ref (h + F)), (1, .int x1), (3, .int x3)] → W p l e ({ frames := 0, cells := 0, slots := 0, locals := 0 }) s m args below meth c H locs 0 0 (MQ below (wc_Qr D dA h (some (.int r)) u1) args s 0 0 (CA h)) (F0 m 51 ls [.int y0]) := by
    intro ag4 hag4 u x1 x3 y0 H locs ls hE hW hS hV hl
    unfold fX1_toBeCut_51 at hE
    refine lv_iconst (v := (0 : Int32)) hx hb dX1_toBeCut_51 rfl ?_
    exact w_52 ag4 hag4 _ _ _ _ _ _ _ _ hE hW hS hV (lv_sub hl [0, 1, 2] rfl)
  have w_4 : ∀ (n : Nat) (u : CS) (x1 : Int32) (x2 : Int32) (x3 : Int32) (H : Heap) (locs : List Loc) (ls : Array Slot), fX1_toBeCut_4 N F n u x1 x2 x3 = some (r, u1) → wc_W D dA h u H → wc_S u → va_S (CA h) s.heap H locs → lv_has ls 4 [(0, .ref (h + F)), (1, .int x1), (2, .int x2), (3, .int x3)] → W p l e ({ frames := 0, cells := 0, slots := 0, locals := 0 }) s m args below meth c H locs 0 0 (MQ below (wc_Qr D dA h (some (.int r)) u1) args s 0 0 (CA h)) (F0 m 4 ls []) := by
    intro n
    induction n with
    | zero =>
      intro u x1 x2 x3 H locs ls hE hW hS hV hl
      cases (show (none : Option (Int32 × CS)) = some (r, u1) from hE)
    | succ n ih =>
      intro u x1 x2 x3 H locs ls hE hW hS hV hl
      rw [fX1_toBeCut_4] at hE
      refine lv_iload_n hx hb dX1_toBeCut_4 rfl (lv_at hl 3 rfl) ?_
      refine lv_aload_n hx hb dX1_toBeCut_5 rfl (lv_at hl 0 rfl) ?_
      refine cg_X1_165_1 C hW (st_F hS hF) dX1_toBeCut_6 ?_
      refine lv_icmp_ge (tgt := 60) hx hb dX1_toBeCut_9 (by decide) (fun c9 => ?_) (fun c9 => ?_)
      · have hE := z_t c9 hE
        refine lv_iload_n hx hb dX1_toBeCut_60 rfl (lv_at hl 2 rfl) ?_
        exact wc_iret C hr hlocks hW hS hV hE dX1_toBeCut_61
      · have hE := z_f c9 hE
        refine lv_iload_n hx hb dX1_toBeCut_12 rfl (lv_at hl 2 rfl) ?_
        refine lv_aload_n hx hb dX1_toBeCut_13 rfl (lv_at hl 0 rfl) ?_
        refine cgs_X1_104_1 C hW (st_F hS hF) (sp_F_orderSort hS hF) dX1_toBeCut_14 ?_
        refine lv_iload_n hx hb dX1_toBeCut_17 rfl (lv_at hl 3 rfl) ?_
        refine wc_ldi C hW (st_F_orderSort hS hF) hE dX1_toBeCut_18 (fun hE => ?_)
        refine z_nmi hE (fun v10 hE => ?_)
        refine lv_if_ne (tgt := 51) hx hb dX1_toBeCut_19 (by decide) (fun c11 => ?_) (fun c11 => ?_)
        · have hE := z_f c11 hE
          exact w_51 (fX1_toBeCut_4 N F n) ih _ _ _ _ _ _ _ hE hW hS hV (lv_sub hl [0, 1, 3] rfl)
        · have hE := z_t c11 hE
          refine lv_aload_n hx hb dX1_toBeCut_22 rfl (lv_at hl 0 rfl) ?_
          refine cgs_X1_9_1 C hW (st_F hS hF) (sp_F_blocks hS hF) dX1_toBeCut_23 ?_
          refine lv_aload_n hx hb dX1_toBeCut_26 rfl (lv_at hl 0 rfl) ?_
          refine cgs_X1_101_1 C hW (st_F hS hF) (sp_F_orderStand hS hF) dX1_toBeCut_27 ?_
          refine lv_iload_n hx hb dX1_toBeCut_30 rfl (lv_at hl 3 rfl) ?_
          refine wc_ldi C hW (st_F_orderStand hS hF) hE dX1_toBeCut_31 (fun hE => ?_)
          refine z_nmi hE (fun v12 hE => ?_)
          refine wc_ldi C hW (st_F_blocks hS hF) hE dX1_toBeCut_32 (fun hE => ?_)
          refine z_nmi hE (fun v13 hE => ?_)
          refine lv_iload_n hx hb dX1_toBeCut_33 rfl (lv_at hl 1 rfl) ?_
          refine lv_icmp_ne (tgt := 51) hx hb dX1_toBeCut_34 (by decide) (fun c14 => ?_) (fun c14 => ?_)
          · have hE := z_f c14 hE
            exact w_51 (fX1_toBeCut_4 N F n) ih _ _ _ _ _ _ _ hE hW hS hV (lv_sub hl [0, 1, 3] rfl)
          · have hE := z_t c14 hE
            refine lv_aload_n hx hb dX1_toBeCut_37 rfl (lv_at hl 0 rfl) ?_
            refine cgs_X1_24_1 C hW (st_F hS hF) (sp_F_acres hS hF) dX1_toBeCut_38 ?_
            refine lv_aload_n hx hb dX1_toBeCut_41 rfl (lv_at hl 0 rfl) ?_
            refine cgs_X1_101_1 C hW (st_F hS hF) (sp_F_orderStand hS hF) dX1_toBeCut_42 ?_
            refine lv_iload_n hx hb dX1_toBeCut_45 rfl (lv_at hl 3 rfl) ?_
            refine wc_ldi C hW (st_F_orderStand hS hF) hE dX1_toBeCut_46 (fun hE => ?_)
            refine z_nmi hE (fun v15 hE => ?_)
            refine wc_ldi C hW (st_F_acres hS hF) hE dX1_toBeCut_47 (fun hE => ?_)
            refine z_nmi hE (fun v16 hE => ?_)
            refine lv_goto (tgt := 52) hx hb dX1_toBeCut_48 (by decide) ?_
            exact w_52 (fX1_toBeCut_4 N F n) ih _ _ _ _ _ _ _ _ hE hW hS hV (lv_sub hl [0, 1, 3] rfl)
  unfold fX1_toBeCut at hE
  refine lv_iconst (v := (0 : Int32)) hx hb dX1_toBeCut_0 rfl ?_
  refine lv_istore_n (lv' := [(2, .int (0 : Int32)), (0, .ref (h + F)), (1, .int a1)]) hx hb dX1_toBeCut_1 rfl hl (by decide) rfl (fun ls hl => ?_)
  refine lv_iconst (v := (0 : Int32)) hx hb dX1_toBeCut_2 rfl ?_
  refine lv_istore_n (lv' := [(3, .int (0 : Int32)), (2, .int (0 : Int32)), (0, .ref (h + F)), (1, .int a1)]) hx hb dX1_toBeCut_3 rfl hl (by decide) rfl (fun ls hl => ?_)
  exact w_4 N _ _ _ _ _ _ _ hE hW hS hV (lv_sub hl [2, 3, 1, 0] rfl)
theorem cc_X1_229 {F : Nat} {a1 : Int32} {a2 : Int32} {r : Int32} {u u1 : CS} {rm : Room} (C : CC p m c cc nL s args D dA RX1) (hW : wc_W D dA h u H) (hS : wc_S u) (hV : va_S (CA h) H0 H locs) (ht : wc_T u F = some (.inl 1)) (hM : Met l yX1_isOrdered (ws_ yX1_isOrdered cX1_isOrdered 5 (some .boolean)) rm (va_Pc [.ref (h + F), .int a1, .int a2] (wc_St D dA h u)) (wc_Qr D dA h (some (.int r)) u1) 0 0 (CA h)) (hrc : rm.cells = 0) (hrs : rm.slots = 0) (hR : rm.frames + 1 ≤ R.frames ∧ 8 + (5 + 11) + rm.locals ≤ R.locals) (hf : cells + 0 ≤ R.cells ∧ slots + 0 ≤ R.slots) (d : decode cc pc = .ok (.invokevirtual 229, 3)) (hsz : ls.size = nL) (hro : (rest.map fun v => v.category).sum ≤ 8) (kk : ∀ (H1 : Heap) (locs1 : List Loc), wc_W D dA h u1 H1 → wc_S u1 → va_S (CA h) H0 H1 locs1 → W p l e R s m args below meth c H1 locs1 cells slots Q (F0 m (pc + 3) ls (.int r :: rest))) : W p l e R s m args below meth c H locs cells slots Q (F0 m pc ls (.int a2 :: .int a1 :: .ref (h + F) :: rest)) :=
  wc_call (v := (some (.int r))) (va_runV (As := [.int a1, .int a2]) (rest := rest) C.1 hM (cwV 2 C.1.2.2.2.2 (lw_V q1202 q1204 qs57 q167 q1205) rfl hrc hrs (by decide +kernel) hR) (wc_preV (q := (RX1, TX1, 46)) C.2 hW hS ht rfl _) rfl rfl hsz rfl (lv_room hro) d hf) hV (fun _ z => z) (fun H1 locs1 a b c0 _ _ => kk H1 locs1 a b c0)
theorem cc_X0_382 {F : Nat} {a1 : Int32} {a2 : Int32} {r : Int32} {u u1 : CS} {rm : Room} (C : CC p m c cc nL s args D dA RX0) (hW : wc_W D dA h u H) (hS : wc_S u) (hV : va_S (CA h) H0 H locs) (ht : wc_T u F = some (.inl 1)) (hM : Met l yX1_isOrdered (ws_ yX1_isOrdered cX1_isOrdered 5 (some .boolean)) rm (va_Pc [.ref (h + F), .int a1, .int a2] (wc_St D dA h u)) (wc_Qr D dA h (some (.int r)) u1) 0 0 (CA h)) (hrc : rm.cells = 0) (hrs : rm.slots = 0) (hR : rm.frames + 1 ≤ R.frames ∧ 8 + (5 + 11) + rm.locals ≤ R.locals) (hf : cells + 0 ≤ R.cells ∧ slots + 0 ≤ R.slots) (d : decode cc pc = .ok (.invokevirtual 382, 3)) (hsz : ls.size = nL) (hro : (rest.map fun v => v.category).sum ≤ 8) (kk : ∀ (H1 : Heap) (locs1 : List Loc), wc_W D dA h u1 H1 → wc_S u1 → va_S (CA h) H0 H1 locs1 → W p l e R s m args below meth c H1 locs1 cells slots Q (F0 m (pc + 3) ls (.int r :: rest))) : W p l e R s m args below meth c H locs cells slots Q (F0 m pc ls (.int a2 :: .int a1 :: .ref (h + F) :: rest)) :=
  wc_call (v := (some (.int r))) (va_runVN (As := [.int a1, .int a2]) (rest := rest) C.1 hM ⟨va_cnB 2 C.1.2.2.2.2 (lw_meth q1205) rfl hrc hrs (C.2.2.at q1230 rfl) (C.1.2.2.2.2 _ q167) (by decide +kernel) hR, C.1.2.2.2.2 _ q1204, C.1.2.2.2.2 _ qs57⟩ (wc_preV (q := (RX1, TX1, 46)) C.2 hW hS ht rfl _) rfl rfl hsz rfl (lv_room hro) d hf) hV (fun _ z => z) (fun H1 locs1 a b c0 _ _ => kk H1 locs1 a b c0)
set_option maxHeartbeats 4000000 in
set_option maxRecDepth 100000 in
theorem kX1_isOrdered {l : Launch} {D : va_G} {dA : Nat → ClassId} {h N : Nat} {F : Nat} {a1 : Int32} {a2 : Int32} {u u1 : CS} {r : Int32} (hF : wc_F F) (hE : fX1_isOrdered N F u a1 a2 = some (r, u1)) : Met l yX1_isOrdered (ws_ yX1_isOrdered cX1_isOrdered 5 (some .boolean)) ({ frames := 0, cells := 0, slots := 0, locals := 0 }) (va_Pc [.ref (h + F), .int a1, .int a2] (wc_St D dA h u)) (wc_Qr D dA h (some (.int r)) u1) 0 0 (CA h) := by
  refine wc_met (own := RX1) (lv := [(0, .ref (h + F)), (1, .int a1), (2, .int a2)]) (by decide) rfl rfl rfl ?_
  intro p e s m args below meth c ls C hr hlocks hW hS hV hl
  have hx := C.1.1
  have hb := C.1.2.1
  have w_45 : ∀ (ag5 : CS → Int32 → Int32 → Int32 → Int32 → Option (Int32 × CS)) (hag5 : (∀ (u : CS) (x1 : Int32) (x2 : Int32) (x3 : Int32) (x4 : Int32) (H : Heap) (locs : List Loc) (ls : Array Slot), ag5 u x1 x2 x3 x4 = some (r, u1) → wc_W D dA h u H → wc_S u → va_S (CA h) s.heap H locs → lv_has ls 5 [(0, .ref (h + F)), (1, .int x1), (2, .int x2), (3, .int x3), (4, .int x4)] → W p l e ({ frames := 0, cells := 0, slots := 0, locals := 0 }) s m args below meth c H locs 0 0 (MQ below (wc_Qr D dA h (some (.int r)) u1) args s 0 0 (CA h)) (F0 m 5 ls []))) (u : CS) (x1 : Int32) (x2 : Int32) (x4 : Int32) (y0 : Int32) (H : Heap) (locs : List Loc) (ls : Array Slot), fX1_isOrdered_45 N F ag5 u x1 x2 x4 y0 = some (r, u1) → wc_W D dA h u H → wc_S u → va_S (CA h) s.heap H locs → lv_has ls 5 [(0, .ref (h + F)), (1, .int x1), (2, .int x2), (4, .int x4)] → W p l e ({ frames := 0, cells := 0, slots := 0, locals := 0 }) s m args below meth c H locs 0 0 (MQ below (wc_Qr D dA h (some (.int r)) u1) args s 0 0 (CA h)) (F0 m 45 ls [.int y0]) := by
    intro ag5 hag5 u x1 x2 x4 y0 H locs ls hE hW hS hV hl
    unfold fX1_isOrdered_45 at hE
    refine lv_istore_n (lv' := [(3, .int y0), (0, .ref (h + F)), (1, .int x1), (2, .int x2), (4, .int x4)]) hx hb dX1_isOrdered_45 rfl hl (by decide) rfl (fun ls hl => ?_)
    refine z_iinc (v := (x4 + (1 : Int32))) (lw := (fun y_ => [(4, .int y_), (3, .int y0), (0, .ref (h + F)), (1, .int x1), (2, .int x2)])) hx hb dX1_isOrdered_46 hl hE (k := 4) rfl rfl (by decide) (fun _ => rfl) (fun z4 ls hE hl => ?_)
    refine lv_goto (tgt := 5) hx hb dX1_isOrdered_49 (by decide) ?_
    exact hag5 _ _ _ _ _ _ _ _ hE hW hS hV (lv_sub hl [2, 3, 4, 1, 0] rfl)
  have w_40 : ∀ (ag5 : CS → Int32 → Int32 → Int32 → Int32 → Option (Int32 × CS)) (hag5 : (∀ (u : CS) (x1 : Int32) (x2 : Int32) (x3 : Int32) (x4 : Int32) (H : Heap) (locs : List Loc) (ls : Array Slot), ag5 u x1 x2 x3 x4 = some (r, u1) → wc_W D dA h u H → wc_S u → va_S (CA h) s.heap H locs → lv_has ls 5 [(0, .ref (h + F)), (1, .int x1), (2, .int x2), (3, .int x3), (4, .int x4)] → W p l e ({ frames := 0, cells := 0, slots := 0, locals := 0 }) s m args below meth c H locs 0 0 (MQ below (wc_Qr D dA h (some (.int r)) u1) args s 0 0 (CA h)) (F0 m 5 ls []))) (u : CS) (x1 : Int32) (x2 : Int32) (x4 : Int32) (H : Heap) (locs : List Loc) (ls : Array Slot), fX1_isOrdered_40 N F ag5 u x1 x2 x4 = some (r, u1) → wc_W D dA h u H → wc_S u → va_S (CA h) s.heap H locs → lv_has ls 5 [(0, .ref (h + F)), (1, .int x1), (2, .int x2), (4, .int x4)] → W p l e ({ frames := 0, cells := 0, slots := 0, locals := 0 }) s m args below meth c H locs 0 0 (MQ below (wc_Qr D dA h (some (.int r)) u1) args s 0 0 (CA h)) (F0 m 40 ls []) := by
    intro ag5 hag5 u x1 x2 x4 H locs ls hE hW hS hV hl
    unfold fX1_isOrdered_40 at hE
    refine lv_iconst (v := (1 : Int32)) hx hb dX1_isOrdered_40 rfl ?_
    refine lv_goto (tgt := 45) hx hb dX1_isOrdered_41 (by decide) ?_
    exact w_45 ag5 hag5 _ _ _ _ _ _ _ _ hE hW hS hV (lv_sub hl [0, 1, 2, 3] rfl)
  have w_44 : ∀ (ag5 : CS → Int32 → Int32 → Int32 → Int32 → Option (Int32 × CS)) (hag5 : (∀ (u : CS) (x1 : Int32) (x2 : Int32) (x3 : Int32) (x4 : Int32) (H : Heap) (locs : List Loc) (ls : Array Slot), ag5 u x1 x2 x3 x4 = some (r, u1) → wc_W D dA h u H → wc_S u → va_S (CA h) s.heap H locs → lv_has ls 5 [(0, .ref (h + F)), (1, .int x1), (2, .int x2), (3, .int x3), (4, .int x4)] → W p l e ({ frames := 0, cells := 0, slots := 0, locals := 0 }) s m args below meth c H locs 0 0 (MQ below (wc_Qr D dA h (some (.int r)) u1) args s 0 0 (CA h)) (F0 m 5 ls []))) (u : CS) (x1 : Int32) (x2 : Int32) (x4 : Int32) (H : Heap) (locs : List Loc) (ls : Array Slot), fX1_isOrdered_44 N F ag5 u x1 x2 x4 = some (r, u1) → wc_W D dA h u H → wc_S u → va_S (CA h) s.heap H locs → lv_has ls 5 [(0, .ref (h + F)), (1, .int x1), (2, .int x2), (4, .int x4)] → W p l e ({ frames := 0, cells := 0, slots := 0, locals := 0 }) s m args below meth c H locs 0 0 (MQ below (wc_Qr D dA h (some (.int r)) u1) args s 0 0 (CA h)) (F0 m 44 ls []) := by
    intro ag5 hag5 u x1 x2 x4 H locs ls hE hW hS hV hl
    unfold fX1_isOrdered_44 at hE
    refine lv_iconst (v := (0 : Int32)) hx hb dX1_isOrdered_44 rfl ?_
    exact w_45 ag5 hag5 _ _ _ _ _ _ _ _ hE hW hS hV (lv_sub hl [0, 1, 2, 3] rfl)
  have w_5 : ∀ (n : Nat) (u : CS) (x1 : Int32) (x2 : Int32) (x3 : Int32) (x4 : Int32) (H : Heap) (locs : List Loc) (ls : Array Slot), fX1_isOrdered_5 N F n u x1 x2 x3 x4 = some (r, u1) → wc_W D dA h u H → wc_S u → va_S (CA h) s.heap H locs → lv_has ls 5 [(0, .ref (h + F)), (1, .int x1), (2, .int x2), (3, .int x3), (4, .int x4)] → W p l e ({ frames := 0, cells := 0, slots := 0, locals := 0 }) s m args below meth c H locs 0 0 (MQ below (wc_Qr D dA h (some (.int r)) u1) args s 0 0 (CA h)) (F0 m 5 ls []) := by
    intro n
    induction n with
    | zero =>
      intro u x1 x2 x3 x4 H locs ls hE hW hS hV hl
      cases (show (none : Option (Int32 × CS)) = some (r, u1) from hE)
    | succ n ih =>
      intro u x1 x2 x3 x4 H locs ls hE hW hS hV hl
      rw [fX1_isOrdered_5] at hE
      refine lv_iload hx hb dX1_isOrdered_5 (lv_at hl 4 rfl) ?_
      refine lv_aload_n hx hb dX1_isOrdered_7 rfl (lv_at hl 0 rfl) ?_
      refine cg_X1_165_1 C hW (st_F hS hF) dX1_isOrdered_8 ?_
      refine lv_icmp_ge (tgt := 52) hx hb dX1_isOrdered_11 (by decide) (fun c5 => ?_) (fun c5 => ?_)
      · have hE := z_t c5 hE
        refine lv_iload_n hx hb dX1_isOrdered_52 rfl (lv_at hl 3 rfl) ?_
        obtain ⟨hb1, hE⟩ := o_bl_some hE
        exact wc_zret C hr hlocks hW hS hV hb1 hE dX1_isOrdered_53
      · have hE := z_f c5 hE
        refine lv_iload_n hx hb dX1_isOrdered_14 rfl (lv_at hl 3 rfl) ?_
        refine lv_if_ne (tgt := 40) hx hb dX1_isOrdered_15 (by decide) (fun c6 => ?_) (fun c6 => ?_)
        · have hE := z_f c6 hE
          exact w_40 (fX1_isOrdered_5 N F n) ih _ _ _ _ _ _ _ hE hW hS hV (lv_sub hl [0, 1, 2, 4] rfl)
        · have hE := z_t c6 hE
          refine lv_aload_n hx hb dX1_isOrdered_18 rfl (lv_at hl 0 rfl) ?_
          refine cgs_X1_101_1 C hW (st_F hS hF) (sp_F_orderStand hS hF) dX1_isOrdered_19 ?_
          refine lv_iload hx hb dX1_isOrdered_22 (lv_at hl 4 rfl) ?_
          refine wc_ldi C hW (st_F_orderStand hS hF) hE dX1_isOrdered_24 (fun hE => ?_)
          refine z_nmi hE (fun v7 hE => ?_)
          refine lv_iload_n hx hb dX1_isOrdered_25 rfl (lv_at hl 1 rfl) ?_
          refine lv_icmp_ne (tgt := 44) hx hb dX1_isOrdered_26 (by decide) (fun c8 => ?_) (fun c8 => ?_)
          · have hE := z_f c8 hE
            exact w_44 (fX1_isOrdered_5 N F n) ih _ _ _ _ _ _ _ hE hW hS hV (lv_sub hl [0, 1, 2, 4] rfl)
          · have hE := z_t c8 hE
            refine lv_aload_n hx hb dX1_isOrdered_29 rfl (lv_at hl 0 rfl) ?_
            refine cgs_X1_104_1 C hW (st_F hS hF) (sp_F_orderSort hS hF) dX1_isOrdered_30 ?_
            refine lv_iload hx hb dX1_isOrdered_33 (lv_at hl 4 rfl) ?_
            refine wc_ldi C hW (st_F_orderSort hS hF) hE dX1_isOrdered_35 (fun hE => ?_)
            refine z_nmi hE (fun v9 hE => ?_)
            refine lv_iload_n hx hb dX1_isOrdered_36 rfl (lv_at hl 2 rfl) ?_
            refine lv_icmp_ne (tgt := 44) hx hb dX1_isOrdered_37 (by decide) (fun c10 => ?_) (fun c10 => ?_)
            · have hE := z_f c10 hE
              exact w_44 (fX1_isOrdered_5 N F n) ih _ _ _ _ _ _ _ hE hW hS hV (lv_sub hl [0, 1, 2, 4] rfl)
            · have hE := z_t c10 hE
              exact w_40 (fX1_isOrdered_5 N F n) ih _ _ _ _ _ _ _ hE hW hS hV (lv_sub hl [0, 1, 2, 4] rfl)
  unfold fX1_isOrdered at hE
  refine lv_iconst (v := (0 : Int32)) hx hb dX1_isOrdered_0 rfl ?_
  refine lv_istore_n (lv' := [(3, .int (0 : Int32)), (0, .ref (h + F)), (1, .int a1), (2, .int a2)]) hx hb dX1_isOrdered_1 rfl hl (by decide) rfl (fun ls hl => ?_)
  refine lv_iconst (v := (0 : Int32)) hx hb dX1_isOrdered_2 rfl ?_
  refine lv_istore (lv' := [(4, .int (0 : Int32)), (3, .int (0 : Int32)), (0, .ref (h + F)), (1, .int a1), (2, .int a2)]) hx hb dX1_isOrdered_3 hl (by decide) rfl (fun ls hl => ?_)
  exact w_5 N _ _ _ _ _ _ _ _ hE hW hS hV (lv_sub hl [2, 3, 4, 1, 0] rfl)
theorem cc_X1_226 {F : Nat} {a1 : Int32} {a2 : Int32} {r : Int32} {u u1 : CS} {rm : Room} (C : CC p m c cc nL s args D dA RX1) (hW : wc_W D dA h u H) (hS : wc_S u) (hV : va_S (CA h) H0 H locs) (ht : wc_T u F = some (.inl 1)) (hM : Met l yX1_otherOf (ws_ yX1_otherOf cX1_otherOf 3 (some .int)) rm (va_Pc [.ref (h + F), .int a1, .int a2] (wc_St D dA h u)) (wc_Qr D dA h (some (.int r)) u1) 0 0 (CA h)) (hrc : rm.cells = 0) (hrs : rm.slots = 0) (hR : rm.frames + 1 ≤ R.frames ∧ 8 + (3 + 11) + rm.locals ≤ R.locals) (hf : cells + 0 ≤ R.cells ∧ slots + 0 ≤ R.slots) (d : decode cc pc = .ok (.invokevirtual 226, 3)) (hsz : ls.size = nL) (hro : (rest.map fun v => v.category).sum ≤ 8) (kk : ∀ (H1 : Heap) (locs1 : List Loc), wc_W D dA h u1 H1 → wc_S u1 → va_S (CA h) H0 H1 locs1 → W p l e R s m args below meth c H1 locs1 cells slots Q (F0 m (pc + 3) ls (.int r :: rest))) : W p l e R s m args below meth c H locs cells slots Q (F0 m pc ls (.int a2 :: .int a1 :: .ref (h + F) :: rest)) :=
  wc_call (v := (some (.int r))) (va_runV (As := [.int a1, .int a2]) (rest := rest) C.1 hM (cwV 2 C.1.2.2.2.2 (lw_V q1210 q1212 qs59 q167 q1213) rfl hrc hrs (by decide +kernel) hR) (wc_preV (q := (RX1, TX1, 46)) C.2 hW hS ht rfl _) rfl rfl hsz rfl (lv_room hro) d hf) hV (fun _ z => z) (fun H1 locs1 a b c0 _ _ => kk H1 locs1 a b c0)
set_option maxHeartbeats 4000000 in
set_option maxRecDepth 100000 in
theorem kX1_otherOf {l : Launch} {D : va_G} {dA : Nat → ClassId} {h N : Nat} {F : Nat} {a1 : Int32} {a2 : Int32} {u u1 : CS} {r : Int32} (hF : wc_F F) (hE : fX1_otherOf N F u a1 a2 = some (r, u1)) : Met l yX1_otherOf (ws_ yX1_otherOf cX1_otherOf 3 (some .int)) ({ frames := 0, cells := 0, slots := 0, locals := 0 }) (va_Pc [.ref (h + F), .int a1, .int a2] (wc_St D dA h u)) (wc_Qr D dA h (some (.int r)) u1) 0 0 (CA h) := by
  refine wc_met (own := RX1) (lv := [(0, .ref (h + F)), (1, .int a1), (2, .int a2)]) (by decide) rfl rfl rfl ?_
  intro p e s m args below meth c ls C hr hlocks hW hS hV hl
  have hx := C.1.1
  have hb := C.1.2.1
  have w_39 : ∀ (u : CS) (y0 : Int32) (H : Heap) (locs : List Loc) (ls : Array Slot), fX1_otherOf_39 N F u y0 = some (r, u1) → wc_W D dA h u H → wc_S u → va_S (CA h) s.heap H locs → lv_has ls 3 [] → W p l e ({ frames := 0, cells := 0, slots := 0, locals := 0 }) s m args below meth c H locs 0 0 (MQ below (wc_Qr D dA h (some (.int r)) u1) args s 0 0 (CA h)) (F0 m 39 ls [.int y0]) := by
    intro u y0 H locs ls hE hW hS hV hl
    unfold fX1_otherOf_39 at hE
    exact wc_iret C hr hlocks hW hS hV hE dX1_otherOf_39
  unfold fX1_otherOf at hE
  refine lv_aload_n hx hb dX1_otherOf_0 rfl (lv_at hl 0 rfl) ?_
  refine cgs_X1_45_1 C hW (st_F hS hF) (sp_F_pairA hS hF) dX1_otherOf_1 ?_
  refine lv_iload_n hx hb dX1_otherOf_4 rfl (lv_at hl 1 rfl) ?_
  refine wc_ldi C hW (st_F_pairA hS hF) hE dX1_otherOf_5 (fun hE => ?_)
  refine z_nmi hE (fun v5 hE => ?_)
  refine lv_iload_n hx hb dX1_otherOf_6 rfl (lv_at hl 2 rfl) ?_
  refine lv_icmp_ne (tgt := 19) hx hb dX1_otherOf_7 (by decide) (fun c6 => ?_) (fun c6 => ?_)
  · have hE := z_f c6 hE
    refine lv_aload_n hx hb dX1_otherOf_19 rfl (lv_at hl 0 rfl) ?_
    refine cgs_X1_48_1 C hW (st_F hS hF) (sp_F_pairB hS hF) dX1_otherOf_20 ?_
    refine lv_iload_n hx hb dX1_otherOf_23 rfl (lv_at hl 1 rfl) ?_
    refine wc_ldi C hW (st_F_pairB hS hF) hE dX1_otherOf_24 (fun hE => ?_)
    refine z_nmi hE (fun v7 hE => ?_)
    refine lv_iload_n hx hb dX1_otherOf_25 rfl (lv_at hl 2 rfl) ?_
    refine lv_icmp_ne (tgt := 38) hx hb dX1_otherOf_26 (by decide) (fun c8 => ?_) (fun c8 => ?_)
    · have hE := z_f c8 hE
      refine lv_iconst (v := (-1 : Int32)) hx hb dX1_otherOf_38 rfl ?_
      exact w_39 _ _ _ _ _ hE hW hS hV (lv_sub hl [] rfl)
    · have hE := z_t c8 hE
      refine lv_aload_n hx hb dX1_otherOf_29 rfl (lv_at hl 0 rfl) ?_
      refine cgs_X1_45_1 C hW (st_F hS hF) (sp_F_pairA hS hF) dX1_otherOf_30 ?_
      refine lv_iload_n hx hb dX1_otherOf_33 rfl (lv_at hl 1 rfl) ?_
      refine wc_ldi C hW (st_F_pairA hS hF) hE dX1_otherOf_34 (fun hE => ?_)
      refine z_nmi hE (fun v9 hE => ?_)
      refine lv_goto (tgt := 39) hx hb dX1_otherOf_35 (by decide) ?_
      exact w_39 _ _ _ _ _ hE hW hS hV (lv_sub hl [] rfl)
  · have hE := z_t c6 hE
    refine lv_aload_n hx hb dX1_otherOf_10 rfl (lv_at hl 0 rfl) ?_
    refine cgs_X1_48_1 C hW (st_F hS hF) (sp_F_pairB hS hF) dX1_otherOf_11 ?_
    refine lv_iload_n hx hb dX1_otherOf_14 rfl (lv_at hl 1 rfl) ?_
    refine wc_ldi C hW (st_F_pairB hS hF) hE dX1_otherOf_15 (fun hE => ?_)
    refine z_nmi hE (fun v10 hE => ?_)
    refine lv_goto (tgt := 39) hx hb dX1_otherOf_16 (by decide) ?_
    exact w_39 _ _ _ _ _ hE hW hS hV (lv_sub hl [] rfl)
theorem cc_X1_240 {F : Nat} {a1 : Int32} {r : Int32} {u u1 : CS} {rm : Room} (C : CC p m c cc nL s args D dA RX1) (hW : wc_W D dA h u H) (hS : wc_S u) (hV : va_S (CA h) H0 H locs) (ht : wc_T u F = some (.inl 1)) (hM : Met l yX1_isCutNear (ws_ yX1_isCutNear cX1_isCutNear 7 (some .boolean)) rm (va_Pc [.ref (h + F), .int a1] (wc_St D dA h u)) (wc_Qr D dA h (some (.int r)) u1) 0 0 (CA h)) (hrc : rm.cells = 0) (hrs : rm.slots = 0) (hR : rm.frames + 1 ≤ R.frames ∧ 8 + (7 + 11) + rm.locals ≤ R.locals) (hf : cells + 0 ≤ R.cells ∧ slots + 0 ≤ R.slots) (d : decode cc pc = .ok (.invokevirtual 240, 3)) (hsz : ls.size = nL) (hro : (rest.map fun v => v.category).sum ≤ 8) (kk : ∀ (H1 : Heap) (locs1 : List Loc), wc_W D dA h u1 H1 → wc_S u1 → va_S (CA h) H0 H1 locs1 → W p l e R s m args below meth c H1 locs1 cells slots Q (F0 m (pc + 3) ls (.int r :: rest))) : W p l e R s m args below meth c H locs cells slots Q (F0 m pc ls (.int a1 :: .ref (h + F) :: rest)) :=
  wc_call (v := (some (.int r))) (va_runV (As := [.int a1]) (rest := rest) C.1 hM (cwV 1 C.1.2.2.2.2 (lw_V q1206 q1208 qs58 q167 q1209) rfl hrc hrs (by decide +kernel) hR) (wc_preV (q := (RX1, TX1, 46)) C.2 hW hS ht rfl _) rfl rfl hsz rfl (lv_room hro) d hf) hV (fun _ z => z) (fun H1 locs1 a b c0 _ _ => kk H1 locs1 a b c0)
set_option maxHeartbeats 4000000 in
set_option maxRecDepth 100000 in
theorem kX1_isCutNear {l : Launch} {D : va_G} {dA : Nat → ClassId} {h N : Nat} {F : Nat} {a1 : Int32} {u u1 : CS} {r : Int32} (hF : wc_F F) (hE : fX1_isCutNear N F u a1 = some (r, u1)) : Met l yX1_isCutNear (ws_ yX1_isCutNear cX1_isCutNear 7 (some .boolean)) ({ frames := 205, cells := 0, slots := 0, locals := 6522 }) (va_Pc [.ref (h + F), .int a1] (wc_St D dA h u)) (wc_Qr D dA h (some (.int r)) u1) 0 0 (CA h) := by
  refine wc_met (own := RX1) (lv := [(0, .ref (h + F)), (1, .int a1)]) (by decide) rfl rfl rfl ?_
  intro p e s m args below meth c ls C hr hlocks hW hS hV hl
  have hx := C.1.1
  have hb := C.1.2.1
  have w_87 : ∀ (ag14 : CS → Int32 → Int64 → Int32 → Int32 → Option (Int32 × CS)) (hag14 : (∀ (u : CS) (x1 : Int32) (x2 : Int64) (x4 : Int32) (x5 : Int32) (H : Heap) (locs : List Loc) (ls : Array Slot), ag14 u x1 x2 x4 x5 = some (r, u1) → wc_W D dA h u H → wc_S u → va_S (CA h) s.heap H locs → lv_has ls 7 [(0, .ref (h + F)), (1, .int x1), (2, .long x2), (4, .int x4), (5, .int x5)] → W p l e ({ frames := 205, cells := 0, slots := 0, locals := 6522 }) s m args below meth c H locs 0 0 (MQ below (wc_Qr D dA h (some (.int r)) u1) args s 0 0 (CA h)) (F0 m 14 ls []))) (u : CS) (x1 : Int32) (x2 : Int64) (x5 : Int32) (y0 : Int32) (H : Heap) (locs : List Loc) (ls : Array Slot), fX1_isCutNear_87 N F ag14 u x1 x2 x5 y0 = some (r, u1) → wc_W D dA h u H → wc_S u → va_S (CA h) s.heap H locs → lv_has ls 7 [(0, .ref (h + F)), (1, .int x1), (2, .long x2), (5, .int x5)] → W p l e ({ frames := 205, cells := 0, slots := 0, locals := 6522 }) s m args below meth c H locs 0 0 (MQ below (wc_Qr D dA h (some (.int r)) u1) args s 0 0 (CA h)) (F0 m 87 ls [.int y0]) := by
    intro ag14 hag14 u x1 x2 x5 y0 H locs ls hE hW hS hV hl
    unfold fX1_isCutNear_87 at hE
    refine lv_istore (lv' := [(4, .int y0), (0, .ref (h + F)), (1, .int x1), (2, .long x2), (5, .int x5)]) hx hb dX1_isCutNear_87 hl (by decide) rfl (fun ls hl => ?_)
    refine z_iinc (v := (x5 + (1 : Int32))) (lw := (fun y_ => [(5, .int y_), (4, .int y0), (0, .ref (h + F)), (1, .int x1), (2, .long x2)])) hx hb dX1_isCutNear_89 hl hE (k := 4) rfl rfl (by decide) (fun _ => rfl) (fun z10 ls hE hl => ?_)
    refine lv_goto (tgt := 14) hx hb dX1_isCutNear_92 (by decide) ?_
    exact hag14 _ _ _ _ _ _ _ _ hE hW hS hV (lv_sub hl [2, 3, 4, 1, 0] rfl)
  have w_82 : ∀ (ag14 : CS → Int32 → Int64 → Int32 → Int32 → Option (Int32 × CS)) (hag14 : (∀ (u : CS) (x1 : Int32) (x2 : Int64) (x4 : Int32) (x5 : Int32) (H : Heap) (locs : List Loc) (ls : Array Slot), ag14 u x1 x2 x4 x5 = some (r, u1) → wc_W D dA h u H → wc_S u → va_S (CA h) s.heap H locs → lv_has ls 7 [(0, .ref (h + F)), (1, .int x1), (2, .long x2), (4, .int x4), (5, .int x5)] → W p l e ({ frames := 205, cells := 0, slots := 0, locals := 6522 }) s m args below meth c H locs 0 0 (MQ below (wc_Qr D dA h (some (.int r)) u1) args s 0 0 (CA h)) (F0 m 14 ls []))) (u : CS) (x1 : Int32) (x2 : Int64) (x5 : Int32) (H : Heap) (locs : List Loc) (ls : Array Slot), fX1_isCutNear_82 N F ag14 u x1 x2 x5 = some (r, u1) → wc_W D dA h u H → wc_S u → va_S (CA h) s.heap H locs → lv_has ls 7 [(0, .ref (h + F)), (1, .int x1), (2, .long x2), (5, .int x5)] → W p l e ({ frames := 205, cells := 0, slots := 0, locals := 6522 }) s m args below meth c H locs 0 0 (MQ below (wc_Qr D dA h (some (.int r)) u1) args s 0 0 (CA h)) (F0 m 82 ls []) := by
    intro ag14 hag14 u x1 x2 x5 H locs ls hE hW hS hV hl
    unfold fX1_isCutNear_82 at hE
    refine lv_iconst (v := (1 : Int32)) hx hb dX1_isCutNear_82 rfl ?_
    refine lv_goto (tgt := 87) hx hb dX1_isCutNear_83 (by decide) ?_
    exact w_87 ag14 hag14 _ _ _ _ _ _ _ _ hE hW hS hV (lv_sub hl [0, 1, 2, 3] rfl)
  have w_86 : ∀ (ag14 : CS → Int32 → Int64 → Int32 → Int32 → Option (Int32 × CS)) (hag14 : (∀ (u : CS) (x1 : Int32) (x2 : Int64) (x4 : Int32) (x5 : Int32) (H : Heap) (locs : List Loc) (ls : Array Slot), ag14 u x1 x2 x4 x5 = some (r, u1) → wc_W D dA h u H → wc_S u → va_S (CA h) s.heap H locs → lv_has ls 7 [(0, .ref (h + F)), (1, .int x1), (2, .long x2), (4, .int x4), (5, .int x5)] → W p l e ({ frames := 205, cells := 0, slots := 0, locals := 6522 }) s m args below meth c H locs 0 0 (MQ below (wc_Qr D dA h (some (.int r)) u1) args s 0 0 (CA h)) (F0 m 14 ls []))) (u : CS) (x1 : Int32) (x2 : Int64) (x5 : Int32) (H : Heap) (locs : List Loc) (ls : Array Slot), fX1_isCutNear_86 N F ag14 u x1 x2 x5 = some (r, u1) → wc_W D dA h u H → wc_S u → va_S (CA h) s.heap H locs → lv_has ls 7 [(0, .ref (h + F)), (1, .int x1), (2, .long x2), (5, .int x5)] → W p l e ({ frames := 205, cells := 0, slots := 0, locals := 6522 }) s m args below meth c H locs 0 0 (MQ below (wc_Qr D dA h (some (.int r)) u1) args s 0 0 (CA h)) (F0 m 86 ls []) := by
    intro ag14 hag14 u x1 x2 x5 H locs ls hE hW hS hV hl
    unfold fX1_isCutNear_86 at hE
    refine lv_iconst (v := (0 : Int32)) hx hb dX1_isCutNear_86 rfl ?_
    exact w_87 ag14 hag14 _ _ _ _ _ _ _ _ hE hW hS hV (lv_sub hl [0, 1, 2, 3] rfl)
  have w_14 : ∀ (n : Nat) (u : CS) (x1 : Int32) (x2 : Int64) (x4 : Int32) (x5 : Int32) (H : Heap) (locs : List Loc) (ls : Array Slot), fX1_isCutNear_14 N F n u x1 x2 x4 x5 = some (r, u1) → wc_W D dA h u H → wc_S u → va_S (CA h) s.heap H locs → lv_has ls 7 [(0, .ref (h + F)), (1, .int x1), (2, .long x2), (4, .int x4), (5, .int x5)] → W p l e ({ frames := 205, cells := 0, slots := 0, locals := 6522 }) s m args below meth c H locs 0 0 (MQ below (wc_Qr D dA h (some (.int r)) u1) args s 0 0 (CA h)) (F0 m 14 ls []) := by
    intro n
    induction n with
    | zero =>
      intro u x1 x2 x4 x5 H locs ls hE hW hS hV hl
      cases (show (none : Option (Int32 × CS)) = some (r, u1) from hE)
    | succ n ih =>
      intro u x1 x2 x4 x5 H locs ls hE hW hS hV hl
      rw [fX1_isCutNear_14] at hE
      refine lv_iload hx hb dX1_isCutNear_14 (lv_at hl 4 rfl) ?_
      refine lv_aload_n hx hb dX1_isCutNear_16 rfl (lv_at hl 0 rfl) ?_
      refine cg_X1_171_1 C hW (st_F hS hF) dX1_isCutNear_17 ?_
      refine lv_icmp_ge (tgt := 95) hx hb dX1_isCutNear_20 (by decide) (fun c11 => ?_) (fun c11 => ?_)
      · have hE := z_t c11 hE
        refine lv_iload hx hb dX1_isCutNear_95 (lv_at hl 3 rfl) ?_
        obtain ⟨hb1, hE⟩ := o_bl_some hE
        exact wc_zret C hr hlocks hW hS hV hb1 hE dX1_isCutNear_97
      · have hE := z_f c11 hE
        refine lv_aload_n hx hb dX1_isCutNear_23 rfl (lv_at hl 0 rfl) ?_
        refine lv_iload hx hb dX1_isCutNear_24 (lv_at hl 4 rfl) ?_
        refine lv_iload_n hx hb dX1_isCutNear_26 rfl (lv_at hl 1 rfl) ?_
        obtain ⟨r12, u13, hc, hE⟩ := o_bd2_some hE
        refine cc_X1_226 C hW hS hV (st_F hS hF) (kX1_otherOf hF hc) rfl rfl ⟨Nat.le_of_ble_eq_true rfl, Nat.le_of_ble_eq_true rfl⟩ ⟨Nat.le_refl 0, Nat.le_refl 0⟩ dX1_isCutNear_27 hl.1 (Nat.le_of_ble_eq_true rfl) (fun H locs hW hS hV => ?_)
        refine lv_istore (lv' := [(6, .int r12), (0, .ref (h + F)), (1, .int x1), (2, .long x2), (4, .int x4), (5, .int x5)]) hx hb dX1_isCutNear_30 hl (by decide) rfl (fun ls hl => ?_)
        refine lv_iload hx hb dX1_isCutNear_32 (lv_at hl 4 rfl) ?_
        refine lv_if_ne (tgt := 82) hx hb dX1_isCutNear_34 (by decide) (fun c14 => ?_) (fun c14 => ?_)
        · have hE := z_f c14 hE
          exact w_82 (fX1_isCutNear_14 N F n) ih _ _ _ _ _ _ _ hE hW hS hV (lv_sub hl [1, 2, 3, 5] rfl)
        · have hE := z_t c14 hE
          refine lv_iload hx hb dX1_isCutNear_37 (lv_at hl 0 rfl) ?_
          refine lv_iconst (v := (-1 : Int32)) hx hb dX1_isCutNear_39 rfl ?_
          refine lv_icmp_eq (tgt := 86) hx hb dX1_isCutNear_40 (by decide) (fun c15 => ?_) (fun c15 => ?_)
          · have hE := z_t c15 hE
            exact w_86 (fX1_isCutNear_14 N F n) ih _ _ _ _ _ _ _ hE hW hS hV (lv_sub hl [1, 2, 3, 5] rfl)
          · have hE := z_f c15 hE
            refine lv_aload_n hx hb dX1_isCutNear_43 rfl (lv_at hl 1 rfl) ?_
            refine lv_iload hx hb dX1_isCutNear_44 (lv_at hl 0 rfl) ?_
            refine lv_iconst (v := (0 : Int32)) hx hb dX1_isCutNear_46 rfl ?_
            obtain ⟨r16, u17, hc, hE⟩ := o_bd2_some hE
            refine cc_X1_229 C hW hS hV (st_F hS hF) (kX1_isOrdered hF hc) rfl rfl ⟨Nat.le_of_ble_eq_true rfl, Nat.le_of_ble_eq_true rfl⟩ ⟨Nat.le_refl 0, Nat.le_refl 0⟩ dX1_isCutNear_47 hl.1 (Nat.le_of_ble_eq_true rfl) (fun H locs hW hS hV => ?_)
            refine lv_if_ne (tgt := 82) hx hb dX1_isCutNear_50 (by decide) (fun c18 => ?_) (fun c18 => ?_)
            · have hE := z_f c18 hE
              exact w_82 (fX1_isCutNear_14 N F n) ih _ _ _ _ _ _ _ hE hW hS hV (lv_sub hl [1, 2, 3, 5] rfl)
            · have hE := z_t c18 hE
              refine lv_aload_n hx hb dX1_isCutNear_53 rfl (lv_at hl 1 rfl) ?_
              refine cgs_X1_39_1 C hW (st_F hS hF) (sp_F_cutIn hS hF) dX1_isCutNear_54 ?_
              refine lv_iload hx hb dX1_isCutNear_57 (lv_at hl 0 rfl) ?_
              refine wc_ldi C hW (st_F_cutIn hS hF) hE dX1_isCutNear_59 (fun hE => ?_)
              refine z_nmi hE (fun v19 hE => ?_)
              refine lv_iconst (v := (-1 : Int32)) hx hb dX1_isCutNear_60 rfl ?_
              refine lv_icmp_eq (tgt := 86) hx hb dX1_isCutNear_61 (by decide) (fun c20 => ?_) (fun c20 => ?_)
              · have hE := z_t c20 hE
                exact w_86 (fX1_isCutNear_14 N F n) ih _ _ _ _ _ _ _ hE hW hS hV (lv_sub hl [1, 2, 3, 5] rfl)
              · have hE := z_f c20 hE
                refine lv_aload_n hx hb dX1_isCutNear_64 rfl (lv_at hl 1 rfl) ?_
                refine cg_X1_142_1 C hW (st_F hS hF) dX1_isCutNear_65 ?_
                refine lv_aload_n hx hb dX1_isCutNear_68 rfl (lv_at hl 1 rfl) ?_
                refine cgs_X1_39_1 C hW (st_F hS hF) (sp_F_cutIn hS hF) dX1_isCutNear_69 ?_
                refine lv_iload hx hb dX1_isCutNear_72 (lv_at hl 0 rfl) ?_
                refine wc_ldi C hW (st_F_cutIn hS hF) hE dX1_isCutNear_74 (fun hE => ?_)
                refine z_nmi hE (fun v21 hE => ?_)
                refine lv_isub hx hb dX1_isCutNear_75 ?_
                refine lv_i2l hx hb dX1_isCutNear_76 rfl ?_
                refine lv_lload_n hx hb dX1_isCutNear_77 rfl (lv_at hl 3 rfl) ?_
                refine W.lcmp hx hb dX1_isCutNear_78 ?_
                refine lv_if_ge (tgt := 86) hx hb dX1_isCutNear_79 (by decide) (fun c22 => ?_) (fun c22 => ?_)
                · have hE := z_t c22 hE
                  exact w_86 (fX1_isCutNear_14 N F n) ih _ _ _ _ _ _ _ hE hW hS hV (lv_sub hl [1, 2, 3, 5] rfl)
                · have hE := z_f c22 hE
                  exact w_82 (fX1_isCutNear_14 N F n) ih _ _ _ _ _ _ _ hE hW hS hV (lv_sub hl [1, 2, 3, 5] rfl)
  unfold fX1_isCutNear at hE
  refine lv_aload_n hx hb dX1_isCutNear_0 rfl (lv_at hl 0 rfl) ?_
  refine lv_iconst (v := (2 : Int32)) hx hb dX1_isCutNear_1 rfl ?_
  refine lv_iload_n hx hb dX1_isCutNear_2 rfl (lv_at hl 1 rfl) ?_
  obtain ⟨r23, u24, hc, hE⟩ := o_bd2_some hE
  refine cc_X1_223 C hW hS hV (st_F hS hF) (kX1_saysNow hF hc) rfl rfl ⟨Nat.le_of_ble_eq_true rfl, Nat.le_of_ble_eq_true rfl⟩ ⟨Nat.le_refl 0, Nat.le_refl 0⟩ dX1_isCutNear_3 hl.1 (Nat.le_of_ble_eq_true rfl) (fun H locs hW hS hV => ?_)
  refine lv_i2l hx hb dX1_isCutNear_6 rfl ?_
  refine z_nml hE (fun z25 hE => ?_)
  refine lv_lstore_n (lv' := [(2, .long z25), (0, .ref (h + F)), (1, .int a1)]) hx hb dX1_isCutNear_7 rfl hl (by decide) rfl (fun ls hl => ?_)
  refine lv_iconst (v := (0 : Int32)) hx hb dX1_isCutNear_8 rfl ?_
  refine lv_istore (lv' := [(4, .int (0 : Int32)), (2, .long z25), (0, .ref (h + F)), (1, .int a1)]) hx hb dX1_isCutNear_9 hl (by decide) rfl (fun ls hl => ?_)
  refine lv_iconst (v := (0 : Int32)) hx hb dX1_isCutNear_11 rfl ?_
  refine lv_istore (lv' := [(5, .int (0 : Int32)), (4, .int (0 : Int32)), (2, .long z25), (0, .ref (h + F)), (1, .int a1)]) hx hb dX1_isCutNear_12 hl (by decide) rfl (fun ls hl => ?_)
  exact w_14 N _ _ _ _ _ _ _ _ hE hW hS hV (lv_sub hl [3, 4, 2, 1, 0] rfl)
theorem cc_X1_243 {F : Nat} {a1 : Int32} {r : Int32} {u u1 : CS} {rm : Room} (C : CC p m c cc nL s args D dA RX1) (hW : wc_W D dA h u H) (hS : wc_S u) (hV : va_S (CA h) H0 H locs) (ht : wc_T u F = some (.inl 1)) (hM : Met l yX1_whyNotCut (ws_ yX1_whyNotCut cX1_whyNotCut 3 (some .int)) rm (va_Pc [.ref (h + F), .int a1] (wc_St D dA h u)) (wc_Qr D dA h (some (.int r)) u1) 0 0 (CA h)) (hrc : rm.cells = 0) (hrs : rm.slots = 0) (hR : rm.frames + 1 ≤ R.frames ∧ 8 + (3 + 11) + rm.locals ≤ R.locals) (hf : cells + 0 ≤ R.cells ∧ slots + 0 ≤ R.slots) (d : decode cc pc = .ok (.invokevirtual 243, 3)) (hsz : ls.size = nL) (hro : (rest.map fun v => v.category).sum ≤ 8) (kk : ∀ (H1 : Heap) (locs1 : List Loc), wc_W D dA h u1 H1 → wc_S u1 → va_S (CA h) H0 H1 locs1 → W p l e R s m args below meth c H1 locs1 cells slots Q (F0 m (pc + 3) ls (.int r :: rest))) : W p l e R s m args below meth c H locs cells slots Q (F0 m pc ls (.int a1 :: .ref (h + F) :: rest)) :=
  wc_call (v := (some (.int r))) (va_runV (As := [.int a1]) (rest := rest) C.1 hM (cwV 1 C.1.2.2.2.2 (lw_V q1194 q1196 qs55 q167 q1197) rfl hrc hrs (by decide +kernel) hR) (wc_preV (q := (RX1, TX1, 46)) C.2 hW hS ht rfl _) rfl rfl hsz rfl (lv_room hro) d hf) hV (fun _ z => z) (fun H1 locs1 a b c0 _ _ => kk H1 locs1 a b c0)
set_option maxHeartbeats 4000000 in
set_option maxRecDepth 100000 in
theorem kX1_whyNotCut {l : Launch} {D : va_G} {dA : Nat → ClassId} {h N : Nat} {F : Nat} {a1 : Int32} {u u1 : CS} {r : Int32} (hF : wc_F F) (hE : fX1_whyNotCut N F u a1 = some (r, u1)) : Met l yX1_whyNotCut (ws_ yX1_whyNotCut cX1_whyNotCut 3 (some .int)) ({ frames := 206, cells := 0, slots := 0, locals := 6548 }) (va_Pc [.ref (h + F), .int a1] (wc_St D dA h u)) (wc_Qr D dA h (some (.int r)) u1) 0 0 (CA h) := by
  refine wc_met (own := RX1) (lv := [(0, .ref (h + F)), (1, .int a1)]) (by decide) rfl rfl rfl ?_
  intro p e s m args below meth c ls C hr hlocks hW hS hV hl
  have hx := C.1.1
  have hb := C.1.2.1
  have w_96 : ∀ (u : CS) (y0 : Int32) (H : Heap) (locs : List Loc) (ls : Array Slot), fX1_whyNotCut_96 N F u y0 = some (r, u1) → wc_W D dA h u H → wc_S u → va_S (CA h) s.heap H locs → lv_has ls 3 [] → W p l e ({ frames := 206, cells := 0, slots := 0, locals := 6548 }) s m args below meth c H locs 0 0 (MQ below (wc_Qr D dA h (some (.int r)) u1) args s 0 0 (CA h)) (F0 m 96 ls [.int y0]) := by
    intro u y0 H locs ls hE hW hS hV hl
    unfold fX1_whyNotCut_96 at hE
    exact wc_iret C hr hlocks hW hS hV hE dX1_whyNotCut_96
  have w_56 : ∀ (u : CS) (x1 : Int32) (y0 : Int32) (y1 : Int32) (H : Heap) (locs : List Loc) (ls : Array Slot), fX1_whyNotCut_56 N F u x1 y0 y1 = some (r, u1) → wc_W D dA h u H → wc_S u → va_S (CA h) s.heap H locs → lv_has ls 3 [(0, .ref (h + F)), (1, .int x1)] → W p l e ({ frames := 206, cells := 0, slots := 0, locals := 6548 }) s m args below meth c H locs 0 0 (MQ below (wc_Qr D dA h (some (.int r)) u1) args s 0 0 (CA h)) (F0 m 56 ls [.int y1, .int y0]) := by
    intro u x1 y0 y1 H locs ls hE hW hS hV hl
    unfold fX1_whyNotCut_56 at hE
    refine lv_iadd hx hb dX1_whyNotCut_56 ?_
    refine z_nmi hE (fun z18 hE => ?_)
    refine lv_istore_n (lv' := [(2, .int z18), (0, .ref (h + F)), (1, .int x1)]) hx hb dX1_whyNotCut_57 rfl hl (by decide) rfl (fun ls hl => ?_)
    refine lv_iload_n hx hb dX1_whyNotCut_58 rfl (lv_at hl 0 rfl) ?_
    refine lv_aload_n hx hb dX1_whyNotCut_59 rfl (lv_at hl 1 rfl) ?_
    refine lv_iconst (v := (1 : Int32)) hx hb dX1_whyNotCut_60 rfl ?_
    refine lv_iload_n hx hb dX1_whyNotCut_61 rfl (lv_at hl 2 rfl) ?_
    obtain ⟨r19, u20, hc, hE⟩ := o_bd2_some hE
    refine cc_X1_223 C hW hS hV (st_F hS hF) (kX1_saysNow hF hc) rfl rfl ⟨Nat.le_of_ble_eq_true rfl, Nat.le_of_ble_eq_true rfl⟩ ⟨Nat.le_refl 0, Nat.le_refl 0⟩ dX1_whyNotCut_62 hl.1 (Nat.le_of_ble_eq_true rfl) (fun H locs hW hS hV => ?_)
    refine lv_icmp_le (tgt := 70) hx hb dX1_whyNotCut_65 (by decide) (fun c21 => ?_) (fun c21 => ?_)
    · have hE := z_t c21 hE
      refine lv_aload_n hx hb dX1_whyNotCut_70 rfl (lv_at hl 1 rfl) ?_
      refine lv_iload_n hx hb dX1_whyNotCut_71 rfl (lv_at hl 2 rfl) ?_
      obtain ⟨r22, u23, hc, hE⟩ := o_bd2_some hE
      refine cc_X1_240 C hW hS hV (st_F hS hF) (kX1_isCutNear hF hc) rfl rfl ⟨Nat.le_of_ble_eq_true rfl, Nat.le_of_ble_eq_true rfl⟩ ⟨Nat.le_refl 0, Nat.le_refl 0⟩ dX1_whyNotCut_72 hl.1 (Nat.le_of_ble_eq_true rfl) (fun H locs hW hS hV => ?_)
      refine lv_if_eq (tgt := 82) hx hb dX1_whyNotCut_75 (by decide) (fun c24 => ?_) (fun c24 => ?_)
      · have hE := z_t c24 hE
        refine lv_aload_n hx hb dX1_whyNotCut_82 rfl (lv_at hl 1 rfl) ?_
        refine lv_iload_n hx hb dX1_whyNotCut_83 rfl (lv_at hl 2 rfl) ?_
        refine lv_iconst (v := (1 : Int32)) hx hb dX1_whyNotCut_84 rfl ?_
        obtain ⟨r25, u26, hc, hE⟩ := o_bd2_some hE
        refine cc_X1_229 C hW hS hV (st_F hS hF) (kX1_isOrdered hF hc) rfl rfl ⟨Nat.le_of_ble_eq_true rfl, Nat.le_of_ble_eq_true rfl⟩ ⟨Nat.le_refl 0, Nat.le_refl 0⟩ dX1_whyNotCut_85 hl.1 (Nat.le_of_ble_eq_true rfl) (fun H locs hW hS hV => ?_)
        refine lv_if_eq (tgt := 95) hx hb dX1_whyNotCut_88 (by decide) (fun c27 => ?_) (fun c27 => ?_)
        · have hE := z_t c27 hE
          refine lv_iconst (v := (0 : Int32)) hx hb dX1_whyNotCut_95 rfl ?_
          exact w_96 _ _ _ _ _ hE hW hS hV (lv_sub hl [] rfl)
        · have hE := z_f c27 hE
          refine lv_iconst (v := (5 : Int32)) hx hb dX1_whyNotCut_91 rfl ?_
          refine lv_goto (tgt := 96) hx hb dX1_whyNotCut_92 (by decide) ?_
          exact w_96 _ _ _ _ _ hE hW hS hV (lv_sub hl [] rfl)
      · have hE := z_f c24 hE
        refine lv_iconst (v := (4 : Int32)) hx hb dX1_whyNotCut_78 rfl ?_
        refine lv_goto (tgt := 96) hx hb dX1_whyNotCut_79 (by decide) ?_
        exact w_96 _ _ _ _ _ hE hW hS hV (lv_sub hl [] rfl)
    · have hE := z_f c21 hE
      refine lv_iconst (v := (3 : Int32)) hx hb dX1_whyNotCut_68 rfl ?_
      exact wc_iret C hr hlocks hW hS hV hE dX1_whyNotCut_69
  unfold fX1_whyNotCut at hE
  refine lv_aload_n hx hb dX1_whyNotCut_0 rfl (lv_at hl 0 rfl) ?_
  refine lv_iload_n hx hb dX1_whyNotCut_1 rfl (lv_at hl 1 rfl) ?_
  obtain ⟨r28, u29, hc, hE⟩ := o_bd2_some hE
  refine cc_X1_232 C hW hS hV (st_F hS hF) (kX1_isBare hF hc) rfl rfl ⟨Nat.le_of_ble_eq_true rfl, Nat.le_of_ble_eq_true rfl⟩ ⟨Nat.le_refl 0, Nat.le_refl 0⟩ dX1_whyNotCut_2 hl.1 (Nat.le_of_ble_eq_true rfl) (fun H locs hW hS hV => ?_)
  refine lv_if_eq (tgt := 10) hx hb dX1_whyNotCut_5 (by decide) (fun c30 => ?_) (fun c30 => ?_)
  · have hE := z_t c30 hE
    refine lv_aload_n hx hb dX1_whyNotCut_10 rfl (lv_at hl 0 rfl) ?_
    refine cgs_X1_27_1 C hW (st_F hS hF) (sp_F_ages hS hF) dX1_whyNotCut_11 ?_
    refine lv_iload_n hx hb dX1_whyNotCut_14 rfl (lv_at hl 1 rfl) ?_
    refine wc_ldi C hW (st_F_ages hS hF) hE dX1_whyNotCut_15 (fun hE => ?_)
    refine z_nmi hE (fun v31 hE => ?_)
    refine lv_aload_n hx hb dX1_whyNotCut_16 rfl (lv_at hl 0 rfl) ?_
    refine lv_iconst (v := (0 : Int32)) hx hb dX1_whyNotCut_17 rfl ?_
    refine lv_iload_n hx hb dX1_whyNotCut_18 rfl (lv_at hl 1 rfl) ?_
    obtain ⟨r32, u33, hc, hE⟩ := o_bd2_some hE
    refine cc_X1_223 C hW hS hV (st_F hS hF) (kX1_saysNow hF hc) rfl rfl ⟨Nat.le_of_ble_eq_true rfl, Nat.le_of_ble_eq_true rfl⟩ ⟨Nat.le_refl 0, Nat.le_refl 0⟩ dX1_whyNotCut_19 hl.1 (Nat.le_of_ble_eq_true rfl) (fun H locs hW hS hV => ?_)
    refine lv_icmp_ge (tgt := 27) hx hb dX1_whyNotCut_22 (by decide) (fun c34 => ?_) (fun c34 => ?_)
    · have hE := z_t c34 hE
      refine lv_aload_n hx hb dX1_whyNotCut_27 rfl (lv_at hl 0 rfl) ?_
      refine lv_aload_n hx hb dX1_whyNotCut_28 rfl (lv_at hl 0 rfl) ?_
      refine cgs_X1_9_1 C hW (st_F hS hF) (sp_F_blocks hS hF) dX1_whyNotCut_29 ?_
      refine lv_iload_n hx hb dX1_whyNotCut_32 rfl (lv_at hl 1 rfl) ?_
      refine wc_ldi C hW (st_F_blocks hS hF) hE dX1_whyNotCut_33 (fun hE => ?_)
      refine z_nmi hE (fun v35 hE => ?_)
      obtain ⟨r36, u37, hc, hE⟩ := o_bd2_some hE
      refine cc_X1_236 C hW hS hV (st_F hS hF) (kX1_toBeCut hF hc) rfl rfl ⟨Nat.le_of_ble_eq_true rfl, Nat.le_of_ble_eq_true rfl⟩ ⟨Nat.le_refl 0, Nat.le_refl 0⟩ dX1_whyNotCut_34 hl.1 (Nat.le_of_ble_eq_true rfl) (fun H locs hW hS hV => ?_)
      refine lv_aload_n hx hb dX1_whyNotCut_37 rfl (lv_at hl 0 rfl) ?_
      refine lv_iload_n hx hb dX1_whyNotCut_38 rfl (lv_at hl 1 rfl) ?_
      refine lv_iconst (v := (0 : Int32)) hx hb dX1_whyNotCut_39 rfl ?_
      obtain ⟨r38, u39, hc, hE⟩ := o_bd2_some hE
      refine cc_X1_229 C hW hS hV (st_F hS hF) (kX1_isOrdered hF hc) rfl rfl ⟨Nat.le_of_ble_eq_true rfl, Nat.le_of_ble_eq_true rfl⟩ ⟨Nat.le_refl 0, Nat.le_refl 0⟩ dX1_whyNotCut_40 hl.1 (Nat.le_of_ble_eq_true rfl) (fun H locs hW hS hV => ?_)
      refine lv_if_eq (tgt := 50) hx hb dX1_whyNotCut_43 (by decide) (fun c40 => ?_) (fun c40 => ?_)
      · have hE := z_t c40 hE
        refine lv_aload_n hx hb dX1_whyNotCut_50 rfl (lv_at hl 0 rfl) ?_
        refine cgs_X1_24_1 C hW (st_F hS hF) (sp_F_acres hS hF) dX1_whyNotCut_51 ?_
        refine lv_iload_n hx hb dX1_whyNotCut_54 rfl (lv_at hl 1 rfl) ?_
        refine wc_ldi C hW (st_F_acres hS hF) hE dX1_whyNotCut_55 (fun hE => ?_)
        refine z_nmi hE (fun v41 hE => ?_)
        exact w_56 _ _ _ _ _ _ _ hE hW hS hV (lv_sub hl [0, 1] rfl)
      · have hE := z_f c40 hE
        refine lv_iconst (v := (0 : Int32)) hx hb dX1_whyNotCut_46 rfl ?_
        refine lv_goto (tgt := 56) hx hb dX1_whyNotCut_47 (by decide) ?_
        exact w_56 _ _ _ _ _ _ _ hE hW hS hV (lv_sub hl [0, 1] rfl)
    · have hE := z_f c34 hE
      refine lv_iconst (v := (2 : Int32)) hx hb dX1_whyNotCut_25 rfl ?_
      exact wc_iret C hr hlocks hW hS hV hE dX1_whyNotCut_26
  · have hE := z_f c30 hE
    refine lv_iconst (v := (1 : Int32)) hx hb dX1_whyNotCut_8 rfl ?_
    exact wc_iret C hr hlocks hW hS hV hE dX1_whyNotCut_9
theorem cc_X1_246 {F : Nat} {a1 : Int32} {a2 : Int32} {r : Int32} {u u1 : CS} {rm : Room} (C : CC p m c cc nL s args D dA RX1) (hW : wc_W D dA h u H) (hS : wc_S u) (hV : va_S (CA h) H0 H locs) (ht : wc_T u F = some (.inl 1)) (hM : Met l yX1_whyNotThin (ws_ yX1_whyNotThin cX1_whyNotThin 3 (some .int)) rm (va_Pc [.ref (h + F), .int a1, .int a2] (wc_St D dA h u)) (wc_Qr D dA h (some (.int r)) u1) 0 0 (CA h)) (hrc : rm.cells = 0) (hrs : rm.slots = 0) (hR : rm.frames + 1 ≤ R.frames ∧ 8 + (3 + 11) + rm.locals ≤ R.locals) (hf : cells + 0 ≤ R.cells ∧ slots + 0 ≤ R.slots) (d : decode cc pc = .ok (.invokevirtual 246, 3)) (hsz : ls.size = nL) (hro : (rest.map fun v => v.category).sum ≤ 8) (kk : ∀ (H1 : Heap) (locs1 : List Loc), wc_W D dA h u1 H1 → wc_S u1 → va_S (CA h) H0 H1 locs1 → W p l e R s m args below meth c H1 locs1 cells slots Q (F0 m (pc + 3) ls (.int r :: rest))) : W p l e R s m args below meth c H locs cells slots Q (F0 m pc ls (.int a2 :: .int a1 :: .ref (h + F) :: rest)) :=
  wc_call (v := (some (.int r))) (va_runV (As := [.int a1, .int a2]) (rest := rest) C.1 hM (cwV 2 C.1.2.2.2.2 (lw_V q1214 q1216 qs60 q167 q1217) rfl hrc hrs (by decide +kernel) hR) (wc_preV (q := (RX1, TX1, 46)) C.2 hW hS ht rfl _) rfl rfl hsz rfl (lv_room hro) d hf) hV (fun _ z => z) (fun H1 locs1 a b c0 _ _ => kk H1 locs1 a b c0)
set_option maxHeartbeats 4000000 in
set_option maxRecDepth 100000 in
theorem kX1_whyNotThin {l : Launch} {D : va_G} {dA : Nat → ClassId} {h N : Nat} {F : Nat} {a1 : Int32} {a2 : Int32} {u u1 : CS} {r : Int32} (hF : wc_F F) (hE : fX1_whyNotThin N F u a1 a2 = some (r, u1)) : Met l yX1_whyNotThin (ws_ yX1_whyNotThin cX1_whyNotThin 3 (some .int)) ({ frames := 205, cells := 0, slots := 0, locals := 6522 }) (va_Pc [.ref (h + F), .int a1, .int a2] (wc_St D dA h u)) (wc_Qr D dA h (some (.int r)) u1) 0 0 (CA h) := by
  refine wc_met (own := RX1) (lv := [(0, .ref (h + F)), (1, .int a1), (2, .int a2)]) (by decide) rfl rfl rfl ?_
  intro p e s m args below meth c ls C hr hlocks hW hS hV hl
  have hx := C.1.1
  have hb := C.1.2.1
  have w_55 : ∀ (u : CS) (y0 : Int32) (H : Heap) (locs : List Loc) (ls : Array Slot), fX1_whyNotThin_55 N F u y0 = some (r, u1) → wc_W D dA h u H → wc_S u → va_S (CA h) s.heap H locs → lv_has ls 3 [] → W p l e ({ frames := 205, cells := 0, slots := 0, locals := 6522 }) s m args below meth c H locs 0 0 (MQ below (wc_Qr D dA h (some (.int r)) u1) args s 0 0 (CA h)) (F0 m 55 ls [.int y0]) := by
    intro u y0 H locs ls hE hW hS hV hl
    unfold fX1_whyNotThin_55 at hE
    exact wc_iret C hr hlocks hW hS hV hE dX1_whyNotThin_55
  have w_37 : ∀ (u : CS) (H : Heap) (locs : List Loc) (ls : Array Slot), fX1_whyNotThin_37 N F u = some (r, u1) → wc_W D dA h u H → wc_S u → va_S (CA h) s.heap H locs → lv_has ls 3 [] → W p l e ({ frames := 205, cells := 0, slots := 0, locals := 6522 }) s m args below meth c H locs 0 0 (MQ below (wc_Qr D dA h (some (.int r)) u1) args s 0 0 (CA h)) (F0 m 37 ls []) := by
    intro u H locs ls hE hW hS hV hl
    unfold fX1_whyNotThin_37 at hE
    refine lv_iconst (v := (3 : Int32)) hx hb dX1_whyNotThin_37 rfl ?_
    refine lv_goto (tgt := 55) hx hb dX1_whyNotThin_38 (by decide) ?_
    exact w_55 _ _ _ _ _ hE hW hS hV (lv_sub hl [] rfl)
  unfold fX1_whyNotThin at hE
  refine lv_aload_n hx hb dX1_whyNotThin_0 rfl (lv_at hl 0 rfl) ?_
  refine lv_iload_n hx hb dX1_whyNotThin_1 rfl (lv_at hl 1 rfl) ?_
  obtain ⟨r8, u9, hc, hE⟩ := o_bd2_some hE
  refine cc_X1_232 C hW hS hV (st_F hS hF) (kX1_isBare hF hc) rfl rfl ⟨Nat.le_of_ble_eq_true rfl, Nat.le_of_ble_eq_true rfl⟩ ⟨Nat.le_refl 0, Nat.le_refl 0⟩ dX1_whyNotThin_2 hl.1 (Nat.le_of_ble_eq_true rfl) (fun H locs hW hS hV => ?_)
  refine lv_if_eq (tgt := 10) hx hb dX1_whyNotThin_5 (by decide) (fun c10 => ?_) (fun c10 => ?_)
  · have hE := z_t c10 hE
    refine lv_aload_n hx hb dX1_whyNotThin_10 rfl (lv_at hl 0 rfl) ?_
    refine cgs_X1_30_1 C hW (st_F hS hF) (sp_F_fulls hS hF) dX1_whyNotThin_11 ?_
    refine lv_iload_n hx hb dX1_whyNotThin_14 rfl (lv_at hl 1 rfl) ?_
    refine wc_ldi C hW (st_F_fulls hS hF) hE dX1_whyNotThin_15 (fun hE => ?_)
    refine z_nmi hE (fun v11 hE => ?_)
    refine lv_iload_n hx hb dX1_whyNotThin_16 rfl (lv_at hl 2 rfl) ?_
    refine lv_icmp_gt (tgt := 22) hx hb dX1_whyNotThin_17 (by decide) (fun c12 => ?_) (fun c12 => ?_)
    · have hE := z_t c12 hE
      refine lv_iload_n hx hb dX1_whyNotThin_22 rfl (lv_at hl 2 rfl) ?_
      refine lv_iconst (v := (1 : Int32)) hx hb dX1_whyNotThin_23 rfl ?_
      refine lv_icmp_lt (tgt := 37) hx hb dX1_whyNotThin_24 (by decide) (fun c13 => ?_) (fun c13 => ?_)
      · have hE := z_t c13 hE
        exact w_37 _ _ _ _ hE hW hS hV (lv_sub hl [] rfl)
      · have hE := z_f c13 hE
        refine lv_iload_n hx hb dX1_whyNotThin_27 rfl (lv_at hl 2 rfl) ?_
        refine lv_aload_n hx hb dX1_whyNotThin_28 rfl (lv_at hl 0 rfl) ?_
        refine lv_iconst (v := (3 : Int32)) hx hb dX1_whyNotThin_29 rfl ?_
        refine lv_iload_n hx hb dX1_whyNotThin_30 rfl (lv_at hl 1 rfl) ?_
        obtain ⟨r14, u15, hc, hE⟩ := o_bd2_some hE
        refine cc_X1_223 C hW hS hV (st_F hS hF) (kX1_saysNow hF hc) rfl rfl ⟨Nat.le_of_ble_eq_true rfl, Nat.le_of_ble_eq_true rfl⟩ ⟨Nat.le_refl 0, Nat.le_refl 0⟩ dX1_whyNotThin_31 hl.1 (Nat.le_of_ble_eq_true rfl) (fun H locs hW hS hV => ?_)
        refine lv_icmp_ge (tgt := 41) hx hb dX1_whyNotThin_34 (by decide) (fun c16 => ?_) (fun c16 => ?_)
        · have hE := z_t c16 hE
          refine lv_aload_n hx hb dX1_whyNotThin_41 rfl (lv_at hl 0 rfl) ?_
          refine lv_iload_n hx hb dX1_whyNotThin_42 rfl (lv_at hl 1 rfl) ?_
          refine lv_iconst (v := (0 : Int32)) hx hb dX1_whyNotThin_43 rfl ?_
          obtain ⟨r17, u18, hc, hE⟩ := o_bd2_some hE
          refine cc_X1_229 C hW hS hV (st_F hS hF) (kX1_isOrdered hF hc) rfl rfl ⟨Nat.le_of_ble_eq_true rfl, Nat.le_of_ble_eq_true rfl⟩ ⟨Nat.le_refl 0, Nat.le_refl 0⟩ dX1_whyNotThin_44 hl.1 (Nat.le_of_ble_eq_true rfl) (fun H locs hW hS hV => ?_)
          refine lv_if_eq (tgt := 54) hx hb dX1_whyNotThin_47 (by decide) (fun c19 => ?_) (fun c19 => ?_)
          · have hE := z_t c19 hE
            refine lv_iconst (v := (0 : Int32)) hx hb dX1_whyNotThin_54 rfl ?_
            exact w_55 _ _ _ _ _ hE hW hS hV (lv_sub hl [] rfl)
          · have hE := z_f c19 hE
            refine lv_iconst (v := (4 : Int32)) hx hb dX1_whyNotThin_50 rfl ?_
            refine lv_goto (tgt := 55) hx hb dX1_whyNotThin_51 (by decide) ?_
            exact w_55 _ _ _ _ _ hE hW hS hV (lv_sub hl [] rfl)
        · have hE := z_f c16 hE
          exact w_37 _ _ _ _ hE hW hS hV (lv_sub hl [] rfl)
    · have hE := z_f c12 hE
      refine lv_iconst (v := (2 : Int32)) hx hb dX1_whyNotThin_20 rfl ?_
      exact wc_iret C hr hlocks hW hS hV hE dX1_whyNotThin_21
  · have hE := z_f c10 hE
    refine lv_iconst (v := (1 : Int32)) hx hb dX1_whyNotThin_8 rfl ?_
    exact wc_iret C hr hlocks hW hS hV hE dX1_whyNotThin_9
theorem cc_X1_249 {F : Nat} {a1 : Int32} {a2 : Int32} {r : Int32} {u u1 : CS} {rm : Room} (C : CC p m c cc nL s args D dA RX1) (hW : wc_W D dA h u H) (hS : wc_S u) (hV : va_S (CA h) H0 H locs) (ht : wc_T u F = some (.inl 1)) (hM : Met l yX1_whyNotPlant (ws_ yX1_whyNotPlant cX1_whyNotPlant 6 (some .int)) rm (va_Pc [.ref (h + F), .int a1, .int a2] (wc_St D dA h u)) (wc_Qr D dA h (some (.int r)) u1) 0 0 (CA h)) (hrc : rm.cells = 0) (hrs : rm.slots = 0) (hR : rm.frames + 1 ≤ R.frames ∧ 8 + (6 + 11) + rm.locals ≤ R.locals) (hf : cells + 0 ≤ R.cells ∧ slots + 0 ≤ R.slots) (d : decode cc pc = .ok (.invokevirtual 249, 3)) (hsz : ls.size = nL) (hro : (rest.map fun v => v.category).sum ≤ 8) (kk : ∀ (H1 : Heap) (locs1 : List Loc), wc_W D dA h u1 H1 → wc_S u1 → va_S (CA h) H0 H1 locs1 → W p l e R s m args below meth c H1 locs1 cells slots Q (F0 m (pc + 3) ls (.int r :: rest))) : W p l e R s m args below meth c H locs cells slots Q (F0 m pc ls (.int a2 :: .int a1 :: .ref (h + F) :: rest)) :=
  wc_call (v := (some (.int r))) (va_runV (As := [.int a1, .int a2]) (rest := rest) C.1 hM (cwV 2 C.1.2.2.2.2 (lw_V q1218 q1220 qs61 q167 q1221) rfl hrc hrs (by decide +kernel) hR) (wc_preV (q := (RX1, TX1, 46)) C.2 hW hS ht rfl _) rfl rfl hsz rfl (lv_room hro) d hf) hV (fun _ z => z) (fun H1 locs1 a b c0 _ _ => kk H1 locs1 a b c0)
set_option maxHeartbeats 4000000 in
set_option maxRecDepth 100000 in
theorem kX1_whyNotPlant {l : Launch} {D : va_G} {dA : Nat → ClassId} {h N : Nat} {F : Nat} {a1 : Int32} {a2 : Int32} {u u1 : CS} {r : Int32} (hF : wc_F F) (hE : fX1_whyNotPlant N F u a1 a2 = some (r, u1)) : Met l yX1_whyNotPlant (ws_ yX1_whyNotPlant cX1_whyNotPlant 6 (some .int)) ({ frames := 1, cells := 0, slots := 0, locals := 24 }) (va_Pc [.ref (h + F), .int a1, .int a2] (wc_St D dA h u)) (wc_Qr D dA h (some (.int r)) u1) 0 0 (CA h) := by
  refine wc_met (own := RX1) (lv := [(0, .ref (h + F)), (1, .int a1), (2, .int a2)]) (by decide) rfl rfl rfl ?_
  intro p e s m args below meth c ls C hr hlocks hW hS hV hl
  have hx := C.1.1
  have hb := C.1.2.1
  have w_125 : ∀ (u : CS) (y0 : Int32) (H : Heap) (locs : List Loc) (ls : Array Slot), fX1_whyNotPlant_125 N F u y0 = some (r, u1) → wc_W D dA h u H → wc_S u → va_S (CA h) s.heap H locs → lv_has ls 6 [] → W p l e ({ frames := 1, cells := 0, slots := 0, locals := 24 }) s m args below meth c H locs 0 0 (MQ below (wc_Qr D dA h (some (.int r)) u1) args s 0 0 (CA h)) (F0 m 125 ls [.int y0]) := by
    intro u y0 H locs ls hE hW hS hV hl
    unfold fX1_whyNotPlant_125 at hE
    exact wc_iret C hr hlocks hW hS hV hE dX1_whyNotPlant_125
  have w_102 : ∀ (ag31 : CS → Int32 → Int32 → Int32 → Int32 → Option (Int32 × CS)) (hag31 : (∀ (u : CS) (x1 : Int32) (x2 : Int32) (x3 : Int32) (x4 : Int32) (H : Heap) (locs : List Loc) (ls : Array Slot), ag31 u x1 x2 x3 x4 = some (r, u1) → wc_W D dA h u H → wc_S u → va_S (CA h) s.heap H locs → lv_has ls 6 [(0, .ref (h + F)), (1, .int x1), (2, .int x2), (3, .int x3), (4, .int x4)] → W p l e ({ frames := 1, cells := 0, slots := 0, locals := 24 }) s m args below meth c H locs 0 0 (MQ below (wc_Qr D dA h (some (.int r)) u1) args s 0 0 (CA h)) (F0 m 31 ls []))) (u : CS) (x1 : Int32) (x2 : Int32) (x4 : Int32) (y0 : Int32) (y1 : Int32) (H : Heap) (locs : List Loc) (ls : Array Slot), fX1_whyNotPlant_102 N F ag31 u x1 x2 x4 y0 y1 = some (r, u1) → wc_W D dA h u H → wc_S u → va_S (CA h) s.heap H locs → lv_has ls 6 [(0, .ref (h + F)), (1, .int x1), (2, .int x2), (4, .int x4)] → W p l e ({ frames := 1, cells := 0, slots := 0, locals := 24 }) s m args below meth c H locs 0 0 (MQ below (wc_Qr D dA h (some (.int r)) u1) args s 0 0 (CA h)) (F0 m 102 ls [.int y1, .int y0]) := by
    intro ag31 hag31 u x1 x2 x4 y0 y1 H locs ls hE hW hS hV hl
    unfold fX1_whyNotPlant_102 at hE
    refine lv_isub hx hb dX1_whyNotPlant_102 ?_
    refine z_nmi hE (fun z13 hE => ?_)
    refine lv_istore_n (lv' := [(3, .int z13), (0, .ref (h + F)), (1, .int x1), (2, .int x2), (4, .int x4)]) hx hb dX1_whyNotPlant_103 rfl hl (by decide) rfl (fun ls hl => ?_)
    refine z_iinc (v := (x4 + (1 : Int32))) (lw := (fun y_ => [(4, .int y_), (3, .int z13), (0, .ref (h + F)), (1, .int x1), (2, .int x2)])) hx hb dX1_whyNotPlant_104 hl hE (k := 4) rfl rfl (by decide) (fun _ => rfl) (fun z14 ls hE hl => ?_)
    refine lv_goto (tgt := 31) hx hb dX1_whyNotPlant_107 (by decide) ?_
    exact hag31 _ _ _ _ _ _ _ _ hE hW hS hV (lv_sub hl [2, 3, 4, 1, 0] rfl)
  have w_78 : ∀ (ag31 : CS → Int32 → Int32 → Int32 → Int32 → Option (Int32 × CS)) (hag31 : (∀ (u : CS) (x1 : Int32) (x2 : Int32) (x3 : Int32) (x4 : Int32) (H : Heap) (locs : List Loc) (ls : Array Slot), ag31 u x1 x2 x3 x4 = some (r, u1) → wc_W D dA h u H → wc_S u → va_S (CA h) s.heap H locs → lv_has ls 6 [(0, .ref (h + F)), (1, .int x1), (2, .int x2), (3, .int x3), (4, .int x4)] → W p l e ({ frames := 1, cells := 0, slots := 0, locals := 24 }) s m args below meth c H locs 0 0 (MQ below (wc_Qr D dA h (some (.int r)) u1) args s 0 0 (CA h)) (F0 m 31 ls []))) (u : CS) (x1 : Int32) (x2 : Int32) (x3 : Int32) (x4 : Int32) (y0 : Int32) (H : Heap) (locs : List Loc) (ls : Array Slot), fX1_whyNotPlant_78 N F ag31 u x1 x2 x3 x4 y0 = some (r, u1) → wc_W D dA h u H → wc_S u → va_S (CA h) s.heap H locs → lv_has ls 6 [(0, .ref (h + F)), (1, .int x1), (2, .int x2), (3, .int x3), (4, .int x4)] → W p l e ({ frames := 1, cells := 0, slots := 0, locals := 24 }) s m args below meth c H locs 0 0 (MQ below (wc_Qr D dA h (some (.int r)) u1) args s 0 0 (CA h)) (F0 m 78 ls [.int y0]) := by
    intro ag31 hag31 u x1 x2 x3 x4 y0 H locs ls hE hW hS hV hl
    unfold fX1_whyNotPlant_78 at hE
    refine lv_istore (lv' := [(5, .int y0), (0, .ref (h + F)), (1, .int x1), (2, .int x2), (3, .int x3), (4, .int x4)]) hx hb dX1_whyNotPlant_78 hl (by decide) rfl (fun ls hl => ?_)
    refine lv_iload_n hx hb dX1_whyNotPlant_80 rfl (lv_at hl 4 rfl) ?_
    refine lv_iload hx hb dX1_whyNotPlant_81 (lv_at hl 0 rfl) ?_
    refine lv_if_eq (tgt := 101) hx hb dX1_whyNotPlant_83 (by decide) (fun c15 => ?_) (fun c15 => ?_)
    · have hE := z_t c15 hE
      refine lv_iconst (v := (0 : Int32)) hx hb dX1_whyNotPlant_101 rfl ?_
      exact w_102 ag31 hag31 _ _ _ _ _ _ _ _ _ hE hW hS hV (lv_sub hl [1, 2, 3, 5] rfl)
    · have hE := z_f c15 hE
      refine lv_aload_n hx hb dX1_whyNotPlant_86 rfl (lv_at hl 1 rfl) ?_
      refine cgs_X1_24_1 C hW (st_F hS hF) (sp_F_acres hS hF) dX1_whyNotPlant_87 ?_
      refine lv_aload_n hx hb dX1_whyNotPlant_90 rfl (lv_at hl 1 rfl) ?_
      refine cgs_X1_101_1 C hW (st_F hS hF) (sp_F_orderStand hS hF) dX1_whyNotPlant_91 ?_
      refine lv_iload hx hb dX1_whyNotPlant_94 (lv_at hl 5 rfl) ?_
      refine wc_ldi C hW (st_F_orderStand hS hF) hE dX1_whyNotPlant_96 (fun hE => ?_)
      refine z_nmi hE (fun v16 hE => ?_)
      refine wc_ldi C hW (st_F_acres hS hF) hE dX1_whyNotPlant_97 (fun hE => ?_)
      refine z_nmi hE (fun v17 hE => ?_)
      refine lv_goto (tgt := 102) hx hb dX1_whyNotPlant_98 (by decide) ?_
      exact w_102 ag31 hag31 _ _ _ _ _ _ _ _ _ hE hW hS hV (lv_sub hl [1, 2, 3, 5] rfl)
  have w_77 : ∀ (ag31 : CS → Int32 → Int32 → Int32 → Int32 → Option (Int32 × CS)) (hag31 : (∀ (u : CS) (x1 : Int32) (x2 : Int32) (x3 : Int32) (x4 : Int32) (H : Heap) (locs : List Loc) (ls : Array Slot), ag31 u x1 x2 x3 x4 = some (r, u1) → wc_W D dA h u H → wc_S u → va_S (CA h) s.heap H locs → lv_has ls 6 [(0, .ref (h + F)), (1, .int x1), (2, .int x2), (3, .int x3), (4, .int x4)] → W p l e ({ frames := 1, cells := 0, slots := 0, locals := 24 }) s m args below meth c H locs 0 0 (MQ below (wc_Qr D dA h (some (.int r)) u1) args s 0 0 (CA h)) (F0 m 31 ls []))) (u : CS) (x1 : Int32) (x2 : Int32) (x3 : Int32) (x4 : Int32) (H : Heap) (locs : List Loc) (ls : Array Slot), fX1_whyNotPlant_77 N F ag31 u x1 x2 x3 x4 = some (r, u1) → wc_W D dA h u H → wc_S u → va_S (CA h) s.heap H locs → lv_has ls 6 [(0, .ref (h + F)), (1, .int x1), (2, .int x2), (3, .int x3), (4, .int x4)] → W p l e ({ frames := 1, cells := 0, slots := 0, locals := 24 }) s m args below meth c H locs 0 0 (MQ below (wc_Qr D dA h (some (.int r)) u1) args s 0 0 (CA h)) (F0 m 77 ls []) := by
    intro ag31 hag31 u x1 x2 x3 x4 H locs ls hE hW hS hV hl
    unfold fX1_whyNotPlant_77 at hE
    refine lv_iconst (v := (0 : Int32)) hx hb dX1_whyNotPlant_77 rfl ?_
    exact w_78 ag31 hag31 _ _ _ _ _ _ _ _ _ hE hW hS hV (lv_sub hl [0, 1, 2, 3, 4] rfl)
  have w_31 : ∀ (n : Nat) (u : CS) (x1 : Int32) (x2 : Int32) (x3 : Int32) (x4 : Int32) (H : Heap) (locs : List Loc) (ls : Array Slot), fX1_whyNotPlant_31 N F n u x1 x2 x3 x4 = some (r, u1) → wc_W D dA h u H → wc_S u → va_S (CA h) s.heap H locs → lv_has ls 6 [(0, .ref (h + F)), (1, .int x1), (2, .int x2), (3, .int x3), (4, .int x4)] → W p l e ({ frames := 1, cells := 0, slots := 0, locals := 24 }) s m args below meth c H locs 0 0 (MQ below (wc_Qr D dA h (some (.int r)) u1) args s 0 0 (CA h)) (F0 m 31 ls []) := by
    intro n
    induction n with
    | zero =>
      intro u x1 x2 x3 x4 H locs ls hE hW hS hV hl
      cases (show (none : Option (Int32 × CS)) = some (r, u1) from hE)
    | succ n ih =>
      intro u x1 x2 x3 x4 H locs ls hE hW hS hV hl
      rw [fX1_whyNotPlant_31] at hE
      refine lv_iload hx hb dX1_whyNotPlant_31 (lv_at hl 4 rfl) ?_
      refine lv_aload_n hx hb dX1_whyNotPlant_33 rfl (lv_at hl 0 rfl) ?_
      refine cg_X1_165_1 C hW (st_F hS hF) dX1_whyNotPlant_34 ?_
      refine lv_icmp_ge (tgt := 110) hx hb dX1_whyNotPlant_37 (by decide) (fun c18 => ?_) (fun c18 => ?_)
      · have hE := z_t c18 hE
        refine lv_iload_n hx hb dX1_whyNotPlant_110 rfl (lv_at hl 3 rfl) ?_
        refine lv_aload_n hx hb dX1_whyNotPlant_111 rfl (lv_at hl 0 rfl) ?_
        refine cgs_X1_24_1 C hW (st_F hS hF) (sp_F_acres hS hF) dX1_whyNotPlant_112 ?_
        refine lv_iload_n hx hb dX1_whyNotPlant_115 rfl (lv_at hl 1 rfl) ?_
        refine wc_ldi C hW (st_F_acres hS hF) hE dX1_whyNotPlant_116 (fun hE => ?_)
        refine z_nmi hE (fun v19 hE => ?_)
        refine lv_icmp_ge (tgt := 124) hx hb dX1_whyNotPlant_117 (by decide) (fun c20 => ?_) (fun c20 => ?_)
        · have hE := z_t c20 hE
          refine lv_iconst (v := (0 : Int32)) hx hb dX1_whyNotPlant_124 rfl ?_
          exact w_125 _ _ _ _ _ hE hW hS hV (lv_sub hl [] rfl)
        · have hE := z_f c20 hE
          refine lv_iconst (v := (2 : Int32)) hx hb dX1_whyNotPlant_120 rfl ?_
          refine lv_goto (tgt := 125) hx hb dX1_whyNotPlant_121 (by decide) ?_
          exact w_125 _ _ _ _ _ hE hW hS hV (lv_sub hl [] rfl)
      · have hE := z_f c18 hE
        refine lv_aload_n hx hb dX1_whyNotPlant_40 rfl (lv_at hl 0 rfl) ?_
        refine cgs_X1_104_1 C hW (st_F hS hF) (sp_F_orderSort hS hF) dX1_whyNotPlant_41 ?_
        refine lv_iload hx hb dX1_whyNotPlant_44 (lv_at hl 4 rfl) ?_
        refine wc_ldi C hW (st_F_orderSort hS hF) hE dX1_whyNotPlant_46 (fun hE => ?_)
        refine z_nmi hE (fun v21 hE => ?_)
        refine lv_iconst (v := (2 : Int32)) hx hb dX1_whyNotPlant_47 rfl ?_
        refine lv_icmp_ne (tgt := 77) hx hb dX1_whyNotPlant_48 (by decide) (fun c22 => ?_) (fun c22 => ?_)
        · have hE := z_f c22 hE
          exact w_77 (fX1_whyNotPlant_31 N F n) ih _ _ _ _ _ _ _ _ hE hW hS hV (lv_sub hl [0, 1, 2, 3, 4] rfl)
        · have hE := z_t c22 hE
          refine lv_aload_n hx hb dX1_whyNotPlant_51 rfl (lv_at hl 0 rfl) ?_
          refine cgs_X1_107_1 C hW (st_F hS hF) (sp_F_orderTold hS hF) dX1_whyNotPlant_52 ?_
          refine lv_iload hx hb dX1_whyNotPlant_55 (lv_at hl 4 rfl) ?_
          refine wc_ldi C hW (st_F_orderTold hS hF) hE dX1_whyNotPlant_57 (fun hE => ?_)
          refine z_nmi hE (fun v23 hE => ?_)
          refine lv_iload_n hx hb dX1_whyNotPlant_58 rfl (lv_at hl 2 rfl) ?_
          refine lv_icmp_ne (tgt := 77) hx hb dX1_whyNotPlant_59 (by decide) (fun c24 => ?_) (fun c24 => ?_)
          · have hE := z_f c24 hE
            exact w_77 (fX1_whyNotPlant_31 N F n) ih _ _ _ _ _ _ _ _ hE hW hS hV (lv_sub hl [0, 1, 2, 3, 4] rfl)
          · have hE := z_t c24 hE
            refine lv_aload_n hx hb dX1_whyNotPlant_62 rfl (lv_at hl 0 rfl) ?_
            refine cgs_X1_101_1 C hW (st_F hS hF) (sp_F_orderStand hS hF) dX1_whyNotPlant_63 ?_
            refine lv_iload hx hb dX1_whyNotPlant_66 (lv_at hl 4 rfl) ?_
            refine wc_ldi C hW (st_F_orderStand hS hF) hE dX1_whyNotPlant_68 (fun hE => ?_)
            refine z_nmi hE (fun v25 hE => ?_)
            refine lv_iload_n hx hb dX1_whyNotPlant_69 rfl (lv_at hl 1 rfl) ?_
            refine lv_icmp_eq (tgt := 77) hx hb dX1_whyNotPlant_70 (by decide) (fun c26 => ?_) (fun c26 => ?_)
            · have hE := z_t c26 hE
              exact w_77 (fX1_whyNotPlant_31 N F n) ih _ _ _ _ _ _ _ _ hE hW hS hV (lv_sub hl [0, 1, 2, 3, 4] rfl)
            · have hE := z_f c26 hE
              refine lv_iconst (v := (1 : Int32)) hx hb dX1_whyNotPlant_73 rfl ?_
              refine lv_goto (tgt := 78) hx hb dX1_whyNotPlant_74 (by decide) ?_
              exact w_78 (fX1_whyNotPlant_31 N F n) ih _ _ _ _ _ _ _ _ _ hE hW hS hV (lv_sub hl [0, 1, 2, 3, 4] rfl)
  have w_19 : ∀ (u : CS) (x1 : Int32) (x2 : Int32) (H : Heap) (locs : List Loc) (ls : Array Slot), fX1_whyNotPlant_19 N F u x1 x2 = some (r, u1) → wc_W D dA h u H → wc_S u → va_S (CA h) s.heap H locs → lv_has ls 6 [(0, .ref (h + F)), (1, .int x1), (2, .int x2)] → W p l e ({ frames := 1, cells := 0, slots := 0, locals := 24 }) s m args below meth c H locs 0 0 (MQ below (wc_Qr D dA h (some (.int r)) u1) args s 0 0 (CA h)) (F0 m 19 ls []) := by
    intro u x1 x2 H locs ls hE hW hS hV hl
    unfold fX1_whyNotPlant_19 at hE
    refine lv_aload_n hx hb dX1_whyNotPlant_19 rfl (lv_at hl 0 rfl) ?_
    refine cgs_X1_110_1 C hW (st_F hS hF) (sp_F_sown hS hF) dX1_whyNotPlant_20 ?_
    refine lv_iconst (v := (3 : Int32)) hx hb dX1_whyNotPlant_23 rfl ?_
    refine lv_iload_n hx hb dX1_whyNotPlant_24 rfl (lv_at hl 2 rfl) ?_
    refine lv_imul hx hb dX1_whyNotPlant_25 ?_
    refine wc_ldi C hW (st_F_sown hS hF) hE dX1_whyNotPlant_26 (fun hE => ?_)
    refine z_nmi hE (fun v27 hE => ?_)
    refine lv_istore_n (lv' := [(3, .int v27), (0, .ref (h + F)), (1, .int x1), (2, .int x2)]) hx hb dX1_whyNotPlant_27 rfl hl (by decide) rfl (fun ls hl => ?_)
    refine lv_iconst (v := (0 : Int32)) hx hb dX1_whyNotPlant_28 rfl ?_
    refine lv_istore (lv' := [(4, .int (0 : Int32)), (3, .int v27), (0, .ref (h + F)), (1, .int x1), (2, .int x2)]) hx hb dX1_whyNotPlant_29 hl (by decide) rfl (fun ls hl => ?_)
    exact w_31 N _ _ _ _ _ _ _ _ hE hW hS hV (lv_sub hl [2, 3, 4, 1, 0] rfl)
  unfold fX1_whyNotPlant at hE
  refine lv_aload_n hx hb dX1_whyNotPlant_0 rfl (lv_at hl 0 rfl) ?_
  refine lv_iload_n hx hb dX1_whyNotPlant_1 rfl (lv_at hl 1 rfl) ?_
  obtain ⟨r28, u29, hc, hE⟩ := o_bd2_some hE
  refine cc_X1_232 C hW hS hV (st_F hS hF) (kX1_isBare hF hc) rfl rfl ⟨Nat.le_of_ble_eq_true rfl, Nat.le_of_ble_eq_true rfl⟩ ⟨Nat.le_refl 0, Nat.le_refl 0⟩ dX1_whyNotPlant_2 hl.1 (Nat.le_of_ble_eq_true rfl) (fun H locs hW hS hV => ?_)
  refine lv_if_ne (tgt := 19) hx hb dX1_whyNotPlant_5 (by decide) (fun c30 => ?_) (fun c30 => ?_)
  · have hE := z_f c30 hE
    exact w_19 _ _ _ _ _ _ hE hW hS hV (lv_sub hl [0, 1, 2] rfl)
  · have hE := z_t c30 hE
    refine lv_aload_n hx hb dX1_whyNotPlant_8 rfl (lv_at hl 0 rfl) ?_
    refine lv_iload_n hx hb dX1_whyNotPlant_9 rfl (lv_at hl 1 rfl) ?_
    refine lv_iconst (v := (0 : Int32)) hx hb dX1_whyNotPlant_10 rfl ?_
    obtain ⟨r31, u32, hc, hE⟩ := o_bd2_some hE
    refine cc_X1_229 C hW hS hV (st_F hS hF) (kX1_isOrdered hF hc) rfl rfl ⟨Nat.le_of_ble_eq_true rfl, Nat.le_of_ble_eq_true rfl⟩ ⟨Nat.le_refl 0, Nat.le_refl 0⟩ dX1_whyNotPlant_11 hl.1 (Nat.le_of_ble_eq_true rfl) (fun H locs hW hS hV => ?_)
    refine lv_if_ne (tgt := 19) hx hb dX1_whyNotPlant_14 (by decide) (fun c33 => ?_) (fun c33 => ?_)
    · have hE := z_f c33 hE
      exact w_19 _ _ _ _ _ _ hE hW hS hV (lv_sub hl [0, 1, 2] rfl)
    · have hE := z_t c33 hE
      refine lv_iconst (v := (1 : Int32)) hx hb dX1_whyNotPlant_17 rfl ?_
      exact wc_iret C hr hlocks hW hS hV hE dX1_whyNotPlant_18
theorem cc_X0_376 {F : Nat} {a1 : Int32} {a2 : Int32} {a3 : Int32} {r : Int32} {u u1 : CS} {rm : Room} (C : CC p m c cc nL s args D dA RX0) (hW : wc_W D dA h u H) (hS : wc_S u) (hV : va_S (CA h) H0 H locs) (ht : wc_T u F = some (.inl 1)) (hM : Met l yX1_whyNot (ws_ yX1_whyNot cX1_whyNot 4 (some .int)) rm (va_Pc [.ref (h + F), .int a1, .int a2, .int a3] (wc_St D dA h u)) (wc_Qr D dA h (some (.int r)) u1) 0 0 (CA h)) (hrc : rm.cells = 0) (hrs : rm.slots = 0) (hR : rm.frames + 1 ≤ R.frames ∧ 8 + (4 + 11) + rm.locals ≤ R.locals) (hf : cells + 0 ≤ R.cells ∧ slots + 0 ≤ R.slots) (d : decode cc pc = .ok (.invokevirtual 376, 3)) (hsz : ls.size = nL) (hro : (rest.map fun v => v.category).sum ≤ 8) (kk : ∀ (H1 : Heap) (locs1 : List Loc), wc_W D dA h u1 H1 → wc_S u1 → va_S (CA h) H0 H1 locs1 → W p l e R s m args below meth c H1 locs1 cells slots Q (F0 m (pc + 3) ls (.int r :: rest))) : W p l e R s m args below meth c H locs cells slots Q (F0 m pc ls (.int a3 :: .int a2 :: .int a1 :: .ref (h + F) :: rest)) :=
  wc_call (v := (some (.int r))) (va_runVN (As := [.int a1, .int a2, .int a3]) (rest := rest) C.1 hM ⟨va_cnB 3 C.1.2.2.2.2 (lw_meth q1193) rfl hrc hrs (C.2.2.at q1190 rfl) (C.1.2.2.2.2 _ q167) (by decide +kernel) hR, C.1.2.2.2.2 _ q1192, C.1.2.2.2.2 _ qs54⟩ (wc_preV (q := (RX1, TX1, 46)) C.2 hW hS ht rfl _) rfl rfl hsz rfl (lv_room hro) d hf) hV (fun _ z => z) (fun H1 locs1 a b c0 _ _ => kk H1 locs1 a b c0)
set_option maxHeartbeats 4000000 in
set_option maxRecDepth 100000 in
theorem kX1_whyNot {l : Launch} {D : va_G} {dA : Nat → ClassId} {h N : Nat} {F : Nat} {a1 : Int32} {a2 : Int32} {a3 : Int32} {u u1 : CS} {r : Int32} (hF : wc_F F) (hE : fX1_whyNot N F u a1 a2 a3 = some (r, u1)) : Met l yX1_whyNot (ws_ yX1_whyNot cX1_whyNot 4 (some .int)) ({ frames := 207, cells := 0, slots := 0, locals := 6570 }) (va_Pc [.ref (h + F), .int a1, .int a2, .int a3] (wc_St D dA h u)) (wc_Qr D dA h (some (.int r)) u1) 0 0 (CA h) := by
  refine wc_met (own := RX1) (lv := [(0, .ref (h + F)), (1, .int a1), (2, .int a2), (3, .int a3)]) (by decide) rfl rfl rfl ?_
  intro p e s m args below meth c ls C hr hlocks hW hS hV hl
  have hx := C.1.1
  have hb := C.1.2.1
  have w_32 : ∀ (u : CS) (y0 : Int32) (H : Heap) (locs : List Loc) (ls : Array Slot), fX1_whyNot_32 N F u y0 = some (r, u1) → wc_W D dA h u H → wc_S u → va_S (CA h) s.heap H locs → lv_has ls 4 [] → W p l e ({ frames := 207, cells := 0, slots := 0, locals := 6570 }) s m args below meth c H locs 0 0 (MQ below (wc_Qr D dA h (some (.int r)) u1) args s 0 0 (CA h)) (F0 m 32 ls [.int y0]) := by
    intro u y0 H locs ls hE hW hS hV hl
    unfold fX1_whyNot_32 at hE
    exact wc_iret C hr hlocks hW hS hV hE dX1_whyNot_32
  unfold fX1_whyNot at hE
  refine lv_iload_n hx hb dX1_whyNot_0 rfl (lv_at hl 2 rfl) ?_
  refine lv_if_ne (tgt := 12) hx hb dX1_whyNot_1 (by decide) (fun c7 => ?_) (fun c7 => ?_)
  · have hE := z_f c7 hE
    refine lv_iload_n hx hb dX1_whyNot_12 rfl (lv_at hl 2 rfl) ?_
    refine lv_iconst (v := (1 : Int32)) hx hb dX1_whyNot_13 rfl ?_
    refine lv_icmp_ne (tgt := 26) hx hb dX1_whyNot_14 (by decide) (fun c8 => ?_) (fun c8 => ?_)
    · have hE := z_f c8 hE
      refine lv_aload_n hx hb dX1_whyNot_26 rfl (lv_at hl 0 rfl) ?_
      refine lv_iload_n hx hb dX1_whyNot_27 rfl (lv_at hl 1 rfl) ?_
      refine lv_iload_n hx hb dX1_whyNot_28 rfl (lv_at hl 3 rfl) ?_
      obtain ⟨r9, u10, hc, hE⟩ := o_bd2_some hE
      refine cc_X1_249 C hW hS hV (st_F hS hF) (kX1_whyNotPlant hF hc) rfl rfl ⟨Nat.le_of_ble_eq_true rfl, Nat.le_of_ble_eq_true rfl⟩ ⟨Nat.le_refl 0, Nat.le_refl 0⟩ dX1_whyNot_29 hl.1 (Nat.le_of_ble_eq_true rfl) (fun H locs hW hS hV => ?_)
      exact w_32 _ _ _ _ _ hE hW hS hV (lv_sub hl [] rfl)
    · have hE := z_t c8 hE
      refine lv_aload_n hx hb dX1_whyNot_17 rfl (lv_at hl 0 rfl) ?_
      refine lv_iload_n hx hb dX1_whyNot_18 rfl (lv_at hl 1 rfl) ?_
      refine lv_iload_n hx hb dX1_whyNot_19 rfl (lv_at hl 3 rfl) ?_
      obtain ⟨r11, u12, hc, hE⟩ := o_bd2_some hE
      refine cc_X1_246 C hW hS hV (st_F hS hF) (kX1_whyNotThin hF hc) rfl rfl ⟨Nat.le_of_ble_eq_true rfl, Nat.le_of_ble_eq_true rfl⟩ ⟨Nat.le_refl 0, Nat.le_refl 0⟩ dX1_whyNot_20 hl.1 (Nat.le_of_ble_eq_true rfl) (fun H locs hW hS hV => ?_)
      refine lv_goto (tgt := 32) hx hb dX1_whyNot_23 (by decide) ?_
      exact w_32 _ _ _ _ _ hE hW hS hV (lv_sub hl [] rfl)
  · have hE := z_t c7 hE
    refine lv_aload_n hx hb dX1_whyNot_4 rfl (lv_at hl 0 rfl) ?_
    refine lv_iload_n hx hb dX1_whyNot_5 rfl (lv_at hl 1 rfl) ?_
    obtain ⟨r13, u14, hc, hE⟩ := o_bd2_some hE
    refine cc_X1_243 C hW hS hV (st_F hS hF) (kX1_whyNotCut hF hc) rfl rfl ⟨Nat.le_of_ble_eq_true rfl, Nat.le_of_ble_eq_true rfl⟩ ⟨Nat.le_refl 0, Nat.le_refl 0⟩ dX1_whyNot_6 hl.1 (Nat.le_of_ble_eq_true rfl) (fun H locs hW hS hV => ?_)
    refine lv_goto (tgt := 32) hx hb dX1_whyNot_9 (by decide) ?_
    exact w_32 _ _ _ _ _ hE hW hS hV (lv_sub hl [] rfl)
theorem cc_X0_399 {a1 : Int32} {r : Int32} {u u1 : CS} {rm : Room} (C : CC p m c cc nL s args D dA RX0) (hW : wc_W D dA h u H) (hS : wc_S u) (hV : va_S (CA h) H0 H locs) (ht : wc_T u 0 = some (.inl 0)) (hM : Met l yX0_isOrder (ws_ yX0_isOrder cX0_isOrder 2 (some .boolean)) rm (va_Pc [.ref (h + 0), .int a1] (wc_St D dA h u)) (wc_Qr D dA h (some (.int r)) u1) 0 0 (CA h)) (hrc : rm.cells = 0) (hrs : rm.slots = 0) (hR : rm.frames + 1 ≤ R.frames ∧ 8 + (2 + 11) + rm.locals ≤ R.locals) (hf : cells + 0 ≤ R.cells ∧ slots + 0 ≤ R.slots) (d : decode cc pc = .ok (.invokevirtual 399, 3)) (hsz : ls.size = nL) (hro : (rest.map fun v => v.category).sum ≤ 8) (kk : ∀ (H1 : Heap) (locs1 : List Loc), wc_W D dA h u1 H1 → wc_S u1 → va_S (CA h) H0 H1 locs1 → W p l e R s m args below meth c H1 locs1 cells slots Q (F0 m (pc + 3) ls (.int r :: rest))) : W p l e R s m args below meth c H locs cells slots Q (F0 m pc ls (.int a1 :: .ref (h + 0) :: rest)) :=
  wc_call (v := (some (.int r))) (va_runV (As := [.int a1]) (rest := rest) C.1 hM (cwV 1 C.1.2.2.2.2 (lw_V q1235 q1237 qs63 q166 q1238) rfl hrc hrs (by decide +kernel) hR) (wc_preV (q := (RX0, TX0, 27)) C.2 hW hS ht rfl _) rfl rfl hsz rfl (lv_room hro) d hf) hV (fun _ z => z) (fun H1 locs1 a b c0 _ _ => kk H1 locs1 a b c0)
set_option maxHeartbeats 4000000 in
set_option maxRecDepth 100000 in
theorem kX0_isOrder {l : Launch} {D : va_G} {dA : Nat → ClassId} {h N : Nat} {a1 : Int32} {u u1 : CS} {r : Int32} (hE : fX0_isOrder N u a1 = some (r, u1)) : Met l yX0_isOrder (ws_ yX0_isOrder cX0_isOrder 2 (some .boolean)) ({ frames := 0, cells := 0, slots := 0, locals := 0 }) (va_Pc [.ref (h + 0), .int a1] (wc_St D dA h u)) (wc_Qr D dA h (some (.int r)) u1) 0 0 (CA h) := by
  refine wc_met (own := RX0) (lv := [(0, .ref (h + 0)), (1, .int a1)]) (by decide) rfl rfl rfl ?_
  intro p e s m args below meth c ls C hr hlocks hW hS hV hl
  have hx := C.1.1
  have hb := C.1.2.1
  have w_20 : ∀ (u : CS) (y0 : Int32) (H : Heap) (locs : List Loc) (ls : Array Slot), fX0_isOrder_20 N u y0 = some (r, u1) → wc_W D dA h u H → wc_S u → va_S (CA h) s.heap H locs → lv_has ls 2 [] → W p l e ({ frames := 0, cells := 0, slots := 0, locals := 0 }) s m args below meth c H locs 0 0 (MQ below (wc_Qr D dA h (some (.int r)) u1) args s 0 0 (CA h)) (F0 m 20 ls [.int y0]) := by
    intro u y0 H locs ls hE hW hS hV hl
    unfold fX0_isOrder_20 at hE
    obtain ⟨hb1, hE⟩ := o_bl_some hE
    exact wc_zret C hr hlocks hW hS hV hb1 hE dX0_isOrder_20
  have w_19 : ∀ (u : CS) (H : Heap) (locs : List Loc) (ls : Array Slot), fX0_isOrder_19 N u = some (r, u1) → wc_W D dA h u H → wc_S u → va_S (CA h) s.heap H locs → lv_has ls 2 [] → W p l e ({ frames := 0, cells := 0, slots := 0, locals := 0 }) s m args below meth c H locs 0 0 (MQ below (wc_Qr D dA h (some (.int r)) u1) args s 0 0 (CA h)) (F0 m 19 ls []) := by
    intro u H locs ls hE hW hS hV hl
    unfold fX0_isOrder_19 at hE
    refine lv_iconst (v := (0 : Int32)) hx hb dX0_isOrder_19 rfl ?_
    exact w_20 _ _ _ _ _ hE hW hS hV (lv_sub hl [] rfl)
  unfold fX0_isOrder at hE
  refine lv_iload_n hx hb dX0_isOrder_0 rfl (lv_at hl 1 rfl) ?_
  refine lv_if_lt (tgt := 19) hx hb dX0_isOrder_1 (by decide) (fun c1 => ?_) (fun c1 => ?_)
  · have hE := z_t c1 hE
    exact w_19 _ _ _ _ hE hW hS hV (lv_sub hl [] rfl)
  · have hE := z_f c1 hE
    refine lv_iload_n hx hb dX0_isOrder_4 rfl (lv_at hl 1 rfl) ?_
    refine lv_aload_n hx hb dX0_isOrder_5 rfl (lv_at hl 0 rfl) ?_
    refine cgs_X0_19_0 C hW (st_0 hS) (sp_0_now hS) dX0_isOrder_6 ?_
    refine cg_X0_385_1 C hW (st_F hS wc_F3) dX0_isOrder_9 ?_
    refine lv_icmp_ge (tgt := 19) hx hb dX0_isOrder_12 (by decide) (fun c2 => ?_) (fun c2 => ?_)
    · have hE := z_t c2 hE
      exact w_19 _ _ _ _ hE hW hS hV (lv_sub hl [] rfl)
    · have hE := z_f c2 hE
      refine lv_iconst (v := (1 : Int32)) hx hb dX0_isOrder_15 rfl ?_
      refine lv_goto (tgt := 20) hx hb dX0_isOrder_16 (by decide) ?_
      exact w_20 _ _ _ _ _ hE hW hS hV (lv_sub hl [] rfl)
set_option maxHeartbeats 4000000 in
set_option maxRecDepth 100000 in
theorem kX0_cancel {l : Launch} {D : va_G} {dA : Nat → ClassId} {h N : Nat} {a1 : Int32} {u u1 : CS} {r : Int32} (hE : fX0_cancel N u a1 = some (r, u1)) : Met l yX0_cancel (ws_ yX0_cancel cX0_cancel 3 (some .int)) ({ frames := 1, cells := 0, slots := 0, locals := 21 }) (va_Pc [.ref (h + 0), .int a1] (wc_St D dA h u)) (wc_Qr D dA h (some (.int r)) u1) 0 0 (CA h) := by
  refine wc_met (own := RX0) (lv := [(0, .ref (h + 0)), (1, .int a1)]) (by decide) rfl rfl rfl ?_
  intro p e s m args below meth c ls C hr hlocks hW hS hV hl
  have hx := C.1.1
  have hb := C.1.2.1
  have w_30 : ∀ (n : Nat) (u : CS) (x2 : Int32) (H : Heap) (locs : List Loc) (ls : Array Slot), fX0_cancel_30 N n u x2 = some (r, u1) → wc_W D dA h u H → wc_S u → va_S (CA h) s.heap H locs → lv_has ls 3 [(0, .ref (h + 0)), (2, .int x2)] → W p l e ({ frames := 1, cells := 0, slots := 0, locals := 21 }) s m args below meth c H locs 0 0 (MQ below (wc_Qr D dA h (some (.int r)) u1) args s 0 0 (CA h)) (F0 m 30 ls []) := by
    intro n
    induction n with
    | zero =>
      intro u x2 H locs ls hE hW hS hV hl
      cases (show (none : Option (Int32 × CS)) = some (r, u1) from hE)
    | succ n ih =>
      intro u x2 H locs ls hE hW hS hV hl
      rw [fX0_cancel_30] at hE
      refine lv_iload_n hx hb dX0_cancel_30 rfl (lv_at hl 1 rfl) ?_
      refine lv_aload_n hx hb dX0_cancel_31 rfl (lv_at hl 0 rfl) ?_
      refine cgs_X0_19_0 C hW (st_0 hS) (sp_0_now hS) dX0_cancel_32 ?_
      refine cg_X0_385_1 C hW (st_F hS wc_F3) dX0_cancel_35 ?_
      refine lv_icmp_ge (tgt := 107) hx hb dX0_cancel_38 (by decide) (fun c10 => ?_) (fun c10 => ?_)
      · have hE := z_t c10 hE
        refine lv_aload_n hx hb dX0_cancel_107 rfl (lv_at hl 0 rfl) ?_
        refine cgs_X0_19_0 C hW (st_0 hS) (sp_0_now hS) dX0_cancel_108 ?_
        refine cg_X0_385_1 C hW (st_F hS wc_F3) dX0_cancel_111 ?_
        exact wc_iret C hr hlocks hW hS hV hE dX0_cancel_114
      · have hE := z_f c10 hE
        refine lv_aload_n hx hb dX0_cancel_41 rfl (lv_at hl 0 rfl) ?_
        refine cgs_X0_19_0 C hW (st_0 hS) (sp_0_now hS) dX0_cancel_42 ?_
        refine cgs_X0_388_1 C hW (st_F hS wc_F3) (sp_F_orderStand hS wc_F3) dX0_cancel_45 ?_
        refine lv_iload_n hx hb dX0_cancel_48 rfl (lv_at hl 1 rfl) ?_
        refine lv_aload_n hx hb dX0_cancel_49 rfl (lv_at hl 0 rfl) ?_
        refine cgs_X0_19_0 C hW (st_0 hS) (sp_0_now hS) dX0_cancel_50 ?_
        refine cgs_X0_388_1 C hW (st_F hS wc_F3) (sp_F_orderStand hS wc_F3) dX0_cancel_53 ?_
        refine lv_iload_n hx hb dX0_cancel_56 rfl (lv_at hl 1 rfl) ?_
        refine lv_iconst (v := (1 : Int32)) hx hb dX0_cancel_57 rfl ?_
        refine lv_iadd hx hb dX0_cancel_58 ?_
        refine wc_ldi C hW (st_F_orderStand hS wc_F3) hE dX0_cancel_59 (fun hE => ?_)
        refine z_nmi hE (fun v11 hE => ?_)
        refine wc_sti (J := wc_S) C hW hV (st_F_orderStand hS wc_F3) hS.uA hE dX0_cancel_60 (fun u12 H locs hE hW hS hV => ?_)
        refine lv_aload_n hx hb dX0_cancel_61 rfl (lv_at hl 0 rfl) ?_
        refine cgs_X0_19_0 C hW (st_0 hS) (sp_0_now hS) dX0_cancel_62 ?_
        refine cgs_X0_391_1 C hW (st_F hS wc_F3) (sp_F_orderSort hS wc_F3) dX0_cancel_65 ?_
        refine lv_iload_n hx hb dX0_cancel_68 rfl (lv_at hl 1 rfl) ?_
        refine lv_aload_n hx hb dX0_cancel_69 rfl (lv_at hl 0 rfl) ?_
        refine cgs_X0_19_0 C hW (st_0 hS) (sp_0_now hS) dX0_cancel_70 ?_
        refine cgs_X0_391_1 C hW (st_F hS wc_F3) (sp_F_orderSort hS wc_F3) dX0_cancel_73 ?_
        refine lv_iload_n hx hb dX0_cancel_76 rfl (lv_at hl 1 rfl) ?_
        refine lv_iconst (v := (1 : Int32)) hx hb dX0_cancel_77 rfl ?_
        refine lv_iadd hx hb dX0_cancel_78 ?_
        refine wc_ldi C hW (st_F_orderSort hS wc_F3) hE dX0_cancel_79 (fun hE => ?_)
        refine z_nmi hE (fun v13 hE => ?_)
        refine wc_sti (J := wc_S) C hW hV (st_F_orderSort hS wc_F3) hS.uA hE dX0_cancel_80 (fun u14 H locs hE hW hS hV => ?_)
        refine lv_aload_n hx hb dX0_cancel_81 rfl (lv_at hl 0 rfl) ?_
        refine cgs_X0_19_0 C hW (st_0 hS) (sp_0_now hS) dX0_cancel_82 ?_
        refine cgs_X0_394_1 C hW (st_F hS wc_F3) (sp_F_orderTold hS wc_F3) dX0_cancel_85 ?_
        refine lv_iload_n hx hb dX0_cancel_88 rfl (lv_at hl 1 rfl) ?_
        refine lv_aload_n hx hb dX0_cancel_89 rfl (lv_at hl 0 rfl) ?_
        refine cgs_X0_19_0 C hW (st_0 hS) (sp_0_now hS) dX0_cancel_90 ?_
        refine cgs_X0_394_1 C hW (st_F hS wc_F3) (sp_F_orderTold hS wc_F3) dX0_cancel_93 ?_
        refine lv_iload_n hx hb dX0_cancel_96 rfl (lv_at hl 1 rfl) ?_
        refine lv_iconst (v := (1 : Int32)) hx hb dX0_cancel_97 rfl ?_
        refine lv_iadd hx hb dX0_cancel_98 ?_
        refine wc_ldi C hW (st_F_orderTold hS wc_F3) hE dX0_cancel_99 (fun hE => ?_)
        refine z_nmi hE (fun v15 hE => ?_)
        refine wc_sti (J := wc_S) C hW hV (st_F_orderTold hS wc_F3) hS.uA hE dX0_cancel_100 (fun u16 H locs hE hW hS hV => ?_)
        refine z_iinc (v := (x2 + (1 : Int32))) (lw := (fun y_ => [(2, .int y_), (0, .ref (h + 0))])) hx hb dX0_cancel_101 hl hE (k := 1) rfl rfl (by decide) (fun _ => rfl) (fun z17 ls hE hl => ?_)
        refine lv_goto (tgt := 30) hx hb dX0_cancel_104 (by decide) ?_
        exact ih _ _ _ _ _ hE hW hS hV (lv_sub hl [1, 0] rfl)
  unfold fX0_cancel at hE
  refine lv_aload_n hx hb dX0_cancel_0 rfl (lv_at hl 0 rfl) ?_
  refine lv_iload_n hx hb dX0_cancel_1 rfl (lv_at hl 1 rfl) ?_
  obtain ⟨r18, u19, hc, hE⟩ := o_bd2_some hE
  refine cc_X0_399 C hW hS hV (st_0 hS) (kX0_isOrder hc) rfl rfl ⟨Nat.le_of_ble_eq_true rfl, Nat.le_of_ble_eq_true rfl⟩ ⟨Nat.le_refl 0, Nat.le_refl 0⟩ dX0_cancel_2 hl.1 (Nat.le_of_ble_eq_true rfl) (fun H locs hW hS hV => ?_)
  refine lv_if_ne (tgt := 15) hx hb dX0_cancel_5 (by decide) (fun c20 => ?_) (fun c20 => ?_)
  · have hE := z_f c20 hE
    refine lv_aload_n hx hb dX0_cancel_15 rfl (lv_at hl 0 rfl) ?_
    refine cgs_X0_19_0 C hW (st_0 hS) (sp_0_now hS) dX0_cancel_16 ?_
    refine lv_dup hx hb dX0_cancel_19 rfl ?_
    refine cg_X0_385_1 C hW (st_F hS wc_F3) dX0_cancel_20 ?_
    refine lv_iconst (v := (1 : Int32)) hx hb dX0_cancel_23 rfl ?_
    refine lv_isub hx hb dX0_cancel_24 ?_
    refine cp_X0_385_1 (J := wc_S) C hW hV (st_F hS wc_F3) hS.uI hE dX0_cancel_25 (fun u21 H locs hE hW hS hV => ?_)
    refine lv_iload_n hx hb dX0_cancel_28 rfl (lv_at hl 1 rfl) ?_
    refine lv_istore_n (lv' := [(2, .int a1), (0, .ref (h + 0)), (1, .int a1)]) hx hb dX0_cancel_29 rfl hl (by decide) rfl (fun ls hl => ?_)
    exact w_30 N _ _ _ _ _ hE hW hS hV (lv_sub hl [1, 0] rfl)
  · have hE := z_t c20 hE
    refine lv_aload_n hx hb dX0_cancel_8 rfl (lv_at hl 0 rfl) ?_
    refine lv_bipush (v := (-3 : Int32)) hx hb dX0_cancel_9 rfl ?_
    obtain ⟨r22, u23, hc, hE⟩ := o_bd2_some hE
    refine cc_X0_118 C hW hS hV (st_0 hS) (kX0_refuse hc) rfl rfl ⟨Nat.le_of_ble_eq_true rfl, Nat.le_of_ble_eq_true rfl⟩ ⟨Nat.le_refl 0, Nat.le_refl 0⟩ dX0_cancel_11 hl.1 (Nat.le_of_ble_eq_true rfl) (fun H locs hW hS hV => ?_)
    exact wc_iret C hr hlocks hW hS hV hE dX0_cancel_14
set_option maxHeartbeats 4000000 in
set_option maxRecDepth 100000 in
theorem kX0_ordered {l : Launch} {D : va_G} {dA : Nat → ClassId} {h N : Nat} {a1 : Int32} {a2 : Int32} {u u1 : CS} {r : Int32} (hE : fX0_ordered N u a1 a2 = some (r, u1)) : Met l yX0_ordered (ws_ yX0_ordered cX0_ordered 3 (some .int)) ({ frames := 1, cells := 0, slots := 0, locals := 21 }) (va_Pc [.ref (h + 0), .int a1, .int a2] (wc_St D dA h u)) (wc_Qr D dA h (some (.int r)) u1) 0 0 (CA h) := by
  refine wc_met (own := RX0) (lv := [(0, .ref (h + 0)), (1, .int a1), (2, .int a2)]) (by decide) rfl rfl rfl ?_
  intro p e s m args below meth c ls C hr hlocks hW hS hV hl
  have hx := C.1.1
  have hb := C.1.2.1
  unfold fX0_ordered at hE
  refine lv_aload_n hx hb dX0_ordered_0 rfl (lv_at hl 0 rfl) ?_
  refine lv_iload_n hx hb dX0_ordered_1 rfl (lv_at hl 1 rfl) ?_
  obtain ⟨r10, u11, hc, hE⟩ := o_bd2_some hE
  refine cc_X0_399 C hW hS hV (st_0 hS) (kX0_isOrder hc) rfl rfl ⟨Nat.le_of_ble_eq_true rfl, Nat.le_of_ble_eq_true rfl⟩ ⟨Nat.le_refl 0, Nat.le_refl 0⟩ dX0_ordered_2 hl.1 (Nat.le_of_ble_eq_true rfl) (fun H locs hW hS hV => ?_)
  refine lv_if_ne (tgt := 15) hx hb dX0_ordered_5 (by decide) (fun c12 => ?_) (fun c12 => ?_)
  · have hE := z_f c12 hE
    refine lv_iload_n hx hb dX0_ordered_15 rfl (lv_at hl 2 rfl) ?_
    by_cases c13 : a2 = (0 : Int32)
    · have hE := z_t c13 hE
      refine lv_tableIn (tgt := 44) hx hb dX0_ordered_16 (by rw [c13]; decide) (by rw [c13]; decide) (by rw [c13]; rfl) (by decide) ?_
      refine lv_aload_n hx hb dX0_ordered_44 rfl (lv_at hl 0 rfl) ?_
      refine cgs_X0_19_0 C hW (st_0 hS) (sp_0_now hS) dX0_ordered_45 ?_
      refine cgs_X0_388_1 C hW (st_F hS wc_F3) (sp_F_orderStand hS wc_F3) dX0_ordered_48 ?_
      refine lv_iload_n hx hb dX0_ordered_51 rfl (lv_at hl 1 rfl) ?_
      refine wc_ldi C hW (st_F_orderStand hS wc_F3) hE dX0_ordered_52 (fun hE => ?_)
      refine z_nmi hE (fun v14 hE => ?_)
      exact wc_iret C hr hlocks hW hS hV hE dX0_ordered_53
    have hE := z_f c13 hE
    by_cases c15 : a2 = (1 : Int32)
    · have hE := z_t c15 hE
      refine lv_tableIn (tgt := 54) hx hb dX0_ordered_16 (by rw [c15]; decide) (by rw [c15]; decide) (by rw [c15]; rfl) (by decide) ?_
      refine lv_aload_n hx hb dX0_ordered_54 rfl (lv_at hl 0 rfl) ?_
      refine cgs_X0_19_0 C hW (st_0 hS) (sp_0_now hS) dX0_ordered_55 ?_
      refine cgs_X0_391_1 C hW (st_F hS wc_F3) (sp_F_orderSort hS wc_F3) dX0_ordered_58 ?_
      refine lv_iload_n hx hb dX0_ordered_61 rfl (lv_at hl 1 rfl) ?_
      refine wc_ldi C hW (st_F_orderSort hS wc_F3) hE dX0_ordered_62 (fun hE => ?_)
      refine z_nmi hE (fun v16 hE => ?_)
      exact wc_iret C hr hlocks hW hS hV hE dX0_ordered_63
    have hE := z_f c15 hE
    by_cases c17 : a2 = (2 : Int32)
    · have hE := z_t c17 hE
      refine lv_tableIn (tgt := 64) hx hb dX0_ordered_16 (by rw [c17]; decide) (by rw [c17]; decide) (by rw [c17]; rfl) (by decide) ?_
      refine lv_aload_n hx hb dX0_ordered_64 rfl (lv_at hl 0 rfl) ?_
      refine cgs_X0_19_0 C hW (st_0 hS) (sp_0_now hS) dX0_ordered_65 ?_
      refine cgs_X0_394_1 C hW (st_F hS wc_F3) (sp_F_orderTold hS wc_F3) dX0_ordered_68 ?_
      refine lv_iload_n hx hb dX0_ordered_71 rfl (lv_at hl 1 rfl) ?_
      refine wc_ldi C hW (st_F_orderTold hS wc_F3) hE dX0_ordered_72 (fun hE => ?_)
      refine z_nmi hE (fun v18 hE => ?_)
      exact wc_iret C hr hlocks hW hS hV hE dX0_ordered_73
    have hE := z_f c17 hE
    refine lv_tableOut (tgt := 74) hx hb dX0_ordered_16 (z_swOut (fun k_ h1_ h2_ => ?_)) (by decide) ?_
    · rcases (show k_ = 0 ∨ k_ = 1 ∨ k_ = 2 by omega) with rfl | rfl | rfl
      · exact c13
      · exact c15
      · exact c17
    refine lv_aload_n hx hb dX0_ordered_74 rfl (lv_at hl 0 rfl) ?_
    refine lv_bipush (v := (-7 : Int32)) hx hb dX0_ordered_75 rfl ?_
    obtain ⟨r19, u20, hc, hE⟩ := o_bd2_some hE
    refine cc_X0_118 C hW hS hV (st_0 hS) (kX0_refuse hc) rfl rfl ⟨Nat.le_of_ble_eq_true rfl, Nat.le_of_ble_eq_true rfl⟩ ⟨Nat.le_refl 0, Nat.le_refl 0⟩ dX0_ordered_77 hl.1 (Nat.le_of_ble_eq_true rfl) (fun H locs hW hS hV => ?_)
    exact wc_iret C hr hlocks hW hS hV hE dX0_ordered_80
  · have hE := z_t c12 hE
    refine lv_aload_n hx hb dX0_ordered_8 rfl (lv_at hl 0 rfl) ?_
    refine lv_bipush (v := (-3 : Int32)) hx hb dX0_ordered_9 rfl ?_
    obtain ⟨r21, u22, hc, hE⟩ := o_bd2_some hE
    refine cc_X0_118 C hW hS hV (st_0 hS) (kX0_refuse hc) rfl rfl ⟨Nat.le_of_ble_eq_true rfl, Nat.le_of_ble_eq_true rfl⟩ ⟨Nat.le_refl 0, Nat.le_refl 0⟩ dX0_ordered_11 hl.1 (Nat.le_of_ble_eq_true rfl) (fun H locs hW hS hV => ?_)
    exact wc_iret C hr hlocks hW hS hV hE dX0_ordered_14
set_option maxHeartbeats 4000000 in
set_option maxRecDepth 100000 in
theorem kX0_sow {l : Launch} {D : va_G} {dA : Nat → ClassId} {h N : Nat} {a1 : Int32} {a2 : Int32} {u u1 : CS} {r : Int32} (hE : fX0_sow N u a1 a2 = some (r, u1)) : Met l yX0_sow (ws_ yX0_sow cX0_sow 4 (some .int)) ({ frames := 1, cells := 0, slots := 0, locals := 25 }) (va_Pc [.ref (h + 0), .int a1, .int a2] (wc_St D dA h u)) (wc_Qr D dA h (some (.int r)) u1) 0 0 (CA h) := by
  refine wc_met (own := RX0) (lv := [(0, .ref (h + 0)), (1, .int a1), (2, .int a2)]) (by decide) rfl rfl rfl ?_
  intro p e s m args below meth c ls C hr hlocks hW hS hV hl
  have hx := C.1.1
  have hb := C.1.2.1
  unfold fX0_sow at hE
  refine lv_iload_n hx hb dX0_sow_0 rfl (lv_at hl 1 rfl) ?_
  refine lv_i2l hx hb dX0_sow_1 rfl ?_
  refine lv_lconst (v := (0 : Int64)) hx hb dX0_sow_2 rfl ?_
  refine lv_ldc2 (v := (3 : Int64)) hx hb C.1.2.2.2.1 (C.1.2.2.2.2 _ q784) dX0_sow_3 ?_
  obtain ⟨r13, hc, hE⟩ := o_bd_some hE
  refine sc_X0_31 C.1 (kX0_isIn hc) rfl rfl ⟨Nat.le_of_ble_eq_true rfl, Nat.le_of_ble_eq_true rfl⟩ ⟨Nat.le_refl 0, Nat.le_refl 0⟩ dX0_sow_6 hl.1 (Nat.le_of_ble_eq_true rfl) ?_
  refine lv_if_ne (tgt := 19) hx hb dX0_sow_9 (by decide) (fun c14 => ?_) (fun c14 => ?_)
  · have hE := z_f c14 hE
    refine lv_iload_n hx hb dX0_sow_19 rfl (lv_at hl 2 rfl) ?_
    refine lv_i2l hx hb dX0_sow_20 rfl ?_
    refine lv_lconst (v := (1 : Int64)) hx hb dX0_sow_21 rfl ?_
    refine lv_ldc2 (v := (999 : Int64)) hx hb C.1.2.2.2.1 (C.1.2.2.2.2 _ q684) dX0_sow_22 ?_
    obtain ⟨r15, hc, hE⟩ := o_bd_some hE
    refine sc_X0_31 C.1 (kX0_isIn hc) rfl rfl ⟨Nat.le_of_ble_eq_true rfl, Nat.le_of_ble_eq_true rfl⟩ ⟨Nat.le_refl 0, Nat.le_refl 0⟩ dX0_sow_25 hl.1 (Nat.le_of_ble_eq_true rfl) ?_
    refine lv_if_ne (tgt := 38) hx hb dX0_sow_28 (by decide) (fun c16 => ?_) (fun c16 => ?_)
    · have hE := z_f c16 hE
      refine lv_aload_n hx hb dX0_sow_38 rfl (lv_at hl 0 rfl) ?_
      refine cgs_X0_19_0 C hW (st_0 hS) (sp_0_now hS) dX0_sow_39 ?_
      refine cgs_X0_402_1 C hW (st_F hS wc_F3) (sp_F_sown hS wc_F3) dX0_sow_42 ?_
      refine lv_iconst (v := (3 : Int32)) hx hb dX0_sow_45 rfl ?_
      refine lv_iload_n hx hb dX0_sow_46 rfl (lv_at hl 1 rfl) ?_
      refine lv_imul hx hb dX0_sow_47 ?_
      refine wc_ldi C hW (st_F_sown hS wc_F3) hE dX0_sow_48 (fun hE => ?_)
      refine z_nmi hE (fun v17 hE => ?_)
      refine lv_aload_n hx hb dX0_sow_49 rfl (lv_at hl 0 rfl) ?_
      refine cgs_X0_19_0 C hW (st_0 hS) (sp_0_now hS) dX0_sow_50 ?_
      refine cgs_X0_402_1 C hW (st_F hS wc_F3) (sp_F_sown hS wc_F3) dX0_sow_53 ?_
      refine lv_iconst (v := (3 : Int32)) hx hb dX0_sow_56 rfl ?_
      refine lv_iload_n hx hb dX0_sow_57 rfl (lv_at hl 1 rfl) ?_
      refine lv_imul hx hb dX0_sow_58 ?_
      refine lv_iconst (v := (1 : Int32)) hx hb dX0_sow_59 rfl ?_
      refine lv_iadd hx hb dX0_sow_60 ?_
      refine wc_ldi C hW (st_F_sown hS wc_F3) hE dX0_sow_61 (fun hE => ?_)
      refine z_nmi hE (fun v18 hE => ?_)
      refine lv_iadd hx hb dX0_sow_62 ?_
      refine lv_aload_n hx hb dX0_sow_63 rfl (lv_at hl 0 rfl) ?_
      refine cgs_X0_19_0 C hW (st_0 hS) (sp_0_now hS) dX0_sow_64 ?_
      refine cgs_X0_402_1 C hW (st_F hS wc_F3) (sp_F_sown hS wc_F3) dX0_sow_67 ?_
      refine lv_iconst (v := (3 : Int32)) hx hb dX0_sow_70 rfl ?_
      refine lv_iload_n hx hb dX0_sow_71 rfl (lv_at hl 1 rfl) ?_
      refine lv_imul hx hb dX0_sow_72 ?_
      refine lv_iconst (v := (2 : Int32)) hx hb dX0_sow_73 rfl ?_
      refine lv_iadd hx hb dX0_sow_74 ?_
      refine wc_ldi C hW (st_F_sown hS wc_F3) hE dX0_sow_75 (fun hE => ?_)
      refine z_nmi hE (fun v19 hE => ?_)
      refine lv_iadd hx hb dX0_sow_76 ?_
      refine lv_iload_n hx hb dX0_sow_77 rfl (lv_at hl 2 rfl) ?_
      refine lv_iadd hx hb dX0_sow_78 ?_
      refine z_nmi hE (fun z20 hE => ?_)
      refine lv_istore_n (lv' := [(3, .int z20), (0, .ref (h + 0)), (1, .int a1), (2, .int a2)]) hx hb dX0_sow_79 rfl hl (by decide) rfl (fun ls hl => ?_)
      refine lv_iload_n hx hb dX0_sow_80 rfl (lv_at hl 0 rfl) ?_
      refine lv_sipush (v := (9999 : Int32)) hx hb dX0_sow_81 rfl ?_
      refine lv_icmp_le (tgt := 94) hx hb dX0_sow_84 (by decide) (fun c21 => ?_) (fun c21 => ?_)
      · have hE := z_t c21 hE
        refine lv_aload_n hx hb dX0_sow_94 rfl (lv_at hl 1 rfl) ?_
        refine cgs_X0_19_0 C hW (st_0 hS) (sp_0_now hS) dX0_sow_95 ?_
        refine cgs_X0_402_1 C hW (st_F hS wc_F3) (sp_F_sown hS wc_F3) dX0_sow_98 ?_
        refine lv_iconst (v := (3 : Int32)) hx hb dX0_sow_101 rfl ?_
        refine lv_iload_n hx hb dX0_sow_102 rfl (lv_at hl 2 rfl) ?_
        refine lv_imul hx hb dX0_sow_103 ?_
        refine lv_iconst (v := (2 : Int32)) hx hb dX0_sow_104 rfl ?_
        refine lv_iadd hx hb dX0_sow_105 ?_
        refine lv_dup2_11 hx hb dX0_sow_106 rfl rfl ?_
        refine wc_ldi C hW (st_F_sown hS wc_F3) hE dX0_sow_107 (fun hE => ?_)
        refine z_nmi hE (fun v22 hE => ?_)
        refine lv_iload_n hx hb dX0_sow_108 rfl (lv_at hl 3 rfl) ?_
        refine lv_iadd hx hb dX0_sow_109 ?_
        refine wc_sti (J := wc_S) C hW hV (st_F_sown hS wc_F3) hS.uA hE dX0_sow_110 (fun u23 H locs hE hW hS hV => ?_)
        refine lv_iload_n hx hb dX0_sow_111 rfl (lv_at hl 0 rfl) ?_
        exact wc_iret C hr hlocks hW hS hV hE dX0_sow_112
      · have hE := z_f c21 hE
        refine lv_aload_n hx hb dX0_sow_87 rfl (lv_at hl 1 rfl) ?_
        refine lv_bipush (v := (-8 : Int32)) hx hb dX0_sow_88 rfl ?_
        obtain ⟨r24, u25, hc, hE⟩ := o_bd2_some hE
        refine cc_X0_118 C hW hS hV (st_0 hS) (kX0_refuse hc) rfl rfl ⟨Nat.le_of_ble_eq_true rfl, Nat.le_of_ble_eq_true rfl⟩ ⟨Nat.le_refl 0, Nat.le_refl 0⟩ dX0_sow_90 hl.1 (Nat.le_of_ble_eq_true rfl) (fun H locs hW hS hV => ?_)
        exact wc_iret C hr hlocks hW hS hV hE dX0_sow_93
    · have hE := z_t c16 hE
      refine lv_aload_n hx hb dX0_sow_31 rfl (lv_at hl 0 rfl) ?_
      refine lv_bipush (v := (-7 : Int32)) hx hb dX0_sow_32 rfl ?_
      obtain ⟨r26, u27, hc, hE⟩ := o_bd2_some hE
      refine cc_X0_118 C hW hS hV (st_0 hS) (kX0_refuse hc) rfl rfl ⟨Nat.le_of_ble_eq_true rfl, Nat.le_of_ble_eq_true rfl⟩ ⟨Nat.le_refl 0, Nat.le_refl 0⟩ dX0_sow_34 hl.1 (Nat.le_of_ble_eq_true rfl) (fun H locs hW hS hV => ?_)
      exact wc_iret C hr hlocks hW hS hV hE dX0_sow_37
  · have hE := z_t c14 hE
    refine lv_aload_n hx hb dX0_sow_12 rfl (lv_at hl 0 rfl) ?_
    refine lv_bipush (v := (-5 : Int32)) hx hb dX0_sow_13 rfl ?_
    obtain ⟨r28, u29, hc, hE⟩ := o_bd2_some hE
    refine cc_X0_118 C hW hS hV (st_0 hS) (kX0_refuse hc) rfl rfl ⟨Nat.le_of_ble_eq_true rfl, Nat.le_of_ble_eq_true rfl⟩ ⟨Nat.le_refl 0, Nat.le_refl 0⟩ dX0_sow_15 hl.1 (Nat.le_of_ble_eq_true rfl) (fun H locs hW hS hV => ?_)
    exact wc_iret C hr hlocks hW hS hV hE dX0_sow_18
end CG3
