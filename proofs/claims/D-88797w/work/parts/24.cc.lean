section CG2
variable {p : Program} {l : Launch} {e : Env} {R : Room} {s : State} {m : MethodId} {args : Array Value} {below : List Frame} {meth : Method} {c : Code} {H : Heap} {locs : List Loc} {cells slots : Nat} {Q : State → Prop} {cc : ByteArray} {nL pc : Nat} {ls : Array Slot} {rest : List Value} {D : va_G} {dA : Nat → ClassId} {h : Nat} {H0 : Heap}
theorem cc_X0_223 {a1 : Int32} {r : Int32} {u u1 : CS} {rm : Room} (C : CC p m c cc nL s args D dA RX0) (hW : wc_W D dA h u H) (hS : wc_S u) (hV : va_S (CA h) H0 H locs) (ht : wc_T u 0 = some (.inl 0)) (hM : Met l yX0_isVillage (ws_ yX0_isVillage cX0_isVillage 2 (some .boolean)) rm (va_Pc [.ref (h + 0), .int a1] (wc_St D dA h u)) (wc_Qr D dA h (some (.int r)) u1) 0 0 (CA h)) (hrc : rm.cells = 0) (hrs : rm.slots = 0) (hR : rm.frames + 1 ≤ R.frames ∧ 8 + (2 + 11) + rm.locals ≤ R.locals) (hf : cells + 0 ≤ R.cells ∧ slots + 0 ≤ R.slots) (d : decode cc pc = .ok (.invokevirtual 223, 3)) (hsz : ls.size = nL) (hro : (rest.map fun v => v.category).sum ≤ 8) (kk : ∀ (H1 : Heap) (locs1 : List Loc), wc_W D dA h u1 H1 → wc_S u1 → va_S (CA h) H0 H1 locs1 → W p l e R s m args below meth c H1 locs1 cells slots Q (F0 m (pc + 3) ls (.int r :: rest))) : W p l e R s m args below meth c H locs cells slots Q (F0 m pc ls (.int a1 :: .ref (h + 0) :: rest)) :=
  wc_call (v := (some (.int r))) (va_runV (As := [.int a1]) (rest := rest) C.1 hM (cwV 1 C.1.2.2.2.2 (lw_V q810 q812 qs16 q166 q813) rfl hrc hrs (by decide +kernel) hR) (wc_preV (q := (RX0, TX0, 27)) C.2 hW hS ht rfl _) rfl rfl hsz rfl (lv_room hro) d hf) hV (fun _ z => z) (fun H1 locs1 a b c0 _ _ => kk H1 locs1 a b c0)
set_option maxHeartbeats 4000000 in
set_option maxRecDepth 100000 in
theorem kX0_isVillage {l : Launch} {D : va_G} {dA : Nat → ClassId} {h N : Nat} {a1 : Int32} {u u1 : CS} {r : Int32} (hE : fX0_isVillage N u a1 = some (r, u1)) : Met l yX0_isVillage (ws_ yX0_isVillage cX0_isVillage 2 (some .boolean)) ({ frames := 0, cells := 0, slots := 0, locals := 0 }) (va_Pc [.ref (h + 0), .int a1] (wc_St D dA h u)) (wc_Qr D dA h (some (.int r)) u1) 0 0 (CA h) := by
  refine wc_met (own := RX0) (lv := [(0, .ref (h + 0)), (1, .int a1)]) (by decide) rfl rfl rfl ?_
  intro p e s m args below meth c ls C hr hlocks hW hS hV hl
  have hx := C.1.1
  have hb := C.1.2.1
  have w_20 : ∀ (u : CS) (y0 : Int32) (H : Heap) (locs : List Loc) (ls : Array Slot), fX0_isVillage_20 N u y0 = some (r, u1) → wc_W D dA h u H → wc_S u → va_S (CA h) s.heap H locs → lv_has ls 2 [] → W p l e ({ frames := 0, cells := 0, slots := 0, locals := 0 }) s m args below meth c H locs 0 0 (MQ below (wc_Qr D dA h (some (.int r)) u1) args s 0 0 (CA h)) (F0 m 20 ls [.int y0]) := by
    intro u y0 H locs ls hE hW hS hV hl
    unfold fX0_isVillage_20 at hE
    obtain ⟨hb1, hE⟩ := o_bl_some hE
    exact wc_zret C hr hlocks hW hS hV hb1 hE dX0_isVillage_20
  have w_19 : ∀ (u : CS) (H : Heap) (locs : List Loc) (ls : Array Slot), fX0_isVillage_19 N u = some (r, u1) → wc_W D dA h u H → wc_S u → va_S (CA h) s.heap H locs → lv_has ls 2 [] → W p l e ({ frames := 0, cells := 0, slots := 0, locals := 0 }) s m args below meth c H locs 0 0 (MQ below (wc_Qr D dA h (some (.int r)) u1) args s 0 0 (CA h)) (F0 m 19 ls []) := by
    intro u H locs ls hE hW hS hV hl
    unfold fX0_isVillage_19 at hE
    refine lv_iconst (v := (0 : Int32)) hx hb dX0_isVillage_19 rfl ?_
    exact w_20 _ _ _ _ _ hE hW hS hV (lv_sub hl [] rfl)
  unfold fX0_isVillage at hE
  refine lv_iload_n hx hb dX0_isVillage_0 rfl (lv_at hl 1 rfl) ?_
  refine lv_if_lt (tgt := 19) hx hb dX0_isVillage_1 (by decide) (fun c1 => ?_) (fun c1 => ?_)
  · have hE := z_t c1 hE
    exact w_19 _ _ _ _ hE hW hS hV (lv_sub hl [] rfl)
  · have hE := z_f c1 hE
    refine lv_iload_n hx hb dX0_isVillage_4 rfl (lv_at hl 1 rfl) ?_
    refine lv_aload_n hx hb dX0_isVillage_5 rfl (lv_at hl 0 rfl) ?_
    refine cgs_X0_19_0 C hW (st_0 hS) (sp_0_now hS) dX0_isVillage_6 ?_
    refine cg_X0_35_1 C hW (st_F hS wc_F3) dX0_isVillage_9 ?_
    refine lv_icmp_ge (tgt := 19) hx hb dX0_isVillage_12 (by decide) (fun c2 => ?_) (fun c2 => ?_)
    · have hE := z_t c2 hE
      exact w_19 _ _ _ _ hE hW hS hV (lv_sub hl [] rfl)
    · have hE := z_f c2 hE
      refine lv_iconst (v := (1 : Int32)) hx hb dX0_isVillage_15 rfl ?_
      refine lv_goto (tgt := 20) hx hb dX0_isVillage_16 (by decide) ?_
      exact w_20 _ _ _ _ _ hE hW hS hV (lv_sub hl [] rfl)
set_option maxHeartbeats 4000000 in
set_option maxRecDepth 100000 in
theorem kX0_people {l : Launch} {D : va_G} {dA : Nat → ClassId} {h N : Nat} {a1 : Int32} {a2 : Int32} {a3 : Int32} {u u1 : CS} {r : Int32} (hE : fX0_people N u a1 a2 a3 = some (r, u1)) : Met l yX0_people (ws_ yX0_people cX0_people 5 (some .int)) ({ frames := 1, cells := 0, slots := 0, locals := 25 }) (va_Pc [.ref (h + 0), .int a1, .int a2, .int a3] (wc_St D dA h u)) (wc_Qr D dA h (some (.int r)) u1) 0 0 (CA h) := by
  refine wc_met (own := RX0) (lv := [(0, .ref (h + 0)), (1, .int a1), (2, .int a2), (3, .int a3)]) (by decide) rfl rfl rfl ?_
  intro p e s m args below meth c ls C hr hlocks hW hS hV hl
  have hx := C.1.1
  have hb := C.1.2.1
  have w_39 : ∀ (u : CS) (H : Heap) (locs : List Loc) (ls : Array Slot), fX0_people_39 N u = some (r, u1) → wc_W D dA h u H → wc_S u → va_S (CA h) s.heap H locs → lv_has ls 5 [(0, .ref (h + 0))] → W p l e ({ frames := 1, cells := 0, slots := 0, locals := 25 }) s m args below meth c H locs 0 0 (MQ below (wc_Qr D dA h (some (.int r)) u1) args s 0 0 (CA h)) (F0 m 39 ls []) := by
    intro u H locs ls hE hW hS hV hl
    unfold fX0_people_39 at hE
    refine lv_aload_n hx hb dX0_people_39 rfl (lv_at hl 0 rfl) ?_
    refine lv_bipush (v := (-7 : Int32)) hx hb dX0_people_40 rfl ?_
    obtain ⟨r10, u11, hc, hE⟩ := o_bd2_some hE
    refine cc_X0_118 C hW hS hV (st_0 hS) (kX0_refuse hc) rfl rfl ⟨Nat.le_of_ble_eq_true rfl, Nat.le_of_ble_eq_true rfl⟩ ⟨Nat.le_refl 0, Nat.le_refl 0⟩ dX0_people_42 hl.1 (Nat.le_of_ble_eq_true rfl) (fun H locs hW hS hV => ?_)
    exact wc_iret C hr hlocks hW hS hV hE dX0_people_45
  unfold fX0_people at hE
  refine lv_aload_n hx hb dX0_people_0 rfl (lv_at hl 0 rfl) ?_
  refine lv_iload_n hx hb dX0_people_1 rfl (lv_at hl 1 rfl) ?_
  obtain ⟨r12, u13, hc, hE⟩ := o_bd2_some hE
  refine cc_X0_223 C hW hS hV (st_0 hS) (kX0_isVillage hc) rfl rfl ⟨Nat.le_of_ble_eq_true rfl, Nat.le_of_ble_eq_true rfl⟩ ⟨Nat.le_refl 0, Nat.le_refl 0⟩ dX0_people_2 hl.1 (Nat.le_of_ble_eq_true rfl) (fun H locs hW hS hV => ?_)
  refine lv_if_ne (tgt := 15) hx hb dX0_people_5 (by decide) (fun c14 => ?_) (fun c14 => ?_)
  · have hE := z_f c14 hE
    refine lv_iload_n hx hb dX0_people_15 rfl (lv_at hl 2 rfl) ?_
    refine lv_i2l hx hb dX0_people_16 rfl ?_
    refine lv_lconst (v := (0 : Int64)) hx hb dX0_people_17 rfl ?_
    refine lv_ldc2 (v := (999 : Int64)) hx hb C.1.2.2.2.1 (C.1.2.2.2.2 _ q684) dX0_people_18 ?_
    obtain ⟨r15, hc, hE⟩ := o_bd_some hE
    refine sc_X0_31 C.1 (kX0_isIn hc) rfl rfl ⟨Nat.le_of_ble_eq_true rfl, Nat.le_of_ble_eq_true rfl⟩ ⟨Nat.le_refl 0, Nat.le_refl 0⟩ dX0_people_21 hl.1 (Nat.le_of_ble_eq_true rfl) ?_
    refine lv_if_eq (tgt := 39) hx hb dX0_people_24 (by decide) (fun c16 => ?_) (fun c16 => ?_)
    · have hE := z_t c16 hE
      exact w_39 _ _ _ _ hE hW hS hV (lv_sub hl [0] rfl)
    · have hE := z_f c16 hE
      refine lv_iload_n hx hb dX0_people_27 rfl (lv_at hl 3 rfl) ?_
      refine lv_i2l hx hb dX0_people_28 rfl ?_
      refine lv_lconst (v := (0 : Int64)) hx hb dX0_people_29 rfl ?_
      refine lv_ldc2 (v := (999 : Int64)) hx hb C.1.2.2.2.1 (C.1.2.2.2.2 _ q684) dX0_people_30 ?_
      obtain ⟨r17, hc, hE⟩ := o_bd_some hE
      refine sc_X0_31 C.1 (kX0_isIn hc) rfl rfl ⟨Nat.le_of_ble_eq_true rfl, Nat.le_of_ble_eq_true rfl⟩ ⟨Nat.le_refl 0, Nat.le_refl 0⟩ dX0_people_33 hl.1 (Nat.le_of_ble_eq_true rfl) ?_
      refine lv_if_ne (tgt := 46) hx hb dX0_people_36 (by decide) (fun c18 => ?_) (fun c18 => ?_)
      · have hE := z_f c18 hE
        refine lv_aload_n hx hb dX0_people_46 rfl (lv_at hl 0 rfl) ?_
        refine cgs_X0_19_0 C hW (st_0 hS) (sp_0_now hS) dX0_people_47 ?_
        refine cgs_X0_217_1 C hW (st_F hS wc_F3) (sp_F_hearths hS wc_F3) dX0_people_50 ?_
        refine lv_iload_n hx hb dX0_people_53 rfl (lv_at hl 1 rfl) ?_
        refine wc_ldi C hW (st_F_hearths hS wc_F3) hE dX0_people_54 (fun hE => ?_)
        refine z_nmi hE (fun v19 hE => ?_)
        refine lv_istore (lv' := [(4, .int v19), (0, .ref (h + 0)), (1, .int a1), (2, .int a2), (3, .int a3)]) hx hb dX0_people_55 hl (by decide) rfl (fun ls hl => ?_)
        refine lv_aload_n hx hb dX0_people_57 rfl (lv_at hl 1 rfl) ?_
        refine cgs_X0_19_0 C hW (st_0 hS) (sp_0_now hS) dX0_people_58 ?_
        refine cgs_X0_217_1 C hW (st_F hS wc_F3) (sp_F_hearths hS wc_F3) dX0_people_61 ?_
        refine lv_iload_n hx hb dX0_people_64 rfl (lv_at hl 2 rfl) ?_
        refine lv_iload_n hx hb dX0_people_65 rfl (lv_at hl 3 rfl) ?_
        refine wc_sti (J := wc_S) C hW hV (st_F_hearths hS wc_F3) hS.uA hE dX0_people_66 (fun u20 H locs hE hW hS hV => ?_)
        refine lv_aload_n hx hb dX0_people_67 rfl (lv_at hl 1 rfl) ?_
        refine cgs_X0_19_0 C hW (st_0 hS) (sp_0_now hS) dX0_people_68 ?_
        refine cgs_X0_220_1 C hW (st_F hS wc_F3) (sp_F_heads hS wc_F3) dX0_people_71 ?_
        refine lv_iload_n hx hb dX0_people_74 rfl (lv_at hl 2 rfl) ?_
        refine lv_iload_n hx hb dX0_people_75 rfl (lv_at hl 4 rfl) ?_
        refine wc_sti (J := wc_S) C hW hV (st_F_heads hS wc_F3) hS.uA hE dX0_people_76 (fun u21 H locs hE hW hS hV => ?_)
        refine lv_iload hx hb dX0_people_77 (lv_at hl 0 rfl) ?_
        exact wc_iret C hr hlocks hW hS hV hE dX0_people_79
      · have hE := z_t c18 hE
        exact w_39 _ _ _ _ hE hW hS hV (lv_sub hl [0] rfl)
  · have hE := z_t c14 hE
    refine lv_aload_n hx hb dX0_people_8 rfl (lv_at hl 0 rfl) ?_
    refine lv_bipush (v := (-3 : Int32)) hx hb dX0_people_9 rfl ?_
    obtain ⟨r22, u23, hc, hE⟩ := o_bd2_some hE
    refine cc_X0_118 C hW hS hV (st_0 hS) (kX0_refuse hc) rfl rfl ⟨Nat.le_of_ble_eq_true rfl, Nat.le_of_ble_eq_true rfl⟩ ⟨Nat.le_refl 0, Nat.le_refl 0⟩ dX0_people_11 hl.1 (Nat.le_of_ble_eq_true rfl) (fun H locs hW hS hV => ?_)
    exact wc_iret C hr hlocks hW hS hV hE dX0_people_14
theorem cc_X1_269 {F : Nat} {a1 : Int32} {a2 : Int32} {r : Int32} {u u1 : CS} {rm : Room} (C : CC p m c cc nL s args D dA RX1) (hW : wc_W D dA h u H) (hS : wc_S u) (hV : va_S (CA h) H0 H locs) (ht : wc_T u F = some (.inl 1)) (hM : Met l yX1_between (ws_ yX1_between cX1_between 3 (some .int)) rm (va_Pc [.ref (h + F), .int a1, .int a2] (wc_St D dA h u)) (wc_Qr D dA h (some (.int r)) u1) 0 0 (CA h)) (hrc : rm.cells = 0) (hrs : rm.slots = 0) (hR : rm.frames + 1 ≤ R.frames ∧ 8 + (3 + 11) + rm.locals ≤ R.locals) (hf : cells + 0 ≤ R.cells ∧ slots + 0 ≤ R.slots) (d : decode cc pc = .ok (.invokevirtual 269, 3)) (hsz : ls.size = nL) (hro : (rest.map fun v => v.category).sum ≤ 8) (kk : ∀ (H1 : Heap) (locs1 : List Loc), wc_W D dA h u1 H1 → wc_S u1 → va_S (CA h) H0 H1 locs1 → W p l e R s m args below meth c H1 locs1 cells slots Q (F0 m (pc + 3) ls (.int r :: rest))) : W p l e R s m args below meth c H locs cells slots Q (F0 m pc ls (.int a2 :: .int a1 :: .ref (h + F) :: rest)) :=
  wc_call (v := (some (.int r))) (va_runV (As := [.int a1, .int a2]) (rest := rest) C.1 hM (cwV 2 C.1.2.2.2.2 (lw_V q1304 q825 qs18 q167 q826) rfl hrc hrs (by decide +kernel) hR) (wc_preV (q := (RX1, TX1, 46)) C.2 hW hS ht rfl _) rfl rfl hsz rfl (lv_room hro) d hf) hV (fun _ z => z) (fun H1 locs1 a b c0 _ _ => kk H1 locs1 a b c0)
theorem cc_X0_229 {F : Nat} {a1 : Int32} {a2 : Int32} {r : Int32} {u u1 : CS} {rm : Room} (C : CC p m c cc nL s args D dA RX0) (hW : wc_W D dA h u H) (hS : wc_S u) (hV : va_S (CA h) H0 H locs) (ht : wc_T u F = some (.inl 1)) (hM : Met l yX1_between (ws_ yX1_between cX1_between 3 (some .int)) rm (va_Pc [.ref (h + F), .int a1, .int a2] (wc_St D dA h u)) (wc_Qr D dA h (some (.int r)) u1) 0 0 (CA h)) (hrc : rm.cells = 0) (hrs : rm.slots = 0) (hR : rm.frames + 1 ≤ R.frames ∧ 8 + (3 + 11) + rm.locals ≤ R.locals) (hf : cells + 0 ≤ R.cells ∧ slots + 0 ≤ R.slots) (d : decode cc pc = .ok (.invokevirtual 229, 3)) (hsz : ls.size = nL) (hro : (rest.map fun v => v.category).sum ≤ 8) (kk : ∀ (H1 : Heap) (locs1 : List Loc), wc_W D dA h u1 H1 → wc_S u1 → va_S (CA h) H0 H1 locs1 → W p l e R s m args below meth c H1 locs1 cells slots Q (F0 m (pc + 3) ls (.int r :: rest))) : W p l e R s m args below meth c H locs cells slots Q (F0 m pc ls (.int a2 :: .int a1 :: .ref (h + F) :: rest)) :=
  wc_call (v := (some (.int r))) (va_runVN (As := [.int a1, .int a2]) (rest := rest) C.1 hM ⟨va_cnB 2 C.1.2.2.2.2 (lw_meth q826) rfl hrc hrs (C.2.2.at q823 rfl) (C.1.2.2.2.2 _ q167) (by decide +kernel) hR, C.1.2.2.2.2 _ q825, C.1.2.2.2.2 _ qs18⟩ (wc_preV (q := (RX1, TX1, 46)) C.2 hW hS ht rfl _) rfl rfl hsz rfl (lv_room hro) d hf) hV (fun _ z => z) (fun H1 locs1 a b c0 _ _ => kk H1 locs1 a b c0)
set_option maxHeartbeats 4000000 in
set_option maxRecDepth 100000 in
theorem kX1_between {l : Launch} {D : va_G} {dA : Nat → ClassId} {h N : Nat} {F : Nat} {a1 : Int32} {a2 : Int32} {u u1 : CS} {r : Int32} (hF : wc_F F) (hE : fX1_between N F u a1 a2 = some (r, u1)) : Met l yX1_between (ws_ yX1_between cX1_between 3 (some .int)) ({ frames := 1, cells := 0, slots := 0, locals := 24 }) (va_Pc [.ref (h + F), .int a1, .int a2] (wc_St D dA h u)) (wc_Qr D dA h (some (.int r)) u1) 0 0 (CA h) := by
  refine wc_met (own := RX1) (lv := [(0, .ref (h + F)), (1, .int a1), (2, .int a2)]) (by decide) rfl rfl rfl ?_
  intro p e s m args below meth c ls C hr hlocks hW hS hV hl
  have hx := C.1.1
  have hb := C.1.2.1
  unfold fX1_between at hE
  refine lv_iconst (v := (0 : Int32)) hx hb dX1_between_0 rfl ?_
  refine lv_iload_n hx hb dX1_between_1 rfl (lv_at hl 2 rfl) ?_
  refine lv_iload_n hx hb dX1_between_2 rfl (lv_at hl 1 rfl) ?_
  refine va_mmin hx hb (C.1.2.2.1.trans hl.1.symm) C.1.2.2.2.1 (C.1.2.2.2.2 _ q232) (C.1.2.2.2.2 _ q233) (C.1.2.2.2.2 _ q169) (C.1.2.2.2.2 _ q234) (Nat.le_of_ble_eq_true rfl) (by first | exact Nat.le_of_ble_eq_true rfl | (simp [wc_cat, Value.category])) (Nat.le_refl 0) (Nat.le_refl 0) dX1_between_3 ?_
  refine va_mmax hx hb (C.1.2.2.1.trans hl.1.symm) C.1.2.2.2.1 (C.1.2.2.2.2 _ q827) (C.1.2.2.2.2 _ q828) (C.1.2.2.2.2 _ q169) (C.1.2.2.2.2 _ q829) (Nat.le_of_ble_eq_true rfl) (by first | exact Nat.le_of_ble_eq_true rfl | (simp [wc_cat, Value.category])) (Nat.le_refl 0) (Nat.le_refl 0) dX1_between_6 ?_
  exact wc_iret C hr hlocks hW hS hV hE dX1_between_9
theorem cc_X0_241 {a1 : Int32} {r : Int32} {u u1 : CS} {rm : Room} (C : CC p m c cc nL s args D dA RX0) (hW : wc_W D dA h u H) (hS : wc_S u) (hV : va_S (CA h) H0 H locs) (ht : wc_T u 0 = some (.inl 0)) (hM : Met l yX0_mastOf (ws_ yX0_mastOf cX0_mastOf 6 (some .int)) rm (va_Pc [.ref (h + 0), .int a1] (wc_St D dA h u)) (wc_Qr D dA h (some (.int r)) u1) 0 0 (CA h)) (hrc : rm.cells = 0) (hrs : rm.slots = 0) (hR : rm.frames + 1 ≤ R.frames ∧ 8 + (6 + 11) + rm.locals ≤ R.locals) (hf : cells + 0 ≤ R.cells ∧ slots + 0 ≤ R.slots) (d : decode cc pc = .ok (.invokevirtual 241, 3)) (hsz : ls.size = nL) (hro : (rest.map fun v => v.category).sum ≤ 8) (kk : ∀ (H1 : Heap) (locs1 : List Loc), wc_W D dA h u1 H1 → wc_S u1 → va_S (CA h) H0 H1 locs1 → W p l e R s m args below meth c H1 locs1 cells slots Q (F0 m (pc + 3) ls (.int r :: rest))) : W p l e R s m args below meth c H locs cells slots Q (F0 m pc ls (.int a1 :: .ref (h + 0) :: rest)) :=
  wc_call (v := (some (.int r))) (va_runV (As := [.int a1]) (rest := rest) C.1 hM (cwV 1 C.1.2.2.2.2 (lw_V q818 q820 qs17 q166 q821) rfl hrc hrs (by decide +kernel) hR) (wc_preV (q := (RX0, TX0, 27)) C.2 hW hS ht rfl _) rfl rfl hsz rfl (lv_room hro) d hf) hV (fun _ z => z) (fun H1 locs1 a b c0 _ _ => kk H1 locs1 a b c0)
set_option maxHeartbeats 4000000 in
set_option maxRecDepth 100000 in
theorem kX0_mastOf {l : Launch} {D : va_G} {dA : Nat → ClassId} {h N : Nat} {a1 : Int32} {u u1 : CS} {r : Int32} (hE : fX0_mastOf N u a1 = some (r, u1)) : Met l yX0_mastOf (ws_ yX0_mastOf cX0_mastOf 6 (some .int)) ({ frames := 205, cells := 0, slots := 0, locals := 6522 }) (va_Pc [.ref (h + 0), .int a1] (wc_St D dA h u)) (wc_Qr D dA h (some (.int r)) u1) 0 0 (CA h) := by
  refine wc_met (own := RX0) (lv := [(0, .ref (h + 0)), (1, .int a1)]) (by decide) rfl rfl rfl ?_
  intro p e s m args below meth c ls C hr hlocks hW hS hV hl
  have hx := C.1.1
  have hb := C.1.2.1
  have w_96 : ∀ (ag5 : CS → Int32 → Int64 → Int32 → Option (Int32 × CS)) (hag5 : (∀ (u : CS) (x1 : Int32) (x2 : Int64) (x4 : Int32) (H : Heap) (locs : List Loc) (ls : Array Slot), ag5 u x1 x2 x4 = some (r, u1) → wc_W D dA h u H → wc_S u → va_S (CA h) s.heap H locs → lv_has ls 6 [(0, .ref (h + 0)), (1, .int x1), (2, .long x2), (4, .int x4)] → W p l e ({ frames := 205, cells := 0, slots := 0, locals := 6522 }) s m args below meth c H locs 0 0 (MQ below (wc_Qr D dA h (some (.int r)) u1) args s 0 0 (CA h)) (F0 m 5 ls []))) (u : CS) (x1 : Int32) (x4 : Int32) (y0 : Int64) (y1 : Int64) (H : Heap) (locs : List Loc) (ls : Array Slot), fX0_mastOf_96 N ag5 u x1 x4 y0 y1 = some (r, u1) → wc_W D dA h u H → wc_S u → va_S (CA h) s.heap H locs → lv_has ls 6 [(0, .ref (h + 0)), (1, .int x1), (4, .int x4)] → W p l e ({ frames := 205, cells := 0, slots := 0, locals := 6522 }) s m args below meth c H locs 0 0 (MQ below (wc_Qr D dA h (some (.int r)) u1) args s 0 0 (CA h)) (F0 m 96 ls [.long y1, .long y0]) := by
    intro ag5 hag5 u x1 x4 y0 y1 H locs ls hE hW hS hV hl
    unfold fX0_mastOf_96 at hE
    refine lv_ladd hx hb dX0_mastOf_96 ?_
    refine z_nml hE (fun z12 hE => ?_)
    refine lv_lstore_n (lv' := [(2, .long z12), (0, .ref (h + 0)), (1, .int x1), (4, .int x4)]) hx hb dX0_mastOf_97 rfl hl (by decide) rfl (fun ls hl => ?_)
    refine z_iinc (v := (x4 + (1 : Int32))) (lw := (fun y_ => [(4, .int y_), (2, .long z12), (0, .ref (h + 0)), (1, .int x1)])) hx hb dX0_mastOf_98 hl hE (k := 3) rfl rfl (by decide) (fun _ => rfl) (fun z13 ls hE hl => ?_)
    refine lv_goto (tgt := 5) hx hb dX0_mastOf_101 (by decide) ?_
    exact hag5 _ _ _ _ _ _ _ hE hW hS hV (lv_sub hl [2, 3, 1, 0] rfl)
  have w_73 : ∀ (ag5 : CS → Int32 → Int64 → Int32 → Option (Int32 × CS)) (hag5 : (∀ (u : CS) (x1 : Int32) (x2 : Int64) (x4 : Int32) (H : Heap) (locs : List Loc) (ls : Array Slot), ag5 u x1 x2 x4 = some (r, u1) → wc_W D dA h u H → wc_S u → va_S (CA h) s.heap H locs → lv_has ls 6 [(0, .ref (h + 0)), (1, .int x1), (2, .long x2), (4, .int x4)] → W p l e ({ frames := 205, cells := 0, slots := 0, locals := 6522 }) s m args below meth c H locs 0 0 (MQ below (wc_Qr D dA h (some (.int r)) u1) args s 0 0 (CA h)) (F0 m 5 ls []))) (u : CS) (x1 : Int32) (x2 : Int64) (x4 : Int32) (y0 : Int32) (H : Heap) (locs : List Loc) (ls : Array Slot), fX0_mastOf_73 N ag5 u x1 x2 x4 y0 = some (r, u1) → wc_W D dA h u H → wc_S u → va_S (CA h) s.heap H locs → lv_has ls 6 [(0, .ref (h + 0)), (1, .int x1), (2, .long x2), (4, .int x4)] → W p l e ({ frames := 205, cells := 0, slots := 0, locals := 6522 }) s m args below meth c H locs 0 0 (MQ below (wc_Qr D dA h (some (.int r)) u1) args s 0 0 (CA h)) (F0 m 73 ls [.int y0]) := by
    intro ag5 hag5 u x1 x2 x4 y0 H locs ls hE hW hS hV hl
    unfold fX0_mastOf_73 at hE
    refine lv_istore (lv' := [(5, .int y0), (0, .ref (h + 0)), (1, .int x1), (2, .long x2), (4, .int x4)]) hx hb dX0_mastOf_73 hl (by decide) rfl (fun ls hl => ?_)
    refine lv_lload_n hx hb dX0_mastOf_75 rfl (lv_at hl 3 rfl) ?_
    refine lv_iload hx hb dX0_mastOf_76 (lv_at hl 0 rfl) ?_
    refine lv_if_eq (tgt := 95) hx hb dX0_mastOf_78 (by decide) (fun c14 => ?_) (fun c14 => ?_)
    · have hE := z_t c14 hE
      refine lv_lconst (v := (0 : Int64)) hx hb dX0_mastOf_95 rfl ?_
      exact w_96 ag5 hag5 _ _ _ _ _ _ _ _ hE hW hS hV (lv_sub hl [1, 2, 4] rfl)
    · have hE := z_f c14 hE
      refine lv_aload_n hx hb dX0_mastOf_81 rfl (lv_at hl 1 rfl) ?_
      refine cgs_X0_19_0 C hW (st_0 hS) (sp_0_now hS) dX0_mastOf_82 ?_
      refine cgs_X0_133_1 C hW (st_F hS wc_F3) (sp_F_acres hS wc_F3) dX0_mastOf_85 ?_
      refine lv_iload hx hb dX0_mastOf_88 (lv_at hl 4 rfl) ?_
      refine wc_ldi C hW (st_F_acres hS wc_F3) hE dX0_mastOf_90 (fun hE => ?_)
      refine z_nmi hE (fun v15 hE => ?_)
      refine lv_i2l hx hb dX0_mastOf_91 rfl ?_
      refine lv_goto (tgt := 96) hx hb dX0_mastOf_92 (by decide) ?_
      exact w_96 ag5 hag5 _ _ _ _ _ _ _ _ hE hW hS hV (lv_sub hl [1, 2, 4] rfl)
  have w_72 : ∀ (ag5 : CS → Int32 → Int64 → Int32 → Option (Int32 × CS)) (hag5 : (∀ (u : CS) (x1 : Int32) (x2 : Int64) (x4 : Int32) (H : Heap) (locs : List Loc) (ls : Array Slot), ag5 u x1 x2 x4 = some (r, u1) → wc_W D dA h u H → wc_S u → va_S (CA h) s.heap H locs → lv_has ls 6 [(0, .ref (h + 0)), (1, .int x1), (2, .long x2), (4, .int x4)] → W p l e ({ frames := 205, cells := 0, slots := 0, locals := 6522 }) s m args below meth c H locs 0 0 (MQ below (wc_Qr D dA h (some (.int r)) u1) args s 0 0 (CA h)) (F0 m 5 ls []))) (u : CS) (x1 : Int32) (x2 : Int64) (x4 : Int32) (H : Heap) (locs : List Loc) (ls : Array Slot), fX0_mastOf_72 N ag5 u x1 x2 x4 = some (r, u1) → wc_W D dA h u H → wc_S u → va_S (CA h) s.heap H locs → lv_has ls 6 [(0, .ref (h + 0)), (1, .int x1), (2, .long x2), (4, .int x4)] → W p l e ({ frames := 205, cells := 0, slots := 0, locals := 6522 }) s m args below meth c H locs 0 0 (MQ below (wc_Qr D dA h (some (.int r)) u1) args s 0 0 (CA h)) (F0 m 72 ls []) := by
    intro ag5 hag5 u x1 x2 x4 H locs ls hE hW hS hV hl
    unfold fX0_mastOf_72 at hE
    refine lv_iconst (v := (0 : Int32)) hx hb dX0_mastOf_72 rfl ?_
    exact w_73 ag5 hag5 _ _ _ _ _ _ _ _ hE hW hS hV (lv_sub hl [0, 1, 2, 3] rfl)
  have w_5 : ∀ (n : Nat) (u : CS) (x1 : Int32) (x2 : Int64) (x4 : Int32) (H : Heap) (locs : List Loc) (ls : Array Slot), fX0_mastOf_5 N n u x1 x2 x4 = some (r, u1) → wc_W D dA h u H → wc_S u → va_S (CA h) s.heap H locs → lv_has ls 6 [(0, .ref (h + 0)), (1, .int x1), (2, .long x2), (4, .int x4)] → W p l e ({ frames := 205, cells := 0, slots := 0, locals := 6522 }) s m args below meth c H locs 0 0 (MQ below (wc_Qr D dA h (some (.int r)) u1) args s 0 0 (CA h)) (F0 m 5 ls []) := by
    intro n
    induction n with
    | zero =>
      intro u x1 x2 x4 H locs ls hE hW hS hV hl
      cases (show (none : Option (Int32 × CS)) = some (r, u1) from hE)
    | succ n ih =>
      intro u x1 x2 x4 H locs ls hE hW hS hV hl
      rw [fX0_mastOf_5] at hE
      refine lv_iload hx hb dX0_mastOf_5 (lv_at hl 3 rfl) ?_
      refine lv_aload_n hx hb dX0_mastOf_7 rfl (lv_at hl 0 rfl) ?_
      refine cgs_X0_19_0 C hW (st_0 hS) (sp_0_now hS) dX0_mastOf_8 ?_
      refine cg_X0_23_1 C hW (st_F hS wc_F3) dX0_mastOf_11 ?_
      refine lv_icmp_ge (tgt := 104) hx hb dX0_mastOf_14 (by decide) (fun c16 => ?_) (fun c16 => ?_)
      · have hE := z_t c16 hE
        refine lv_lload_n hx hb dX0_mastOf_104 rfl (lv_at hl 2 rfl) ?_
        refine lv_aload_n hx hb dX0_mastOf_105 rfl (lv_at hl 0 rfl) ?_
        refine cgs_X0_19_0 C hW (st_0 hS) (sp_0_now hS) dX0_mastOf_106 ?_
        refine lv_aload_n hx hb dX0_mastOf_109 rfl (lv_at hl 0 rfl) ?_
        refine cgs_X0_19_0 C hW (st_0 hS) (sp_0_now hS) dX0_mastOf_110 ?_
        refine lv_iconst (v := (5 : Int32)) hx hb dX0_mastOf_113 rfl ?_
        refine lv_bipush (v := (100 : Int32)) hx hb dX0_mastOf_114 rfl ?_
        refine lv_iload_n hx hb dX0_mastOf_116 rfl (lv_at hl 1 rfl) ?_
        refine lv_iadd hx hb dX0_mastOf_117 ?_
        obtain ⟨r17, u18, hc, hE⟩ := o_bd2_some hE
        refine cc_X0_226 C hW hS hV (st_F hS wc_F3) (kX1_saysNow wc_F3 hc) rfl rfl ⟨Nat.le_of_ble_eq_true rfl, Nat.le_of_ble_eq_true rfl⟩ ⟨Nat.le_refl 0, Nat.le_refl 0⟩ dX0_mastOf_118 hl.1 (Nat.le_of_ble_eq_true rfl) (fun H locs hW hS hV => ?_)
        refine lv_sipush (v := (10000 : Int32)) hx hb dX0_mastOf_121 rfl ?_
        obtain ⟨r19, u20, hc, hE⟩ := o_bd2_some hE
        refine cc_X0_229 C hW hS hV (st_F hS wc_F3) (kX1_between wc_F3 hc) rfl rfl ⟨Nat.le_of_ble_eq_true rfl, Nat.le_of_ble_eq_true rfl⟩ ⟨Nat.le_refl 0, Nat.le_refl 0⟩ dX0_mastOf_124 hl.1 (Nat.le_of_ble_eq_true rfl) (fun H locs hW hS hV => ?_)
        refine lv_i2l hx hb dX0_mastOf_127 rfl ?_
        refine lv_lmul hx hb dX0_mastOf_128 ?_
        refine lv_ldc2 (v := (100 : Int64)) hx hb C.1.2.2.2.1 (C.1.2.2.2.2 _ q689) dX0_mastOf_129 ?_
        refine lv_ldiv hx hb dX0_mastOf_132 (by decide) ?_
        refine z_nml hE (fun z21 hE => ?_)
        refine lv_lstore (lv' := [(4, .long z21), (0, .ref (h + 0)), (1, .int x1), (2, .long x2)]) hx hb dX0_mastOf_133 hl (by decide) rfl (fun ls hl => ?_)
        refine lv_lload hx hb dX0_mastOf_135 (lv_at hl 0 rfl) ?_
        refine lv_aload_n hx hb dX0_mastOf_137 rfl (lv_at hl 1 rfl) ?_
        refine cgs_X0_19_0 C hW (st_0 hS) (sp_0_now hS) dX0_mastOf_138 ?_
        refine cgs_X0_220_1 C hW (st_F hS wc_F3) (sp_F_heads hS wc_F3) dX0_mastOf_141 ?_
        refine lv_iload_n hx hb dX0_mastOf_144 rfl (lv_at hl 2 rfl) ?_
        refine wc_ldi C hW (st_F_heads hS wc_F3) hE dX0_mastOf_145 (fun hE => ?_)
        refine z_nmi hE (fun v22 hE => ?_)
        refine lv_i2l hx hb dX0_mastOf_146 rfl ?_
        refine va_mmin_long hx hb (C.1.2.2.1.trans hl.1.symm) C.1.2.2.2.1 (C.1.2.2.2.2 _ q830) (C.1.2.2.2.2 _ q831) (C.1.2.2.2.2 _ q169) (C.1.2.2.2.2 _ q832) (Nat.le_of_ble_eq_true rfl) (by first | exact Nat.le_of_ble_eq_true rfl | (simp [wc_cat, Value.category])) (Nat.le_refl 0) (Nat.le_refl 0) dX0_mastOf_147 ?_
        refine lv_l2i hx hb dX0_mastOf_150 rfl ?_
        exact wc_iret C hr hlocks hW hS hV hE dX0_mastOf_151
      · have hE := z_f c16 hE
        refine lv_aload_n hx hb dX0_mastOf_17 rfl (lv_at hl 0 rfl) ?_
        refine cgs_X0_19_0 C hW (st_0 hS) (sp_0_now hS) dX0_mastOf_18 ?_
        refine cgs_X0_124_1 C hW (st_F hS wc_F3) (sp_F_blocks hS wc_F3) dX0_mastOf_21 ?_
        refine lv_iload hx hb dX0_mastOf_24 (lv_at hl 3 rfl) ?_
        refine wc_ldi C hW (st_F_blocks hS wc_F3) hE dX0_mastOf_26 (fun hE => ?_)
        refine z_nmi hE (fun v23 hE => ?_)
        refine lv_aload_n hx hb dX0_mastOf_27 rfl (lv_at hl 0 rfl) ?_
        refine cgs_X0_19_0 C hW (st_0 hS) (sp_0_now hS) dX0_mastOf_28 ?_
        refine cgs_X0_214_1 C hW (st_F hS wc_F3) (sp_F_homes hS wc_F3) dX0_mastOf_31 ?_
        refine lv_iload_n hx hb dX0_mastOf_34 rfl (lv_at hl 1 rfl) ?_
        refine wc_ldi C hW (st_F_homes hS wc_F3) hE dX0_mastOf_35 (fun hE => ?_)
        refine z_nmi hE (fun v24 hE => ?_)
        refine lv_icmp_ne (tgt := 72) hx hb dX0_mastOf_36 (by decide) (fun c25 => ?_) (fun c25 => ?_)
        · have hE := z_f c25 hE
          exact w_72 (fX0_mastOf_5 N n) ih _ _ _ _ _ _ _ hE hW hS hV (lv_sub hl [0, 1, 2, 3] rfl)
        · have hE := z_t c25 hE
          refine lv_aload_n hx hb dX0_mastOf_39 rfl (lv_at hl 0 rfl) ?_
          refine cgs_X0_19_0 C hW (st_0 hS) (sp_0_now hS) dX0_mastOf_40 ?_
          refine cgs_X0_130_1 C hW (st_F hS wc_F3) (sp_F_kinds hS wc_F3) dX0_mastOf_43 ?_
          refine lv_iload hx hb dX0_mastOf_46 (lv_at hl 3 rfl) ?_
          refine wc_ldi C hW (st_F_kinds hS wc_F3) hE dX0_mastOf_48 (fun hE => ?_)
          refine z_nmi hE (fun v26 hE => ?_)
          refine lv_iconst (v := (2 : Int32)) hx hb dX0_mastOf_49 rfl ?_
          refine lv_icmp_lt (tgt := 72) hx hb dX0_mastOf_50 (by decide) (fun c27 => ?_) (fun c27 => ?_)
          · have hE := z_t c27 hE
            exact w_72 (fX0_mastOf_5 N n) ih _ _ _ _ _ _ _ hE hW hS hV (lv_sub hl [0, 1, 2, 3] rfl)
          · have hE := z_f c27 hE
            refine lv_aload_n hx hb dX0_mastOf_53 rfl (lv_at hl 0 rfl) ?_
            refine cgs_X0_19_0 C hW (st_0 hS) (sp_0_now hS) dX0_mastOf_54 ?_
            refine cgs_X0_136_1 C hW (st_F hS wc_F3) (sp_F_ages hS wc_F3) dX0_mastOf_57 ?_
            refine lv_iload hx hb dX0_mastOf_60 (lv_at hl 3 rfl) ?_
            refine wc_ldi C hW (st_F_ages hS wc_F3) hE dX0_mastOf_62 (fun hE => ?_)
            refine z_nmi hE (fun v28 hE => ?_)
            refine lv_bipush (v := (60 : Int32)) hx hb dX0_mastOf_63 rfl ?_
            refine lv_icmp_lt (tgt := 72) hx hb dX0_mastOf_65 (by decide) (fun c29 => ?_) (fun c29 => ?_)
            · have hE := z_t c29 hE
              exact w_72 (fX0_mastOf_5 N n) ih _ _ _ _ _ _ _ hE hW hS hV (lv_sub hl [0, 1, 2, 3] rfl)
            · have hE := z_f c29 hE
              refine lv_iconst (v := (1 : Int32)) hx hb dX0_mastOf_68 rfl ?_
              refine lv_goto (tgt := 73) hx hb dX0_mastOf_69 (by decide) ?_
              exact w_73 (fX0_mastOf_5 N n) ih _ _ _ _ _ _ _ _ hE hW hS hV (lv_sub hl [0, 1, 2, 3] rfl)
  unfold fX0_mastOf at hE
  refine lv_lconst (v := (0 : Int64)) hx hb dX0_mastOf_0 rfl ?_
  refine lv_lstore_n (lv' := [(2, .long (0 : Int64)), (0, .ref (h + 0)), (1, .int a1)]) hx hb dX0_mastOf_1 rfl hl (by decide) rfl (fun ls hl => ?_)
  refine lv_iconst (v := (0 : Int32)) hx hb dX0_mastOf_2 rfl ?_
  refine lv_istore (lv' := [(4, .int (0 : Int32)), (2, .long (0 : Int64)), (0, .ref (h + 0)), (1, .int a1)]) hx hb dX0_mastOf_3 hl (by decide) rfl (fun ls hl => ?_)
  exact w_5 N _ _ _ _ _ _ _ hE hW hS hV (lv_sub hl [2, 3, 1, 0] rfl)
set_option maxHeartbeats 4000000 in
set_option maxRecDepth 100000 in
theorem kX0_of {l : Launch} {D : va_G} {dA : Nat → ClassId} {h N : Nat} {a1 : Int32} {a2 : Int32} {u u1 : CS} {r : Int32} (hE : fX0_of N u a1 a2 = some (r, u1)) : Met l yX0_of (ws_ yX0_of cX0_of 3 (some .int)) ({ frames := 206, cells := 0, slots := 0, locals := 6547 }) (va_Pc [.ref (h + 0), .int a1, .int a2] (wc_St D dA h u)) (wc_Qr D dA h (some (.int r)) u1) 0 0 (CA h) := by
  refine wc_met (own := RX0) (lv := [(0, .ref (h + 0)), (1, .int a1), (2, .int a2)]) (by decide) rfl rfl rfl ?_
  intro p e s m args below meth c ls C hr hlocks hW hS hV hl
  have hx := C.1.1
  have hb := C.1.2.1
  unfold fX0_of at hE
  refine lv_aload_n hx hb dX0_of_0 rfl (lv_at hl 0 rfl) ?_
  refine lv_iload_n hx hb dX0_of_1 rfl (lv_at hl 1 rfl) ?_
  obtain ⟨r13, u14, hc, hE⟩ := o_bd2_some hE
  refine cc_X0_223 C hW hS hV (st_0 hS) (kX0_isVillage hc) rfl rfl ⟨Nat.le_of_ble_eq_true rfl, Nat.le_of_ble_eq_true rfl⟩ ⟨Nat.le_refl 0, Nat.le_refl 0⟩ dX0_of_2 hl.1 (Nat.le_of_ble_eq_true rfl) (fun H locs hW hS hV => ?_)
  refine lv_if_ne (tgt := 15) hx hb dX0_of_5 (by decide) (fun c15 => ?_) (fun c15 => ?_)
  · have hE := z_f c15 hE
    refine lv_iload_n hx hb dX0_of_15 rfl (lv_at hl 2 rfl) ?_
    by_cases c16 : a2 = (0 : Int32)
    · have hE := z_t c16 hE
      refine lv_tableIn (tgt := 52) hx hb dX0_of_16 (by rw [c16]; decide) (by rw [c16]; decide) (by rw [c16]; rfl) (by decide) ?_
      refine lv_aload_n hx hb dX0_of_52 rfl (lv_at hl 0 rfl) ?_
      refine cgs_X0_19_0 C hW (st_0 hS) (sp_0_now hS) dX0_of_53 ?_
      refine cgs_X0_214_1 C hW (st_F hS wc_F3) (sp_F_homes hS wc_F3) dX0_of_56 ?_
      refine lv_iload_n hx hb dX0_of_59 rfl (lv_at hl 1 rfl) ?_
      refine wc_ldi C hW (st_F_homes hS wc_F3) hE dX0_of_60 (fun hE => ?_)
      refine z_nmi hE (fun v17 hE => ?_)
      exact wc_iret C hr hlocks hW hS hV hE dX0_of_61
    have hE := z_f c16 hE
    by_cases c18 : a2 = (1 : Int32)
    · have hE := z_t c18 hE
      refine lv_tableIn (tgt := 62) hx hb dX0_of_16 (by rw [c18]; decide) (by rw [c18]; decide) (by rw [c18]; rfl) (by decide) ?_
      refine lv_aload_n hx hb dX0_of_62 rfl (lv_at hl 0 rfl) ?_
      refine cgs_X0_19_0 C hW (st_0 hS) (sp_0_now hS) dX0_of_63 ?_
      refine cgs_X0_217_1 C hW (st_F hS wc_F3) (sp_F_hearths hS wc_F3) dX0_of_66 ?_
      refine lv_iload_n hx hb dX0_of_69 rfl (lv_at hl 1 rfl) ?_
      refine wc_ldi C hW (st_F_hearths hS wc_F3) hE dX0_of_70 (fun hE => ?_)
      refine z_nmi hE (fun v19 hE => ?_)
      exact wc_iret C hr hlocks hW hS hV hE dX0_of_71
    have hE := z_f c18 hE
    by_cases c20 : a2 = (2 : Int32)
    · have hE := z_t c20 hE
      refine lv_tableIn (tgt := 72) hx hb dX0_of_16 (by rw [c20]; decide) (by rw [c20]; decide) (by rw [c20]; rfl) (by decide) ?_
      refine lv_aload_n hx hb dX0_of_72 rfl (lv_at hl 0 rfl) ?_
      refine cgs_X0_19_0 C hW (st_0 hS) (sp_0_now hS) dX0_of_73 ?_
      refine cgs_X0_220_1 C hW (st_F hS wc_F3) (sp_F_heads hS wc_F3) dX0_of_76 ?_
      refine lv_iload_n hx hb dX0_of_79 rfl (lv_at hl 1 rfl) ?_
      refine wc_ldi C hW (st_F_heads hS wc_F3) hE dX0_of_80 (fun hE => ?_)
      refine z_nmi hE (fun v21 hE => ?_)
      exact wc_iret C hr hlocks hW hS hV hE dX0_of_81
    have hE := z_f c20 hE
    by_cases c22 : a2 = (3 : Int32)
    · have hE := z_t c22 hE
      refine lv_tableIn (tgt := 82) hx hb dX0_of_16 (by rw [c22]; decide) (by rw [c22]; decide) (by rw [c22]; rfl) (by decide) ?_
      refine lv_aload_n hx hb dX0_of_82 rfl (lv_at hl 0 rfl) ?_
      refine cgs_X0_19_0 C hW (st_0 hS) (sp_0_now hS) dX0_of_83 ?_
      refine cgs_X0_238_1 C hW (st_F hS wc_F3) (sp_F_owed hS wc_F3) dX0_of_86 ?_
      refine lv_iload_n hx hb dX0_of_89 rfl (lv_at hl 1 rfl) ?_
      refine wc_ldi C hW (st_F_owed hS wc_F3) hE dX0_of_90 (fun hE => ?_)
      refine z_nmi hE (fun v23 hE => ?_)
      exact wc_iret C hr hlocks hW hS hV hE dX0_of_91
    have hE := z_f c22 hE
    by_cases c24 : a2 = (4 : Int32)
    · have hE := z_t c24 hE
      refine lv_tableIn (tgt := 92) hx hb dX0_of_16 (by rw [c24]; decide) (by rw [c24]; decide) (by rw [c24]; rfl) (by decide) ?_
      refine lv_aload_n hx hb dX0_of_92 rfl (lv_at hl 0 rfl) ?_
      refine lv_iload_n hx hb dX0_of_93 rfl (lv_at hl 1 rfl) ?_
      obtain ⟨r25, u26, hc, hE⟩ := o_bd2_some hE
      refine cc_X0_241 C hW hS hV (st_0 hS) (kX0_mastOf hc) rfl rfl ⟨Nat.le_of_ble_eq_true rfl, Nat.le_of_ble_eq_true rfl⟩ ⟨Nat.le_refl 0, Nat.le_refl 0⟩ dX0_of_94 hl.1 (Nat.le_of_ble_eq_true rfl) (fun H locs hW hS hV => ?_)
      exact wc_iret C hr hlocks hW hS hV hE dX0_of_97
    have hE := z_f c24 hE
    refine lv_tableOut (tgt := 98) hx hb dX0_of_16 (z_swOut (fun k_ h1_ h2_ => ?_)) (by decide) ?_
    · rcases (show k_ = 0 ∨ k_ = 1 ∨ k_ = 2 ∨ k_ = 3 ∨ k_ = 4 by omega) with rfl | rfl | rfl | rfl | rfl
      · exact c16
      · exact c18
      · exact c20
      · exact c22
      · exact c24
    refine lv_aload_n hx hb dX0_of_98 rfl (lv_at hl 0 rfl) ?_
    refine lv_bipush (v := (-7 : Int32)) hx hb dX0_of_99 rfl ?_
    obtain ⟨r27, u28, hc, hE⟩ := o_bd2_some hE
    refine cc_X0_118 C hW hS hV (st_0 hS) (kX0_refuse hc) rfl rfl ⟨Nat.le_of_ble_eq_true rfl, Nat.le_of_ble_eq_true rfl⟩ ⟨Nat.le_refl 0, Nat.le_refl 0⟩ dX0_of_101 hl.1 (Nat.le_of_ble_eq_true rfl) (fun H locs hW hS hV => ?_)
    exact wc_iret C hr hlocks hW hS hV hE dX0_of_104
  · have hE := z_t c15 hE
    refine lv_aload_n hx hb dX0_of_8 rfl (lv_at hl 0 rfl) ?_
    refine lv_bipush (v := (-3 : Int32)) hx hb dX0_of_9 rfl ?_
    obtain ⟨r29, u30, hc, hE⟩ := o_bd2_some hE
    refine cc_X0_118 C hW hS hV (st_0 hS) (kX0_refuse hc) rfl rfl ⟨Nat.le_of_ble_eq_true rfl, Nat.le_of_ble_eq_true rfl⟩ ⟨Nat.le_refl 0, Nat.le_refl 0⟩ dX0_of_11 hl.1 (Nat.le_of_ble_eq_true rfl) (fun H locs hW hS hV => ?_)
    exact wc_iret C hr hlocks hW hS hV hE dX0_of_14
theorem cc_X0_244 {a1 : Int32} {r : Int32} {u u1 : CS} {rm : Room} (C : CC p m c cc nL s args D dA RX0) (hW : wc_W D dA h u H) (hS : wc_S u) (hV : va_S (CA h) H0 H locs) (ht : wc_T u 0 = some (.inl 0)) (hM : Met l yX0_isParcel (ws_ yX0_isParcel cX0_isParcel 2 (some .boolean)) rm (va_Pc [.ref (h + 0), .int a1] (wc_St D dA h u)) (wc_Qr D dA h (some (.int r)) u1) 0 0 (CA h)) (hrc : rm.cells = 0) (hrs : rm.slots = 0) (hR : rm.frames + 1 ≤ R.frames ∧ 8 + (2 + 11) + rm.locals ≤ R.locals) (hf : cells + 0 ≤ R.cells ∧ slots + 0 ≤ R.slots) (d : decode cc pc = .ok (.invokevirtual 244, 3)) (hsz : ls.size = nL) (hro : (rest.map fun v => v.category).sum ≤ 8) (kk : ∀ (H1 : Heap) (locs1 : List Loc), wc_W D dA h u1 H1 → wc_S u1 → va_S (CA h) H0 H1 locs1 → W p l e R s m args below meth c H1 locs1 cells slots Q (F0 m (pc + 3) ls (.int r :: rest))) : W p l e R s m args below meth c H locs cells slots Q (F0 m pc ls (.int a1 :: .ref (h + 0) :: rest)) :=
  wc_call (v := (some (.int r))) (va_runV (As := [.int a1]) (rest := rest) C.1 hM (cwV 1 C.1.2.2.2.2 (lw_V q837 q839 qs19 q166 q840) rfl hrc hrs (by decide +kernel) hR) (wc_preV (q := (RX0, TX0, 27)) C.2 hW hS ht rfl _) rfl rfl hsz rfl (lv_room hro) d hf) hV (fun _ z => z) (fun H1 locs1 a b c0 _ _ => kk H1 locs1 a b c0)
set_option maxHeartbeats 4000000 in
set_option maxRecDepth 100000 in
theorem kX0_isParcel {l : Launch} {D : va_G} {dA : Nat → ClassId} {h N : Nat} {a1 : Int32} {u u1 : CS} {r : Int32} (hE : fX0_isParcel N u a1 = some (r, u1)) : Met l yX0_isParcel (ws_ yX0_isParcel cX0_isParcel 2 (some .boolean)) ({ frames := 1, cells := 0, slots := 0, locals := 25 }) (va_Pc [.ref (h + 0), .int a1] (wc_St D dA h u)) (wc_Qr D dA h (some (.int r)) u1) 0 0 (CA h) := by
  refine wc_met (own := RX0) (lv := [(0, .ref (h + 0)), (1, .int a1)]) (by decide) rfl rfl rfl ?_
  intro p e s m args below meth c ls C hr hlocks hW hS hV hl
  have hx := C.1.1
  have hb := C.1.2.1
  have w_32 : ∀ (u : CS) (y0 : Int32) (H : Heap) (locs : List Loc) (ls : Array Slot), fX0_isParcel_32 N u y0 = some (r, u1) → wc_W D dA h u H → wc_S u → va_S (CA h) s.heap H locs → lv_has ls 2 [] → W p l e ({ frames := 1, cells := 0, slots := 0, locals := 25 }) s m args below meth c H locs 0 0 (MQ below (wc_Qr D dA h (some (.int r)) u1) args s 0 0 (CA h)) (F0 m 32 ls [.int y0]) := by
    intro u y0 H locs ls hE hW hS hV hl
    unfold fX0_isParcel_32 at hE
    obtain ⟨hb1, hE⟩ := o_bl_some hE
    exact wc_zret C hr hlocks hW hS hV hb1 hE dX0_isParcel_32
  have w_31 : ∀ (u : CS) (H : Heap) (locs : List Loc) (ls : Array Slot), fX0_isParcel_31 N u = some (r, u1) → wc_W D dA h u H → wc_S u → va_S (CA h) s.heap H locs → lv_has ls 2 [] → W p l e ({ frames := 1, cells := 0, slots := 0, locals := 25 }) s m args below meth c H locs 0 0 (MQ below (wc_Qr D dA h (some (.int r)) u1) args s 0 0 (CA h)) (F0 m 31 ls []) := by
    intro u H locs ls hE hW hS hV hl
    unfold fX0_isParcel_31 at hE
    refine lv_iconst (v := (0 : Int32)) hx hb dX0_isParcel_31 rfl ?_
    exact w_32 _ _ _ _ _ hE hW hS hV (lv_sub hl [] rfl)
  unfold fX0_isParcel at hE
  refine lv_iload_n hx hb dX0_isParcel_0 rfl (lv_at hl 1 rfl) ?_
  refine lv_i2l hx hb dX0_isParcel_1 rfl ?_
  refine lv_lconst (v := (0 : Int64)) hx hb dX0_isParcel_2 rfl ?_
  refine lv_ldc2 (v := (59 : Int64)) hx hb C.1.2.2.2.1 (C.1.2.2.2.2 _ q841) dX0_isParcel_3 ?_
  obtain ⟨r4, hc, hE⟩ := o_bd_some hE
  refine sc_X0_31 C.1 (kX0_isIn hc) rfl rfl ⟨Nat.le_of_ble_eq_true rfl, Nat.le_of_ble_eq_true rfl⟩ ⟨Nat.le_refl 0, Nat.le_refl 0⟩ dX0_isParcel_6 hl.1 (Nat.le_of_ble_eq_true rfl) ?_
  refine lv_if_eq (tgt := 31) hx hb dX0_isParcel_9 (by decide) (fun c5 => ?_) (fun c5 => ?_)
  · have hE := z_t c5 hE
    exact w_31 _ _ _ _ hE hW hS hV (lv_sub hl [] rfl)
  · have hE := z_f c5 hE
    refine lv_aload_n hx hb dX0_isParcel_12 rfl (lv_at hl 0 rfl) ?_
    refine cgs_X0_19_0 C hW (st_0 hS) (sp_0_now hS) dX0_isParcel_13 ?_
    refine cgs_X0_40_1 C hW (st_F hS wc_F3) (sp_F_slots hS wc_F3) dX0_isParcel_16 ?_
    refine lv_iload_n hx hb dX0_isParcel_19 rfl (lv_at hl 1 rfl) ?_
    refine wc_ldq6 C hW (st_F_slots hS wc_F3) hE dX0_isParcel_20 (fun hE => ?_)
    refine z_nmp hE (fun p6 hE => ?_)
    obtain ⟨n7, hp_, hE_⟩ := o_nn_some hE
    clear hE
    subst hp_
    have hE := hE_
    obtain ⟨ht, hE⟩ := o_sh_some hE
    refine cg_X0_44_2 C hW ht dX0_isParcel_21 ?_
    refine z_nmp hE (fun p8 hE => ?_)
    rcases p8 with _ | n9
    · have hE := o_nu_none hE
      refine lv_ifnullN (tgt := 31) hx hb dX0_isParcel_24 (by decide) ?_
      exact w_31 _ _ _ _ hE hW hS hV (lv_sub hl [] rfl)
    · have hE := o_nu_nn hE
      refine lv_ifnull hx hb dX0_isParcel_24 ?_
      refine lv_iconst (v := (1 : Int32)) hx hb dX0_isParcel_27 rfl ?_
      refine lv_goto (tgt := 32) hx hb dX0_isParcel_28 (by decide) ?_
      exact w_32 _ _ _ _ _ hE hW hS hV (lv_sub hl [] rfl)
theorem cc_X0_247 {F : Nat} {a1 : Int32} {r : Option Nat} {u u1 : CS} {rm : Room} (C : CC p m c cc nL s args D dA RX0) (hW : wc_W D dA h u H) (hS : wc_S u) (hV : va_S (CA h) H0 H locs) (ht : wc_T u F = some (.inl 1)) (hM : Met l yX1_at (ws_ yX1_at cX1_at 2 (some (.object "WoodState$Lot"))) rm (va_Pc [.ref (h + F), .int a1] (wc_St D dA h u)) (wc_Qr D dA h (some (wc_rf h r)) u1) 0 0 (CA h)) (hrc : rm.cells = 0) (hrs : rm.slots = 0) (hR : rm.frames + 1 ≤ R.frames ∧ 8 + (2 + 11) + rm.locals ≤ R.locals) (hf : cells + 0 ≤ R.cells ∧ slots + 0 ≤ R.slots) (d : decode cc pc = .ok (.invokevirtual 247, 3)) (hsz : ls.size = nL) (hro : (rest.map fun v => v.category).sum ≤ 8) (kk : ∀ (H1 : Heap) (locs1 : List Loc), wc_W D dA h u1 H1 → wc_S u1 → va_S (CA h) H0 H1 locs1 → W p l e R s m args below meth c H1 locs1 cells slots Q (F0 m (pc + 3) ls (wc_rf h r :: rest))) : W p l e R s m args below meth c H locs cells slots Q (F0 m pc ls (.int a1 :: .ref (h + F) :: rest)) :=
  wc_call (v := (some (wc_rf h r))) (va_runVN (As := [.int a1]) (rest := rest) C.1 hM ⟨va_cnB 1 C.1.2.2.2.2 (lw_meth q845) rfl hrc hrs (C.2.2.at q842 rfl) (C.1.2.2.2.2 _ q167) (by decide +kernel) hR, C.1.2.2.2.2 _ q844, C.1.2.2.2.2 _ qs20⟩ (wc_preV (q := (RX1, TX1, 46)) C.2 hW hS ht rfl _) rfl rfl hsz rfl (lv_room hro) d hf) hV (fun _ z => z) (fun H1 locs1 a b c0 _ _ => kk H1 locs1 a b c0)
set_option maxHeartbeats 4000000 in
set_option maxRecDepth 100000 in
theorem kX1_at {l : Launch} {D : va_G} {dA : Nat → ClassId} {h N : Nat} {F : Nat} {a1 : Int32} {u u1 : CS} {r : Option Nat} (hF : wc_F F) (hE : fX1_at N F u a1 = some (r, u1)) : Met l yX1_at (ws_ yX1_at cX1_at 2 (some (.object "WoodState$Lot"))) ({ frames := 0, cells := 0, slots := 0, locals := 0 }) (va_Pc [.ref (h + F), .int a1] (wc_St D dA h u)) (wc_Qr D dA h (some (wc_rf h r)) u1) 0 0 (CA h) := by
  refine wc_met (own := RX1) (lv := [(0, .ref (h + F)), (1, .int a1)]) (by decide) rfl rfl rfl ?_
  intro p e s m args below meth c ls C hr hlocks hW hS hV hl
  have hx := C.1.1
  have hb := C.1.2.1
  unfold fX1_at at hE
  refine lv_aload_n hx hb dX1_at_0 rfl (lv_at hl 0 rfl) ?_
  refine cgs_X1_81_1 C hW (st_F hS hF) (sp_F_slots hS hF) dX1_at_1 ?_
  refine lv_iload_n hx hb dX1_at_4 rfl (lv_at hl 1 rfl) ?_
  refine wc_ldq6 C hW (st_F_slots hS hF) hE dX1_at_5 (fun hE => ?_)
  refine z_nmp hE (fun p3 hE => ?_)
  obtain ⟨n4, hp_, hE_⟩ := o_nn_some hE
  clear hE
  subst hp_
  have hE := hE_
  obtain ⟨ht, hE⟩ := o_sh_some hE
  refine cg_X1_252_2 C hW ht dX1_at_6 ?_
  refine z_nmp hE (fun p5 hE => ?_)
  refine wc_castLN C hW q846 hE dX1_at_9 (fun hE => ?_)
  exact wc_aret (x := p5) C hr hlocks hW hS hV hE dX1_at_12
set_option maxHeartbeats 4000000 in
set_option maxRecDepth 100000 in
theorem kX0_parcel {l : Launch} {D : va_G} {dA : Nat → ClassId} {h N : Nat} {a1 : Int32} {a2 : Int32} {u u1 : CS} {r : Int32} (hE : fX0_parcel N u a1 a2 = some (r, u1)) : Met l yX0_parcel (ws_ yX0_parcel cX0_parcel 4 (some .int)) ({ frames := 2, cells := 0, slots := 0, locals := 46 }) (va_Pc [.ref (h + 0), .int a1, .int a2] (wc_St D dA h u)) (wc_Qr D dA h (some (.int r)) u1) 0 0 (CA h) := by
  refine wc_met (own := RX0) (lv := [(0, .ref (h + 0)), (1, .int a1), (2, .int a2)]) (by decide) rfl rfl rfl ?_
  intro p e s m args below meth c ls C hr hlocks hW hS hV hl
  have hx := C.1.1
  have hb := C.1.2.1
  unfold fX0_parcel at hE
  refine lv_aload_n hx hb dX0_parcel_0 rfl (lv_at hl 0 rfl) ?_
  refine lv_iload_n hx hb dX0_parcel_1 rfl (lv_at hl 1 rfl) ?_
  obtain ⟨r18, u19, hc, hE⟩ := o_bd2_some hE
  refine cc_X0_244 C hW hS hV (st_0 hS) (kX0_isParcel hc) rfl rfl ⟨Nat.le_of_ble_eq_true rfl, Nat.le_of_ble_eq_true rfl⟩ ⟨Nat.le_refl 0, Nat.le_refl 0⟩ dX0_parcel_2 hl.1 (Nat.le_of_ble_eq_true rfl) (fun H locs hW hS hV => ?_)
  refine lv_if_ne (tgt := 15) hx hb dX0_parcel_5 (by decide) (fun c20 => ?_) (fun c20 => ?_)
  · have hE := z_f c20 hE
    refine lv_aload_n hx hb dX0_parcel_15 rfl (lv_at hl 0 rfl) ?_
    refine cgs_X0_19_0 C hW (st_0 hS) (sp_0_now hS) dX0_parcel_16 ?_
    refine lv_iload_n hx hb dX0_parcel_19 rfl (lv_at hl 1 rfl) ?_
    obtain ⟨r21, u22, hc, hE⟩ := o_bd2_some hE
    refine cc_X0_247 C hW hS hV (st_F hS wc_F3) (kX1_at wc_F3 hc) rfl rfl ⟨Nat.le_of_ble_eq_true rfl, Nat.le_of_ble_eq_true rfl⟩ ⟨Nat.le_refl 0, Nat.le_refl 0⟩ dX0_parcel_20 hl.1 (Nat.le_of_ble_eq_true rfl) (fun H locs hW hS hV => ?_)
    refine z_astore_n (lv' := [(3, wc_rf h r21), (0, .ref (h + 0)), (1, .int a1), (2, .int a2)]) hx hb dX0_parcel_23 rfl hl (by decide) rfl (fun ls hl => ?_)
    refine lv_iload_n hx hb dX0_parcel_24 rfl (lv_at hl 3 rfl) ?_
    by_cases c23 : a2 = (0 : Int32)
    · have hE := z_t c23 hE
      refine lv_tableIn (tgt := 60) hx hb dX0_parcel_25 (by rw [c23]; decide) (by rw [c23]; decide) (by rw [c23]; rfl) (by decide) ?_
      refine z_aload_n hx hb dX0_parcel_60 rfl (lv_at hl 0 rfl) ?_
      obtain ⟨n24, hp_, hE_⟩ := o_nn_some hE
      clear hE
      subst hp_
      have hE := hE_
      obtain ⟨r26, u25, hc, hE⟩ := o_bd2_some hE
      refine cl_X0_251 C hW hS hV hc ⟨Nat.le_of_ble_eq_true rfl, Nat.le_of_ble_eq_true rfl⟩ ⟨Nat.le_refl 0, Nat.le_refl 0⟩ dX0_parcel_61 hl.1 (Nat.le_of_ble_eq_true rfl) (fun H locs hW hS hV => ?_)
      exact wc_iret C hr hlocks hW hS hV hE dX0_parcel_64
    have hE := z_f c23 hE
    by_cases c27 : a2 = (1 : Int32)
    · have hE := z_t c27 hE
      refine lv_tableIn (tgt := 65) hx hb dX0_parcel_25 (by rw [c27]; decide) (by rw [c27]; decide) (by rw [c27]; rfl) (by decide) ?_
      refine z_aload_n hx hb dX0_parcel_65 rfl (lv_at hl 0 rfl) ?_
      obtain ⟨n28, hp_, hE_⟩ := o_nn_some hE
      clear hE
      subst hp_
      have hE := hE_
      obtain ⟨ht, hE⟩ := o_lt_some hE
      refine cg_X0_257_l C hW ht dX0_parcel_66 ?_
      exact wc_iret C hr hlocks hW hS hV hE dX0_parcel_69
    have hE := z_f c27 hE
    by_cases c29 : a2 = (2 : Int32)
    · have hE := z_t c29 hE
      refine lv_tableIn (tgt := 70) hx hb dX0_parcel_25 (by rw [c29]; decide) (by rw [c29]; decide) (by rw [c29]; rfl) (by decide) ?_
      refine z_aload_n hx hb dX0_parcel_70 rfl (lv_at hl 0 rfl) ?_
      obtain ⟨n30, hp_, hE_⟩ := o_nn_some hE
      clear hE
      subst hp_
      have hE := hE_
      obtain ⟨ht, hE⟩ := o_lt_some hE
      refine cg_X0_260_l C hW ht dX0_parcel_71 ?_
      exact wc_iret C hr hlocks hW hS hV hE dX0_parcel_74
    have hE := z_f c29 hE
    by_cases c31 : a2 = (3 : Int32)
    · have hE := z_t c31 hE
      refine lv_tableIn (tgt := 75) hx hb dX0_parcel_25 (by rw [c31]; decide) (by rw [c31]; decide) (by rw [c31]; rfl) (by decide) ?_
      refine z_aload_n hx hb dX0_parcel_75 rfl (lv_at hl 0 rfl) ?_
      obtain ⟨n32, hp_, hE_⟩ := o_nn_some hE
      clear hE
      subst hp_
      have hE := hE_
      obtain ⟨ht, hE⟩ := o_lt_some hE
      refine cg_X0_263_l C hW ht dX0_parcel_76 ?_
      exact wc_iret C hr hlocks hW hS hV hE dX0_parcel_79
    have hE := z_f c31 hE
    by_cases c33 : a2 = (4 : Int32)
    · have hE := z_t c33 hE
      refine lv_tableIn (tgt := 80) hx hb dX0_parcel_25 (by rw [c33]; decide) (by rw [c33]; decide) (by rw [c33]; rfl) (by decide) ?_
      refine z_aload_n hx hb dX0_parcel_80 rfl (lv_at hl 0 rfl) ?_
      obtain ⟨n34, hp_, hE_⟩ := o_nn_some hE
      clear hE
      subst hp_
      have hE := hE_
      obtain ⟨r36, u35, hc, hE⟩ := o_bd2_some hE
      refine cl_X0_266 C hW hS hV hc ⟨Nat.le_of_ble_eq_true rfl, Nat.le_of_ble_eq_true rfl⟩ ⟨Nat.le_refl 0, Nat.le_refl 0⟩ dX0_parcel_81 hl.1 (Nat.le_of_ble_eq_true rfl) (fun H locs hW hS hV => ?_)
      exact wc_iret C hr hlocks hW hS hV hE dX0_parcel_84
    have hE := z_f c33 hE
    refine lv_tableOut (tgt := 85) hx hb dX0_parcel_25 (z_swOut (fun k_ h1_ h2_ => ?_)) (by decide) ?_
    · rcases (show k_ = 0 ∨ k_ = 1 ∨ k_ = 2 ∨ k_ = 3 ∨ k_ = 4 by omega) with rfl | rfl | rfl | rfl | rfl
      · exact c23
      · exact c27
      · exact c29
      · exact c31
      · exact c33
    refine lv_aload_n hx hb dX0_parcel_85 rfl (lv_at hl 1 rfl) ?_
    refine lv_bipush (v := (-7 : Int32)) hx hb dX0_parcel_86 rfl ?_
    obtain ⟨r37, u38, hc, hE⟩ := o_bd2_some hE
    refine cc_X0_118 C hW hS hV (st_0 hS) (kX0_refuse hc) rfl rfl ⟨Nat.le_of_ble_eq_true rfl, Nat.le_of_ble_eq_true rfl⟩ ⟨Nat.le_refl 0, Nat.le_refl 0⟩ dX0_parcel_88 hl.1 (Nat.le_of_ble_eq_true rfl) (fun H locs hW hS hV => ?_)
    exact wc_iret C hr hlocks hW hS hV hE dX0_parcel_91
  · have hE := z_t c20 hE
    refine lv_aload_n hx hb dX0_parcel_8 rfl (lv_at hl 0 rfl) ?_
    refine lv_bipush (v := (-3 : Int32)) hx hb dX0_parcel_9 rfl ?_
    obtain ⟨r39, u40, hc, hE⟩ := o_bd2_some hE
    refine cc_X0_118 C hW hS hV (st_0 hS) (kX0_refuse hc) rfl rfl ⟨Nat.le_of_ble_eq_true rfl, Nat.le_of_ble_eq_true rfl⟩ ⟨Nat.le_refl 0, Nat.le_refl 0⟩ dX0_parcel_11 hl.1 (Nat.le_of_ble_eq_true rfl) (fun H locs hW hS hV => ?_)
    exact wc_iret C hr hlocks hW hS hV hE dX0_parcel_14
theorem cc_X0_282 {a1 : Int32} {r : Int32} {u u1 : CS} {rm : Room} (C : CC p m c cc nL s args D dA RX0) (hW : wc_W D dA h u H) (hS : wc_S u) (hV : va_S (CA h) H0 H locs) (ht : wc_T u 0 = some (.inl 0)) (hM : Met l yX0_end (ws_ yX0_end cX0_end 3 (some .int)) rm (va_Pc [.ref (h + 0), .int a1] (wc_St D dA h u)) (wc_Qr D dA h (some (.int r)) u1) 0 0 (CA h)) (hrc : rm.cells = 0) (hrs : rm.slots = 0) (hR : rm.frames + 1 ≤ R.frames ∧ 8 + (3 + 11) + rm.locals ≤ R.locals) (hf : cells + 0 ≤ R.cells ∧ slots + 0 ≤ R.slots) (d : decode cc pc = .ok (.invokevirtual 282, 3)) (hsz : ls.size = nL) (hro : (rest.map fun v => v.category).sum ≤ 8) (kk : ∀ (H1 : Heap) (locs1 : List Loc), wc_W D dA h u1 H1 → wc_S u1 → va_S (CA h) H0 H1 locs1 → W p l e R s m args below meth c H1 locs1 cells slots Q (F0 m (pc + 3) ls (.int r :: rest))) : W p l e R s m args below meth c H locs cells slots Q (F0 m pc ls (.int a1 :: .ref (h + 0) :: rest)) :=
  wc_call (v := (some (.int r))) (va_runV (As := [.int a1]) (rest := rest) C.1 hM (cwV 1 C.1.2.2.2.2 (lw_V q884 q886 qs23 q166 q887) rfl hrc hrs (by decide +kernel) hR) (wc_preV (q := (RX0, TX0, 27)) C.2 hW hS ht rfl _) rfl rfl hsz rfl (lv_room hro) d hf) hV (fun _ z => z) (fun H1 locs1 a b c0 _ _ => kk H1 locs1 a b c0)
set_option maxHeartbeats 4000000 in
set_option maxRecDepth 100000 in
theorem kX0_end {l : Launch} {D : va_G} {dA : Nat → ClassId} {h N : Nat} {a1 : Int32} {u u1 : CS} {r : Int32} (hE : fX0_end N u a1 = some (r, u1)) : Met l yX0_end (ws_ yX0_end cX0_end 3 (some .int)) ({ frames := 2, cells := 0, slots := 0, locals := 43 }) (va_Pc [.ref (h + 0), .int a1] (wc_St D dA h u)) (wc_Qr D dA h (some (.int r)) u1) 0 0 (CA h) := by
  refine wc_met (own := RX0) (lv := [(0, .ref (h + 0)), (1, .int a1)]) (by decide) rfl rfl rfl ?_
  intro p e s m args below meth c ls C hr hlocks hW hS hV hl
  have hx := C.1.1
  have hb := C.1.2.1
  have w_37 : ∀ (u : CS) (x1 : Int32) (x2 : Nat) (H : Heap) (locs : List Loc) (ls : Array Slot), fX0_end_37 N u x1 x2 = some (r, u1) → wc_W D dA h u H → wc_S u → va_S (CA h) s.heap H locs → lv_has ls 3 [(0, .ref (h + 0)), (1, .int x1), (2, .ref (h + x2))] → W p l e ({ frames := 2, cells := 0, slots := 0, locals := 43 }) s m args below meth c H locs 0 0 (MQ below (wc_Qr D dA h (some (.int r)) u1) args s 0 0 (CA h)) (F0 m 37 ls []) := by
    intro u x1 x2 H locs ls hE hW hS hV hl
    unfold fX0_end_37 at hE
    refine lv_aload_n hx hb dX0_end_37 rfl (lv_at hl 0 rfl) ?_
    refine cgs_X0_19_0 C hW (st_0 hS) (sp_0_now hS) dX0_end_38 ?_
    refine cgs_X0_40_1 C hW (st_F hS wc_F3) (sp_F_slots hS wc_F3) dX0_end_41 ?_
    refine lv_iload_n hx hb dX0_end_44 rfl (lv_at hl 1 rfl) ?_
    refine wc_ldq6 C hW (st_F_slots hS wc_F3) hE dX0_end_45 (fun hE => ?_)
    refine z_nmp hE (fun p11 hE => ?_)
    refine lv_null hx hb dX0_end_46 ?_
    obtain ⟨n12, hp_, hE_⟩ := o_nn_some hE
    clear hE
    subst hp_
    have hE := hE_
    obtain ⟨ht, hE⟩ := o_sh_some hE
    refine cp_X0_44_2 (x := none) (J := wc_S) C hW hV ht (hS.uP (wc_S.noR hS ht (by decide))) hE dX0_end_47 (fun u13 H locs hE hW hS hV => ?_)
    refine lv_aload_n hx hb dX0_end_50 rfl (lv_at hl 2 rfl) ?_
    obtain ⟨ht, hE⟩ := o_lt_some hE
    refine cg_X0_257_l C hW ht dX0_end_51 ?_
    exact wc_iret C hr hlocks hW hS hV hE dX0_end_54
  unfold fX0_end at hE
  refine lv_aload_n hx hb dX0_end_0 rfl (lv_at hl 0 rfl) ?_
  refine cgs_X0_19_0 C hW (st_0 hS) (sp_0_now hS) dX0_end_1 ?_
  refine lv_iload_n hx hb dX0_end_4 rfl (lv_at hl 1 rfl) ?_
  obtain ⟨r14, u15, hc, hE⟩ := o_bd2_some hE
  refine cc_X0_247 C hW hS hV (st_F hS wc_F3) (kX1_at wc_F3 hc) rfl rfl ⟨Nat.le_of_ble_eq_true rfl, Nat.le_of_ble_eq_true rfl⟩ ⟨Nat.le_refl 0, Nat.le_refl 0⟩ dX0_end_5 hl.1 (Nat.le_of_ble_eq_true rfl) (fun H locs hW hS hV => ?_)
  refine z_astore_n (lv' := [(2, wc_rf h r14), (0, .ref (h + 0)), (1, .int a1)]) hx hb dX0_end_8 rfl hl (by decide) rfl (fun ls hl => ?_)
  refine z_aload_n hx hb dX0_end_9 rfl (lv_at hl 0 rfl) ?_
  obtain ⟨n16, hp_, hE_⟩ := o_nn_some hE
  clear hE
  subst hp_
  have hE := hE_
  obtain ⟨r18, u17, hc, hE⟩ := o_bd2_some hE
  refine cl_X0_269 C hW hS hV hc ⟨Nat.le_of_ble_eq_true rfl, Nat.le_of_ble_eq_true rfl⟩ ⟨Nat.le_refl 0, Nat.le_refl 0⟩ dX0_end_10 hl.1 (Nat.le_of_ble_eq_true rfl) (fun H locs hW hS hV => ?_)
  refine lv_iconst (v := (-1 : Int32)) hx hb dX0_end_13 rfl ?_
  refine lv_icmp_eq (tgt := 37) hx hb dX0_end_14 (by decide) (fun c19 => ?_) (fun c19 => ?_)
  · have hE := z_t c19 hE
    exact w_37 _ _ _ _ _ _ hE hW hS hV (lv_sub hl [1, 2, 0] rfl)
  · have hE := z_f c19 hE
    refine lv_aload_n hx hb dX0_end_17 rfl (lv_at hl 1 rfl) ?_
    refine cgs_X0_19_0 C hW (st_0 hS) (sp_0_now hS) dX0_end_18 ?_
    refine cgs_X0_272_1 C hW (st_F hS wc_F3) (sp_F_books hS wc_F3) dX0_end_21 ?_
    refine lv_aload_n hx hb dX0_end_24 rfl (lv_at hl 0 rfl) ?_
    obtain ⟨r21, u20, hc, hE⟩ := o_bd2_some hE
    refine cl_X0_269 C hW hS hV hc ⟨Nat.le_of_ble_eq_true rfl, Nat.le_of_ble_eq_true rfl⟩ ⟨Nat.le_refl 0, Nat.le_refl 0⟩ dX0_end_25 hl.1 (Nat.le_of_ble_eq_true rfl) (fun H locs hW hS hV => ?_)
    refine lv_dup2_11 hx hb dX0_end_28 rfl rfl ?_
    refine wc_ldl C hW (st_F_books hS wc_F3) hE dX0_end_29 (fun hE => ?_)
    refine z_nml hE (fun v22 hE => ?_)
    refine lv_aload_n hx hb dX0_end_30 rfl (lv_at hl 0 rfl) ?_
    obtain ⟨ht, hE⟩ := o_lt_some hE
    refine cg_X0_257_l C hW ht dX0_end_31 ?_
    refine lv_i2l hx hb dX0_end_34 rfl ?_
    refine lv_ladd hx hb dX0_end_35 ?_
    refine wc_stl (J := wc_S) C hW hV (st_F_books hS wc_F3) hS.uB hE dX0_end_36 (fun u23 H locs hE hW hS hV => ?_)
    exact w_37 _ _ _ _ _ _ hE hW hS hV (lv_sub hl [1, 2, 0] rfl)
theorem cc_X1_321 {F : Nat} {a1 : Int32} {a2 : Int32} {a3 : Int32} {r : Int32} {u u1 : CS} {rm : Room} (C : CC p m c cc nL s args D dA RX1) (hW : wc_W D dA h u H) (hS : wc_S u) (hV : va_S (CA h) H0 H locs) (ht : wc_T u F = some (.inl 1)) (hM : Met l yX1_countAt (ws_ yX1_countAt cX1_countAt 4 (some .int)) rm (va_Pc [.ref (h + F), .int a1, .int a2, .int a3] (wc_St D dA h u)) (wc_Qr D dA h (some (.int r)) u1) 0 0 (CA h)) (hrc : rm.cells = 0) (hrs : rm.slots = 0) (hR : rm.frames + 1 ≤ R.frames ∧ 8 + (4 + 11) + rm.locals ≤ R.locals) (hf : cells + 0 ≤ R.cells ∧ slots + 0 ≤ R.slots) (d : decode cc pc = .ok (.invokevirtual 321, 3)) (hsz : ls.size = nL) (hro : (rest.map fun v => v.category).sum ≤ 8) (kk : ∀ (H1 : Heap) (locs1 : List Loc), wc_W D dA h u1 H1 → wc_S u1 → va_S (CA h) H0 H1 locs1 → W p l e R s m args below meth c H1 locs1 cells slots Q (F0 m (pc + 3) ls (.int r :: rest))) : W p l e R s m args below meth c H locs cells slots Q (F0 m pc ls (.int a3 :: .int a2 :: .int a1 :: .ref (h + F) :: rest)) :=
  wc_call (v := (some (.int r))) (va_runV (As := [.int a1, .int a2, .int a3]) (rest := rest) C.1 hM (cwV 3 C.1.2.2.2.2 (lw_V q944 q946 qs26 q167 q947) rfl hrc hrs (by decide +kernel) hR) (wc_preV (q := (RX1, TX1, 46)) C.2 hW hS ht rfl _) rfl rfl hsz rfl (lv_room hro) d hf) hV (fun _ z => z) (fun H1 locs1 a b c0 _ _ => kk H1 locs1 a b c0)
theorem cc_X0_442 {F : Nat} {a1 : Int32} {a2 : Int32} {a3 : Int32} {r : Int32} {u u1 : CS} {rm : Room} (C : CC p m c cc nL s args D dA RX0) (hW : wc_W D dA h u H) (hS : wc_S u) (hV : va_S (CA h) H0 H locs) (ht : wc_T u F = some (.inl 1)) (hM : Met l yX1_countAt (ws_ yX1_countAt cX1_countAt 4 (some .int)) rm (va_Pc [.ref (h + F), .int a1, .int a2, .int a3] (wc_St D dA h u)) (wc_Qr D dA h (some (.int r)) u1) 0 0 (CA h)) (hrc : rm.cells = 0) (hrs : rm.slots = 0) (hR : rm.frames + 1 ≤ R.frames ∧ 8 + (4 + 11) + rm.locals ≤ R.locals) (hf : cells + 0 ≤ R.cells ∧ slots + 0 ≤ R.slots) (d : decode cc pc = .ok (.invokevirtual 442, 3)) (hsz : ls.size = nL) (hro : (rest.map fun v => v.category).sum ≤ 8) (kk : ∀ (H1 : Heap) (locs1 : List Loc), wc_W D dA h u1 H1 → wc_S u1 → va_S (CA h) H0 H1 locs1 → W p l e R s m args below meth c H1 locs1 cells slots Q (F0 m (pc + 3) ls (.int r :: rest))) : W p l e R s m args below meth c H locs cells slots Q (F0 m pc ls (.int a3 :: .int a2 :: .int a1 :: .ref (h + F) :: rest)) :=
  wc_call (v := (some (.int r))) (va_runVN (As := [.int a1, .int a2, .int a3]) (rest := rest) C.1 hM ⟨va_cnB 3 C.1.2.2.2.2 (lw_meth q947) rfl hrc hrs (C.2.2.at q1385 rfl) (C.1.2.2.2.2 _ q167) (by decide +kernel) hR, C.1.2.2.2.2 _ q946, C.1.2.2.2.2 _ qs26⟩ (wc_preV (q := (RX1, TX1, 46)) C.2 hW hS ht rfl _) rfl rfl hsz rfl (lv_room hro) d hf) hV (fun _ z => z) (fun H1 locs1 a b c0 _ _ => kk H1 locs1 a b c0)
set_option maxHeartbeats 4000000 in
set_option maxRecDepth 100000 in
theorem kX1_countAt {l : Launch} {D : va_G} {dA : Nat → ClassId} {h N : Nat} {F : Nat} {a1 : Int32} {a2 : Int32} {a3 : Int32} {u u1 : CS} {r : Int32} (hF : wc_F F) (hE : fX1_countAt N F u a1 a2 a3 = some (r, u1)) : Met l yX1_countAt (ws_ yX1_countAt cX1_countAt 4 (some .int)) ({ frames := 0, cells := 0, slots := 0, locals := 0 }) (va_Pc [.ref (h + F), .int a1, .int a2, .int a3] (wc_St D dA h u)) (wc_Qr D dA h (some (.int r)) u1) 0 0 (CA h) := by
  refine wc_met (own := RX1) (lv := [(0, .ref (h + F)), (1, .int a1), (2, .int a2), (3, .int a3)]) (by decide) rfl rfl rfl ?_
  intro p e s m args below meth c ls C hr hlocks hW hS hV hl
  have hx := C.1.1
  have hb := C.1.2.1
  unfold fX1_countAt at hE
  refine lv_aload_n hx hb dX1_countAt_0 rfl (lv_at hl 0 rfl) ?_
  refine cgs_X1_125_1 C hW (st_F hS hF) (sp_F_counts hS hF) dX1_countAt_1 ?_
  refine lv_iconst (v := (5 : Int32)) hx hb dX1_countAt_4 rfl ?_
  refine lv_bipush (v := (8 : Int32)) hx hb dX1_countAt_5 rfl ?_
  refine lv_iload_n hx hb dX1_countAt_7 rfl (lv_at hl 1 rfl) ?_
  refine lv_imul hx hb dX1_countAt_8 ?_
  refine lv_iload_n hx hb dX1_countAt_9 rfl (lv_at hl 2 rfl) ?_
  refine lv_iadd hx hb dX1_countAt_10 ?_
  refine lv_imul hx hb dX1_countAt_11 ?_
  refine lv_iload_n hx hb dX1_countAt_12 rfl (lv_at hl 3 rfl) ?_
  refine lv_iadd hx hb dX1_countAt_13 ?_
  refine wc_ldi C hW (st_F_counts hS hF) hE dX1_countAt_14 (fun hE => ?_)
  refine z_nmi hE (fun v2 hE => ?_)
  exact wc_iret C hr hlocks hW hS hV hE dX1_countAt_15
theorem cc_X1_324 {F : Nat} {a1 : Int32} {a2 : Int32} {r : Int32} {u u1 : CS} {rm : Room} (C : CC p m c cc nL s args D dA RX1) (hW : wc_W D dA h u H) (hS : wc_S u) (hV : va_S (CA h) H0 H locs) (ht : wc_T u F = some (.inl 1)) (hM : Met l yX1_grown (ws_ yX1_grown cX1_grown 5 (some .int)) rm (va_Pc [.ref (h + F), .int a1, .int a2] (wc_St D dA h u)) (wc_Qr D dA h (some (.int r)) u1) 0 0 (CA h)) (hrc : rm.cells = 0) (hrs : rm.slots = 0) (hR : rm.frames + 1 ≤ R.frames ∧ 8 + (5 + 11) + rm.locals ≤ R.locals) (hf : cells + 0 ≤ R.cells ∧ slots + 0 ≤ R.slots) (d : decode cc pc = .ok (.invokevirtual 324, 3)) (hsz : ls.size = nL) (hro : (rest.map fun v => v.category).sum ≤ 8) (kk : ∀ (H1 : Heap) (locs1 : List Loc), wc_W D dA h u1 H1 → wc_S u1 → va_S (CA h) H0 H1 locs1 → W p l e R s m args below meth c H1 locs1 cells slots Q (F0 m (pc + 3) ls (.int r :: rest))) : W p l e R s m args below meth c H locs cells slots Q (F0 m pc ls (.int a2 :: .int a1 :: .ref (h + F) :: rest)) :=
  wc_call (v := (some (.int r))) (va_runV (As := [.int a1, .int a2]) (rest := rest) C.1 hM (cwV 2 C.1.2.2.2.2 (lw_V q940 q942 qs25 q167 q943) rfl hrc hrs (by decide +kernel) hR) (wc_preV (q := (RX1, TX1, 46)) C.2 hW hS ht rfl _) rfl rfl hsz rfl (lv_room hro) d hf) hV (fun _ z => z) (fun H1 locs1 a b c0 _ _ => kk H1 locs1 a b c0)
theorem cc_X0_439 {F : Nat} {a1 : Int32} {a2 : Int32} {r : Int32} {u u1 : CS} {rm : Room} (C : CC p m c cc nL s args D dA RX0) (hW : wc_W D dA h u H) (hS : wc_S u) (hV : va_S (CA h) H0 H locs) (ht : wc_T u F = some (.inl 1)) (hM : Met l yX1_grown (ws_ yX1_grown cX1_grown 5 (some .int)) rm (va_Pc [.ref (h + F), .int a1, .int a2] (wc_St D dA h u)) (wc_Qr D dA h (some (.int r)) u1) 0 0 (CA h)) (hrc : rm.cells = 0) (hrs : rm.slots = 0) (hR : rm.frames + 1 ≤ R.frames ∧ 8 + (5 + 11) + rm.locals ≤ R.locals) (hf : cells + 0 ≤ R.cells ∧ slots + 0 ≤ R.slots) (d : decode cc pc = .ok (.invokevirtual 439, 3)) (hsz : ls.size = nL) (hro : (rest.map fun v => v.category).sum ≤ 8) (kk : ∀ (H1 : Heap) (locs1 : List Loc), wc_W D dA h u1 H1 → wc_S u1 → va_S (CA h) H0 H1 locs1 → W p l e R s m args below meth c H1 locs1 cells slots Q (F0 m (pc + 3) ls (.int r :: rest))) : W p l e R s m args below meth c H locs cells slots Q (F0 m pc ls (.int a2 :: .int a1 :: .ref (h + F) :: rest)) :=
  wc_call (v := (some (.int r))) (va_runVN (As := [.int a1, .int a2]) (rest := rest) C.1 hM ⟨va_cnB 2 C.1.2.2.2.2 (lw_meth q943) rfl hrc hrs (C.2.2.at q1384 rfl) (C.1.2.2.2.2 _ q167) (by decide +kernel) hR, C.1.2.2.2.2 _ q942, C.1.2.2.2.2 _ qs25⟩ (wc_preV (q := (RX1, TX1, 46)) C.2 hW hS ht rfl _) rfl rfl hsz rfl (lv_room hro) d hf) hV (fun _ z => z) (fun H1 locs1 a b c0 _ _ => kk H1 locs1 a b c0)
set_option maxHeartbeats 4000000 in
set_option maxRecDepth 100000 in
theorem kX1_grown {l : Launch} {D : va_G} {dA : Nat → ClassId} {h N : Nat} {F : Nat} {a1 : Int32} {a2 : Int32} {u u1 : CS} {r : Int32} (hF : wc_F F) (hE : fX1_grown N F u a1 a2 = some (r, u1)) : Met l yX1_grown (ws_ yX1_grown cX1_grown 5 (some .int)) ({ frames := 2, cells := 0, slots := 0, locals := 44 }) (va_Pc [.ref (h + F), .int a1, .int a2] (wc_St D dA h u)) (wc_Qr D dA h (some (.int r)) u1) 0 0 (CA h) := by
  refine wc_met (own := RX1) (lv := [(0, .ref (h + F)), (1, .int a1), (2, .int a2)]) (by decide) rfl rfl rfl ?_
  intro p e s m args below meth c ls C hr hlocks hW hS hV hl
  have hx := C.1.1
  have hb := C.1.2.1
  have w_78 : ∀ (u : CS) (H : Heap) (locs : List Loc) (ls : Array Slot), fX1_grown_78 N F u = some (r, u1) → wc_W D dA h u H → wc_S u → va_S (CA h) s.heap H locs → lv_has ls 5 [] → W p l e ({ frames := 2, cells := 0, slots := 0, locals := 44 }) s m args below meth c H locs 0 0 (MQ below (wc_Qr D dA h (some (.int r)) u1) args s 0 0 (CA h)) (F0 m 78 ls []) := by
    intro u H locs ls hE hW hS hV hl
    unfold fX1_grown_78 at hE
    refine lv_iconst (v := (0 : Int32)) hx hb dX1_grown_78 rfl ?_
    exact wc_iret C hr hlocks hW hS hV hE dX1_grown_79
  have w_80 : ∀ (u : CS) (x1 : Int32) (x2 : Int32) (x3 : Int32) (H : Heap) (locs : List Loc) (ls : Array Slot), fX1_grown_80 N F u x1 x2 x3 = some (r, u1) → wc_W D dA h u H → wc_S u → va_S (CA h) s.heap H locs → lv_has ls 5 [(0, .ref (h + F)), (1, .int x1), (2, .int x2), (3, .int x3)] → W p l e ({ frames := 2, cells := 0, slots := 0, locals := 44 }) s m args below meth c H locs 0 0 (MQ below (wc_Qr D dA h (some (.int r)) u1) args s 0 0 (CA h)) (F0 m 80 ls []) := by
    intro u x1 x2 x3 H locs ls hE hW hS hV hl
    unfold fX1_grown_80 at hE
    refine lv_aload_n hx hb dX1_grown_80 rfl (lv_at hl 0 rfl) ?_
    refine lv_iload_n hx hb dX1_grown_81 rfl (lv_at hl 1 rfl) ?_
    refine lv_iload_n hx hb dX1_grown_82 rfl (lv_at hl 2 rfl) ?_
    refine lv_iconst (v := (3 : Int32)) hx hb dX1_grown_83 rfl ?_
    obtain ⟨r18, u19, hc, hE⟩ := o_bd2_some hE
    refine cc_X1_321 C hW hS hV (st_F hS hF) (kX1_countAt hF hc) rfl rfl ⟨Nat.le_of_ble_eq_true rfl, Nat.le_of_ble_eq_true rfl⟩ ⟨Nat.le_refl 0, Nat.le_refl 0⟩ dX1_grown_84 hl.1 (Nat.le_of_ble_eq_true rfl) (fun H locs hW hS hV => ?_)
    refine lv_i2l hx hb dX1_grown_87 rfl ?_
    refine lv_aload_n hx hb dX1_grown_88 rfl (lv_at hl 0 rfl) ?_
    refine cgs_X1_18_1 C hW (st_F hS hF) (sp_F_kinds hS hF) dX1_grown_89 ?_
    refine lv_iload_n hx hb dX1_grown_92 rfl (lv_at hl 1 rfl) ?_
    refine wc_ldi C hW (st_F_kinds hS hF) hE dX1_grown_93 (fun hE => ?_)
    refine z_nmi hE (fun v20 hE => ?_)
    refine lv_aload_n hx hb dX1_grown_94 rfl (lv_at hl 0 rfl) ?_
    refine cgs_X1_15_1 C hW (st_F hS hF) (sp_F_sites hS hF) dX1_grown_95 ?_
    refine lv_iload_n hx hb dX1_grown_98 rfl (lv_at hl 1 rfl) ?_
    refine wc_ldi C hW (st_F_sites hS hF) hE dX1_grown_99 (fun hE => ?_)
    refine z_nmi hE (fun v21 hE => ?_)
    refine lv_aload_n hx hb dX1_grown_100 rfl (lv_at hl 0 rfl) ?_
    refine cgs_X1_27_1 C hW (st_F hS hF) (sp_F_ages hS hF) dX1_grown_101 ?_
    refine lv_iload_n hx hb dX1_grown_104 rfl (lv_at hl 1 rfl) ?_
    refine wc_ldi C hW (st_F_ages hS hF) hE dX1_grown_105 (fun hE => ?_)
    refine z_nmi hE (fun v22 hE => ?_)
    obtain ⟨r23, hc, hE⟩ := o_bd_some hE
    refine sc_X1_180 C.1 C.2.2 (kX0_feetOf hc) rfl rfl ⟨Nat.le_of_ble_eq_true rfl, Nat.le_of_ble_eq_true rfl⟩ ⟨Nat.le_refl 0, Nat.le_refl 0⟩ dX1_grown_106 hl.1 (Nat.le_of_ble_eq_true rfl) ?_
    refine lv_i2l hx hb dX1_grown_109 rfl ?_
    refine lv_lmul hx hb dX1_grown_110 ?_
    refine lv_iload_n hx hb dX1_grown_111 rfl (lv_at hl 3 rfl) ?_
    refine lv_i2l hx hb dX1_grown_112 rfl ?_
    obtain ⟨hz, hE⟩ := o_nzl_some hE
    refine lv_ldiv hx hb dX1_grown_113 hz ?_
    refine lv_l2i hx hb dX1_grown_114 rfl ?_
    exact wc_iret C hr hlocks hW hS hV hE dX1_grown_115
  have w_57 : ∀ (u : CS) (x1 : Int32) (x2 : Int32) (x3 : Int32) (x4 : Int32) (H : Heap) (locs : List Loc) (ls : Array Slot), fX1_grown_57 N F u x1 x2 x3 x4 = some (r, u1) → wc_W D dA h u H → wc_S u → va_S (CA h) s.heap H locs → lv_has ls 5 [(0, .ref (h + F)), (1, .int x1), (2, .int x2), (3, .int x3), (4, .int x4)] → W p l e ({ frames := 2, cells := 0, slots := 0, locals := 44 }) s m args below meth c H locs 0 0 (MQ below (wc_Qr D dA h (some (.int r)) u1) args s 0 0 (CA h)) (F0 m 57 ls []) := by
    intro u x1 x2 x3 x4 H locs ls hE hW hS hV hl
    unfold fX1_grown_57 at hE
    refine lv_aload_n hx hb dX1_grown_57 rfl (lv_at hl 0 rfl) ?_
    refine cgs_X1_42_1 C hW (st_F hS hF) (sp_F_plantedIn hS hF) dX1_grown_58 ?_
    refine lv_iload_n hx hb dX1_grown_61 rfl (lv_at hl 1 rfl) ?_
    refine wc_ldi C hW (st_F_plantedIn hS hF) hE dX1_grown_62 (fun hE => ?_)
    refine z_nmi hE (fun v24 hE => ?_)
    refine lv_iconst (v := (-1 : Int32)) hx hb dX1_grown_63 rfl ?_
    refine lv_icmp_eq (tgt := 80) hx hb dX1_grown_64 (by decide) (fun c25 => ?_) (fun c25 => ?_)
    · have hE := z_t c25 hE
      exact w_80 _ _ _ _ _ _ _ hE hW hS hV (lv_sub hl [0, 1, 2, 3] rfl)
    · have hE := z_f c25 hE
      refine lv_aload_n hx hb dX1_grown_67 rfl (lv_at hl 0 rfl) ?_
      refine cgs_X1_42_1 C hW (st_F hS hF) (sp_F_plantedIn hS hF) dX1_grown_68 ?_
      refine lv_iload_n hx hb dX1_grown_71 rfl (lv_at hl 1 rfl) ?_
      refine wc_ldi C hW (st_F_plantedIn hS hF) hE dX1_grown_72 (fun hE => ?_)
      refine z_nmi hE (fun v26 hE => ?_)
      refine lv_iload hx hb dX1_grown_73 (lv_at hl 4 rfl) ?_
      refine lv_icmp_lt (tgt := 80) hx hb dX1_grown_75 (by decide) (fun c27 => ?_) (fun c27 => ?_)
      · have hE := z_t c27 hE
        exact w_80 _ _ _ _ _ _ _ hE hW hS hV (lv_sub hl [0, 1, 2, 3] rfl)
      · have hE := z_f c27 hE
        exact w_78 _ _ _ _ hE hW hS hV (lv_sub hl [] rfl)
  unfold fX1_grown at hE
  refine lv_aload_n hx hb dX1_grown_0 rfl (lv_at hl 0 rfl) ?_
  refine cgs_X1_18_1 C hW (st_F hS hF) (sp_F_kinds hS hF) dX1_grown_1 ?_
  refine lv_iload_n hx hb dX1_grown_4 rfl (lv_at hl 1 rfl) ?_
  refine wc_ldi C hW (st_F_kinds hS hF) hE dX1_grown_5 (fun hE => ?_)
  refine z_nmi hE (fun v28 hE => ?_)
  refine lv_aload_n hx hb dX1_grown_6 rfl (lv_at hl 0 rfl) ?_
  refine cgs_X1_15_1 C hW (st_F hS hF) (sp_F_sites hS hF) dX1_grown_7 ?_
  refine lv_iload_n hx hb dX1_grown_10 rfl (lv_at hl 1 rfl) ?_
  refine wc_ldi C hW (st_F_sites hS hF) hE dX1_grown_11 (fun hE => ?_)
  refine z_nmi hE (fun v29 hE => ?_)
  refine lv_aload_n hx hb dX1_grown_12 rfl (lv_at hl 0 rfl) ?_
  refine lv_iload_n hx hb dX1_grown_13 rfl (lv_at hl 1 rfl) ?_
  refine lv_iload_n hx hb dX1_grown_14 rfl (lv_at hl 2 rfl) ?_
  refine lv_iconst (v := (1 : Int32)) hx hb dX1_grown_15 rfl ?_
  obtain ⟨r30, u31, hc, hE⟩ := o_bd2_some hE
  refine cc_X1_321 C hW hS hV (st_F hS hF) (kX1_countAt hF hc) rfl rfl ⟨Nat.le_of_ble_eq_true rfl, Nat.le_of_ble_eq_true rfl⟩ ⟨Nat.le_refl 0, Nat.le_refl 0⟩ dX1_grown_16 hl.1 (Nat.le_of_ble_eq_true rfl) (fun H locs hW hS hV => ?_)
  obtain ⟨r32, hc, hE⟩ := o_bd_some hE
  refine sc_X1_180 C.1 C.2.2 (kX0_feetOf hc) rfl rfl ⟨Nat.le_of_ble_eq_true rfl, Nat.le_of_ble_eq_true rfl⟩ ⟨Nat.le_refl 0, Nat.le_refl 0⟩ dX1_grown_19 hl.1 (Nat.le_of_ble_eq_true rfl) ?_
  refine lv_istore_n (lv' := [(3, .int r32), (0, .ref (h + F)), (1, .int a1), (2, .int a2)]) hx hb dX1_grown_22 rfl hl (by decide) rfl (fun ls hl => ?_)
  refine lv_aload_n hx hb dX1_grown_23 rfl (lv_at hl 1 rfl) ?_
  refine lv_iload_n hx hb dX1_grown_24 rfl (lv_at hl 2 rfl) ?_
  refine lv_iload_n hx hb dX1_grown_25 rfl (lv_at hl 3 rfl) ?_
  refine lv_iconst (v := (0 : Int32)) hx hb dX1_grown_26 rfl ?_
  obtain ⟨r33, u34, hc, hE⟩ := o_bd2_some hE
  refine cc_X1_321 C hW hS hV (st_F hS hF) (kX1_countAt hF hc) rfl rfl ⟨Nat.le_of_ble_eq_true rfl, Nat.le_of_ble_eq_true rfl⟩ ⟨Nat.le_refl 0, Nat.le_refl 0⟩ dX1_grown_27 hl.1 (Nat.le_of_ble_eq_true rfl) (fun H locs hW hS hV => ?_)
  refine lv_istore (lv' := [(4, .int r33), (3, .int r32), (0, .ref (h + F)), (1, .int a1), (2, .int a2)]) hx hb dX1_grown_30 hl (by decide) rfl (fun ls hl => ?_)
  refine lv_iload_n hx hb dX1_grown_32 rfl (lv_at hl 1 rfl) ?_
  refine lv_if_eq (tgt := 78) hx hb dX1_grown_33 (by decide) (fun c35 => ?_) (fun c35 => ?_)
  · have hE := z_t c35 hE
    exact w_78 _ _ _ _ hE hW hS hV (lv_sub hl [] rfl)
  · have hE := z_f c35 hE
    refine lv_aload_n hx hb dX1_grown_36 rfl (lv_at hl 2 rfl) ?_
    refine cgs_X1_39_1 C hW (st_F hS hF) (sp_F_cutIn hS hF) dX1_grown_37 ?_
    refine lv_iload_n hx hb dX1_grown_40 rfl (lv_at hl 3 rfl) ?_
    refine wc_ldi C hW (st_F_cutIn hS hF) hE dX1_grown_41 (fun hE => ?_)
    refine z_nmi hE (fun v36 hE => ?_)
    refine lv_iconst (v := (-1 : Int32)) hx hb dX1_grown_42 rfl ?_
    refine lv_icmp_eq (tgt := 57) hx hb dX1_grown_43 (by decide) (fun c37 => ?_) (fun c37 => ?_)
    · have hE := z_t c37 hE
      exact w_57 _ _ _ _ _ _ _ _ hE hW hS hV (lv_sub hl [2, 3, 4, 1, 0] rfl)
    · have hE := z_f c37 hE
      refine lv_aload_n hx hb dX1_grown_46 rfl (lv_at hl 2 rfl) ?_
      refine cgs_X1_39_1 C hW (st_F hS hF) (sp_F_cutIn hS hF) dX1_grown_47 ?_
      refine lv_iload_n hx hb dX1_grown_50 rfl (lv_at hl 3 rfl) ?_
      refine wc_ldi C hW (st_F_cutIn hS hF) hE dX1_grown_51 (fun hE => ?_)
      refine z_nmi hE (fun v38 hE => ?_)
      refine lv_iload hx hb dX1_grown_52 (lv_at hl 0 rfl) ?_
      refine lv_icmp_ge (tgt := 78) hx hb dX1_grown_54 (by decide) (fun c39 => ?_) (fun c39 => ?_)
      · have hE := z_t c39 hE
        exact w_78 _ _ _ _ hE hW hS hV (lv_sub hl [] rfl)
      · have hE := z_f c39 hE
        exact w_57 _ _ _ _ _ _ _ _ hE hW hS hV (lv_sub hl [2, 3, 4, 1, 0] rfl)
theorem cc_X0_295 {F : Nat} {a1 : Int32} {r : Int32} {u u1 : CS} {rm : Room} (C : CC p m c cc nL s args D dA RX0) (hW : wc_W D dA h u H) (hS : wc_S u) (hV : va_S (CA h) H0 H locs) (ht : wc_T u F = some (.inl 1)) (hM : Met l yX1_lack (ws_ yX1_lack cX1_lack 3 (some .int)) rm (va_Pc [.ref (h + F), .int a1] (wc_St D dA h u)) (wc_Qr D dA h (some (.int r)) u1) 0 0 (CA h)) (hrc : rm.cells = 0) (hrs : rm.slots = 0) (hR : rm.frames + 1 ≤ R.frames ∧ 8 + (3 + 11) + rm.locals ≤ R.locals) (hf : cells + 0 ≤ R.cells ∧ slots + 0 ≤ R.slots) (d : decode cc pc = .ok (.invokevirtual 295, 3)) (hsz : ls.size = nL) (hro : (rest.map fun v => v.category).sum ≤ 8) (kk : ∀ (H1 : Heap) (locs1 : List Loc), wc_W D dA h u1 H1 → wc_S u1 → va_S (CA h) H0 H1 locs1 → W p l e R s m args below meth c H1 locs1 cells slots Q (F0 m (pc + 3) ls (.int r :: rest))) : W p l e R s m args below meth c H locs cells slots Q (F0 m pc ls (.int a1 :: .ref (h + F) :: rest)) :=
  wc_call (v := (some (.int r))) (va_runVN (As := [.int a1]) (rest := rest) C.1 hM ⟨va_cnB 1 C.1.2.2.2.2 (lw_meth q939) rfl hrc hrs (C.2.2.at q936 rfl) (C.1.2.2.2.2 _ q167) (by decide +kernel) hR, C.1.2.2.2.2 _ q938, C.1.2.2.2.2 _ qs24⟩ (wc_preV (q := (RX1, TX1, 46)) C.2 hW hS ht rfl _) rfl rfl hsz rfl (lv_room hro) d hf) hV (fun _ z => z) (fun H1 locs1 a b c0 _ _ => kk H1 locs1 a b c0)
set_option maxHeartbeats 4000000 in
set_option maxRecDepth 100000 in
theorem kX1_lack {l : Launch} {D : va_G} {dA : Nat → ClassId} {h N : Nat} {F : Nat} {a1 : Int32} {u u1 : CS} {r : Int32} (hF : wc_F F) (hE : fX1_lack N F u a1 = some (r, u1)) : Met l yX1_lack (ws_ yX1_lack cX1_lack 3 (some .int)) ({ frames := 3, cells := 0, slots := 0, locals := 68 }) (va_Pc [.ref (h + F), .int a1] (wc_St D dA h u)) (wc_Qr D dA h (some (.int r)) u1) 0 0 (CA h) := by
  refine wc_met (own := RX1) (lv := [(0, .ref (h + F)), (1, .int a1)]) (by decide) rfl rfl rfl ?_
  intro p e s m args below meth c ls C hr hlocks hW hS hV hl
  have hx := C.1.1
  have hb := C.1.2.1
  unfold fX1_lack at hE
  refine lv_aload_n hx hb dX1_lack_0 rfl (lv_at hl 0 rfl) ?_
  refine cgs_X1_122_1 C hW (st_F hS hF) (sp_F_countMany hS hF) dX1_lack_1 ?_
  refine lv_iload_n hx hb dX1_lack_4 rfl (lv_at hl 1 rfl) ?_
  refine wc_ldi C hW (st_F_countMany hS hF) hE dX1_lack_5 (fun hE => ?_)
  refine z_nmi hE (fun v6 hE => ?_)
  refine lv_istore_n (lv' := [(2, .int v6), (0, .ref (h + F)), (1, .int a1)]) hx hb dX1_lack_6 rfl hl (by decide) rfl (fun ls hl => ?_)
  refine lv_iconst (v := (0 : Int32)) hx hb dX1_lack_7 rfl ?_
  refine lv_aload_n hx hb dX1_lack_8 rfl (lv_at hl 1 rfl) ?_
  refine lv_iload_n hx hb dX1_lack_9 rfl (lv_at hl 2 rfl) ?_
  refine lv_iload_n hx hb dX1_lack_10 rfl (lv_at hl 0 rfl) ?_
  refine lv_iconst (v := (2 : Int32)) hx hb dX1_lack_11 rfl ?_
  refine lv_isub hx hb dX1_lack_12 ?_
  obtain ⟨r7, u8, hc, hE⟩ := o_bd2_some hE
  refine cc_X1_324 C hW hS hV (st_F hS hF) (kX1_grown hF hc) rfl rfl ⟨Nat.le_of_ble_eq_true rfl, Nat.le_of_ble_eq_true rfl⟩ ⟨Nat.le_refl 0, Nat.le_refl 0⟩ dX1_lack_13 hl.1 (Nat.le_of_ble_eq_true rfl) (fun H locs hW hS hV => ?_)
  refine lv_aload_n hx hb dX1_lack_16 rfl (lv_at hl 1 rfl) ?_
  refine lv_iload_n hx hb dX1_lack_17 rfl (lv_at hl 2 rfl) ?_
  refine lv_iload_n hx hb dX1_lack_18 rfl (lv_at hl 0 rfl) ?_
  refine lv_iconst (v := (1 : Int32)) hx hb dX1_lack_19 rfl ?_
  refine lv_isub hx hb dX1_lack_20 ?_
  refine lv_iconst (v := (4 : Int32)) hx hb dX1_lack_21 rfl ?_
  obtain ⟨r9, u10, hc, hE⟩ := o_bd2_some hE
  refine cc_X1_321 C hW hS hV (st_F hS hF) (kX1_countAt hF hc) rfl rfl ⟨Nat.le_of_ble_eq_true rfl, Nat.le_of_ble_eq_true rfl⟩ ⟨Nat.le_refl 0, Nat.le_refl 0⟩ dX1_lack_22 hl.1 (Nat.le_of_ble_eq_true rfl) (fun H locs hW hS hV => ?_)
  refine lv_isub hx hb dX1_lack_25 ?_
  refine va_mmax hx hb (C.1.2.2.1.trans hl.1.symm) C.1.2.2.2.1 (C.1.2.2.2.2 _ q827) (C.1.2.2.2.2 _ q828) (C.1.2.2.2.2 _ q169) (C.1.2.2.2.2 _ q829) (Nat.le_of_ble_eq_true rfl) (by first | exact Nat.le_of_ble_eq_true rfl | (simp [wc_cat, Value.category])) (Nat.le_refl 0) (Nat.le_refl 0) dX1_lack_26 ?_
  exact wc_iret C hr hlocks hW hS hV hE dX1_lack_29
theorem cc_X1_258 {F : Nat} {r : Int32} {u u1 : CS} {rm : Room} (C : CC p m c cc nL s args D dA RX1) (hW : wc_W D dA h u H) (hS : wc_S u) (hV : va_S (CA h) H0 H locs) (ht : wc_T u F = some (.inl 1)) (hM : Met l yX1_free (ws_ yX1_free cX1_free 2 (some .int)) rm (va_Pc [.ref (h + F)] (wc_St D dA h u)) (wc_Qr D dA h (some (.int r)) u1) 0 0 (CA h)) (hrc : rm.cells = 0) (hrs : rm.slots = 0) (hR : rm.frames + 1 ≤ R.frames ∧ 8 + (2 + 11) + rm.locals ≤ R.locals) (hf : cells + 0 ≤ R.cells ∧ slots + 0 ≤ R.slots) (d : decode cc pc = .ok (.invokevirtual 258, 3)) (hsz : ls.size = nL) (hro : (rest.map fun v => v.category).sum ≤ 8) (kk : ∀ (H1 : Heap) (locs1 : List Loc), wc_W D dA h u1 H1 → wc_S u1 → va_S (CA h) H0 H1 locs1 → W p l e R s m args below meth c H1 locs1 cells slots Q (F0 m (pc + 3) ls (.int r :: rest))) : W p l e R s m args below meth c H locs cells slots Q (F0 m pc ls (.ref (h + F) :: rest)) :=
  wc_call (v := (some (.int r))) (va_runV (As := []) (rest := rest) C.1 hM (cwV 0 C.1.2.2.2.2 (lw_V q984 q950 qs27 q167 q951) rfl hrc hrs (by decide +kernel) hR) (wc_preV (q := (RX1, TX1, 46)) C.2 hW hS ht rfl _) rfl rfl hsz rfl (lv_room hro) d hf) hV (fun _ z => z) (fun H1 locs1 a b c0 _ _ => kk H1 locs1 a b c0)
theorem cc_X0_298 {F : Nat} {r : Int32} {u u1 : CS} {rm : Room} (C : CC p m c cc nL s args D dA RX0) (hW : wc_W D dA h u H) (hS : wc_S u) (hV : va_S (CA h) H0 H locs) (ht : wc_T u F = some (.inl 1)) (hM : Met l yX1_free (ws_ yX1_free cX1_free 2 (some .int)) rm (va_Pc [.ref (h + F)] (wc_St D dA h u)) (wc_Qr D dA h (some (.int r)) u1) 0 0 (CA h)) (hrc : rm.cells = 0) (hrs : rm.slots = 0) (hR : rm.frames + 1 ≤ R.frames ∧ 8 + (2 + 11) + rm.locals ≤ R.locals) (hf : cells + 0 ≤ R.cells ∧ slots + 0 ≤ R.slots) (d : decode cc pc = .ok (.invokevirtual 298, 3)) (hsz : ls.size = nL) (hro : (rest.map fun v => v.category).sum ≤ 8) (kk : ∀ (H1 : Heap) (locs1 : List Loc), wc_W D dA h u1 H1 → wc_S u1 → va_S (CA h) H0 H1 locs1 → W p l e R s m args below meth c H1 locs1 cells slots Q (F0 m (pc + 3) ls (.int r :: rest))) : W p l e R s m args below meth c H locs cells slots Q (F0 m pc ls (.ref (h + F) :: rest)) :=
  wc_call (v := (some (.int r))) (va_runVN (As := []) (rest := rest) C.1 hM ⟨va_cnB 0 C.1.2.2.2.2 (lw_meth q951) rfl hrc hrs (C.2.2.at q948 rfl) (C.1.2.2.2.2 _ q167) (by decide +kernel) hR, C.1.2.2.2.2 _ q950, C.1.2.2.2.2 _ qs27⟩ (wc_preV (q := (RX1, TX1, 46)) C.2 hW hS ht rfl _) rfl rfl hsz rfl (lv_room hro) d hf) hV (fun _ z => z) (fun H1 locs1 a b c0 _ _ => kk H1 locs1 a b c0)
set_option maxHeartbeats 4000000 in
set_option maxRecDepth 100000 in
theorem kX1_free {l : Launch} {D : va_G} {dA : Nat → ClassId} {h N : Nat} {F : Nat} {u u1 : CS} {r : Int32} (hF : wc_F F) (hE : fX1_free N F u = some (r, u1)) : Met l yX1_free (ws_ yX1_free cX1_free 2 (some .int)) ({ frames := 0, cells := 0, slots := 0, locals := 0 }) (va_Pc [.ref (h + F)] (wc_St D dA h u)) (wc_Qr D dA h (some (.int r)) u1) 0 0 (CA h) := by
  refine wc_met (own := RX1) (lv := [(0, .ref (h + F))]) (by decide) rfl rfl rfl ?_
  intro p e s m args below meth c ls C hr hlocks hW hS hV hl
  have hx := C.1.1
  have hb := C.1.2.1
  have w_37 : ∀ (u : CS) (y0 : Int32) (H : Heap) (locs : List Loc) (ls : Array Slot), fX1_free_37 N F u y0 = some (r, u1) → wc_W D dA h u H → wc_S u → va_S (CA h) s.heap H locs → lv_has ls 2 [] → W p l e ({ frames := 0, cells := 0, slots := 0, locals := 0 }) s m args below meth c H locs 0 0 (MQ below (wc_Qr D dA h (some (.int r)) u1) args s 0 0 (CA h)) (F0 m 37 ls [.int y0]) := by
    intro u y0 H locs ls hE hW hS hV hl
    unfold fX1_free_37 at hE
    exact wc_iret C hr hlocks hW hS hV hE dX1_free_37
  have w_26 : ∀ (u : CS) (x1 : Int32) (H : Heap) (locs : List Loc) (ls : Array Slot), fX1_free_26 N F u x1 = some (r, u1) → wc_W D dA h u H → wc_S u → va_S (CA h) s.heap H locs → lv_has ls 2 [(1, .int x1)] → W p l e ({ frames := 0, cells := 0, slots := 0, locals := 0 }) s m args below meth c H locs 0 0 (MQ below (wc_Qr D dA h (some (.int r)) u1) args s 0 0 (CA h)) (F0 m 26 ls []) := by
    intro u x1 H locs ls hE hW hS hV hl
    unfold fX1_free_26 at hE
    refine lv_iload_n hx hb dX1_free_26 rfl (lv_at hl 0 rfl) ?_
    refine lv_bipush (v := (60 : Int32)) hx hb dX1_free_27 rfl ?_
    refine lv_icmp_ge (tgt := 36) hx hb dX1_free_29 (by decide) (fun c4 => ?_) (fun c4 => ?_)
    · have hE := z_t c4 hE
      refine lv_iconst (v := (-1 : Int32)) hx hb dX1_free_36 rfl ?_
      exact w_37 _ _ _ _ _ hE hW hS hV (lv_sub hl [] rfl)
    · have hE := z_f c4 hE
      refine lv_iload_n hx hb dX1_free_32 rfl (lv_at hl 0 rfl) ?_
      refine lv_goto (tgt := 37) hx hb dX1_free_33 (by decide) ?_
      exact w_37 _ _ _ _ _ hE hW hS hV (lv_sub hl [] rfl)
  have w_2 : ∀ (n : Nat) (u : CS) (x1 : Int32) (H : Heap) (locs : List Loc) (ls : Array Slot), fX1_free_2 N F n u x1 = some (r, u1) → wc_W D dA h u H → wc_S u → va_S (CA h) s.heap H locs → lv_has ls 2 [(0, .ref (h + F)), (1, .int x1)] → W p l e ({ frames := 0, cells := 0, slots := 0, locals := 0 }) s m args below meth c H locs 0 0 (MQ below (wc_Qr D dA h (some (.int r)) u1) args s 0 0 (CA h)) (F0 m 2 ls []) := by
    intro n
    induction n with
    | zero =>
      intro u x1 H locs ls hE hW hS hV hl
      cases (show (none : Option (Int32 × CS)) = some (r, u1) from hE)
    | succ n ih =>
      intro u x1 H locs ls hE hW hS hV hl
      rw [fX1_free_2] at hE
      refine lv_iload_n hx hb dX1_free_2 rfl (lv_at hl 1 rfl) ?_
      refine lv_bipush (v := (60 : Int32)) hx hb dX1_free_3 rfl ?_
      refine lv_icmp_ge (tgt := 26) hx hb dX1_free_5 (by decide) (fun c5 => ?_) (fun c5 => ?_)
      · have hE := z_t c5 hE
        exact w_26 _ _ _ _ _ hE hW hS hV (lv_sub hl [1] rfl)
      · have hE := z_f c5 hE
        refine lv_aload_n hx hb dX1_free_8 rfl (lv_at hl 0 rfl) ?_
        refine cgs_X1_81_1 C hW (st_F hS hF) (sp_F_slots hS hF) dX1_free_9 ?_
        refine lv_iload_n hx hb dX1_free_12 rfl (lv_at hl 1 rfl) ?_
        refine wc_ldq6 C hW (st_F_slots hS hF) hE dX1_free_13 (fun hE => ?_)
        refine z_nmp hE (fun p6 hE => ?_)
        obtain ⟨n7, hp_, hE_⟩ := o_nn_some hE
        clear hE
        subst hp_
        have hE := hE_
        obtain ⟨ht, hE⟩ := o_sh_some hE
        refine cg_X1_252_2 C hW ht dX1_free_14 ?_
        refine z_nmp hE (fun p8 hE => ?_)
        rcases p8 with _ | n9
        · have hE := o_nu_none hE
          refine lv_ifnullN (tgt := 26) hx hb dX1_free_17 (by decide) ?_
          exact w_26 _ _ _ _ _ hE hW hS hV (lv_sub hl [1] rfl)
        · have hE := o_nu_nn hE
          refine lv_ifnull hx hb dX1_free_17 ?_
          refine z_iinc (v := (x1 + (1 : Int32))) (lw := (fun y_ => [(1, .int y_), (0, .ref (h + F))])) hx hb dX1_free_20 hl hE (k := 1) rfl rfl (by decide) (fun _ => rfl) (fun z10 ls hE hl => ?_)
          refine lv_goto (tgt := 2) hx hb dX1_free_23 (by decide) ?_
          exact ih _ _ _ _ _ hE hW hS hV (lv_sub hl [1, 0] rfl)
  unfold fX1_free at hE
  refine lv_iconst (v := (0 : Int32)) hx hb dX1_free_0 rfl ?_
  refine lv_istore_n (lv' := [(1, .int (0 : Int32)), (0, .ref (h + F))]) hx hb dX1_free_1 rfl hl (by decide) rfl (fun ls hl => ?_)
  exact w_2 N _ _ _ _ _ hE hW hS hV (lv_sub hl [1, 0] rfl)
theorem cc_X1_278 {F : Nat} {a1 : Nat} {a2 : Int32} {a3 : Int32} {r : Int32} {u u1 : CS} {rm : Room} (C : CC p m c cc nL s args D dA RX1) (hW : wc_W D dA h u H) (hS : wc_S u) (hV : va_S (CA h) H0 H locs) (ht : wc_T u F = some (.inl 1)) (hM : Met l yX1_put (ws_ yX1_put cX1_put 5 (some .int)) rm (va_Pc [.ref (h + F), .ref (h + a1), .int a2, .int a3] (wc_St D dA h u)) (wc_Qr D dA h (some (.int r)) u1) 0 0 (CA h)) (hrc : rm.cells = 0) (hrs : rm.slots = 0) (hR : rm.frames + 1 ≤ R.frames ∧ 8 + (5 + 11) + rm.locals ≤ R.locals) (hf : cells + 0 ≤ R.cells ∧ slots + 0 ≤ R.slots) (d : decode cc pc = .ok (.invokevirtual 278, 3)) (hsz : ls.size = nL) (hro : (rest.map fun v => v.category).sum ≤ 8) (kk : ∀ (H1 : Heap) (locs1 : List Loc), wc_W D dA h u1 H1 → wc_S u1 → va_S (CA h) H0 H1 locs1 → W p l e R s m args below meth c H1 locs1 cells slots Q (F0 m (pc + 3) ls (.int r :: rest))) : W p l e R s m args below meth c H locs cells slots Q (F0 m pc ls (.int a3 :: .int a2 :: .ref (h + a1) :: .ref (h + F) :: rest)) :=
  wc_call (v := (some (.int r))) (va_runV (As := [.ref (h + a1), .int a2, .int a3]) (rest := rest) C.1 hM (cwV 3 C.1.2.2.2.2 (lw_V q1318 q982 qs28 q167 q983) rfl hrc hrs (by decide +kernel) hR) (wc_preV (q := (RX1, TX1, 46)) C.2 hW hS ht rfl _) rfl rfl hsz rfl (lv_room hro) d hf) hV (fun _ z => z) (fun H1 locs1 a b c0 _ _ => kk H1 locs1 a b c0)
theorem cc_X0_304 {F : Nat} {a1 : Nat} {a2 : Int32} {a3 : Int32} {r : Int32} {u u1 : CS} {rm : Room} (C : CC p m c cc nL s args D dA RX0) (hW : wc_W D dA h u H) (hS : wc_S u) (hV : va_S (CA h) H0 H locs) (ht : wc_T u F = some (.inl 1)) (hM : Met l yX1_put (ws_ yX1_put cX1_put 5 (some .int)) rm (va_Pc [.ref (h + F), .ref (h + a1), .int a2, .int a3] (wc_St D dA h u)) (wc_Qr D dA h (some (.int r)) u1) 0 0 (CA h)) (hrc : rm.cells = 0) (hrs : rm.slots = 0) (hR : rm.frames + 1 ≤ R.frames ∧ 8 + (5 + 11) + rm.locals ≤ R.locals) (hf : cells + 0 ≤ R.cells ∧ slots + 0 ≤ R.slots) (d : decode cc pc = .ok (.invokevirtual 304, 3)) (hsz : ls.size = nL) (hro : (rest.map fun v => v.category).sum ≤ 8) (kk : ∀ (H1 : Heap) (locs1 : List Loc), wc_W D dA h u1 H1 → wc_S u1 → va_S (CA h) H0 H1 locs1 → W p l e R s m args below meth c H1 locs1 cells slots Q (F0 m (pc + 3) ls (.int r :: rest))) : W p l e R s m args below meth c H locs cells slots Q (F0 m pc ls (.int a3 :: .int a2 :: .ref (h + a1) :: .ref (h + F) :: rest)) :=
  wc_call (v := (some (.int r))) (va_runVN (As := [.ref (h + a1), .int a2, .int a3]) (rest := rest) C.1 hM ⟨va_cnB 3 C.1.2.2.2.2 (lw_meth q983) rfl hrc hrs (C.2.2.at q980 rfl) (C.1.2.2.2.2 _ q167) (by decide +kernel) hR, C.1.2.2.2.2 _ q982, C.1.2.2.2.2 _ qs28⟩ (wc_preV (q := (RX1, TX1, 46)) C.2 hW hS ht rfl _) rfl rfl hsz rfl (lv_room hro) d hf) hV (fun _ z => z) (fun H1 locs1 a b c0 _ _ => kk H1 locs1 a b c0)
set_option maxHeartbeats 4000000 in
set_option maxRecDepth 100000 in
theorem kX1_put {l : Launch} {D : va_G} {dA : Nat → ClassId} {h N : Nat} {F : Nat} {a1 : Nat} {a2 : Int32} {a3 : Int32} {u u1 : CS} {r : Int32} (hF : wc_F F) (hE : fX1_put N F u a1 a2 a3 = some (r, u1)) : Met l yX1_put (ws_ yX1_put cX1_put 5 (some .int)) ({ frames := 1, cells := 0, slots := 0, locals := 21 }) (va_Pc [.ref (h + F), .ref (h + a1), .int a2, .int a3] (wc_St D dA h u)) (wc_Qr D dA h (some (.int r)) u1) 0 0 (CA h) := by
  refine wc_met (own := RX1) (lv := [(0, .ref (h + F)), (1, .ref (h + a1)), (2, .int a2), (3, .int a3)]) (by decide) rfl rfl rfl ?_
  intro p e s m args below meth c ls C hr hlocks hW hS hV hl
  have hx := C.1.1
  have hb := C.1.2.1
  unfold fX1_put at hE
  refine lv_aload_n hx hb dX1_put_0 rfl (lv_at hl 0 rfl) ?_
  obtain ⟨r8, u9, hc, hE⟩ := o_bd2_some hE
  refine cc_X1_258 C hW hS hV (st_F hS hF) (kX1_free hF hc) rfl rfl ⟨Nat.le_of_ble_eq_true rfl, Nat.le_of_ble_eq_true rfl⟩ ⟨Nat.le_refl 0, Nat.le_refl 0⟩ dX1_put_1 hl.1 (Nat.le_of_ble_eq_true rfl) (fun H locs hW hS hV => ?_)
  refine lv_istore (lv' := [(4, .int r8), (0, .ref (h + F)), (1, .ref (h + a1)), (2, .int a2), (3, .int a3)]) hx hb dX1_put_4 hl (by decide) rfl (fun ls hl => ?_)
  refine lv_aload_n hx hb dX1_put_6 rfl (lv_at hl 2 rfl) ?_
  refine lv_iload_n hx hb dX1_put_7 rfl (lv_at hl 3 rfl) ?_
  obtain ⟨ht, hE⟩ := o_lt_some hE
  refine cp_X1_262_l (J := wc_S) C hW hV ht hS.uI hE dX1_put_8 (fun u10 H locs hE hW hS hV => ?_)
  refine lv_aload_n hx hb dX1_put_11 rfl (lv_at hl 2 rfl) ?_
  refine lv_iload_n hx hb dX1_put_12 rfl (lv_at hl 4 rfl) ?_
  obtain ⟨ht, hE⟩ := o_lt_some hE
  refine cp_X1_265_l (J := wc_S) C hW hV ht hS.uI hE dX1_put_13 (fun u11 H locs hE hW hS hV => ?_)
  refine lv_aload_n hx hb dX1_put_16 rfl (lv_at hl 2 rfl) ?_
  refine lv_aload_n hx hb dX1_put_17 rfl (lv_at hl 1 rfl) ?_
  refine cg_X1_142_1 C hW (st_F hS hF) dX1_put_18 ?_
  obtain ⟨ht, hE⟩ := o_lt_some hE
  refine cp_X1_268_l (J := wc_S) C hW hV ht hS.uI hE dX1_put_21 (fun u12 H locs hE hW hS hV => ?_)
  refine lv_aload_n hx hb dX1_put_24 rfl (lv_at hl 1 rfl) ?_
  refine cgs_X1_81_1 C hW (st_F hS hF) (sp_F_slots hS hF) dX1_put_25 ?_
  refine lv_iload hx hb dX1_put_28 (lv_at hl 0 rfl) ?_
  refine wc_ldq6 C hW (st_F_slots hS hF) hE dX1_put_30 (fun hE => ?_)
  refine z_nmp hE (fun p13 hE => ?_)
  refine lv_aload_n hx hb dX1_put_31 rfl (lv_at hl 2 rfl) ?_
  obtain ⟨n14, hp_, hE_⟩ := o_nn_some hE
  clear hE
  subst hp_
  have hE := hE_
  obtain ⟨ht, hE⟩ := o_sh_some hE
  refine cp_X1_252_2 (x := (some a1)) (J := wc_S) C hW hV ht (hS.uP (wc_S.noR hS ht (by decide))) hE dX1_put_32 (fun u15 H locs hE hW hS hV => ?_)
  refine lv_iload hx hb dX1_put_35 (lv_at hl 0 rfl) ?_
  exact wc_iret C hr hlocks hW hS hV hE dX1_put_37
theorem cc_X0_312 {a1 : Int32} {r : Int32} {u u1 : CS} {rm : Room} (C : CC p m c cc nL s args D dA RX0) (hW : wc_W D dA h u H) (hS : wc_S u) (hV : va_S (CA h) H0 H locs) (ht : wc_T u 0 = some (.inl 0)) (hM : Met l yX0_refuseAsNought (ws_ yX0_refuseAsNought cX0_refuseAsNought 2 (some .int)) rm (va_Pc [.ref (h + 0), .int a1] (wc_St D dA h u)) (wc_Qr D dA h (some (.int r)) u1) 0 0 (CA h)) (hrc : rm.cells = 0) (hrs : rm.slots = 0) (hR : rm.frames + 1 ≤ R.frames ∧ 8 + (2 + 11) + rm.locals ≤ R.locals) (hf : cells + 0 ≤ R.cells ∧ slots + 0 ≤ R.slots) (d : decode cc pc = .ok (.invokevirtual 312, 3)) (hsz : ls.size = nL) (hro : (rest.map fun v => v.category).sum ≤ 8) (kk : ∀ (H1 : Heap) (locs1 : List Loc), wc_W D dA h u1 H1 → wc_S u1 → va_S (CA h) H0 H1 locs1 → W p l e R s m args below meth c H1 locs1 cells slots Q (F0 m (pc + 3) ls (.int r :: rest))) : W p l e R s m args below meth c H locs cells slots Q (F0 m pc ls (.int a1 :: .ref (h + 0) :: rest)) :=
  wc_call (v := (some (.int r))) (va_runV (As := [.int a1]) (rest := rest) C.1 hM (cwV 1 C.1.2.2.2.2 (lw_V q994 q996 qs29 q166 q997) rfl hrc hrs (by decide +kernel) hR) (wc_preV (q := (RX0, TX0, 27)) C.2 hW hS ht rfl _) rfl rfl hsz rfl (lv_room hro) d hf) hV (fun _ z => z) (fun H1 locs1 a b c0 _ _ => kk H1 locs1 a b c0)
set_option maxHeartbeats 4000000 in
set_option maxRecDepth 100000 in
theorem kX0_refuseAsNought {l : Launch} {D : va_G} {dA : Nat → ClassId} {h N : Nat} {a1 : Int32} {u u1 : CS} {r : Int32} (hE : fX0_refuseAsNought N u a1 = some (r, u1)) : Met l yX0_refuseAsNought (ws_ yX0_refuseAsNought cX0_refuseAsNought 2 (some .int)) ({ frames := 0, cells := 0, slots := 0, locals := 0 }) (va_Pc [.ref (h + 0), .int a1] (wc_St D dA h u)) (wc_Qr D dA h (some (.int r)) u1) 0 0 (CA h) := by
  refine wc_met (own := RX0) (lv := [(0, .ref (h + 0)), (1, .int a1)]) (by decide) rfl rfl rfl ?_
  intro p e s m args below meth c ls C hr hlocks hW hS hV hl
  have hx := C.1.1
  have hb := C.1.2.1
  unfold fX0_refuseAsNought at hE
  refine lv_aload_n hx hb dX0_refuseAsNought_0 rfl (lv_at hl 0 rfl) ?_
  refine cgs_X0_1_0 C hW (st_0 hS) (sp_0_refused hS) dX0_refuseAsNought_1 ?_
  refine lv_iload_n hx hb dX0_refuseAsNought_4 rfl (lv_at hl 1 rfl) ?_
  refine lv_ineg hx hb dX0_refuseAsNought_5 ?_
  refine lv_dup2_11 hx hb dX0_refuseAsNought_6 rfl rfl ?_
  refine wc_ldi C hW (st_0_refused hS) hE dX0_refuseAsNought_7 (fun hE => ?_)
  refine z_nmi hE (fun v2 hE => ?_)
  refine lv_iconst (v := (1 : Int32)) hx hb dX0_refuseAsNought_8 rfl ?_
  refine lv_iadd hx hb dX0_refuseAsNought_9 ?_
  refine wc_sti (J := wc_S) C hW hV (st_0_refused hS) hS.uA hE dX0_refuseAsNought_10 (fun u3 H locs hE hW hS hV => ?_)
  refine lv_iconst (v := (0 : Int32)) hx hb dX0_refuseAsNought_11 rfl ?_
  exact wc_iret C hr hlocks hW hS hV hE dX0_refuseAsNought_12
set_option maxHeartbeats 4000000 in
set_option maxRecDepth 100000 in
theorem kX0_book {l : Launch} {D : va_G} {dA : Nat → ClassId} {h N : Nat} {a1 : Int32} {u u1 : CS} {r : Int64} (hE : fX0_book N u a1 = some (r, u1)) : Met l yX0_book (ws_ yX0_book cX0_book 2 (some .long)) ({ frames := 1, cells := 0, slots := 0, locals := 25 }) (va_Pc [.ref (h + 0), .int a1] (wc_St D dA h u)) (wc_Qr D dA h (some (.long r)) u1) 0 0 (CA h) := by
  refine wc_met (own := RX0) (lv := [(0, .ref (h + 0)), (1, .int a1)]) (by decide) rfl rfl rfl ?_
  intro p e s m args below meth c ls C hr hlocks hW hS hV hl
  have hx := C.1.1
  have hb := C.1.2.1
  have w_31 : ∀ (u : CS) (y0 : Int64) (H : Heap) (locs : List Loc) (ls : Array Slot), fX0_book_31 N u y0 = some (r, u1) → wc_W D dA h u H → wc_S u → va_S (CA h) s.heap H locs → lv_has ls 2 [] → W p l e ({ frames := 1, cells := 0, slots := 0, locals := 25 }) s m args below meth c H locs 0 0 (MQ below (wc_Qr D dA h (some (.long r)) u1) args s 0 0 (CA h)) (F0 m 31 ls [.long y0]) := by
    intro u y0 H locs ls hE hW hS hV hl
    unfold fX0_book_31 at hE
    exact wc_lret C hr hlocks hW hS hV hE dX0_book_31
  unfold fX0_book at hE
  refine lv_iload_n hx hb dX0_book_0 rfl (lv_at hl 1 rfl) ?_
  refine lv_i2l hx hb dX0_book_1 rfl ?_
  refine lv_lconst (v := (0 : Int64)) hx hb dX0_book_2 rfl ?_
  refine lv_ldc2 (v := (7 : Int64)) hx hb C.1.2.2.2.1 (C.1.2.2.2.2 _ q993) dX0_book_3 ?_
  obtain ⟨r5, hc, hE⟩ := o_bd_some hE
  refine sc_X0_31 C.1 (kX0_isIn hc) rfl rfl ⟨Nat.le_of_ble_eq_true rfl, Nat.le_of_ble_eq_true rfl⟩ ⟨Nat.le_refl 0, Nat.le_refl 0⟩ dX0_book_6 hl.1 (Nat.le_of_ble_eq_true rfl) ?_
  refine lv_if_eq (tgt := 24) hx hb dX0_book_9 (by decide) (fun c6 => ?_) (fun c6 => ?_)
  · have hE := z_t c6 hE
    refine lv_aload_n hx hb dX0_book_24 rfl (lv_at hl 0 rfl) ?_
    refine lv_bipush (v := (-3 : Int32)) hx hb dX0_book_25 rfl ?_
    obtain ⟨r7, u8, hc, hE⟩ := o_bd2_some hE
    refine cc_X0_312 C hW hS hV (st_0 hS) (kX0_refuseAsNought hc) rfl rfl ⟨Nat.le_of_ble_eq_true rfl, Nat.le_of_ble_eq_true rfl⟩ ⟨Nat.le_refl 0, Nat.le_refl 0⟩ dX0_book_27 hl.1 (Nat.le_of_ble_eq_true rfl) (fun H locs hW hS hV => ?_)
    refine lv_i2l hx hb dX0_book_30 rfl ?_
    exact w_31 _ _ _ _ _ hE hW hS hV (lv_sub hl [] rfl)
  · have hE := z_f c6 hE
    refine lv_aload_n hx hb dX0_book_12 rfl (lv_at hl 0 rfl) ?_
    refine cgs_X0_19_0 C hW (st_0 hS) (sp_0_now hS) dX0_book_13 ?_
    refine cgs_X0_272_1 C hW (st_F hS wc_F3) (sp_F_books hS wc_F3) dX0_book_16 ?_
    refine lv_iload_n hx hb dX0_book_19 rfl (lv_at hl 1 rfl) ?_
    refine wc_ldl C hW (st_F_books hS wc_F3) hE dX0_book_20 (fun hE => ?_)
    refine z_nml hE (fun v9 hE => ?_)
    refine lv_goto (tgt := 31) hx hb dX0_book_21 (by decide) ?_
    exact w_31 _ _ _ _ _ hE hW hS hV (lv_sub hl [] rfl)
set_option maxHeartbeats 4000000 in
set_option maxRecDepth 100000 in
theorem kX0_feed {l : Launch} {D : va_G} {dA : Nat → ClassId} {h N : Nat} {a1 : Int32} {a2 : Int32} {u u1 : CS} {r : Int32} (hE : fX0_feed N u a1 a2 = some (r, u1)) : Met l yX0_feed (ws_ yX0_feed cX0_feed 4 (some .int)) ({ frames := 1, cells := 0, slots := 0, locals := 21 }) (va_Pc [.ref (h + 0), .int a1, .int a2] (wc_St D dA h u)) (wc_Qr D dA h (some (.int r)) u1) 0 0 (CA h) := by
  refine wc_met (own := RX0) (lv := [(0, .ref (h + 0)), (1, .int a1), (2, .int a2)]) (by decide) rfl rfl rfl ?_
  intro p e s m args below meth c ls C hr hlocks hW hS hV hl
  have hx := C.1.1
  have hb := C.1.2.1
  have w_48 : ∀ (n : Nat) (u : CS) (x1 : Int32) (x3 : Int32) (H : Heap) (locs : List Loc) (ls : Array Slot), fX0_feed_48 N n u x1 x3 = some (r, u1) → wc_W D dA h u H → wc_S u → va_S (CA h) s.heap H locs → lv_has ls 4 [(0, .ref (h + 0)), (1, .int x1), (3, .int x3)] → W p l e ({ frames := 1, cells := 0, slots := 0, locals := 21 }) s m args below meth c H locs 0 0 (MQ below (wc_Qr D dA h (some (.int r)) u1) args s 0 0 (CA h)) (F0 m 48 ls []) := by
    intro n
    induction n with
    | zero =>
      intro u x1 x3 H locs ls hE hW hS hV hl
      cases (show (none : Option (Int32 × CS)) = some (r, u1) from hE)
    | succ n ih =>
      intro u x1 x3 H locs ls hE hW hS hV hl
      rw [fX0_feed_48] at hE
      refine lv_iload_n hx hb dX0_feed_48 rfl (lv_at hl 2 rfl) ?_
      refine lv_if_lt (tgt := 93) hx hb dX0_feed_49 (by decide) (fun c9 => ?_) (fun c9 => ?_)
      · have hE := z_t c9 hE
        refine lv_aload_n hx hb dX0_feed_93 rfl (lv_at hl 0 rfl) ?_
        refine cgs_X0_68_0 C hW (st_0 hS) (sp_0_reader hS) dX0_feed_94 ?_
        refine cg_X0_315_3 C hW (st_297 hS) dX0_feed_97 ?_
        exact wc_iret C hr hlocks hW hS hV hE dX0_feed_100
      · have hE := z_f c9 hE
        refine lv_aload_n hx hb dX0_feed_52 rfl (lv_at hl 0 rfl) ?_
        refine cgs_X0_68_0 C hW (st_0 hS) (sp_0_reader hS) dX0_feed_53 ?_
        refine cgs_X0_318_3 C hW (st_297 hS) (sp_297_tape hS) dX0_feed_56 ?_
        refine lv_aload_n hx hb dX0_feed_59 rfl (lv_at hl 0 rfl) ?_
        refine cgs_X0_68_0 C hW (st_0 hS) (sp_0_reader hS) dX0_feed_60 ?_
        refine cg_X0_315_3 C hW (st_297 hS) dX0_feed_63 ?_
        refine lv_iload_n hx hb dX0_feed_66 rfl (lv_at hl 1 rfl) ?_
        refine lv_bipush (v := (8 : Int32)) hx hb dX0_feed_67 rfl ?_
        refine lv_iload_n hx hb dX0_feed_69 rfl (lv_at hl 2 rfl) ?_
        refine lv_imul hx hb dX0_feed_70 ?_
        refine lv_ishr hx hb dX0_feed_71 ?_
        refine lv_i2b hx hb dX0_feed_72 rfl ?_
        refine wc_stb (J := wc_S) C hW hV (st_297_tape hS) hS.uA (pk_nb _) hE dX0_feed_73 (fun u10 H locs hE hW hS hV => ?_)
        refine lv_aload_n hx hb dX0_feed_74 rfl (lv_at hl 0 rfl) ?_
        refine cgs_X0_68_0 C hW (st_0 hS) (sp_0_reader hS) dX0_feed_75 ?_
        refine lv_dup hx hb dX0_feed_78 rfl ?_
        refine cg_X0_315_3 C hW (st_297 hS) dX0_feed_79 ?_
        refine lv_iconst (v := (1 : Int32)) hx hb dX0_feed_82 rfl ?_
        refine lv_iadd hx hb dX0_feed_83 ?_
        refine cp_X0_315_3 (J := wc_S) C hW hV (st_297 hS) hS.uI hE dX0_feed_84 (fun u11 H locs hE hW hS hV => ?_)
        refine z_iinc (v := (x3 + (-1 : Int32))) (lw := (fun y_ => [(3, .int y_), (0, .ref (h + 0)), (1, .int x1)])) hx hb dX0_feed_87 hl hE (k := 2) rfl rfl (by decide) (fun _ => rfl) (fun z12 ls hE hl => ?_)
        refine lv_goto (tgt := 48) hx hb dX0_feed_90 (by decide) ?_
        exact ih _ _ _ _ _ _ hE hW hS hV (lv_sub hl [1, 2, 0] rfl)
  unfold fX0_feed at hE
  refine lv_iload_n hx hb dX0_feed_0 rfl (lv_at hl 2 rfl) ?_
  refine lv_if_ge (tgt := 11) hx hb dX0_feed_1 (by decide) (fun c13 => ?_) (fun c13 => ?_)
  · have hE := z_t c13 hE
    refine lv_iload_n hx hb dX0_feed_11 rfl (lv_at hl 2 rfl) ?_
    refine lv_iconst (v := (4 : Int32)) hx hb dX0_feed_12 rfl ?_
    refine lv_icmp_le (tgt := 23) hx hb dX0_feed_13 (by decide) (fun c14 => ?_) (fun c14 => ?_)
    · have hE := z_t c14 hE
      refine lv_aload_n hx hb dX0_feed_23 rfl (lv_at hl 0 rfl) ?_
      refine cgs_X0_68_0 C hW (st_0 hS) (sp_0_reader hS) dX0_feed_24 ?_
      refine cg_X0_315_3 C hW (st_297 hS) dX0_feed_27 ?_
      refine lv_iload_n hx hb dX0_feed_30 rfl (lv_at hl 2 rfl) ?_
      refine lv_iadd hx hb dX0_feed_31 ?_
      refine lv_bipush (v := (120 : Int32)) hx hb dX0_feed_32 rfl ?_
      refine lv_icmp_le (tgt := 44) hx hb dX0_feed_34 (by decide) (fun c15 => ?_) (fun c15 => ?_)
      · have hE := z_t c15 hE
        refine lv_iload_n hx hb dX0_feed_44 rfl (lv_at hl 2 rfl) ?_
        refine lv_iconst (v := (1 : Int32)) hx hb dX0_feed_45 rfl ?_
        refine lv_isub hx hb dX0_feed_46 ?_
        refine z_nmi hE (fun z16 hE => ?_)
        refine lv_istore_n (lv' := [(3, .int z16), (0, .ref (h + 0)), (1, .int a1), (2, .int a2)]) hx hb dX0_feed_47 rfl hl (by decide) rfl (fun ls hl => ?_)
        exact w_48 N _ _ _ _ _ _ hE hW hS hV (lv_sub hl [1, 2, 0] rfl)
      · have hE := z_f c15 hE
        refine lv_aload_n hx hb dX0_feed_37 rfl (lv_at hl 0 rfl) ?_
        refine lv_bipush (v := (-8 : Int32)) hx hb dX0_feed_38 rfl ?_
        obtain ⟨r17, u18, hc, hE⟩ := o_bd2_some hE
        refine cc_X0_118 C hW hS hV (st_0 hS) (kX0_refuse hc) rfl rfl ⟨Nat.le_of_ble_eq_true rfl, Nat.le_of_ble_eq_true rfl⟩ ⟨Nat.le_refl 0, Nat.le_refl 0⟩ dX0_feed_40 hl.1 (Nat.le_of_ble_eq_true rfl) (fun H locs hW hS hV => ?_)
        exact wc_iret C hr hlocks hW hS hV hE dX0_feed_43
    · have hE := z_f c14 hE
      refine lv_aload_n hx hb dX0_feed_16 rfl (lv_at hl 0 rfl) ?_
      refine lv_bipush (v := (-7 : Int32)) hx hb dX0_feed_17 rfl ?_
      obtain ⟨r19, u20, hc, hE⟩ := o_bd2_some hE
      refine cc_X0_118 C hW hS hV (st_0 hS) (kX0_refuse hc) rfl rfl ⟨Nat.le_of_ble_eq_true rfl, Nat.le_of_ble_eq_true rfl⟩ ⟨Nat.le_refl 0, Nat.le_refl 0⟩ dX0_feed_19 hl.1 (Nat.le_of_ble_eq_true rfl) (fun H locs hW hS hV => ?_)
      exact wc_iret C hr hlocks hW hS hV hE dX0_feed_22
  · have hE := z_f c13 hE
    refine lv_aload_n hx hb dX0_feed_4 rfl (lv_at hl 0 rfl) ?_
    refine lv_bipush (v := (-4 : Int32)) hx hb dX0_feed_5 rfl ?_
    obtain ⟨r21, u22, hc, hE⟩ := o_bd2_some hE
    refine cc_X0_118 C hW hS hV (st_0 hS) (kX0_refuse hc) rfl rfl ⟨Nat.le_of_ble_eq_true rfl, Nat.le_of_ble_eq_true rfl⟩ ⟨Nat.le_refl 0, Nat.le_refl 0⟩ dX0_feed_7 hl.1 (Nat.le_of_ble_eq_true rfl) (fun H locs hW hS hV => ?_)
    exact wc_iret C hr hlocks hW hS hV hE dX0_feed_10
set_option maxHeartbeats 4000000 in
set_option maxRecDepth 100000 in
theorem kX0_wipe {l : Launch} {D : va_G} {dA : Nat → ClassId} {h N : Nat} {u u1 : CS} {r : Int32} (hE : fX0_wipe N u = some (r, u1)) : Met l yX0_wipe (ws_ yX0_wipe cX0_wipe 2 (some .int)) ({ frames := 0, cells := 0, slots := 0, locals := 0 }) (va_Pc [.ref (h + 0)] (wc_St D dA h u)) (wc_Qr D dA h (some (.int r)) u1) 0 0 (CA h) := by
  refine wc_met (own := RX0) (lv := [(0, .ref (h + 0))]) (by decide) rfl rfl rfl ?_
  intro p e s m args below meth c ls C hr hlocks hW hS hV hl
  have hx := C.1.1
  have hb := C.1.2.1
  unfold fX0_wipe at hE
  refine lv_aload_n hx hb dX0_wipe_0 rfl (lv_at hl 0 rfl) ?_
  refine cgs_X0_68_0 C hW (st_0 hS) (sp_0_reader hS) dX0_wipe_1 ?_
  refine cg_X0_315_3 C hW (st_297 hS) dX0_wipe_4 ?_
  refine z_nmi hE (fun z2 hE => ?_)
  refine lv_istore_n (lv' := [(1, .int z2), (0, .ref (h + 0))]) hx hb dX0_wipe_7 rfl hl (by decide) rfl (fun ls hl => ?_)
  refine lv_aload_n hx hb dX0_wipe_8 rfl (lv_at hl 1 rfl) ?_
  refine cgs_X0_68_0 C hW (st_0 hS) (sp_0_reader hS) dX0_wipe_9 ?_
  refine lv_iconst (v := (0 : Int32)) hx hb dX0_wipe_12 rfl ?_
  refine cp_X0_315_3 (J := wc_S) C hW hV (st_297 hS) hS.uI hE dX0_wipe_13 (fun u3 H locs hE hW hS hV => ?_)
  refine lv_iload_n hx hb dX0_wipe_16 rfl (lv_at hl 0 rfl) ?_
  exact wc_iret C hr hlocks hW hS hV hE dX0_wipe_17
theorem cc_X3_59 {a1 : Int32} {r : Int32} {u u1 : CS} {rm : Room} (C : CC p m c cc nL s args D dA RX3) (hW : wc_W D dA h u H) (hS : wc_S u) (hV : va_S (CA h) H0 H locs) (ht : wc_T u 297 = some (.inl 3)) (hM : Met l yX3_isLetter (ws_ yX3_isLetter cX3_isLetter 2 (some .boolean)) rm (va_Pc [.ref (h + 297), .int a1] (wc_St D dA h u)) (wc_Qr D dA h (some (.int r)) u1) 0 0 (CA h)) (hrc : rm.cells = 0) (hrs : rm.slots = 0) (hR : rm.frames + 1 ≤ R.frames ∧ 8 + (2 + 11) + rm.locals ≤ R.locals) (hf : cells + 0 ≤ R.cells ∧ slots + 0 ≤ R.slots) (d : decode cc pc = .ok (.invokevirtual 59, 3)) (hsz : ls.size = nL) (hro : (rest.map fun v => v.category).sum ≤ 8) (kk : ∀ (H1 : Heap) (locs1 : List Loc), wc_W D dA h u1 H1 → wc_S u1 → va_S (CA h) H0 H1 locs1 → W p l e R s m args below meth c H1 locs1 cells slots Q (F0 m (pc + 3) ls (.int r :: rest))) : W p l e R s m args below meth c H locs cells slots Q (F0 m pc ls (.int a1 :: .ref (h + 297) :: rest)) :=
  wc_call (v := (some (.int r))) (va_runV (As := [.int a1]) (rest := rest) C.1 hM (cwV 1 C.1.2.2.2.2 (lw_V q1027 q1029 qs33 q170 q1030) rfl hrc hrs (by decide +kernel) hR) (wc_preV (q := (RX3, TX3, 12)) C.2 hW hS ht rfl _) rfl rfl hsz rfl (lv_room hro) d hf) hV (fun _ z => z) (fun H1 locs1 a b c0 _ _ => kk H1 locs1 a b c0)
set_option maxHeartbeats 4000000 in
set_option maxRecDepth 100000 in
theorem kX3_isLetter {l : Launch} {D : va_G} {dA : Nat → ClassId} {h N : Nat} {a1 : Int32} {u u1 : CS} {r : Int32} (hE : fX3_isLetter N u a1 = some (r, u1)) : Met l yX3_isLetter (ws_ yX3_isLetter cX3_isLetter 2 (some .boolean)) ({ frames := 0, cells := 0, slots := 0, locals := 0 }) (va_Pc [.ref (h + 297), .int a1] (wc_St D dA h u)) (wc_Qr D dA h (some (.int r)) u1) 0 0 (CA h) := by
  refine wc_met (own := RX3) (lv := [(0, .ref (h + 297)), (1, .int a1)]) (by decide) rfl rfl rfl ?_
  intro p e s m args below meth c ls C hr hlocks hW hS hV hl
  have hx := C.1.1
  have hb := C.1.2.1
  have w_35 : ∀ (u : CS) (y0 : Int32) (H : Heap) (locs : List Loc) (ls : Array Slot), fX3_isLetter_35 N u y0 = some (r, u1) → wc_W D dA h u H → wc_S u → va_S (CA h) s.heap H locs → lv_has ls 2 [] → W p l e ({ frames := 0, cells := 0, slots := 0, locals := 0 }) s m args below meth c H locs 0 0 (MQ below (wc_Qr D dA h (some (.int r)) u1) args s 0 0 (CA h)) (F0 m 35 ls [.int y0]) := by
    intro u y0 H locs ls hE hW hS hV hl
    unfold fX3_isLetter_35 at hE
    obtain ⟨hb1, hE⟩ := o_bl_some hE
    exact wc_zret C hr hlocks hW hS hV hb1 hE dX3_isLetter_35
  have w_34 : ∀ (u : CS) (H : Heap) (locs : List Loc) (ls : Array Slot), fX3_isLetter_34 N u = some (r, u1) → wc_W D dA h u H → wc_S u → va_S (CA h) s.heap H locs → lv_has ls 2 [] → W p l e ({ frames := 0, cells := 0, slots := 0, locals := 0 }) s m args below meth c H locs 0 0 (MQ below (wc_Qr D dA h (some (.int r)) u1) args s 0 0 (CA h)) (F0 m 34 ls []) := by
    intro u H locs ls hE hW hS hV hl
    unfold fX3_isLetter_34 at hE
    refine lv_iconst (v := (0 : Int32)) hx hb dX3_isLetter_34 rfl ?_
    exact w_35 _ _ _ _ _ hE hW hS hV (lv_sub hl [] rfl)
  unfold fX3_isLetter at hE
  refine lv_iload_n hx hb dX3_isLetter_0 rfl (lv_at hl 1 rfl) ?_
  refine lv_aload_n hx hb dX3_isLetter_1 rfl (lv_at hl 0 rfl) ?_
  refine cg_X3_42_3 C hW (st_297 hS) dX3_isLetter_2 ?_
  refine lv_icmp_ge (tgt := 34) hx hb dX3_isLetter_5 (by decide) (fun c3 => ?_) (fun c3 => ?_)
  · have hE := z_t c3 hE
    exact w_34 _ _ _ _ hE hW hS hV (lv_sub hl [] rfl)
  · have hE := z_f c3 hE
    refine lv_aload_n hx hb dX3_isLetter_8 rfl (lv_at hl 0 rfl) ?_
    refine cgs_X3_9_3 C hW (st_297 hS) (sp_297_tape hS) dX3_isLetter_9 ?_
    refine lv_iload_n hx hb dX3_isLetter_12 rfl (lv_at hl 1 rfl) ?_
    refine wc_ldb C hW (st_297_tape hS) hE dX3_isLetter_13 (fun hE => ?_)
    refine z_nmi hE (fun v4 hE => ?_)
    refine lv_bipush (v := (97 : Int32)) hx hb dX3_isLetter_14 rfl ?_
    refine lv_icmp_lt (tgt := 34) hx hb dX3_isLetter_16 (by decide) (fun c5 => ?_) (fun c5 => ?_)
    · have hE := z_t c5 hE
      exact w_34 _ _ _ _ hE hW hS hV (lv_sub hl [] rfl)
    · have hE := z_f c5 hE
      refine lv_aload_n hx hb dX3_isLetter_19 rfl (lv_at hl 0 rfl) ?_
      refine cgs_X3_9_3 C hW (st_297 hS) (sp_297_tape hS) dX3_isLetter_20 ?_
      refine lv_iload_n hx hb dX3_isLetter_23 rfl (lv_at hl 1 rfl) ?_
      refine wc_ldb C hW (st_297_tape hS) hE dX3_isLetter_24 (fun hE => ?_)
      refine z_nmi hE (fun v6 hE => ?_)
      refine lv_bipush (v := (122 : Int32)) hx hb dX3_isLetter_25 rfl ?_
      refine lv_icmp_gt (tgt := 34) hx hb dX3_isLetter_27 (by decide) (fun c7 => ?_) (fun c7 => ?_)
      · have hE := z_t c7 hE
        exact w_34 _ _ _ _ hE hW hS hV (lv_sub hl [] rfl)
      · have hE := z_f c7 hE
        refine lv_iconst (v := (1 : Int32)) hx hb dX3_isLetter_30 rfl ?_
        refine lv_goto (tgt := 35) hx hb dX3_isLetter_31 (by decide) ?_
        exact w_35 _ _ _ _ _ hE hW hS hV (lv_sub hl [] rfl)
theorem cc_X3_45 {a1 : Nat} {a2 : Int32} {r : Int32} {u u1 : CS} {rm : Room} (C : CC p m c cc nL s args D dA RX3) (hW : wc_W D dA h u H) (hS : wc_S u) (hV : va_S (CA h) H0 H locs) (ht : wc_T u 297 = some (.inl 3)) (hM : Met l yX3_isWord (ws_ yX3_isWord cX3_isWord 5 (some .boolean)) rm (va_Pc [.ref (h + 297), .ref (h + a1), .int a2] (wc_St D dA h u)) (wc_Qr D dA h (some (.int r)) u1) 0 0 (CA h)) (hrc : rm.cells = 0) (hrs : rm.slots = 0) (hR : rm.frames + 1 ≤ R.frames ∧ 8 + (5 + 11) + rm.locals ≤ R.locals) (hf : cells + 0 ≤ R.cells ∧ slots + 0 ≤ R.slots) (d : decode cc pc = .ok (.invokevirtual 45, 3)) (hsz : ls.size = nL) (hro : (rest.map fun v => v.category).sum ≤ 8) (kk : ∀ (H1 : Heap) (locs1 : List Loc), wc_W D dA h u1 H1 → wc_S u1 → va_S (CA h) H0 H1 locs1 → W p l e R s m args below meth c H1 locs1 cells slots Q (F0 m (pc + 3) ls (.int r :: rest))) : W p l e R s m args below meth c H locs cells slots Q (F0 m pc ls (.int a2 :: .ref (h + a1) :: .ref (h + 297) :: rest)) :=
  wc_call (v := (some (.int r))) (va_runV (As := [.ref (h + a1), .int a2]) (rest := rest) C.1 hM (cwV 2 C.1.2.2.2.2 (lw_V q1035 q1037 qs35 q170 q1038) rfl hrc hrs (by decide +kernel) hR) (wc_preV (q := (RX3, TX3, 12)) C.2 hW hS ht rfl _) rfl rfl hsz rfl (lv_room hro) d hf) hV (fun _ z => z) (fun H1 locs1 a b c0 _ _ => kk H1 locs1 a b c0)
set_option maxHeartbeats 4000000 in
set_option maxRecDepth 100000 in
theorem kX3_isWord {l : Launch} {D : va_G} {dA : Nat → ClassId} {h N : Nat} {a1 : Nat} {a2 : Int32} {u u1 : CS} {r : Int32} (hE : fX3_isWord N u a1 a2 = some (r, u1)) : Met l yX3_isWord (ws_ yX3_isWord cX3_isWord 5 (some .boolean)) ({ frames := 0, cells := 0, slots := 0, locals := 0 }) (va_Pc [.ref (h + 297), .ref (h + a1), .int a2] (wc_St D dA h u)) (wc_Qr D dA h (some (.int r)) u1) 0 0 (CA h) := by
  refine wc_met (own := RX3) (lv := [(0, .ref (h + 297)), (1, .ref (h + a1)), (2, .int a2)]) (by decide) rfl rfl rfl ?_
  intro p e s m args below meth c ls C hr hlocks hW hS hV hl
  have hx := C.1.1
  have hb := C.1.2.1
  have w_56 : ∀ (u : CS) (x3 : Int32) (H : Heap) (locs : List Loc) (ls : Array Slot), fX3_isWord_56 N u x3 = some (r, u1) → wc_W D dA h u H → wc_S u → va_S (CA h) s.heap H locs → lv_has ls 5 [(3, .int x3)] → W p l e ({ frames := 0, cells := 0, slots := 0, locals := 0 }) s m args below meth c H locs 0 0 (MQ below (wc_Qr D dA h (some (.int r)) u1) args s 0 0 (CA h)) (F0 m 56 ls []) := by
    intro u x3 H locs ls hE hW hS hV hl
    unfold fX3_isWord_56 at hE
    refine lv_iload_n hx hb dX3_isWord_56 rfl (lv_at hl 0 rfl) ?_
    obtain ⟨hb1, hE⟩ := o_bl_some hE
    exact wc_zret C hr hlocks hW hS hV hb1 hE dX3_isWord_57
  have w_49 : ∀ (ag15 : CS → Nat → Int32 → Int32 → Int32 → Option (Int32 × CS)) (hag15 : (∀ (u : CS) (x1 : Nat) (x2 : Int32) (x3 : Int32) (x4 : Int32) (H : Heap) (locs : List Loc) (ls : Array Slot), ag15 u x1 x2 x3 x4 = some (r, u1) → wc_W D dA h u H → wc_S u → va_S (CA h) s.heap H locs → lv_has ls 5 [(0, .ref (h + 297)), (1, .ref (h + x1)), (2, .int x2), (3, .int x3), (4, .int x4)] → W p l e ({ frames := 0, cells := 0, slots := 0, locals := 0 }) s m args below meth c H locs 0 0 (MQ below (wc_Qr D dA h (some (.int r)) u1) args s 0 0 (CA h)) (F0 m 15 ls []))) (u : CS) (x1 : Nat) (x2 : Int32) (x4 : Int32) (y0 : Int32) (H : Heap) (locs : List Loc) (ls : Array Slot), fX3_isWord_49 N ag15 u x1 x2 x4 y0 = some (r, u1) → wc_W D dA h u H → wc_S u → va_S (CA h) s.heap H locs → lv_has ls 5 [(0, .ref (h + 297)), (1, .ref (h + x1)), (2, .int x2), (4, .int x4)] → W p l e ({ frames := 0, cells := 0, slots := 0, locals := 0 }) s m args below meth c H locs 0 0 (MQ below (wc_Qr D dA h (some (.int r)) u1) args s 0 0 (CA h)) (F0 m 49 ls [.int y0]) := by
    intro ag15 hag15 u x1 x2 x4 y0 H locs ls hE hW hS hV hl
    unfold fX3_isWord_49 at hE
    refine lv_istore_n (lv' := [(3, .int y0), (0, .ref (h + 297)), (1, .ref (h + x1)), (2, .int x2), (4, .int x4)]) hx hb dX3_isWord_49 rfl hl (by decide) rfl (fun ls hl => ?_)
    refine z_iinc (v := (x4 + (1 : Int32))) (lw := (fun y_ => [(4, .int y_), (3, .int y0), (0, .ref (h + 297)), (1, .ref (h + x1)), (2, .int x2)])) hx hb dX3_isWord_50 hl hE (k := 4) rfl rfl (by decide) (fun _ => rfl) (fun z6 ls hE hl => ?_)
    refine lv_goto (tgt := 15) hx hb dX3_isWord_53 (by decide) ?_
    exact hag15 _ _ _ _ _ _ _ _ hE hW hS hV (lv_sub hl [2, 3, 4, 1, 0] rfl)
  have w_15 : ∀ (n : Nat) (u : CS) (x1 : Nat) (x2 : Int32) (x3 : Int32) (x4 : Int32) (H : Heap) (locs : List Loc) (ls : Array Slot), fX3_isWord_15 N n u x1 x2 x3 x4 = some (r, u1) → wc_W D dA h u H → wc_S u → va_S (CA h) s.heap H locs → lv_has ls 5 [(0, .ref (h + 297)), (1, .ref (h + x1)), (2, .int x2), (3, .int x3), (4, .int x4)] → W p l e ({ frames := 0, cells := 0, slots := 0, locals := 0 }) s m args below meth c H locs 0 0 (MQ below (wc_Qr D dA h (some (.int r)) u1) args s 0 0 (CA h)) (F0 m 15 ls []) := by
    intro n
    induction n with
    | zero =>
      intro u x1 x2 x3 x4 H locs ls hE hW hS hV hl
      cases (show (none : Option (Int32 × CS)) = some (r, u1) from hE)
    | succ n ih =>
      intro u x1 x2 x3 x4 H locs ls hE hW hS hV hl
      rw [fX3_isWord_15] at hE
      refine lv_iload hx hb dX3_isWord_15 (lv_at hl 4 rfl) ?_
      refine lv_iload_n hx hb dX3_isWord_17 rfl (lv_at hl 2 rfl) ?_
      refine lv_icmp_ge (tgt := 56) hx hb dX3_isWord_18 (by decide) (fun c7 => ?_) (fun c7 => ?_)
      · have hE := z_t c7 hE
        exact w_56 _ _ _ _ _ hE hW hS hV (lv_sub hl [3] rfl)
      · have hE := z_f c7 hE
        refine lv_iload_n hx hb dX3_isWord_21 rfl (lv_at hl 3 rfl) ?_
        refine lv_if_eq (tgt := 56) hx hb dX3_isWord_22 (by decide) (fun c8 => ?_) (fun c8 => ?_)
        · have hE := z_t c8 hE
          exact w_56 _ _ _ _ _ hE hW hS hV (lv_sub hl [3] rfl)
        · have hE := z_f c8 hE
          refine lv_aload_n hx hb dX3_isWord_25 rfl (lv_at hl 0 rfl) ?_
          refine cgs_X3_9_3 C hW (st_297 hS) (sp_297_tape hS) dX3_isWord_26 ?_
          refine lv_aload_n hx hb dX3_isWord_29 rfl (lv_at hl 0 rfl) ?_
          refine cg_X3_35_3 C hW (st_297 hS) dX3_isWord_30 ?_
          refine lv_iload hx hb dX3_isWord_33 (lv_at hl 4 rfl) ?_
          refine lv_iadd hx hb dX3_isWord_35 ?_
          refine wc_ldb C hW (st_297_tape hS) hE dX3_isWord_36 (fun hE => ?_)
          refine z_nmi hE (fun v9 hE => ?_)
          refine lv_aload_n hx hb dX3_isWord_37 rfl (lv_at hl 1 rfl) ?_
          refine lv_iload hx hb dX3_isWord_38 (lv_at hl 4 rfl) ?_
          obtain ⟨k11, ht, hE⟩ := o_ln_some hE
          refine wc_ldc C hW ht hE dX3_isWord_40 (fun hE => ?_)
          refine z_nmi hE (fun v10 hE => ?_)
          refine lv_icmp_ne (tgt := 48) hx hb dX3_isWord_41 (by decide) (fun c12 => ?_) (fun c12 => ?_)
          · have hE := z_f c12 hE
            refine lv_iconst (v := (0 : Int32)) hx hb dX3_isWord_48 rfl ?_
            exact w_49 (fX3_isWord_15 N n) ih _ _ _ _ _ _ _ _ hE hW hS hV (lv_sub hl [0, 1, 2, 4] rfl)
          · have hE := z_t c12 hE
            refine lv_iconst (v := (1 : Int32)) hx hb dX3_isWord_44 rfl ?_
            refine lv_goto (tgt := 49) hx hb dX3_isWord_45 (by decide) ?_
            exact w_49 (fX3_isWord_15 N n) ih _ _ _ _ _ _ _ _ hE hW hS hV (lv_sub hl [0, 1, 2, 4] rfl)
  have w_11 : ∀ (u : CS) (x1 : Nat) (x2 : Int32) (y0 : Int32) (H : Heap) (locs : List Loc) (ls : Array Slot), fX3_isWord_11 N u x1 x2 y0 = some (r, u1) → wc_W D dA h u H → wc_S u → va_S (CA h) s.heap H locs → lv_has ls 5 [(0, .ref (h + 297)), (1, .ref (h + x1)), (2, .int x2)] → W p l e ({ frames := 0, cells := 0, slots := 0, locals := 0 }) s m args below meth c H locs 0 0 (MQ below (wc_Qr D dA h (some (.int r)) u1) args s 0 0 (CA h)) (F0 m 11 ls [.int y0]) := by
    intro u x1 x2 y0 H locs ls hE hW hS hV hl
    unfold fX3_isWord_11 at hE
    refine lv_istore_n (lv' := [(3, .int y0), (0, .ref (h + 297)), (1, .ref (h + x1)), (2, .int x2)]) hx hb dX3_isWord_11 rfl hl (by decide) rfl (fun ls hl => ?_)
    refine lv_iconst (v := (0 : Int32)) hx hb dX3_isWord_12 rfl ?_
    refine lv_istore (lv' := [(4, .int (0 : Int32)), (3, .int y0), (0, .ref (h + 297)), (1, .ref (h + x1)), (2, .int x2)]) hx hb dX3_isWord_13 hl (by decide) rfl (fun ls hl => ?_)
    exact w_15 N _ _ _ _ _ _ _ _ hE hW hS hV (lv_sub hl [2, 3, 4, 1, 0] rfl)
  unfold fX3_isWord at hE
  refine lv_aload_n hx hb dX3_isWord_0 rfl (lv_at hl 1 rfl) ?_
  obtain ⟨k13, ht, hE⟩ := o_ln_some hE
  refine wc_alen (v := Int32.ofNat k13) C hW ht rfl rfl dX3_isWord_1 ?_
  refine lv_iload_n hx hb dX3_isWord_2 rfl (lv_at hl 2 rfl) ?_
  refine lv_icmp_ne (tgt := 10) hx hb dX3_isWord_3 (by decide) (fun c14 => ?_) (fun c14 => ?_)
  · have hE := z_f c14 hE
    refine lv_iconst (v := (0 : Int32)) hx hb dX3_isWord_10 rfl ?_
    exact w_11 _ _ _ _ _ _ _ hE hW hS hV (lv_sub hl [0, 1, 2] rfl)
  · have hE := z_t c14 hE
    refine lv_iconst (v := (1 : Int32)) hx hb dX3_isWord_6 rfl ?_
    refine lv_goto (tgt := 11) hx hb dX3_isWord_7 (by decide) ?_
    exact w_11 _ _ _ _ _ _ _ hE hW hS hV (lv_sub hl [0, 1, 2] rfl)
theorem cc_X3_49 {r : Option Nat} {u u1 : CS} {rm : Room} (C : CC p m c cc nL s args D dA RX3) (hW : wc_W D dA h u H) (hS : wc_S u) (hV : va_S (CA h) H0 H locs) (ht : wc_T u 297 = some (.inl 3)) (hM : Met l yX3_fault (ws_ yX3_fault cX3_fault 1 (some (.object "WoodState$Fault"))) rm (va_Pc [.ref (h + 297)] (wc_St D dA h u)) (wc_Qr D dA h (some (wc_rf h r)) u1) 0 0 (CA h)) (hrc : rm.cells = 0) (hrs : rm.slots = 0) (hR : rm.frames + 1 ≤ R.frames ∧ 8 + (1 + 11) + rm.locals ≤ R.locals) (hf : cells + 0 ≤ R.cells ∧ slots + 0 ≤ R.slots) (d : decode cc pc = .ok (.invokevirtual 49, 3)) (hsz : ls.size = nL) (hro : (rest.map fun v => v.category).sum ≤ 8) (kk : ∀ (H1 : Heap) (locs1 : List Loc), wc_W D dA h u1 H1 → wc_S u1 → va_S (CA h) H0 H1 locs1 → W p l e R s m args below meth c H1 locs1 cells slots Q (F0 m (pc + 3) ls (wc_rf h r :: rest))) : W p l e R s m args below meth c H locs cells slots Q (F0 m pc ls (.ref (h + 297) :: rest)) :=
  wc_call (v := (some (wc_rf h r))) (va_runV (As := []) (rest := rest) C.1 hM (cwV 0 C.1.2.2.2.2 (lw_V q1039 q1041 qs36 q170 q1042) rfl hrc hrs (by decide +kernel) hR) (wc_preV (q := (RX3, TX3, 12)) C.2 hW hS ht rfl _) rfl rfl hsz rfl (lv_room hro) d hf) hV (fun _ z => z) (fun H1 locs1 a b c0 _ _ => kk H1 locs1 a b c0)
set_option maxHeartbeats 4000000 in
set_option maxRecDepth 100000 in
theorem kX3_fault {l : Launch} {D : va_G} {dA : Nat → ClassId} {h N : Nat} {u u1 : CS} {r : Option Nat} (hE : fX3_fault N u = some (r, u1)) : Met l yX3_fault (ws_ yX3_fault cX3_fault 1 (some (.object "WoodState$Fault"))) ({ frames := 0, cells := 0, slots := 0, locals := 0 }) (va_Pc [.ref (h + 297)] (wc_St D dA h u)) (wc_Qr D dA h (some (wc_rf h r)) u1) 0 0 (CA h) := by
  refine wc_met (own := RX3) (lv := [(0, .ref (h + 297))]) (by decide) rfl rfl rfl ?_
  intro p e s m args below meth c ls C hr hlocks hW hS hV hl
  have hx := C.1.1
  have hb := C.1.2.1
  unfold fX3_fault at hE
  refine lv_aload_n hx hb dX3_fault_0 rfl (lv_at hl 0 rfl) ?_
  refine cgs_X3_18_3 C hW (st_297 hS) (sp_297_fault hS) dX3_fault_1 ?_
  refine lv_aload_n hx hb dX3_fault_4 rfl (lv_at hl 0 rfl) ?_
  refine cg_X3_35_3 C hW (st_297 hS) dX3_fault_5 ?_
  refine cp_X3_39_4 (J := wc_S) C hW hV (st_299 hS) hS.uI hE dX3_fault_8 (fun u2 H locs hE hW hS hV => ?_)
  refine lv_aload_n hx hb dX3_fault_11 rfl (lv_at hl 0 rfl) ?_
  refine cgs_X3_18_3 C hW (st_297 hS) (sp_297_fault hS) dX3_fault_12 ?_
  exact wc_aret (x := (some 299)) C hr hlocks hW hS hV hE dX3_fault_15
theorem cc_X3_70 {a1 : Int32} {r : Int32} {u u1 : CS} {rm : Room} (C : CC p m c cc nL s args D dA RX3) (hW : wc_W D dA h u H) (hS : wc_S u) (hV : va_S (CA h) H0 H locs) (ht : wc_T u 297 = some (.inl 3)) (hM : Met l yX3_isDigit (ws_ yX3_isDigit cX3_isDigit 2 (some .boolean)) rm (va_Pc [.ref (h + 297), .int a1] (wc_St D dA h u)) (wc_Qr D dA h (some (.int r)) u1) 0 0 (CA h)) (hrc : rm.cells = 0) (hrs : rm.slots = 0) (hR : rm.frames + 1 ≤ R.frames ∧ 8 + (2 + 11) + rm.locals ≤ R.locals) (hf : cells + 0 ≤ R.cells ∧ slots + 0 ≤ R.slots) (d : decode cc pc = .ok (.invokevirtual 70, 3)) (hsz : ls.size = nL) (hro : (rest.map fun v => v.category).sum ≤ 8) (kk : ∀ (H1 : Heap) (locs1 : List Loc), wc_W D dA h u1 H1 → wc_S u1 → va_S (CA h) H0 H1 locs1 → W p l e R s m args below meth c H1 locs1 cells slots Q (F0 m (pc + 3) ls (.int r :: rest))) : W p l e R s m args below meth c H locs cells slots Q (F0 m pc ls (.int a1 :: .ref (h + 297) :: rest)) :=
  wc_call (v := (some (.int r))) (va_runV (As := [.int a1]) (rest := rest) C.1 hM (cwV 1 C.1.2.2.2.2 (lw_V q1043 q1045 qs37 q170 q1046) rfl hrc hrs (by decide +kernel) hR) (wc_preV (q := (RX3, TX3, 12)) C.2 hW hS ht rfl _) rfl rfl hsz rfl (lv_room hro) d hf) hV (fun _ z => z) (fun H1 locs1 a b c0 _ _ => kk H1 locs1 a b c0)
set_option maxHeartbeats 4000000 in
set_option maxRecDepth 100000 in
theorem kX3_isDigit {l : Launch} {D : va_G} {dA : Nat → ClassId} {h N : Nat} {a1 : Int32} {u u1 : CS} {r : Int32} (hE : fX3_isDigit N u a1 = some (r, u1)) : Met l yX3_isDigit (ws_ yX3_isDigit cX3_isDigit 2 (some .boolean)) ({ frames := 0, cells := 0, slots := 0, locals := 0 }) (va_Pc [.ref (h + 297), .int a1] (wc_St D dA h u)) (wc_Qr D dA h (some (.int r)) u1) 0 0 (CA h) := by
  refine wc_met (own := RX3) (lv := [(0, .ref (h + 297)), (1, .int a1)]) (by decide) rfl rfl rfl ?_
  intro p e s m args below meth c ls C hr hlocks hW hS hV hl
  have hx := C.1.1
  have hb := C.1.2.1
  have w_35 : ∀ (u : CS) (y0 : Int32) (H : Heap) (locs : List Loc) (ls : Array Slot), fX3_isDigit_35 N u y0 = some (r, u1) → wc_W D dA h u H → wc_S u → va_S (CA h) s.heap H locs → lv_has ls 2 [] → W p l e ({ frames := 0, cells := 0, slots := 0, locals := 0 }) s m args below meth c H locs 0 0 (MQ below (wc_Qr D dA h (some (.int r)) u1) args s 0 0 (CA h)) (F0 m 35 ls [.int y0]) := by
    intro u y0 H locs ls hE hW hS hV hl
    unfold fX3_isDigit_35 at hE
    obtain ⟨hb1, hE⟩ := o_bl_some hE
    exact wc_zret C hr hlocks hW hS hV hb1 hE dX3_isDigit_35
  have w_34 : ∀ (u : CS) (H : Heap) (locs : List Loc) (ls : Array Slot), fX3_isDigit_34 N u = some (r, u1) → wc_W D dA h u H → wc_S u → va_S (CA h) s.heap H locs → lv_has ls 2 [] → W p l e ({ frames := 0, cells := 0, slots := 0, locals := 0 }) s m args below meth c H locs 0 0 (MQ below (wc_Qr D dA h (some (.int r)) u1) args s 0 0 (CA h)) (F0 m 34 ls []) := by
    intro u H locs ls hE hW hS hV hl
    unfold fX3_isDigit_34 at hE
    refine lv_iconst (v := (0 : Int32)) hx hb dX3_isDigit_34 rfl ?_
    exact w_35 _ _ _ _ _ hE hW hS hV (lv_sub hl [] rfl)
  unfold fX3_isDigit at hE
  refine lv_iload_n hx hb dX3_isDigit_0 rfl (lv_at hl 1 rfl) ?_
  refine lv_aload_n hx hb dX3_isDigit_1 rfl (lv_at hl 0 rfl) ?_
  refine cg_X3_42_3 C hW (st_297 hS) dX3_isDigit_2 ?_
  refine lv_icmp_ge (tgt := 34) hx hb dX3_isDigit_5 (by decide) (fun c3 => ?_) (fun c3 => ?_)
  · have hE := z_t c3 hE
    exact w_34 _ _ _ _ hE hW hS hV (lv_sub hl [] rfl)
  · have hE := z_f c3 hE
    refine lv_aload_n hx hb dX3_isDigit_8 rfl (lv_at hl 0 rfl) ?_
    refine cgs_X3_9_3 C hW (st_297 hS) (sp_297_tape hS) dX3_isDigit_9 ?_
    refine lv_iload_n hx hb dX3_isDigit_12 rfl (lv_at hl 1 rfl) ?_
    refine wc_ldb C hW (st_297_tape hS) hE dX3_isDigit_13 (fun hE => ?_)
    refine z_nmi hE (fun v4 hE => ?_)
    refine lv_bipush (v := (48 : Int32)) hx hb dX3_isDigit_14 rfl ?_
    refine lv_icmp_lt (tgt := 34) hx hb dX3_isDigit_16 (by decide) (fun c5 => ?_) (fun c5 => ?_)
    · have hE := z_t c5 hE
      exact w_34 _ _ _ _ hE hW hS hV (lv_sub hl [] rfl)
    · have hE := z_f c5 hE
      refine lv_aload_n hx hb dX3_isDigit_19 rfl (lv_at hl 0 rfl) ?_
      refine cgs_X3_9_3 C hW (st_297 hS) (sp_297_tape hS) dX3_isDigit_20 ?_
      refine lv_iload_n hx hb dX3_isDigit_23 rfl (lv_at hl 1 rfl) ?_
      refine wc_ldb C hW (st_297_tape hS) hE dX3_isDigit_24 (fun hE => ?_)
      refine z_nmi hE (fun v6 hE => ?_)
      refine lv_bipush (v := (57 : Int32)) hx hb dX3_isDigit_25 rfl ?_
      refine lv_icmp_gt (tgt := 34) hx hb dX3_isDigit_27 (by decide) (fun c7 => ?_) (fun c7 => ?_)
      · have hE := z_t c7 hE
        exact w_34 _ _ _ _ hE hW hS hV (lv_sub hl [] rfl)
      · have hE := z_f c7 hE
        refine lv_iconst (v := (1 : Int32)) hx hb dX3_isDigit_30 rfl ?_
        refine lv_goto (tgt := 35) hx hb dX3_isDigit_31 (by decide) ?_
        exact w_35 _ _ _ _ _ hE hW hS hV (lv_sub hl [] rfl)
theorem cc_X3_120 {a1 : Int32} {r : Int32} {u u1 : CS} {rm : Room} (C : CC p m c cc nL s args D dA RX3) (hW : wc_W D dA h u H) (hS : wc_S u) (hV : va_S (CA h) H0 H locs) (ht : wc_T u 297 = some (.inl 3)) (hM : Met l yX3_isWordNext (ws_ yX3_isWordNext cX3_isWordNext 2 (some .boolean)) rm (va_Pc [.ref (h + 297), .int a1] (wc_St D dA h u)) (wc_Qr D dA h (some (.int r)) u1) 0 0 (CA h)) (hrc : rm.cells = 0) (hrs : rm.slots = 0) (hR : rm.frames + 1 ≤ R.frames ∧ 8 + (2 + 11) + rm.locals ≤ R.locals) (hf : cells + 0 ≤ R.cells ∧ slots + 0 ≤ R.slots) (d : decode cc pc = .ok (.invokevirtual 120, 3)) (hsz : ls.size = nL) (hro : (rest.map fun v => v.category).sum ≤ 8) (kk : ∀ (H1 : Heap) (locs1 : List Loc), wc_W D dA h u1 H1 → wc_S u1 → va_S (CA h) H0 H1 locs1 → W p l e R s m args below meth c H1 locs1 cells slots Q (F0 m (pc + 3) ls (.int r :: rest))) : W p l e R s m args below meth c H locs cells slots Q (F0 m pc ls (.int a1 :: .ref (h + 297) :: rest)) :=
  wc_call (v := (some (.int r))) (va_runV (As := [.int a1]) (rest := rest) C.1 hM (cwV 1 C.1.2.2.2.2 (lw_V q1051 q1053 qs39 q170 q1054) rfl hrc hrs (by decide +kernel) hR) (wc_preV (q := (RX3, TX3, 12)) C.2 hW hS ht rfl _) rfl rfl hsz rfl (lv_room hro) d hf) hV (fun _ z => z) (fun H1 locs1 a b c0 _ _ => kk H1 locs1 a b c0)
set_option maxHeartbeats 4000000 in
set_option maxRecDepth 100000 in
theorem kX3_isWordNext {l : Launch} {D : va_G} {dA : Nat → ClassId} {h N : Nat} {a1 : Int32} {u u1 : CS} {r : Int32} (hE : fX3_isWordNext N u a1 = some (r, u1)) : Met l yX3_isWordNext (ws_ yX3_isWordNext cX3_isWordNext 2 (some .boolean)) ({ frames := 0, cells := 0, slots := 0, locals := 0 }) (va_Pc [.ref (h + 297), .int a1] (wc_St D dA h u)) (wc_Qr D dA h (some (.int r)) u1) 0 0 (CA h) := by
  refine wc_met (own := RX3) (lv := [(0, .ref (h + 297)), (1, .int a1)]) (by decide) rfl rfl rfl ?_
  intro p e s m args below meth c ls C hr hlocks hW hS hV hl
  have hx := C.1.1
  have hb := C.1.2.1
  have w_22 : ∀ (u : CS) (y0 : Int32) (H : Heap) (locs : List Loc) (ls : Array Slot), fX3_isWordNext_22 N u y0 = some (r, u1) → wc_W D dA h u H → wc_S u → va_S (CA h) s.heap H locs → lv_has ls 2 [] → W p l e ({ frames := 0, cells := 0, slots := 0, locals := 0 }) s m args below meth c H locs 0 0 (MQ below (wc_Qr D dA h (some (.int r)) u1) args s 0 0 (CA h)) (F0 m 22 ls [.int y0]) := by
    intro u y0 H locs ls hE hW hS hV hl
    unfold fX3_isWordNext_22 at hE
    obtain ⟨hb1, hE⟩ := o_bl_some hE
    exact wc_zret C hr hlocks hW hS hV hb1 hE dX3_isWordNext_22
  have w_21 : ∀ (u : CS) (H : Heap) (locs : List Loc) (ls : Array Slot), fX3_isWordNext_21 N u = some (r, u1) → wc_W D dA h u H → wc_S u → va_S (CA h) s.heap H locs → lv_has ls 2 [] → W p l e ({ frames := 0, cells := 0, slots := 0, locals := 0 }) s m args below meth c H locs 0 0 (MQ below (wc_Qr D dA h (some (.int r)) u1) args s 0 0 (CA h)) (F0 m 21 ls []) := by
    intro u H locs ls hE hW hS hV hl
    unfold fX3_isWordNext_21 at hE
    refine lv_iconst (v := (0 : Int32)) hx hb dX3_isWordNext_21 rfl ?_
    exact w_22 _ _ _ _ _ hE hW hS hV (lv_sub hl [] rfl)
  unfold fX3_isWordNext at hE
  refine lv_aload_n hx hb dX3_isWordNext_0 rfl (lv_at hl 0 rfl) ?_
  refine cg_X3_55_3 C hW (st_297 hS) dX3_isWordNext_1 ?_
  refine lv_bipush (v := (119 : Int32)) hx hb dX3_isWordNext_4 rfl ?_
  refine lv_icmp_ne (tgt := 21) hx hb dX3_isWordNext_6 (by decide) (fun c1 => ?_) (fun c1 => ?_)
  · have hE := z_f c1 hE
    exact w_21 _ _ _ _ hE hW hS hV (lv_sub hl [] rfl)
  · have hE := z_t c1 hE
    refine lv_aload_n hx hb dX3_isWordNext_9 rfl (lv_at hl 0 rfl) ?_
    refine cg_X3_67_3 C hW (st_297 hS) dX3_isWordNext_10 ?_
    refine lv_iload_n hx hb dX3_isWordNext_13 rfl (lv_at hl 1 rfl) ?_
    refine lv_icmp_ne (tgt := 21) hx hb dX3_isWordNext_14 (by decide) (fun c2 => ?_) (fun c2 => ?_)
    · have hE := z_f c2 hE
      exact w_21 _ _ _ _ hE hW hS hV (lv_sub hl [] rfl)
    · have hE := z_t c2 hE
      refine lv_iconst (v := (1 : Int32)) hx hb dX3_isWordNext_17 rfl ?_
      refine lv_goto (tgt := 22) hx hb dX3_isWordNext_18 (by decide) ?_
      exact w_22 _ _ _ _ _ hE hW hS hV (lv_sub hl [] rfl)
end CG2
