section CG0
variable {p : Program} {l : Launch} {e : Env} {R : Room} {s : State} {m : MethodId} {args : Array Value} {below : List Frame} {meth : Method} {c : Code} {H : Heap} {locs : List Loc} {cells slots : Nat} {Q : State → Prop} {cc : ByteArray} {nL pc : Nat} {ls : Array Slot} {rest : List Value} {D : va_G} {dA : Nat → ClassId} {h : Nat} {H0 : Heap}
theorem sc_X0_445 {a1 : Int32} {r : Int32} {rm : Room} (C : CallFix p m c cc nL s args lw_all RX0) (hM : Met l yJ7_bitCount (ws_ yJ7_bitCount cJ7_bitCount 1 (some .int)) rm (va_Pc [.int a1] (fun _ => True)) (s_Q (some (.int r))) 0 0 (fun _ => False)) (hrc : rm.cells = 0) (hrs : rm.slots = 0) (hR : rm.frames + 1 ≤ R.frames ∧ 8 + (1 + 11) + rm.locals ≤ R.locals) (hf : cells + 0 ≤ R.cells ∧ slots + 0 ≤ R.slots) (d : decode cc pc = .ok (.invokestatic 445, 3)) (hsz : ls.size = nL) (hro : (rest.map fun v => v.category).sum ≤ 8) (kk : W p l e R s m args below meth c H locs cells slots Q (F0 m (pc + 3) ls (.int r :: rest))) : W p l e R s m args below meth c H locs cells slots Q (F0 m pc ls (.int a1 :: rest)) :=
  s_call (v := (some (.int r))) (va_runS (As := [.int a1]) (rest := rest) C hM (va_cwS 1 C.2.2.2.2 (lw_S q1402 q1403 q191 q1404) rfl hrc hrs (by decide +kernel) hR) (s_pre _) rfl rfl hsz rfl (lv_room hro) d hf) kk
set_option maxHeartbeats 4000000 in
set_option maxRecDepth 100000 in
theorem kJ7_bitCount {l : Launch} {a1 : Int32} {r : Int32} (hE : fJ7_bitCount a1 = some r) : Met l yJ7_bitCount (ws_ yJ7_bitCount cJ7_bitCount 1 (some .int)) ({ frames := 0, cells := 0, slots := 0, locals := 0 }) (va_Pc [.int a1] (fun _ => True)) (s_Q (some (.int r))) 0 0 (fun _ => False) := by
  refine s_met (own := RJ7) (by decide) rfl rfl rfl ?_
  intro p e s m args below meth c ls C hr hlocks hl
  have hx := C.1
  have hb := C.2.1
  unfold fJ7_bitCount at hE
  refine lv_iload_n hx hb dJ7_bitCount_0 rfl (lv_at hl 0 rfl) ?_
  refine lv_iload_n hx hb dJ7_bitCount_1 rfl (lv_at hl 0 rfl) ?_
  refine lv_iconst (v := (1 : Int32)) hx hb dJ7_bitCount_2 rfl ?_
  refine lv_iushr hx hb dJ7_bitCount_3 rfl ?_
  refine lv_ldcw (v := (1431655765 : Int32)) hx hb C.2.2.2.1 (C.2.2.2.2 _ q1405) dJ7_bitCount_4 ?_
  refine lv_iand hx hb dJ7_bitCount_7 ?_
  refine lv_isub hx hb dJ7_bitCount_8 ?_
  refine z_nmi hE (fun z1 hE => ?_)
  refine lv_istore_n (lv' := [(0, .int z1)]) hx hb dJ7_bitCount_9 rfl hl (by decide) rfl (fun ls hl => ?_)
  refine lv_iload_n hx hb dJ7_bitCount_10 rfl (lv_at hl 0 rfl) ?_
  refine lv_ldcw (v := (858993459 : Int32)) hx hb C.2.2.2.1 (C.2.2.2.2 _ q1406) dJ7_bitCount_11 ?_
  refine lv_iand hx hb dJ7_bitCount_14 ?_
  refine lv_iload_n hx hb dJ7_bitCount_15 rfl (lv_at hl 0 rfl) ?_
  refine lv_iconst (v := (2 : Int32)) hx hb dJ7_bitCount_16 rfl ?_
  refine lv_iushr hx hb dJ7_bitCount_17 rfl ?_
  refine lv_ldcw (v := (858993459 : Int32)) hx hb C.2.2.2.1 (C.2.2.2.2 _ q1406) dJ7_bitCount_18 ?_
  refine lv_iand hx hb dJ7_bitCount_21 ?_
  refine lv_iadd hx hb dJ7_bitCount_22 ?_
  refine z_nmi hE (fun z2 hE => ?_)
  refine lv_istore_n (lv' := [(0, .int z2)]) hx hb dJ7_bitCount_23 rfl hl (by decide) rfl (fun ls hl => ?_)
  refine lv_iload_n hx hb dJ7_bitCount_24 rfl (lv_at hl 0 rfl) ?_
  refine lv_iload_n hx hb dJ7_bitCount_25 rfl (lv_at hl 0 rfl) ?_
  refine lv_iconst (v := (4 : Int32)) hx hb dJ7_bitCount_26 rfl ?_
  refine lv_iushr hx hb dJ7_bitCount_27 rfl ?_
  refine lv_iadd hx hb dJ7_bitCount_28 ?_
  refine lv_ldcw (v := (252645135 : Int32)) hx hb C.2.2.2.1 (C.2.2.2.2 _ q1407) dJ7_bitCount_29 ?_
  refine lv_iand hx hb dJ7_bitCount_32 ?_
  refine z_nmi hE (fun z3 hE => ?_)
  refine lv_istore_n (lv' := [(0, .int z3)]) hx hb dJ7_bitCount_33 rfl hl (by decide) rfl (fun ls hl => ?_)
  refine lv_iload_n hx hb dJ7_bitCount_34 rfl (lv_at hl 0 rfl) ?_
  refine lv_iload_n hx hb dJ7_bitCount_35 rfl (lv_at hl 0 rfl) ?_
  refine lv_bipush (v := (8 : Int32)) hx hb dJ7_bitCount_36 rfl ?_
  refine lv_iushr hx hb dJ7_bitCount_38 rfl ?_
  refine lv_iadd hx hb dJ7_bitCount_39 ?_
  refine z_nmi hE (fun z4 hE => ?_)
  refine lv_istore_n (lv' := [(0, .int z4)]) hx hb dJ7_bitCount_40 rfl hl (by decide) rfl (fun ls hl => ?_)
  refine lv_iload_n hx hb dJ7_bitCount_41 rfl (lv_at hl 0 rfl) ?_
  refine lv_iload_n hx hb dJ7_bitCount_42 rfl (lv_at hl 0 rfl) ?_
  refine lv_bipush (v := (16 : Int32)) hx hb dJ7_bitCount_43 rfl ?_
  refine lv_iushr hx hb dJ7_bitCount_45 rfl ?_
  refine lv_iadd hx hb dJ7_bitCount_46 ?_
  refine z_nmi hE (fun z5 hE => ?_)
  refine lv_istore_n (lv' := [(0, .int z5)]) hx hb dJ7_bitCount_47 rfl hl (by decide) rfl (fun ls hl => ?_)
  refine lv_iload_n hx hb dJ7_bitCount_48 rfl (lv_at hl 0 rfl) ?_
  refine lv_bipush (v := (63 : Int32)) hx hb dJ7_bitCount_49 rfl ?_
  refine lv_iand hx hb dJ7_bitCount_51 ?_
  exact s_iret C hr hlocks hE dJ7_bitCount_52
set_option maxHeartbeats 4000000 in
set_option maxRecDepth 100000 in
theorem kX12_worth {l : Launch} {D : va_G} {dA : Nat → ClassId} {h N : Nat} {n0 : Nat} {G1 : Nat} {a2 : Int32} {a3 : Int32} {u u1 : CS} {r : Int32} (hG1 : wc_F G1) (hE : fX12_worth N G1 u n0 a2 a3 = some (r, u1)) : Met l yX12_worth (ws_ yX12_worth cX12_worth 4 (some .int)) ({ frames := 0, cells := 0, slots := 0, locals := 0 }) (va_Pc [.ref (h + n0), .ref (h + G1), .int a2, .int a3] (wc_St D dA h u)) (wc_Qr D dA h (some (.int r)) u1) 0 0 (CA h) := by
  refine wc_met (own := RX12) (lv := [(0, .ref (h + n0)), (1, .ref (h + G1)), (2, .int a2), (3, .int a3)]) (by decide) rfl rfl rfl ?_
  intro p e s m args below meth c ls C hr hlocks hW hS hV hl
  have hx := C.1.1
  have hb := C.1.2.1
  unfold fX12_worth at hE
  refine lv_aload_n hx hb dX12_worth_0 rfl (lv_at hl 0 rfl) ?_
  obtain ⟨ht, hE⟩ := o_sh_some hE
  refine cg_X12_7_12 C hW ht dX12_worth_1 ?_
  exact wc_iret C hr hlocks hW hS hV hE dX12_worth_4
theorem cc_X13_13 {F : Nat} {a1 : Int32} {a2 : Int32} {r : Int32} {u u1 : CS} {rm : Room} (C : CC p m c cc nL s args D dA RX13) (hW : wc_W D dA h u H) (hS : wc_S u) (hV : va_S (CA h) H0 H locs) (ht : wc_T u F = some (.inl 1)) (hM : Met l yX1_told (ws_ yX1_told cX1_told 4 (some .int)) rm (va_Pc [.ref (h + F), .int a1, .int a2] (wc_St D dA h u)) (wc_Qr D dA h (some (.int r)) u1) 0 0 (CA h)) (hrc : rm.cells = 0) (hrs : rm.slots = 0) (hR : rm.frames + 1 ≤ R.frames ∧ 8 + (4 + 11) + rm.locals ≤ R.locals) (hf : cells + 0 ≤ R.cells ∧ slots + 0 ≤ R.slots) (d : decode cc pc = .ok (.invokevirtual 13, 3)) (hsz : ls.size = nL) (hro : (rest.map fun v => v.category).sum ≤ 8) (kk : ∀ (H1 : Heap) (locs1 : List Loc), wc_W D dA h u1 H1 → wc_S u1 → va_S (CA h) H0 H1 locs1 → W p l e R s m args below meth c H1 locs1 cells slots Q (F0 m (pc + 3) ls (.int r :: rest))) : W p l e R s m args below meth c H locs cells slots Q (F0 m pc ls (.int a2 :: .int a1 :: .ref (h + F) :: rest)) :=
  wc_call (v := (some (.int r))) (va_runVN (As := [.int a1, .int a2]) (rest := rest) C.1 hM ⟨va_cnB 2 C.1.2.2.2.2 (lw_meth q767) rfl hrc hrs (C.2.2.at q764 rfl) (C.1.2.2.2.2 _ q167) (by decide +kernel) hR, C.1.2.2.2.2 _ q766, C.1.2.2.2.2 _ qs15⟩ (wc_preV (q := (RX1, TX1, 46)) C.2 hW hS ht rfl _) rfl rfl hsz rfl (lv_room hro) d hf) hV (fun _ z => z) (fun H1 locs1 a b c0 _ _ => kk H1 locs1 a b c0)
set_option maxHeartbeats 4000000 in
set_option maxRecDepth 100000 in
theorem kX1_told {l : Launch} {D : va_G} {dA : Nat → ClassId} {h N : Nat} {F : Nat} {a1 : Int32} {a2 : Int32} {u u1 : CS} {r : Int32} (hF : wc_F F) (hE : fX1_told N F u a1 a2 = some (r, u1)) : Met l yX1_told (ws_ yX1_told cX1_told 4 (some .int)) ({ frames := 0, cells := 0, slots := 0, locals := 0 }) (va_Pc [.ref (h + F), .int a1, .int a2] (wc_St D dA h u)) (wc_Qr D dA h (some (.int r)) u1) 0 0 (CA h) := by
  refine wc_met (own := RX1) (lv := [(0, .ref (h + F)), (1, .int a1), (2, .int a2)]) (by decide) rfl rfl rfl ?_
  intro p e s m args below meth c ls C hr hlocks hW hS hV hl
  have hx := C.1.1
  have hb := C.1.2.1
  have w_142 : ∀ (u : CS) (y0 : Int32) (H : Heap) (locs : List Loc) (ls : Array Slot), fX1_told_142 N F u y0 = some (r, u1) → wc_W D dA h u H → wc_S u → va_S (CA h) s.heap H locs → lv_has ls 4 [] → W p l e ({ frames := 0, cells := 0, slots := 0, locals := 0 }) s m args below meth c H locs 0 0 (MQ below (wc_Qr D dA h (some (.int r)) u1) args s 0 0 (CA h)) (F0 m 142 ls [.int y0]) := by
    intro u y0 H locs ls hE hW hS hV hl
    unfold fX1_told_142 at hE
    exact wc_iret C hr hlocks hW hS hV hE dX1_told_142
  have w_57 : ∀ (u : CS) (y0 : Int32) (H : Heap) (locs : List Loc) (ls : Array Slot), fX1_told_57 N F u y0 = some (r, u1) → wc_W D dA h u H → wc_S u → va_S (CA h) s.heap H locs → lv_has ls 4 [] → W p l e ({ frames := 0, cells := 0, slots := 0, locals := 0 }) s m args below meth c H locs 0 0 (MQ below (wc_Qr D dA h (some (.int r)) u1) args s 0 0 (CA h)) (F0 m 57 ls [.int y0]) := by
    intro u y0 H locs ls hE hW hS hV hl
    unfold fX1_told_57 at hE
    exact wc_iret C hr hlocks hW hS hV hE dX1_told_57
  unfold fX1_told at hE
  refine lv_iload_n hx hb dX1_told_0 rfl (lv_at hl 2 rfl) ?_
  refine lv_bipush (v := (100 : Int32)) hx hb dX1_told_1 rfl ?_
  refine lv_icmp_lt (tgt := 58) hx hb dX1_told_3 (by decide) (fun c11 => ?_) (fun c11 => ?_)
  · have hE := z_t c11 hE
    refine lv_iload_n hx hb dX1_told_58 rfl (lv_at hl 1 rfl) ?_
    by_cases c12 : a1 = (0 : Int32)
    · have hE := z_t c12 hE
      refine lv_tableIn (tgt := 100) hx hb dX1_told_59 (by rw [c12]; decide) (by rw [c12]; decide) (by rw [c12]; rfl) (by decide) ?_
      refine lv_aload_n hx hb dX1_told_100 rfl (lv_at hl 0 rfl) ?_
      refine cgs_X1_18_1 C hW (st_F hS hF) (sp_F_kinds hS hF) dX1_told_101 ?_
      refine lv_iload_n hx hb dX1_told_104 rfl (lv_at hl 2 rfl) ?_
      refine wc_ldi C hW (st_F_kinds hS hF) hE dX1_told_105 (fun hE => ?_)
      refine z_nmi hE (fun v13 hE => ?_)
      exact wc_iret C hr hlocks hW hS hV hE dX1_told_106
    have hE := z_f c12 hE
    by_cases c14 : a1 = (1 : Int32)
    · have hE := z_t c14 hE
      refine lv_tableIn (tgt := 107) hx hb dX1_told_59 (by rw [c14]; decide) (by rw [c14]; decide) (by rw [c14]; rfl) (by decide) ?_
      refine lv_aload_n hx hb dX1_told_107 rfl (lv_at hl 0 rfl) ?_
      refine cgs_X1_15_1 C hW (st_F hS hF) (sp_F_sites hS hF) dX1_told_108 ?_
      refine lv_iload_n hx hb dX1_told_111 rfl (lv_at hl 2 rfl) ?_
      refine wc_ldi C hW (st_F_sites hS hF) hE dX1_told_112 (fun hE => ?_)
      refine z_nmi hE (fun v15 hE => ?_)
      exact wc_iret C hr hlocks hW hS hV hE dX1_told_113
    have hE := z_f c14 hE
    by_cases c16 : a1 = (2 : Int32)
    · have hE := z_t c16 hE
      refine lv_tableIn (tgt := 114) hx hb dX1_told_59 (by rw [c16]; decide) (by rw [c16]; decide) (by rw [c16]; rfl) (by decide) ?_
      refine lv_aload_n hx hb dX1_told_114 rfl (lv_at hl 0 rfl) ?_
      refine cgs_X1_21_1 C hW (st_F hS hF) (sp_F_steeps hS hF) dX1_told_115 ?_
      refine lv_iload_n hx hb dX1_told_118 rfl (lv_at hl 2 rfl) ?_
      refine wc_ldi C hW (st_F_steeps hS hF) hE dX1_told_119 (fun hE => ?_)
      refine z_nmi hE (fun v17 hE => ?_)
      exact wc_iret C hr hlocks hW hS hV hE dX1_told_120
    have hE := z_f c16 hE
    by_cases c18 : a1 = (3 : Int32)
    · have hE := z_t c18 hE
      refine lv_tableIn (tgt := 121) hx hb dX1_told_59 (by rw [c18]; decide) (by rw [c18]; decide) (by rw [c18]; rfl) (by decide) ?_
      refine lv_aload_n hx hb dX1_told_121 rfl (lv_at hl 0 rfl) ?_
      refine cg_X1_128_1 C hW (st_F hS hF) dX1_told_122 ?_
      refine lv_iconst (v := (-1 : Int32)) hx hb dX1_told_125 rfl ?_
      refine lv_icmp_ne (tgt := 138) hx hb dX1_told_126 (by decide) (fun c19 => ?_) (fun c19 => ?_)
      · have hE := z_f c19 hE
        refine lv_aload_n hx hb dX1_told_138 rfl (lv_at hl 0 rfl) ?_
        refine cg_X1_128_1 C hW (st_F hS hF) dX1_told_139 ?_
        exact w_142 _ _ _ _ _ hE hW hS hV (lv_sub hl [] rfl)
      · have hE := z_t c19 hE
        refine lv_aload_n hx hb dX1_told_129 rfl (lv_at hl 0 rfl) ?_
        refine cgs_X1_27_1 C hW (st_F hS hF) (sp_F_ages hS hF) dX1_told_130 ?_
        refine lv_iload_n hx hb dX1_told_133 rfl (lv_at hl 2 rfl) ?_
        refine wc_ldi C hW (st_F_ages hS hF) hE dX1_told_134 (fun hE => ?_)
        refine z_nmi hE (fun v20 hE => ?_)
        refine lv_goto (tgt := 142) hx hb dX1_told_135 (by decide) ?_
        exact w_142 _ _ _ _ _ hE hW hS hV (lv_sub hl [] rfl)
    have hE := z_f c18 hE
    by_cases c21 : a1 = (4 : Int32)
    · have hE := z_t c21 hE
      refine lv_tableIn (tgt := 143) hx hb dX1_told_59 (by rw [c21]; decide) (by rw [c21]; decide) (by rw [c21]; rfl) (by decide) ?_
      refine lv_aload_n hx hb dX1_told_143 rfl (lv_at hl 0 rfl) ?_
      refine cgs_X1_30_1 C hW (st_F hS hF) (sp_F_fulls hS hF) dX1_told_144 ?_
      refine lv_iload_n hx hb dX1_told_147 rfl (lv_at hl 2 rfl) ?_
      refine wc_ldi C hW (st_F_fulls hS hF) hE dX1_told_148 (fun hE => ?_)
      refine z_nmi hE (fun v22 hE => ?_)
      exact wc_iret C hr hlocks hW hS hV hE dX1_told_149
    have hE := z_f c21 hE
    by_cases c23 : a1 = (5 : Int32)
    · have hE := z_t c23 hE
      refine lv_tableIn (tgt := 150) hx hb dX1_told_59 (by rw [c23]; decide) (by rw [c23]; decide) (by rw [c23]; rfl) (by decide) ?_
      refine lv_aload_n hx hb dX1_told_150 rfl (lv_at hl 0 rfl) ?_
      refine cgs_X1_24_1 C hW (st_F hS hF) (sp_F_acres hS hF) dX1_told_151 ?_
      refine lv_iload_n hx hb dX1_told_154 rfl (lv_at hl 2 rfl) ?_
      refine wc_ldi C hW (st_F_acres hS hF) hE dX1_told_155 (fun hE => ?_)
      refine z_nmi hE (fun v24 hE => ?_)
      exact wc_iret C hr hlocks hW hS hV hE dX1_told_156
    have hE := z_f c23 hE
    by_cases c25 : a1 = (6 : Int32)
    · have hE := z_t c25 hE
      refine lv_tableIn (tgt := 157) hx hb dX1_told_59 (by rw [c25]; decide) (by rw [c25]; decide) (by rw [c25]; rfl) (by decide) ?_
      refine lv_aload_n hx hb dX1_told_157 rfl (lv_at hl 0 rfl) ?_
      refine cgs_X1_9_1 C hW (st_F hS hF) (sp_F_blocks hS hF) dX1_told_158 ?_
      refine lv_iload_n hx hb dX1_told_161 rfl (lv_at hl 2 rfl) ?_
      refine wc_ldi C hW (st_F_blocks hS hF) hE dX1_told_162 (fun hE => ?_)
      refine z_nmi hE (fun v26 hE => ?_)
      exact wc_iret C hr hlocks hW hS hV hE dX1_told_163
    have hE := z_f c25 hE
    refine lv_tableOut (tgt := 164) hx hb dX1_told_59 (z_swOut (fun k_ h1_ h2_ => ?_)) (by decide) ?_
    · rcases (show k_ = 0 ∨ k_ = 1 ∨ k_ = 2 ∨ k_ = 3 ∨ k_ = 4 ∨ k_ = 5 ∨ k_ = 6 by omega) with rfl | rfl | rfl | rfl | rfl | rfl | rfl
      · exact c12
      · exact c14
      · exact c16
      · exact c18
      · exact c21
      · exact c23
      · exact c25
    refine lv_iconst (v := (0 : Int32)) hx hb dX1_told_164 rfl ?_
    exact wc_iret C hr hlocks hW hS hV hE dX1_told_165
  · have hE := z_f c11 hE
    refine lv_iload_n hx hb dX1_told_6 rfl (lv_at hl 2 rfl) ?_
    refine lv_bipush (v := (100 : Int32)) hx hb dX1_told_7 rfl ?_
    refine lv_isub hx hb dX1_told_9 ?_
    refine z_nmi hE (fun z27 hE => ?_)
    refine lv_istore_n (lv' := [(3, .int z27), (0, .ref (h + F)), (1, .int a1), (2, .int a2)]) hx hb dX1_told_10 rfl hl (by decide) rfl (fun ls hl => ?_)
    refine lv_iload_n hx hb dX1_told_11 rfl (lv_at hl 2 rfl) ?_
    refine lv_bipush (v := (6 : Int32)) hx hb dX1_told_12 rfl ?_
    refine lv_icmp_ne (tgt := 26) hx hb dX1_told_14 (by decide) (fun c28 => ?_) (fun c28 => ?_)
    · have hE := z_f c28 hE
      refine lv_iload_n hx hb dX1_told_26 rfl (lv_at hl 2 rfl) ?_
      refine lv_bipush (v := (8 : Int32)) hx hb dX1_told_27 rfl ?_
      refine lv_icmp_ne (tgt := 41) hx hb dX1_told_29 (by decide) (fun c29 => ?_) (fun c29 => ?_)
      · have hE := z_f c29 hE
        refine lv_iload_n hx hb dX1_told_41 rfl (lv_at hl 2 rfl) ?_
        refine lv_bipush (v := (9 : Int32)) hx hb dX1_told_42 rfl ?_
        refine lv_icmp_ne (tgt := 56) hx hb dX1_told_44 (by decide) (fun c30 => ?_) (fun c30 => ?_)
        · have hE := z_f c30 hE
          refine lv_iconst (v := (0 : Int32)) hx hb dX1_told_56 rfl ?_
          exact w_57 _ _ _ _ _ hE hW hS hV (lv_sub hl [] rfl)
        · have hE := z_t c30 hE
          refine lv_aload_n hx hb dX1_told_47 rfl (lv_at hl 1 rfl) ?_
          refine cgs_X1_73_1 C hW (st_F hS hF) (sp_F_heads hS hF) dX1_told_48 ?_
          refine lv_iload_n hx hb dX1_told_51 rfl (lv_at hl 0 rfl) ?_
          refine wc_ldi C hW (st_F_heads hS hF) hE dX1_told_52 (fun hE => ?_)
          refine z_nmi hE (fun v31 hE => ?_)
          refine lv_goto (tgt := 57) hx hb dX1_told_53 (by decide) ?_
          exact w_57 _ _ _ _ _ hE hW hS hV (lv_sub hl [] rfl)
      · have hE := z_t c29 hE
        refine lv_aload_n hx hb dX1_told_32 rfl (lv_at hl 1 rfl) ?_
        refine cgs_X1_70_1 C hW (st_F hS hF) (sp_F_hearths hS hF) dX1_told_33 ?_
        refine lv_iload_n hx hb dX1_told_36 rfl (lv_at hl 0 rfl) ?_
        refine wc_ldi C hW (st_F_hearths hS hF) hE dX1_told_37 (fun hE => ?_)
        refine z_nmi hE (fun v32 hE => ?_)
        refine lv_goto (tgt := 57) hx hb dX1_told_38 (by decide) ?_
        exact w_57 _ _ _ _ _ hE hW hS hV (lv_sub hl [] rfl)
    · have hE := z_t c28 hE
      refine lv_aload_n hx hb dX1_told_17 rfl (lv_at hl 1 rfl) ?_
      refine cgs_X1_67_1 C hW (st_F hS hF) (sp_F_homes hS hF) dX1_told_18 ?_
      refine lv_iload_n hx hb dX1_told_21 rfl (lv_at hl 0 rfl) ?_
      refine wc_ldi C hW (st_F_homes hS hF) hE dX1_told_22 (fun hE => ?_)
      refine z_nmi hE (fun v33 hE => ?_)
      refine lv_goto (tgt := 57) hx hb dX1_told_23 (by decide) ?_
      exact w_57 _ _ _ _ _ hE hW hS hV (lv_sub hl [] rfl)
set_option maxHeartbeats 4000000 in
set_option maxRecDepth 100000 in
theorem kX13_worth {l : Launch} {D : va_G} {dA : Nat → ClassId} {h N : Nat} {n0 : Nat} {G1 : Nat} {a2 : Int32} {a3 : Int32} {u u1 : CS} {r : Int32} (hG1 : wc_F G1) (hE : fX13_worth N G1 u n0 a2 a3 = some (r, u1)) : Met l yX13_worth (ws_ yX13_worth cX13_worth 4 (some .int)) ({ frames := 1, cells := 0, slots := 0, locals := 23 }) (va_Pc [.ref (h + n0), .ref (h + G1), .int a2, .int a3] (wc_St D dA h u)) (wc_Qr D dA h (some (.int r)) u1) 0 0 (CA h) := by
  refine wc_met (own := RX13) (lv := [(0, .ref (h + n0)), (1, .ref (h + G1)), (2, .int a2), (3, .int a3)]) (by decide) rfl rfl rfl ?_
  intro p e s m args below meth c ls C hr hlocks hW hS hV hl
  have hx := C.1.1
  have hb := C.1.2.1
  have w_22 : ∀ (u : CS) (y0 : Int32) (H : Heap) (locs : List Loc) (ls : Array Slot), fX13_worth_22 N G1 u y0 = some (r, u1) → wc_W D dA h u H → wc_S u → va_S (CA h) s.heap H locs → lv_has ls 4 [] → W p l e ({ frames := 1, cells := 0, slots := 0, locals := 23 }) s m args below meth c H locs 0 0 (MQ below (wc_Qr D dA h (some (.int r)) u1) args s 0 0 (CA h)) (F0 m 22 ls [.int y0]) := by
    intro u y0 H locs ls hE hW hS hV hl
    unfold fX13_worth_22 at hE
    exact wc_iret C hr hlocks hW hS hV hE dX13_worth_22
  unfold fX13_worth at hE
  refine lv_aload_n hx hb dX13_worth_0 rfl (lv_at hl 0 rfl) ?_
  obtain ⟨ht, hE⟩ := o_sh_some hE
  refine cg_X13_7_13 C hW ht dX13_worth_1 ?_
  refine lv_bipush (v := (7 : Int32)) hx hb dX13_worth_4 rfl ?_
  refine lv_icmp_ne (tgt := 13) hx hb dX13_worth_6 (by decide) (fun c3 => ?_) (fun c3 => ?_)
  · have hE := z_f c3 hE
    refine lv_aload_n hx hb dX13_worth_13 rfl (lv_at hl 1 rfl) ?_
    refine lv_aload_n hx hb dX13_worth_14 rfl (lv_at hl 0 rfl) ?_
    obtain ⟨ht, hE⟩ := o_sh_some hE
    refine cg_X13_7_13 C hW ht dX13_worth_15 ?_
    refine lv_iload_n hx hb dX13_worth_18 rfl (lv_at hl 2 rfl) ?_
    obtain ⟨r4, u5, hc, hE⟩ := o_bd2_some hE
    refine cc_X13_13 C hW hS hV (st_F hS hG1) (kX1_told hG1 hc) rfl rfl ⟨Nat.le_of_ble_eq_true rfl, Nat.le_of_ble_eq_true rfl⟩ ⟨Nat.le_refl 0, Nat.le_refl 0⟩ dX13_worth_19 hl.1 (Nat.le_of_ble_eq_true rfl) (fun H locs hW hS hV => ?_)
    exact w_22 _ _ _ _ _ hE hW hS hV (lv_sub hl [] rfl)
  · have hE := z_t c3 hE
    refine lv_iload_n hx hb dX13_worth_9 rfl (lv_at hl 3 rfl) ?_
    refine lv_goto (tgt := 22) hx hb dX13_worth_10 (by decide) ?_
    exact w_22 _ _ _ _ _ hE hW hS hV (lv_sub hl [] rfl)
def pw_rm (d : Nat) : Room := { frames := 1 + d, cells := 0, slots := 0, locals := 23 + 32 * d }
def pw_M (l : Launch) (D : va_G) (dA : Nat → ClassId) (h d n G : Nat) (u u1 : CS) (a2 a3 r : Int32) : Prop := (wc_T u n = some (.inl 12) ∧ ∃ rm : Room, rm.cells = 0 ∧ rm.slots = 0 ∧ rm.frames ≤ (pw_rm d).frames ∧ rm.locals ≤ (pw_rm d).locals ∧ Met l yX12_worth (ws_ yX12_worth cX12_worth 4 (some .int)) rm (va_Pc [.ref (h + n), .ref (h + G), .int a2, .int a3] (wc_St D dA h u)) (wc_Qr D dA h (some (.int r)) u1) 0 0 (CA h)) ∨ (wc_T u n = some (.inl 13) ∧ ∃ rm : Room, rm.cells = 0 ∧ rm.slots = 0 ∧ rm.frames ≤ (pw_rm d).frames ∧ rm.locals ≤ (pw_rm d).locals ∧ Met l yX13_worth (ws_ yX13_worth cX13_worth 4 (some .int)) rm (va_Pc [.ref (h + n), .ref (h + G), .int a2, .int a3] (wc_St D dA h u)) (wc_Qr D dA h (some (.int r)) u1) 0 0 (CA h)) ∨ (wc_T u n = some (.inl 11) ∧ ∃ rm : Room, rm.cells = 0 ∧ rm.slots = 0 ∧ rm.frames ≤ (pw_rm d).frames ∧ rm.locals ≤ (pw_rm d).locals ∧ Met l yX11_worth (ws_ yX11_worth cX11_worth 4 (some .int)) rm (va_Pc [.ref (h + n), .ref (h + G), .int a2, .int a3] (wc_St D dA h u)) (wc_Qr D dA h (some (.int r)) u1) 0 0 (CA h)) ∨ (wc_T u n = some (.inl 14) ∧ ∃ rm : Room, rm.cells = 0 ∧ rm.slots = 0 ∧ rm.frames ≤ (pw_rm d).frames ∧ rm.locals ≤ (pw_rm d).locals ∧ Met l yX14_worth (ws_ yX14_worth cX14_worth 4 (some .int)) rm (va_Pc [.ref (h + n), .ref (h + G), .int a2, .int a3] (wc_St D dA h u)) (wc_Qr D dA h (some (.int r)) u1) 0 0 (CA h)) ∨ (wc_T u n = some (.inl 15) ∧ ∃ rm : Room, rm.cells = 0 ∧ rm.slots = 0 ∧ rm.frames ≤ (pw_rm d).frames ∧ rm.locals ≤ (pw_rm d).locals ∧ Met l yX15_worth (ws_ yX15_worth cX15_worth 6 (some .int)) rm (va_Pc [.ref (h + n), .ref (h + G), .int a2, .int a3] (wc_St D dA h u)) (wc_Qr D dA h (some (.int r)) u1) 0 0 (CA h))
def pw_hyp (l : Launch) (D : va_G) (dA : Nat → ClassId) (h d : Nat) (g : Nat → Nat → CS → Int32 → Int32 → Option (Int32 × CS)) : Prop := ∀ (n G : Nat) (u u1 : CS) (a2 a3 r : Int32), wc_F G → g n G u a2 a3 = some (r, u1) → pw_M l D dA h d n G u u1 a2 a3 r
theorem pw_rr {d : Nat} : (pw_rm d).frames + 1 ≤ (pw_rm (d + 1)).frames ∧ 8 + (8 + 11) + (pw_rm d).locals ≤ (pw_rm (d + 1)).locals := by
  constructor
  · show 1 + d + 1 ≤ 1 + (d + 1)
    omega
  · show 8 + (8 + 11) + (23 + 32 * d) ≤ 23 + 32 * (d + 1)
    omega
theorem cv_X1_206 {d n G : Nat} {a2 a3 r : Int32} {u u1 : CS} (C : CC p m c cc nL s args D dA RX1) (hW : wc_W D dA h u H) (hS : wc_S u) (hV : va_S (CA h) H0 H locs) (hM : pw_M l D dA h d n G u u1 a2 a3 r) (hrc : (0 : Nat) = 0) (hrs : (0 : Nat) = 0) (hR : (pw_rm d).frames + 1 ≤ R.frames ∧ 8 + (8 + 11) + (pw_rm d).locals ≤ R.locals) (hf : cells + 0 ≤ R.cells ∧ slots + 0 ≤ R.slots) (dd : decode cc pc = .ok (.invokevirtual 206, 3)) (hsz : ls.size = nL) (hro : (rest.map fun v => v.category).sum ≤ 8) (kk : ∀ (H1 : Heap) (locs1 : List Loc), wc_W D dA h u1 H1 → wc_S u1 → va_S (CA h) H0 H1 locs1 → W p l e R s m args below meth c H1 locs1 cells slots Q (F0 m (pc + 3) ls (.int r :: rest))) : W p l e R s m args below meth c H locs cells slots Q (F0 m pc ls (.int a3 :: .int a2 :: .ref (h + G) :: .ref (h + n) :: rest)) := by
  rcases hM with ⟨ht, rm, e1, e2, e3, e4, hM⟩ | ⟨ht, rm, e1, e2, e3, e4, hM⟩ | ⟨ht, rm, e1, e2, e3, e4, hM⟩ | ⟨ht, rm, e1, e2, e3, e4, hM⟩ | ⟨ht, rm, e1, e2, e3, e4, hM⟩
  · exact wc_call (v := (some (.int r))) (va_runU (C := RX12) (owner := "WoodState$Part") (As := [.ref (h + G), .int a2, .int a3]) (rest := rest) C.1 hM (va_cwA 3 C.1.2.2.2.2 (lw_U q755 q757 q778 q771 q184 q772) rfl e1 e2 (C.2.2.at q756 rfl) (by decide +kernel) ⟨by omega, by omega⟩) (wc_preV (q := (RX12, TX12, 1)) C.2 hW hS ht rfl _) rfl rfl hsz rfl (lv_room hro) dd hf) hV (fun _ z => z) (fun H1 locs1 a b c0 _ _ => kk H1 locs1 a b c0)
  · exact wc_call (v := (some (.int r))) (va_runU (C := RX13) (owner := "WoodState$Part") (As := [.ref (h + G), .int a2, .int a3]) (rest := rest) C.1 hM (va_cwA 3 C.1.2.2.2.2 (lw_U q755 q757 q776 q762 q185 q763) rfl e1 e2 (C.2.2.at q756 rfl) (by decide +kernel) ⟨by omega, by omega⟩) (wc_preV (q := (RX13, TX13, 1)) C.2 hW hS ht rfl _) rfl rfl hsz rfl (lv_room hro) dd hf) hV (fun _ z => z) (fun H1 locs1 a b c0 _ _ => kk H1 locs1 a b c0)
  · exact wc_call (v := (some (.int r))) (va_runU (C := RX11) (owner := "WoodState$Part") (As := [.ref (h + G), .int a2, .int a3]) (rest := rest) C.1 hM (va_cwA 3 C.1.2.2.2.2 (lw_U q755 q757 q777 q768 q183 q769) rfl e1 e2 (C.2.2.at q756 rfl) (by decide +kernel) ⟨by omega, by omega⟩) (wc_preV (q := (RX11, TX11, 1)) C.2 hW hS ht rfl _) rfl rfl hsz rfl (lv_room hro) dd hf) hV (fun _ z => z) (fun H1 locs1 a b c0 _ _ => kk H1 locs1 a b c0)
  · exact wc_call (v := (some (.int r))) (va_runU (C := RX14) (owner := "WoodState$Part") (As := [.ref (h + G), .int a2, .int a3]) (rest := rest) C.1 hM (va_cwA 3 C.1.2.2.2.2 (lw_U q755 q757 q758 q759 q186 q760) rfl e1 e2 (C.2.2.at q756 rfl) (by decide +kernel) ⟨by omega, by omega⟩) (wc_preV (q := (RX14, TX14, 1)) C.2 hW hS ht rfl _) rfl rfl hsz rfl (lv_room hro) dd hf) hV (fun _ z => z) (fun H1 locs1 a b c0 _ _ => kk H1 locs1 a b c0)
  · exact wc_call (v := (some (.int r))) (va_runU (C := RX15) (owner := "WoodState$Part") (As := [.ref (h + G), .int a2, .int a3]) (rest := rest) C.1 hM (va_cwA 3 C.1.2.2.2.2 (lw_U q755 q757 q779 q773 q187 q774) rfl e1 e2 (C.2.2.at q756 rfl) (by decide +kernel) ⟨by omega, by omega⟩) (wc_preV (q := (RX15, TX15, 3)) C.2 hW hS ht rfl _) rfl rfl hsz rfl (lv_room hro) dd hf) hV (fun _ z => z) (fun H1 locs1 a b c0 _ _ => kk H1 locs1 a b c0)
theorem cv_X11_13 {d n G : Nat} {a2 a3 r : Int32} {u u1 : CS} (C : CC p m c cc nL s args D dA RX11) (hW : wc_W D dA h u H) (hS : wc_S u) (hV : va_S (CA h) H0 H locs) (hM : pw_M l D dA h d n G u u1 a2 a3 r) (hrc : (0 : Nat) = 0) (hrs : (0 : Nat) = 0) (hR : (pw_rm d).frames + 1 ≤ R.frames ∧ 8 + (8 + 11) + (pw_rm d).locals ≤ R.locals) (hf : cells + 0 ≤ R.cells ∧ slots + 0 ≤ R.slots) (dd : decode cc pc = .ok (.invokevirtual 13, 3)) (hsz : ls.size = nL) (hro : (rest.map fun v => v.category).sum ≤ 8) (kk : ∀ (H1 : Heap) (locs1 : List Loc), wc_W D dA h u1 H1 → wc_S u1 → va_S (CA h) H0 H1 locs1 → W p l e R s m args below meth c H1 locs1 cells slots Q (F0 m (pc + 3) ls (.int r :: rest))) : W p l e R s m args below meth c H locs cells slots Q (F0 m pc ls (.int a3 :: .int a2 :: .ref (h + G) :: .ref (h + n) :: rest)) := by
  rcases hM with ⟨ht, rm, e1, e2, e3, e4, hM⟩ | ⟨ht, rm, e1, e2, e3, e4, hM⟩ | ⟨ht, rm, e1, e2, e3, e4, hM⟩ | ⟨ht, rm, e1, e2, e3, e4, hM⟩ | ⟨ht, rm, e1, e2, e3, e4, hM⟩
  · exact wc_call (v := (some (.int r))) (va_runU (C := RX12) (owner := "WoodState$Part") (As := [.ref (h + G), .int a2, .int a3]) (rest := rest) C.1 hM (va_cwA 3 C.1.2.2.2.2 (lw_U q770 q757 q778 q771 q184 q772) rfl e1 e2 (C.2.2.at q756 rfl) (by decide +kernel) ⟨by omega, by omega⟩) (wc_preV (q := (RX12, TX12, 1)) C.2 hW hS ht rfl _) rfl rfl hsz rfl (lv_room hro) dd hf) hV (fun _ z => z) (fun H1 locs1 a b c0 _ _ => kk H1 locs1 a b c0)
  · exact wc_call (v := (some (.int r))) (va_runU (C := RX13) (owner := "WoodState$Part") (As := [.ref (h + G), .int a2, .int a3]) (rest := rest) C.1 hM (va_cwA 3 C.1.2.2.2.2 (lw_U q770 q757 q776 q762 q185 q763) rfl e1 e2 (C.2.2.at q756 rfl) (by decide +kernel) ⟨by omega, by omega⟩) (wc_preV (q := (RX13, TX13, 1)) C.2 hW hS ht rfl _) rfl rfl hsz rfl (lv_room hro) dd hf) hV (fun _ z => z) (fun H1 locs1 a b c0 _ _ => kk H1 locs1 a b c0)
  · exact wc_call (v := (some (.int r))) (va_runU (C := RX11) (owner := "WoodState$Part") (As := [.ref (h + G), .int a2, .int a3]) (rest := rest) C.1 hM (va_cwA 3 C.1.2.2.2.2 (lw_U q770 q757 q777 q768 q183 q769) rfl e1 e2 (C.2.2.at q756 rfl) (by decide +kernel) ⟨by omega, by omega⟩) (wc_preV (q := (RX11, TX11, 1)) C.2 hW hS ht rfl _) rfl rfl hsz rfl (lv_room hro) dd hf) hV (fun _ z => z) (fun H1 locs1 a b c0 _ _ => kk H1 locs1 a b c0)
  · exact wc_call (v := (some (.int r))) (va_runU (C := RX14) (owner := "WoodState$Part") (As := [.ref (h + G), .int a2, .int a3]) (rest := rest) C.1 hM (va_cwA 3 C.1.2.2.2.2 (lw_U q770 q757 q758 q759 q186 q760) rfl e1 e2 (C.2.2.at q756 rfl) (by decide +kernel) ⟨by omega, by omega⟩) (wc_preV (q := (RX14, TX14, 1)) C.2 hW hS ht rfl _) rfl rfl hsz rfl (lv_room hro) dd hf) hV (fun _ z => z) (fun H1 locs1 a b c0 _ _ => kk H1 locs1 a b c0)
  · exact wc_call (v := (some (.int r))) (va_runU (C := RX15) (owner := "WoodState$Part") (As := [.ref (h + G), .int a2, .int a3]) (rest := rest) C.1 hM (va_cwA 3 C.1.2.2.2.2 (lw_U q770 q757 q779 q773 q187 q774) rfl e1 e2 (C.2.2.at q756 rfl) (by decide +kernel) ⟨by omega, by omega⟩) (wc_preV (q := (RX15, TX15, 3)) C.2 hW hS ht rfl _) rfl rfl hsz rfl (lv_room hro) dd hf) hV (fun _ z => z) (fun H1 locs1 a b c0 _ _ => kk H1 locs1 a b c0)
theorem cv_X14_13 {d n G : Nat} {a2 a3 r : Int32} {u u1 : CS} (C : CC p m c cc nL s args D dA RX14) (hW : wc_W D dA h u H) (hS : wc_S u) (hV : va_S (CA h) H0 H locs) (hM : pw_M l D dA h d n G u u1 a2 a3 r) (hrc : (0 : Nat) = 0) (hrs : (0 : Nat) = 0) (hR : (pw_rm d).frames + 1 ≤ R.frames ∧ 8 + (8 + 11) + (pw_rm d).locals ≤ R.locals) (hf : cells + 0 ≤ R.cells ∧ slots + 0 ≤ R.slots) (dd : decode cc pc = .ok (.invokevirtual 13, 3)) (hsz : ls.size = nL) (hro : (rest.map fun v => v.category).sum ≤ 8) (kk : ∀ (H1 : Heap) (locs1 : List Loc), wc_W D dA h u1 H1 → wc_S u1 → va_S (CA h) H0 H1 locs1 → W p l e R s m args below meth c H1 locs1 cells slots Q (F0 m (pc + 3) ls (.int r :: rest))) : W p l e R s m args below meth c H locs cells slots Q (F0 m pc ls (.int a3 :: .int a2 :: .ref (h + G) :: .ref (h + n) :: rest)) := by
  rcases hM with ⟨ht, rm, e1, e2, e3, e4, hM⟩ | ⟨ht, rm, e1, e2, e3, e4, hM⟩ | ⟨ht, rm, e1, e2, e3, e4, hM⟩ | ⟨ht, rm, e1, e2, e3, e4, hM⟩ | ⟨ht, rm, e1, e2, e3, e4, hM⟩
  · exact wc_call (v := (some (.int r))) (va_runU (C := RX12) (owner := "WoodState$Part") (As := [.ref (h + G), .int a2, .int a3]) (rest := rest) C.1 hM (va_cwA 3 C.1.2.2.2.2 (lw_U q761 q757 q778 q771 q184 q772) rfl e1 e2 (C.2.2.at q756 rfl) (by decide +kernel) ⟨by omega, by omega⟩) (wc_preV (q := (RX12, TX12, 1)) C.2 hW hS ht rfl _) rfl rfl hsz rfl (lv_room hro) dd hf) hV (fun _ z => z) (fun H1 locs1 a b c0 _ _ => kk H1 locs1 a b c0)
  · exact wc_call (v := (some (.int r))) (va_runU (C := RX13) (owner := "WoodState$Part") (As := [.ref (h + G), .int a2, .int a3]) (rest := rest) C.1 hM (va_cwA 3 C.1.2.2.2.2 (lw_U q761 q757 q776 q762 q185 q763) rfl e1 e2 (C.2.2.at q756 rfl) (by decide +kernel) ⟨by omega, by omega⟩) (wc_preV (q := (RX13, TX13, 1)) C.2 hW hS ht rfl _) rfl rfl hsz rfl (lv_room hro) dd hf) hV (fun _ z => z) (fun H1 locs1 a b c0 _ _ => kk H1 locs1 a b c0)
  · exact wc_call (v := (some (.int r))) (va_runU (C := RX11) (owner := "WoodState$Part") (As := [.ref (h + G), .int a2, .int a3]) (rest := rest) C.1 hM (va_cwA 3 C.1.2.2.2.2 (lw_U q761 q757 q777 q768 q183 q769) rfl e1 e2 (C.2.2.at q756 rfl) (by decide +kernel) ⟨by omega, by omega⟩) (wc_preV (q := (RX11, TX11, 1)) C.2 hW hS ht rfl _) rfl rfl hsz rfl (lv_room hro) dd hf) hV (fun _ z => z) (fun H1 locs1 a b c0 _ _ => kk H1 locs1 a b c0)
  · exact wc_call (v := (some (.int r))) (va_runU (C := RX14) (owner := "WoodState$Part") (As := [.ref (h + G), .int a2, .int a3]) (rest := rest) C.1 hM (va_cwA 3 C.1.2.2.2.2 (lw_U q761 q757 q758 q759 q186 q760) rfl e1 e2 (C.2.2.at q756 rfl) (by decide +kernel) ⟨by omega, by omega⟩) (wc_preV (q := (RX14, TX14, 1)) C.2 hW hS ht rfl _) rfl rfl hsz rfl (lv_room hro) dd hf) hV (fun _ z => z) (fun H1 locs1 a b c0 _ _ => kk H1 locs1 a b c0)
  · exact wc_call (v := (some (.int r))) (va_runU (C := RX15) (owner := "WoodState$Part") (As := [.ref (h + G), .int a2, .int a3]) (rest := rest) C.1 hM (va_cwA 3 C.1.2.2.2.2 (lw_U q761 q757 q779 q773 q187 q774) rfl e1 e2 (C.2.2.at q756 rfl) (by decide +kernel) ⟨by omega, by omega⟩) (wc_preV (q := (RX15, TX15, 3)) C.2 hW hS ht rfl _) rfl rfl hsz rfl (lv_room hro) dd hf) hV (fun _ z => z) (fun H1 locs1 a b c0 _ _ => kk H1 locs1 a b c0)
theorem cv_X15_20 {d n G : Nat} {a2 a3 r : Int32} {u u1 : CS} (C : CC p m c cc nL s args D dA RX15) (hW : wc_W D dA h u H) (hS : wc_S u) (hV : va_S (CA h) H0 H locs) (hM : pw_M l D dA h d n G u u1 a2 a3 r) (hrc : (0 : Nat) = 0) (hrs : (0 : Nat) = 0) (hR : (pw_rm d).frames + 1 ≤ R.frames ∧ 8 + (8 + 11) + (pw_rm d).locals ≤ R.locals) (hf : cells + 0 ≤ R.cells ∧ slots + 0 ≤ R.slots) (dd : decode cc pc = .ok (.invokevirtual 20, 3)) (hsz : ls.size = nL) (hro : (rest.map fun v => v.category).sum ≤ 8) (kk : ∀ (H1 : Heap) (locs1 : List Loc), wc_W D dA h u1 H1 → wc_S u1 → va_S (CA h) H0 H1 locs1 → W p l e R s m args below meth c H1 locs1 cells slots Q (F0 m (pc + 3) ls (.int r :: rest))) : W p l e R s m args below meth c H locs cells slots Q (F0 m pc ls (.int a3 :: .int a2 :: .ref (h + G) :: .ref (h + n) :: rest)) := by
  rcases hM with ⟨ht, rm, e1, e2, e3, e4, hM⟩ | ⟨ht, rm, e1, e2, e3, e4, hM⟩ | ⟨ht, rm, e1, e2, e3, e4, hM⟩ | ⟨ht, rm, e1, e2, e3, e4, hM⟩ | ⟨ht, rm, e1, e2, e3, e4, hM⟩
  · exact wc_call (v := (some (.int r))) (va_runU (C := RX12) (owner := "WoodState$Part") (As := [.ref (h + G), .int a2, .int a3]) (rest := rest) C.1 hM (va_cwA 3 C.1.2.2.2.2 (lw_U q775 q757 q778 q771 q184 q772) rfl e1 e2 (C.2.2.at q756 rfl) (by decide +kernel) ⟨by omega, by omega⟩) (wc_preV (q := (RX12, TX12, 1)) C.2 hW hS ht rfl _) rfl rfl hsz rfl (lv_room hro) dd hf) hV (fun _ z => z) (fun H1 locs1 a b c0 _ _ => kk H1 locs1 a b c0)
  · exact wc_call (v := (some (.int r))) (va_runU (C := RX13) (owner := "WoodState$Part") (As := [.ref (h + G), .int a2, .int a3]) (rest := rest) C.1 hM (va_cwA 3 C.1.2.2.2.2 (lw_U q775 q757 q776 q762 q185 q763) rfl e1 e2 (C.2.2.at q756 rfl) (by decide +kernel) ⟨by omega, by omega⟩) (wc_preV (q := (RX13, TX13, 1)) C.2 hW hS ht rfl _) rfl rfl hsz rfl (lv_room hro) dd hf) hV (fun _ z => z) (fun H1 locs1 a b c0 _ _ => kk H1 locs1 a b c0)
  · exact wc_call (v := (some (.int r))) (va_runU (C := RX11) (owner := "WoodState$Part") (As := [.ref (h + G), .int a2, .int a3]) (rest := rest) C.1 hM (va_cwA 3 C.1.2.2.2.2 (lw_U q775 q757 q777 q768 q183 q769) rfl e1 e2 (C.2.2.at q756 rfl) (by decide +kernel) ⟨by omega, by omega⟩) (wc_preV (q := (RX11, TX11, 1)) C.2 hW hS ht rfl _) rfl rfl hsz rfl (lv_room hro) dd hf) hV (fun _ z => z) (fun H1 locs1 a b c0 _ _ => kk H1 locs1 a b c0)
  · exact wc_call (v := (some (.int r))) (va_runU (C := RX14) (owner := "WoodState$Part") (As := [.ref (h + G), .int a2, .int a3]) (rest := rest) C.1 hM (va_cwA 3 C.1.2.2.2.2 (lw_U q775 q757 q758 q759 q186 q760) rfl e1 e2 (C.2.2.at q756 rfl) (by decide +kernel) ⟨by omega, by omega⟩) (wc_preV (q := (RX14, TX14, 1)) C.2 hW hS ht rfl _) rfl rfl hsz rfl (lv_room hro) dd hf) hV (fun _ z => z) (fun H1 locs1 a b c0 _ _ => kk H1 locs1 a b c0)
  · exact wc_call (v := (some (.int r))) (va_runU (C := RX15) (owner := "WoodState$Part") (As := [.ref (h + G), .int a2, .int a3]) (rest := rest) C.1 hM (va_cwA 3 C.1.2.2.2.2 (lw_U q775 q757 q779 q773 q187 q774) rfl e1 e2 (C.2.2.at q756 rfl) (by decide +kernel) ⟨by omega, by omega⟩) (wc_preV (q := (RX15, TX15, 3)) C.2 hW hS ht rfl _) rfl rfl hsz rfl (lv_room hro) dd hf) hV (fun _ z => z) (fun H1 locs1 a b c0 _ _ => kk H1 locs1 a b c0)
set_option maxHeartbeats 4000000 in
set_option maxRecDepth 100000 in
theorem kX11_worth_open {l : Launch} {D : va_G} {dA : Nat → ClassId} {h N : Nat} {n0 : Nat} {G1 : Nat} {a2 : Int32} {a3 : Int32} {u u1 : CS} {r : Int32} (hG1 : wc_F G1) {d : Nat} {g : Nat → Nat → CS → Int32 → Int32 → Option (Int32 × CS)} (hg : pw_hyp l D dA h d g) (hE : fX11_worth N G1 g u n0 a2 a3 = some (r, u1)) : Met l yX11_worth (ws_ yX11_worth cX11_worth 4 (some .int)) (pw_rm (d + 1)) (va_Pc [.ref (h + n0), .ref (h + G1), .int a2, .int a3] (wc_St D dA h u)) (wc_Qr D dA h (some (.int r)) u1) 0 0 (CA h) := by
  refine wc_met (own := RX11) (lv := [(0, .ref (h + n0)), (1, .ref (h + G1)), (2, .int a2), (3, .int a3)]) (by decide) rfl rfl rfl ?_
  intro p e s m args below meth c ls C hr hlocks hW hS hV hl
  have hx := C.1.1
  have hb := C.1.2.1
  have w_18 : ∀ (u : CS) (y0 : Int32) (H : Heap) (locs : List Loc) (ls : Array Slot), fX11_worth_18 N G1 g u y0 = some (r, u1) → wc_W D dA h u H → wc_S u → va_S (CA h) s.heap H locs → lv_has ls 4 [] → W p l e (pw_rm (d + 1)) s m args below meth c H locs 0 0 (MQ below (wc_Qr D dA h (some (.int r)) u1) args s 0 0 (CA h)) (F0 m 18 ls [.int y0]) := by
    intro u y0 H locs ls hE hW hS hV hl
    unfold fX11_worth_18 at hE
    exact wc_iret C hr hlocks hW hS hV hE dX11_worth_18
  unfold fX11_worth at hE
  refine lv_aload_n hx hb dX11_worth_0 rfl (lv_at hl 0 rfl) ?_
  obtain ⟨ht, hE⟩ := o_sh_some hE
  refine cg_X11_7_11 C hW ht dX11_worth_1 ?_
  refine z_nmp hE (fun p5 hE => ?_)
  refine lv_aload_n hx hb dX11_worth_4 rfl (lv_at hl 1 rfl) ?_
  refine lv_iload_n hx hb dX11_worth_5 rfl (lv_at hl 2 rfl) ?_
  refine lv_iload_n hx hb dX11_worth_6 rfl (lv_at hl 3 rfl) ?_
  obtain ⟨n6, hp_, hE_⟩ := o_nn_some hE
  clear hE
  subst hp_
  have hE := hE_
  obtain ⟨r7, u8, hc, hE⟩ := o_bd2_some hE
  refine cv_X11_13 C hW hS hV (hg _ _ _ _ _ _ _ hG1 hc) rfl rfl pw_rr ⟨Nat.le_refl 0, Nat.le_refl 0⟩ dX11_worth_7 hl.1 (Nat.le_of_ble_eq_true rfl) (fun H locs hW hS hV => ?_)
  refine lv_if_ne (tgt := 17) hx hb dX11_worth_10 (by decide) (fun c9 => ?_) (fun c9 => ?_)
  · have hE := z_f c9 hE
    refine lv_iconst (v := (0 : Int32)) hx hb dX11_worth_17 rfl ?_
    exact w_18 _ _ _ _ _ hE hW hS hV (lv_sub hl [] rfl)
  · have hE := z_t c9 hE
    refine lv_iconst (v := (1 : Int32)) hx hb dX11_worth_13 rfl ?_
    refine lv_goto (tgt := 18) hx hb dX11_worth_14 (by decide) ?_
    exact w_18 _ _ _ _ _ hE hW hS hV (lv_sub hl [] rfl)
set_option maxHeartbeats 4000000 in
set_option maxRecDepth 100000 in
theorem kX14_worth_open {l : Launch} {D : va_G} {dA : Nat → ClassId} {h N : Nat} {n0 : Nat} {G1 : Nat} {a2 : Int32} {a3 : Int32} {u u1 : CS} {r : Int32} (hG1 : wc_F G1) {d : Nat} {g : Nat → Nat → CS → Int32 → Int32 → Option (Int32 × CS)} (hg : pw_hyp l D dA h d g) (hE : fX14_worth N G1 g u n0 a2 a3 = some (r, u1)) : Met l yX14_worth (ws_ yX14_worth cX14_worth 4 (some .int)) (pw_rm (d + 1)) (va_Pc [.ref (h + n0), .ref (h + G1), .int a2, .int a3] (wc_St D dA h u)) (wc_Qr D dA h (some (.int r)) u1) 0 0 (CA h) := by
  refine wc_met (own := RX14) (lv := [(0, .ref (h + n0)), (1, .ref (h + G1)), (2, .int a2), (3, .int a3)]) (by decide) rfl rfl rfl ?_
  intro p e s m args below meth c ls C hr hlocks hW hS hV hl
  have hx := C.1.1
  have hb := C.1.2.1
  unfold fX14_worth at hE
  refine lv_aload_n hx hb dX14_worth_0 rfl (lv_at hl 0 rfl) ?_
  obtain ⟨ht, hE⟩ := o_sh_some hE
  refine cg_X14_7_14 C hW ht dX14_worth_1 ?_
  refine z_nmp hE (fun p5 hE => ?_)
  refine lv_aload_n hx hb dX14_worth_4 rfl (lv_at hl 1 rfl) ?_
  refine lv_iload_n hx hb dX14_worth_5 rfl (lv_at hl 2 rfl) ?_
  refine lv_iload_n hx hb dX14_worth_6 rfl (lv_at hl 3 rfl) ?_
  obtain ⟨n6, hp_, hE_⟩ := o_nn_some hE
  clear hE
  subst hp_
  have hE := hE_
  obtain ⟨r7, u8, hc, hE⟩ := o_bd2_some hE
  refine cv_X14_13 C hW hS hV (hg _ _ _ _ _ _ _ hG1 hc) rfl rfl pw_rr ⟨Nat.le_refl 0, Nat.le_refl 0⟩ dX14_worth_7 hl.1 (Nat.le_of_ble_eq_true rfl) (fun H locs hW hS hV => ?_)
  refine lv_ineg hx hb dX14_worth_10 ?_
  exact wc_iret C hr hlocks hW hS hV hE dX14_worth_11
set_option maxHeartbeats 4000000 in
set_option maxRecDepth 100000 in
theorem kX15_worth_open {l : Launch} {D : va_G} {dA : Nat → ClassId} {h N : Nat} {n0 : Nat} {G1 : Nat} {a2 : Int32} {a3 : Int32} {u u1 : CS} {r : Int32} (hG1 : wc_F G1) {d : Nat} {g : Nat → Nat → CS → Int32 → Int32 → Option (Int32 × CS)} (hg : pw_hyp l D dA h d g) (hE : fX15_worth N G1 g u n0 a2 a3 = some (r, u1)) : Met l yX15_worth (ws_ yX15_worth cX15_worth 6 (some .int)) (pw_rm (d + 1)) (va_Pc [.ref (h + n0), .ref (h + G1), .int a2, .int a3] (wc_St D dA h u)) (wc_Qr D dA h (some (.int r)) u1) 0 0 (CA h) := by
  refine wc_met (own := RX15) (lv := [(0, .ref (h + n0)), (1, .ref (h + G1)), (2, .int a2), (3, .int a3)]) (by decide) rfl rfl rfl ?_
  intro p e s m args below meth c ls C hr hlocks hW hS hV hl
  have hx := C.1.1
  have hb := C.1.2.1
  have w_230 : ∀ (u : CS) (y0 : Int32) (H : Heap) (locs : List Loc) (ls : Array Slot), fX15_worth_230 N G1 g u y0 = some (r, u1) → wc_W D dA h u H → wc_S u → va_S (CA h) s.heap H locs → lv_has ls 6 [] → W p l e (pw_rm (d + 1)) s m args below meth c H locs 0 0 (MQ below (wc_Qr D dA h (some (.int r)) u1) args s 0 0 (CA h)) (F0 m 230 ls [.int y0]) := by
    intro u y0 H locs ls hE hW hS hV hl
    unfold fX15_worth_230 at hE
    exact wc_iret C hr hlocks hW hS hV hE dX15_worth_230
  have w_229 : ∀ (u : CS) (H : Heap) (locs : List Loc) (ls : Array Slot), fX15_worth_229 N G1 g u = some (r, u1) → wc_W D dA h u H → wc_S u → va_S (CA h) s.heap H locs → lv_has ls 6 [] → W p l e (pw_rm (d + 1)) s m args below meth c H locs 0 0 (MQ below (wc_Qr D dA h (some (.int r)) u1) args s 0 0 (CA h)) (F0 m 229 ls []) := by
    intro u H locs ls hE hW hS hV hl
    unfold fX15_worth_229 at hE
    refine lv_iconst (v := (0 : Int32)) hx hb dX15_worth_229 rfl ?_
    exact w_230 _ _ _ _ _ hE hW hS hV (lv_sub hl [] rfl)
  have w_159 : ∀ (u : CS) (y0 : Int32) (H : Heap) (locs : List Loc) (ls : Array Slot), fX15_worth_159 N G1 g u y0 = some (r, u1) → wc_W D dA h u H → wc_S u → va_S (CA h) s.heap H locs → lv_has ls 6 [] → W p l e (pw_rm (d + 1)) s m args below meth c H locs 0 0 (MQ below (wc_Qr D dA h (some (.int r)) u1) args s 0 0 (CA h)) (F0 m 159 ls [.int y0]) := by
    intro u y0 H locs ls hE hW hS hV hl
    unfold fX15_worth_159 at hE
    exact wc_iret C hr hlocks hW hS hV hE dX15_worth_159
  have w_144 : ∀ (u : CS) (y0 : Int32) (H : Heap) (locs : List Loc) (ls : Array Slot), fX15_worth_144 N G1 g u y0 = some (r, u1) → wc_W D dA h u H → wc_S u → va_S (CA h) s.heap H locs → lv_has ls 6 [] → W p l e (pw_rm (d + 1)) s m args below meth c H locs 0 0 (MQ below (wc_Qr D dA h (some (.int r)) u1) args s 0 0 (CA h)) (F0 m 144 ls [.int y0]) := by
    intro u y0 H locs ls hE hW hS hV hl
    unfold fX15_worth_144 at hE
    exact wc_iret C hr hlocks hW hS hV hE dX15_worth_144
  have w_185 : ∀ (u : CS) (y0 : Int32) (H : Heap) (locs : List Loc) (ls : Array Slot), fX15_worth_185 N G1 g u y0 = some (r, u1) → wc_W D dA h u H → wc_S u → va_S (CA h) s.heap H locs → lv_has ls 6 [] → W p l e (pw_rm (d + 1)) s m args below meth c H locs 0 0 (MQ below (wc_Qr D dA h (some (.int r)) u1) args s 0 0 (CA h)) (F0 m 185 ls [.int y0]) := by
    intro u y0 H locs ls hE hW hS hV hl
    unfold fX15_worth_185 at hE
    exact wc_iret C hr hlocks hW hS hV hE dX15_worth_185
  have w_172 : ∀ (u : CS) (y0 : Int32) (H : Heap) (locs : List Loc) (ls : Array Slot), fX15_worth_172 N G1 g u y0 = some (r, u1) → wc_W D dA h u H → wc_S u → va_S (CA h) s.heap H locs → lv_has ls 6 [] → W p l e (pw_rm (d + 1)) s m args below meth c H locs 0 0 (MQ below (wc_Qr D dA h (some (.int r)) u1) args s 0 0 (CA h)) (F0 m 172 ls [.int y0]) := by
    intro u y0 H locs ls hE hW hS hV hl
    unfold fX15_worth_172 at hE
    exact wc_iret C hr hlocks hW hS hV hE dX15_worth_172
  have w_198 : ∀ (u : CS) (y0 : Int32) (H : Heap) (locs : List Loc) (ls : Array Slot), fX15_worth_198 N G1 g u y0 = some (r, u1) → wc_W D dA h u H → wc_S u → va_S (CA h) s.heap H locs → lv_has ls 6 [] → W p l e (pw_rm (d + 1)) s m args below meth c H locs 0 0 (MQ below (wc_Qr D dA h (some (.int r)) u1) args s 0 0 (CA h)) (F0 m 198 ls [.int y0]) := by
    intro u y0 H locs ls hE hW hS hV hl
    unfold fX15_worth_198 at hE
    exact wc_iret C hr hlocks hW hS hV hE dX15_worth_198
  have w_214 : ∀ (u : CS) (y0 : Int32) (H : Heap) (locs : List Loc) (ls : Array Slot), fX15_worth_214 N G1 g u y0 = some (r, u1) → wc_W D dA h u H → wc_S u → va_S (CA h) s.heap H locs → lv_has ls 6 [] → W p l e (pw_rm (d + 1)) s m args below meth c H locs 0 0 (MQ below (wc_Qr D dA h (some (.int r)) u1) args s 0 0 (CA h)) (F0 m 214 ls [.int y0]) := by
    intro u y0 H locs ls hE hW hS hV hl
    unfold fX15_worth_214 at hE
    exact wc_iret C hr hlocks hW hS hV hE dX15_worth_214
  have w_209 : ∀ (u : CS) (H : Heap) (locs : List Loc) (ls : Array Slot), fX15_worth_209 N G1 g u = some (r, u1) → wc_W D dA h u H → wc_S u → va_S (CA h) s.heap H locs → lv_has ls 6 [] → W p l e (pw_rm (d + 1)) s m args below meth c H locs 0 0 (MQ below (wc_Qr D dA h (some (.int r)) u1) args s 0 0 (CA h)) (F0 m 209 ls []) := by
    intro u H locs ls hE hW hS hV hl
    unfold fX15_worth_209 at hE
    refine lv_iconst (v := (1 : Int32)) hx hb dX15_worth_209 rfl ?_
    refine lv_goto (tgt := 214) hx hb dX15_worth_210 (by decide) ?_
    exact w_214 _ _ _ _ _ hE hW hS hV (lv_sub hl [] rfl)
  unfold fX15_worth at hE
  refine lv_aload_n hx hb dX15_worth_0 rfl (lv_at hl 0 rfl) ?_
  obtain ⟨ht, hE⟩ := o_sh_some hE
  refine cg_X15_13_15 C hW ht dX15_worth_1 ?_
  refine z_nmp hE (fun p9 hE => ?_)
  refine lv_aload_n hx hb dX15_worth_4 rfl (lv_at hl 1 rfl) ?_
  refine lv_iload_n hx hb dX15_worth_5 rfl (lv_at hl 2 rfl) ?_
  refine lv_iload_n hx hb dX15_worth_6 rfl (lv_at hl 3 rfl) ?_
  obtain ⟨n10, hp_, hE_⟩ := o_nn_some hE
  clear hE
  subst hp_
  have hE := hE_
  obtain ⟨r11, u12, hc, hE⟩ := o_bd2_some hE
  refine cv_X15_20 C hW hS hV (hg _ _ _ _ _ _ _ hG1 hc) rfl rfl pw_rr ⟨Nat.le_refl 0, Nat.le_refl 0⟩ dX15_worth_7 hl.1 (Nat.le_of_ble_eq_true rfl) (fun H locs hW hS hV => ?_)
  refine lv_istore (lv' := [(4, .int r11), (0, .ref (h + n0)), (1, .ref (h + G1)), (2, .int a2), (3, .int a3)]) hx hb dX15_worth_10 hl (by decide) rfl (fun ls hl => ?_)
  refine lv_aload_n hx hb dX15_worth_12 rfl (lv_at hl 1 rfl) ?_
  obtain ⟨ht, hE⟩ := o_sh_some hE
  refine cg_X15_17_15 C hW ht dX15_worth_13 ?_
  refine z_nmp hE (fun p13 hE => ?_)
  refine lv_aload_n hx hb dX15_worth_16 rfl (lv_at hl 2 rfl) ?_
  refine lv_iload_n hx hb dX15_worth_17 rfl (lv_at hl 3 rfl) ?_
  refine lv_iload_n hx hb dX15_worth_18 rfl (lv_at hl 4 rfl) ?_
  obtain ⟨n14, hp_, hE_⟩ := o_nn_some hE
  clear hE
  subst hp_
  have hE := hE_
  obtain ⟨r15, u16, hc, hE⟩ := o_bd2_some hE
  refine cv_X15_20 C hW hS hV (hg _ _ _ _ _ _ _ hG1 hc) rfl rfl pw_rr ⟨Nat.le_refl 0, Nat.le_refl 0⟩ dX15_worth_19 hl.1 (Nat.le_of_ble_eq_true rfl) (fun H locs hW hS hV => ?_)
  refine lv_istore (lv' := [(5, .int r15), (4, .int r11), (0, .ref (h + n0)), (1, .ref (h + G1)), (2, .int a2), (3, .int a3)]) hx hb dX15_worth_22 hl (by decide) rfl (fun ls hl => ?_)
  refine lv_aload_n hx hb dX15_worth_24 rfl (lv_at hl 2 rfl) ?_
  obtain ⟨ht, hE⟩ := o_sh_some hE
  refine cg_X15_7_15 C hW ht dX15_worth_25 ?_
  by_cases c17 : (wc_I u16 n0 0) = (37 : Int32)
  · have hE := z_t c17 hE
    refine lv_lookup (tgt := 145) (off := 117) hx hb dX15_worth_28 (by decide) (by rw [c17]; decide) (by decide) ?_
    refine lv_iload hx hb dX15_worth_145 (lv_at hl 0 rfl) ?_
    refine lv_if_ne (tgt := 154) hx hb dX15_worth_147 (by decide) (fun c18 => ?_) (fun c18 => ?_)
    · have hE := z_f c18 hE
      refine lv_iload hx hb dX15_worth_154 (lv_at hl 1 rfl) ?_
      refine lv_iload hx hb dX15_worth_156 (lv_at hl 0 rfl) ?_
      obtain ⟨hz, hE⟩ := o_nz_some hE
      refine lv_irem hx hb dX15_worth_158 hz ?_
      exact w_159 _ _ _ _ _ hE hW hS hV (lv_sub hl [] rfl)
    · have hE := z_t c18 hE
      refine lv_iconst (v := (0 : Int32)) hx hb dX15_worth_150 rfl ?_
      refine lv_goto (tgt := 159) hx hb dX15_worth_151 (by decide) ?_
      exact w_159 _ _ _ _ _ hE hW hS hV (lv_sub hl [] rfl)
  have hE := z_f c17 hE
  by_cases c19 : (wc_I u16 n0 0) = (42 : Int32)
  · have hE := z_t c19 hE
    refine lv_lookup (tgt := 124) (off := 96) hx hb dX15_worth_28 (by decide) (by rw [c19]; decide) (by decide) ?_
    refine lv_iload hx hb dX15_worth_124 (lv_at hl 1 rfl) ?_
    refine lv_iload hx hb dX15_worth_126 (lv_at hl 0 rfl) ?_
    refine lv_imul hx hb dX15_worth_128 ?_
    exact wc_iret C hr hlocks hW hS hV hE dX15_worth_129
  have hE := z_f c19 hE
  by_cases c20 : (wc_I u16 n0 0) = (43 : Int32)
  · have hE := z_t c20 hE
    refine lv_lookup (tgt := 112) (off := 84) hx hb dX15_worth_28 (by decide) (by rw [c20]; decide) (by decide) ?_
    refine lv_iload hx hb dX15_worth_112 (lv_at hl 1 rfl) ?_
    refine lv_iload hx hb dX15_worth_114 (lv_at hl 0 rfl) ?_
    refine lv_iadd hx hb dX15_worth_116 ?_
    exact wc_iret C hr hlocks hW hS hV hE dX15_worth_117
  have hE := z_f c20 hE
  by_cases c21 : (wc_I u16 n0 0) = (45 : Int32)
  · have hE := z_t c21 hE
    refine lv_lookup (tgt := 118) (off := 90) hx hb dX15_worth_28 (by decide) (by rw [c21]; decide) (by decide) ?_
    refine lv_iload hx hb dX15_worth_118 (lv_at hl 1 rfl) ?_
    refine lv_iload hx hb dX15_worth_120 (lv_at hl 0 rfl) ?_
    refine lv_isub hx hb dX15_worth_122 ?_
    exact wc_iret C hr hlocks hW hS hV hE dX15_worth_123
  have hE := z_f c21 hE
  by_cases c22 : (wc_I u16 n0 0) = (47 : Int32)
  · have hE := z_t c22 hE
    refine lv_lookup (tgt := 130) (off := 102) hx hb dX15_worth_28 (by decide) (by rw [c22]; decide) (by decide) ?_
    refine lv_iload hx hb dX15_worth_130 (lv_at hl 0 rfl) ?_
    refine lv_if_ne (tgt := 139) hx hb dX15_worth_132 (by decide) (fun c23 => ?_) (fun c23 => ?_)
    · have hE := z_f c23 hE
      refine lv_iload hx hb dX15_worth_139 (lv_at hl 1 rfl) ?_
      refine lv_iload hx hb dX15_worth_141 (lv_at hl 0 rfl) ?_
      obtain ⟨hz, hE⟩ := o_nz_some hE
      refine lv_idiv hx hb dX15_worth_143 hz ?_
      exact w_144 _ _ _ _ _ hE hW hS hV (lv_sub hl [] rfl)
    · have hE := z_t c23 hE
      refine lv_iconst (v := (0 : Int32)) hx hb dX15_worth_135 rfl ?_
      refine lv_goto (tgt := 144) hx hb dX15_worth_136 (by decide) ?_
      exact w_144 _ _ _ _ _ hE hW hS hV (lv_sub hl [] rfl)
  have hE := z_f c22 hE
  by_cases c24 : (wc_I u16 n0 0) = (60 : Int32)
  · have hE := z_t c24 hE
    refine lv_lookup (tgt := 173) (off := 145) hx hb dX15_worth_28 (by decide) (by rw [c24]; decide) (by decide) ?_
    refine lv_iload hx hb dX15_worth_173 (lv_at hl 1 rfl) ?_
    refine lv_iload hx hb dX15_worth_175 (lv_at hl 0 rfl) ?_
    refine lv_icmp_ge (tgt := 184) hx hb dX15_worth_177 (by decide) (fun c25 => ?_) (fun c25 => ?_)
    · have hE := z_t c25 hE
      refine lv_iconst (v := (0 : Int32)) hx hb dX15_worth_184 rfl ?_
      exact w_185 _ _ _ _ _ hE hW hS hV (lv_sub hl [] rfl)
    · have hE := z_f c25 hE
      refine lv_iconst (v := (1 : Int32)) hx hb dX15_worth_180 rfl ?_
      refine lv_goto (tgt := 185) hx hb dX15_worth_181 (by decide) ?_
      exact w_185 _ _ _ _ _ hE hW hS hV (lv_sub hl [] rfl)
  have hE := z_f c24 hE
  by_cases c26 : (wc_I u16 n0 0) = (61 : Int32)
  · have hE := z_t c26 hE
    refine lv_lookup (tgt := 160) (off := 132) hx hb dX15_worth_28 (by decide) (by rw [c26]; decide) (by decide) ?_
    refine lv_iload hx hb dX15_worth_160 (lv_at hl 1 rfl) ?_
    refine lv_iload hx hb dX15_worth_162 (lv_at hl 0 rfl) ?_
    refine lv_icmp_ne (tgt := 171) hx hb dX15_worth_164 (by decide) (fun c27 => ?_) (fun c27 => ?_)
    · have hE := z_f c27 hE
      refine lv_iconst (v := (0 : Int32)) hx hb dX15_worth_171 rfl ?_
      exact w_172 _ _ _ _ _ hE hW hS hV (lv_sub hl [] rfl)
    · have hE := z_t c27 hE
      refine lv_iconst (v := (1 : Int32)) hx hb dX15_worth_167 rfl ?_
      refine lv_goto (tgt := 172) hx hb dX15_worth_168 (by decide) ?_
      exact w_172 _ _ _ _ _ hE hW hS hV (lv_sub hl [] rfl)
  have hE := z_f c26 hE
  by_cases c28 : (wc_I u16 n0 0) = (62 : Int32)
  · have hE := z_t c28 hE
    refine lv_lookup (tgt := 186) (off := 158) hx hb dX15_worth_28 (by decide) (by rw [c28]; decide) (by decide) ?_
    refine lv_iload hx hb dX15_worth_186 (lv_at hl 1 rfl) ?_
    refine lv_iload hx hb dX15_worth_188 (lv_at hl 0 rfl) ?_
    refine lv_icmp_le (tgt := 197) hx hb dX15_worth_190 (by decide) (fun c29 => ?_) (fun c29 => ?_)
    · have hE := z_t c29 hE
      refine lv_iconst (v := (0 : Int32)) hx hb dX15_worth_197 rfl ?_
      exact w_198 _ _ _ _ _ hE hW hS hV (lv_sub hl [] rfl)
    · have hE := z_f c29 hE
      refine lv_iconst (v := (1 : Int32)) hx hb dX15_worth_193 rfl ?_
      refine lv_goto (tgt := 198) hx hb dX15_worth_194 (by decide) ?_
      exact w_198 _ _ _ _ _ hE hW hS hV (lv_sub hl [] rfl)
  have hE := z_f c28 hE
  by_cases c30 : (wc_I u16 n0 0) = (124 : Int32)
  · have hE := z_t c30 hE
    refine lv_lookup (tgt := 199) (off := 171) hx hb dX15_worth_28 (by decide) (by rw [c30]; decide) (by decide) ?_
    refine lv_iload hx hb dX15_worth_199 (lv_at hl 1 rfl) ?_
    refine lv_if_ne (tgt := 209) hx hb dX15_worth_201 (by decide) (fun c31 => ?_) (fun c31 => ?_)
    · have hE := z_f c31 hE
      exact w_209 _ _ _ _ hE hW hS hV (lv_sub hl [] rfl)
    · have hE := z_t c31 hE
      refine lv_iload hx hb dX15_worth_204 (lv_at hl 0 rfl) ?_
      refine lv_if_eq (tgt := 213) hx hb dX15_worth_206 (by decide) (fun c32 => ?_) (fun c32 => ?_)
      · have hE := z_t c32 hE
        refine lv_iconst (v := (0 : Int32)) hx hb dX15_worth_213 rfl ?_
        exact w_214 _ _ _ _ _ hE hW hS hV (lv_sub hl [] rfl)
      · have hE := z_f c32 hE
        exact w_209 _ _ _ _ hE hW hS hV (lv_sub hl [] rfl)
  have hE := z_f c30 hE
  refine lv_lookup (tgt := 215) (off := 187) hx hb dX15_worth_28 (by decide) (by simp [Op.lookupswitch.offset, z_tj (j := 37) c17 rfl, z_tj (j := 42) c19 rfl, z_tj (j := 43) c20 rfl, z_tj (j := 45) c21 rfl, z_tj (j := 47) c22 rfl, z_tj (j := 60) c24 rfl, z_tj (j := 61) c26 rfl, z_tj (j := 62) c28 rfl, z_tj (j := 124) c30 rfl]) (by decide) ?_
  refine lv_iload hx hb dX15_worth_215 (lv_at hl 1 rfl) ?_
  refine lv_if_eq (tgt := 229) hx hb dX15_worth_217 (by decide) (fun c33 => ?_) (fun c33 => ?_)
  · have hE := z_t c33 hE
    exact w_229 _ _ _ _ hE hW hS hV (lv_sub hl [] rfl)
  · have hE := z_f c33 hE
    refine lv_iload hx hb dX15_worth_220 (lv_at hl 0 rfl) ?_
    refine lv_if_eq (tgt := 229) hx hb dX15_worth_222 (by decide) (fun c34 => ?_) (fun c34 => ?_)
    · have hE := z_t c34 hE
      exact w_229 _ _ _ _ hE hW hS hV (lv_sub hl [] rfl)
    · have hE := z_f c34 hE
      refine lv_iconst (v := (1 : Int32)) hx hb dX15_worth_225 rfl ?_
      refine lv_goto (tgt := 230) hx hb dX15_worth_226 (by decide) ?_
      exact w_230 _ _ _ _ _ hE hW hS hV (lv_sub hl [] rfl)
set_option maxHeartbeats 1000000 in
theorem pw_all {l : Launch} {D : va_G} {dA : Nat → ClassId} {h N : Nat} : ∀ d : Nat, pw_hyp l D dA h d (pwX N d)
  | 0 => fun n G u u1 a2 a3 r hG hE => by cases (show (none : Option (Int32 × CS)) = some (r, u1) from hE)
  | d + 1 => fun n G u u1 a2 a3 r hG hE => by
    have ih := pw_all (l := l) (D := D) (dA := dA) (h := h) (N := N) d
    rw [pwX] at hE
    by_cases c12 : wc_T u n = some (.inl 12)
    · rw [if_pos c12] at hE
      exact Or.inl ⟨c12, _, rfl, rfl, (by show 0 ≤ 1 + (d + 1); omega), (by show 0 ≤ 23 + 32 * (d + 1); omega), kX12_worth hG hE⟩
    rw [if_neg c12] at hE
    by_cases c13 : wc_T u n = some (.inl 13)
    · rw [if_pos c13] at hE
      exact Or.inr (Or.inl ⟨c13, _, rfl, rfl, (by show 1 ≤ 1 + (d + 1); omega), (by show 23 ≤ 23 + 32 * (d + 1); omega), kX13_worth hG hE⟩)
    rw [if_neg c13] at hE
    by_cases c11 : wc_T u n = some (.inl 11)
    · rw [if_pos c11] at hE
      exact Or.inr (Or.inr (Or.inl ⟨c11, pw_rm (d + 1), rfl, rfl, Nat.le_refl _, Nat.le_refl _, kX11_worth_open hG ih hE⟩))
    rw [if_neg c11] at hE
    by_cases c14 : wc_T u n = some (.inl 14)
    · rw [if_pos c14] at hE
      exact Or.inr (Or.inr (Or.inr (Or.inl ⟨c14, pw_rm (d + 1), rfl, rfl, Nat.le_refl _, Nat.le_refl _, kX14_worth_open hG ih hE⟩)))
    rw [if_neg c14] at hE
    by_cases c15 : wc_T u n = some (.inl 15)
    · rw [if_pos c15] at hE
      exact Or.inr (Or.inr (Or.inr (Or.inr (⟨c15, pw_rm (d + 1), rfl, rfl, Nat.le_refl _, Nat.le_refl _, kX15_worth_open hG ih hE⟩))))
    rw [if_neg c15] at hE
    cases hE
theorem cc_X0_251 {n0 : Nat} {r : Int32} {u u1 : CS} {rm : Room} (C : CC p m c cc nL s args D dA RX0) (hW : wc_W D dA h u H) (hS : wc_S u) (hV : va_S (CA h) H0 H locs) (ht : wc_T u n0 = some (.inl 8)) (hM : Met l yX8_kind (ws_ yX8_kind cX8_kind 1 (some .int)) rm (va_Pc [.ref (h + n0)] (wc_St D dA h u)) (wc_Qr D dA h (some (.int r)) u1) 0 0 (CA h)) (hrc : rm.cells = 0) (hrs : rm.slots = 0) (hR : rm.frames + 1 ≤ R.frames ∧ 8 + (1 + 11) + rm.locals ≤ R.locals) (hf : cells + 0 ≤ R.cells ∧ slots + 0 ≤ R.slots) (d : decode cc pc = .ok (.invokevirtual 251, 3)) (hsz : ls.size = nL) (hro : (rest.map fun v => v.category).sum ≤ 8) (kk : ∀ (H1 : Heap) (locs1 : List Loc), wc_W D dA h u1 H1 → wc_S u1 → va_S (CA h) H0 H1 locs1 → W p l e R s m args below meth c H1 locs1 cells slots Q (F0 m (pc + 3) ls (.int r :: rest))) : W p l e R s m args below meth c H locs cells slots Q (F0 m pc ls (.ref (h + n0) :: rest)) :=
  wc_call (v := (some (.int r))) (va_runV (As := []) (rest := rest) C.1 hM (cwV 0 C.1.2.2.2.2 (lw_V q847 q848 q849 q180 q861) rfl hrc hrs (by decide +kernel) hR) (wc_preV (q := (RX8, TX8, 3)) C.2 hW hS ht rfl _) rfl rfl hsz rfl (lv_room hro) d hf) hV (fun _ z => z) (fun H1 locs1 a b c0 _ _ => kk H1 locs1 a b c0)
theorem cc_X16_7 {n0 : Nat} {r : Int32} {u u1 : CS} {rm : Room} (C : CC p m c cc nL s args D dA RX16) (hW : wc_W D dA h u H) (hS : wc_S u) (hV : va_S (CA h) H0 H locs) (ht : wc_T u n0 = some (.inl 8)) (hM : Met l yX8_kind (ws_ yX8_kind cX8_kind 1 (some .int)) rm (va_Pc [.ref (h + n0)] (wc_St D dA h u)) (wc_Qr D dA h (some (.int r)) u1) 0 0 (CA h)) (hrc : rm.cells = 0) (hrs : rm.slots = 0) (hR : rm.frames + 1 ≤ R.frames ∧ 8 + (1 + 11) + rm.locals ≤ R.locals) (hf : cells + 0 ≤ R.cells ∧ slots + 0 ≤ R.slots) (d : decode cc pc = .ok (.invokevirtual 7, 3)) (hsz : ls.size = nL) (hro : (rest.map fun v => v.category).sum ≤ 8) (kk : ∀ (H1 : Heap) (locs1 : List Loc), wc_W D dA h u1 H1 → wc_S u1 → va_S (CA h) H0 H1 locs1 → W p l e R s m args below meth c H1 locs1 cells slots Q (F0 m (pc + 3) ls (.int r :: rest))) : W p l e R s m args below meth c H locs cells slots Q (F0 m pc ls (.ref (h + n0) :: rest)) :=
  wc_call (v := (some (.int r))) (va_runV (As := []) (rest := rest) C.1 hM (cwV 0 C.1.2.2.2.2 (lw_V q854 q848 q849 q180 q861) rfl hrc hrs (by decide +kernel) hR) (wc_preV (q := (RX8, TX8, 3)) C.2 hW hS ht rfl _) rfl rfl hsz rfl (lv_room hro) d hf) hV (fun _ z => z) (fun H1 locs1 a b c0 _ _ => kk H1 locs1 a b c0)
theorem cc_X2_15 {n0 : Nat} {r : Int32} {u u1 : CS} {rm : Room} (C : CC p m c cc nL s args D dA RX2) (hW : wc_W D dA h u H) (hS : wc_S u) (hV : va_S (CA h) H0 H locs) (ht : wc_T u n0 = some (.inl 8)) (hM : Met l yX8_kind (ws_ yX8_kind cX8_kind 1 (some .int)) rm (va_Pc [.ref (h + n0)] (wc_St D dA h u)) (wc_Qr D dA h (some (.int r)) u1) 0 0 (CA h)) (hrc : rm.cells = 0) (hrs : rm.slots = 0) (hR : rm.frames + 1 ≤ R.frames ∧ 8 + (1 + 11) + rm.locals ≤ R.locals) (hf : cells + 0 ≤ R.cells ∧ slots + 0 ≤ R.slots) (d : decode cc pc = .ok (.invokevirtual 15, 3)) (hsz : ls.size = nL) (hro : (rest.map fun v => v.category).sum ≤ 8) (kk : ∀ (H1 : Heap) (locs1 : List Loc), wc_W D dA h u1 H1 → wc_S u1 → va_S (CA h) H0 H1 locs1 → W p l e R s m args below meth c H1 locs1 cells slots Q (F0 m (pc + 3) ls (.int r :: rest))) : W p l e R s m args below meth c H locs cells slots Q (F0 m pc ls (.ref (h + n0) :: rest)) :=
  wc_call (v := (some (.int r))) (va_runV (As := []) (rest := rest) C.1 hM (cwV 0 C.1.2.2.2.2 (lw_V q1521 q848 q849 q180 q861) rfl hrc hrs (by decide +kernel) hR) (wc_preV (q := (RX8, TX8, 3)) C.2 hW hS ht rfl _) rfl rfl hsz rfl (lv_room hro) d hf) hV (fun _ z => z) (fun H1 locs1 a b c0 _ _ => kk H1 locs1 a b c0)
theorem cc_X9_9 {n0 : Nat} {r : Int32} {u u1 : CS} {rm : Room} (C : CC p m c cc nL s args D dA RX9) (hW : wc_W D dA h u H) (hS : wc_S u) (hV : va_S (CA h) H0 H locs) (ht : wc_T u n0 = some (.inl 8)) (hM : Met l yX8_kind (ws_ yX8_kind cX8_kind 1 (some .int)) rm (va_Pc [.ref (h + n0)] (wc_St D dA h u)) (wc_Qr D dA h (some (.int r)) u1) 0 0 (CA h)) (hrc : rm.cells = 0) (hrs : rm.slots = 0) (hR : rm.frames + 1 ≤ R.frames ∧ 8 + (1 + 11) + rm.locals ≤ R.locals) (hf : cells + 0 ≤ R.cells ∧ slots + 0 ≤ R.slots) (d : decode cc pc = .ok (.invokevirtual 9, 3)) (hsz : ls.size = nL) (hro : (rest.map fun v => v.category).sum ≤ 8) (kk : ∀ (H1 : Heap) (locs1 : List Loc), wc_W D dA h u1 H1 → wc_S u1 → va_S (CA h) H0 H1 locs1 → W p l e R s m args below meth c H1 locs1 cells slots Q (F0 m (pc + 3) ls (.int r :: rest))) : W p l e R s m args below meth c H locs cells slots Q (F0 m pc ls (.ref (h + n0) :: rest)) :=
  wc_call (v := (some (.int r))) (va_runV (As := []) (rest := rest) C.1 hM (cwV 0 C.1.2.2.2.2 (lw_V q859 q848 q849 q180 q861) rfl hrc hrs (by decide +kernel) hR) (wc_preV (q := (RX8, TX8, 3)) C.2 hW hS ht rfl _) rfl rfl hsz rfl (lv_room hro) d hf) hV (fun _ z => z) (fun H1 locs1 a b c0 _ _ => kk H1 locs1 a b c0)
set_option maxHeartbeats 4000000 in
set_option maxRecDepth 100000 in
theorem kX8_kind {l : Launch} {D : va_G} {dA : Nat → ClassId} {h N : Nat} {n0 : Nat} {u u1 : CS} {r : Int32} (hE : fX8_kind N u n0 = some (r, u1)) : Met l yX8_kind (ws_ yX8_kind cX8_kind 1 (some .int)) ({ frames := 0, cells := 0, slots := 0, locals := 0 }) (va_Pc [.ref (h + n0)] (wc_St D dA h u)) (wc_Qr D dA h (some (.int r)) u1) 0 0 (CA h) := by
  refine wc_met (own := RX8) (lv := [(0, .ref (h + n0))]) (by decide) rfl rfl rfl ?_
  intro p e s m args below meth c ls C hr hlocks hW hS hV hl
  have hx := C.1.1
  have hb := C.1.2.1
  unfold fX8_kind at hE
  refine lv_iconst (v := (0 : Int32)) hx hb dX8_kind_0 rfl ?_
  exact wc_iret C hr hlocks hW hS hV hE dX8_kind_1
theorem cc_X0_266 {n0 : Nat} {r : Int32} {u u1 : CS} {rm : Room} (C : CC p m c cc nL s args D dA RX0) (hW : wc_W D dA h u H) (hS : wc_S u) (hV : va_S (CA h) H0 H locs) (ht : wc_T u n0 = some (.inl 8)) (hM : Met l yX8_whose (ws_ yX8_whose cX8_whose 1 (some .int)) rm (va_Pc [.ref (h + n0)] (wc_St D dA h u)) (wc_Qr D dA h (some (.int r)) u1) 0 0 (CA h)) (hrc : rm.cells = 0) (hrs : rm.slots = 0) (hR : rm.frames + 1 ≤ R.frames ∧ 8 + (1 + 11) + rm.locals ≤ R.locals) (hf : cells + 0 ≤ R.cells ∧ slots + 0 ≤ R.slots) (d : decode cc pc = .ok (.invokevirtual 266, 3)) (hsz : ls.size = nL) (hro : (rest.map fun v => v.category).sum ≤ 8) (kk : ∀ (H1 : Heap) (locs1 : List Loc), wc_W D dA h u1 H1 → wc_S u1 → va_S (CA h) H0 H1 locs1 → W p l e R s m args below meth c H1 locs1 cells slots Q (F0 m (pc + 3) ls (.int r :: rest))) : W p l e R s m args below meth c H locs cells slots Q (F0 m pc ls (.ref (h + n0) :: rest)) :=
  wc_call (v := (some (.int r))) (va_runV (As := []) (rest := rest) C.1 hM (cwV 0 C.1.2.2.2.2 (lw_V q862 q863 q864 q180 q870) rfl hrc hrs (by decide +kernel) hR) (wc_preV (q := (RX8, TX8, 3)) C.2 hW hS ht rfl _) rfl rfl hsz rfl (lv_room hro) d hf) hV (fun _ z => z) (fun H1 locs1 a b c0 _ _ => kk H1 locs1 a b c0)
set_option maxHeartbeats 4000000 in
set_option maxRecDepth 100000 in
theorem kX8_whose {l : Launch} {D : va_G} {dA : Nat → ClassId} {h N : Nat} {n0 : Nat} {u u1 : CS} {r : Int32} (hE : fX8_whose N u n0 = some (r, u1)) : Met l yX8_whose (ws_ yX8_whose cX8_whose 1 (some .int)) ({ frames := 0, cells := 0, slots := 0, locals := 0 }) (va_Pc [.ref (h + n0)] (wc_St D dA h u)) (wc_Qr D dA h (some (.int r)) u1) 0 0 (CA h) := by
  refine wc_met (own := RX8) (lv := [(0, .ref (h + n0))]) (by decide) rfl rfl rfl ?_
  intro p e s m args below meth c ls C hr hlocks hW hS hV hl
  have hx := C.1.1
  have hb := C.1.2.1
  unfold fX8_whose at hE
  refine lv_iconst (v := (-1 : Int32)) hx hb dX8_whose_0 rfl ?_
  exact wc_iret C hr hlocks hW hS hV hE dX8_whose_1
theorem cc_X0_269 {n0 : Nat} {r : Int32} {u u1 : CS} {rm : Room} (C : CC p m c cc nL s args D dA RX0) (hW : wc_W D dA h u H) (hS : wc_S u) (hV : va_S (CA h) H0 H locs) (ht : wc_T u n0 = some (.inl 8)) (hM : Met l yX8_ends (ws_ yX8_ends cX8_ends 1 (some .int)) rm (va_Pc [.ref (h + n0)] (wc_St D dA h u)) (wc_Qr D dA h (some (.int r)) u1) 0 0 (CA h)) (hrc : rm.cells = 0) (hrs : rm.slots = 0) (hR : rm.frames + 1 ≤ R.frames ∧ 8 + (1 + 11) + rm.locals ≤ R.locals) (hf : cells + 0 ≤ R.cells ∧ slots + 0 ≤ R.slots) (d : decode cc pc = .ok (.invokevirtual 269, 3)) (hsz : ls.size = nL) (hro : (rest.map fun v => v.category).sum ≤ 8) (kk : ∀ (H1 : Heap) (locs1 : List Loc), wc_W D dA h u1 H1 → wc_S u1 → va_S (CA h) H0 H1 locs1 → W p l e R s m args below meth c H1 locs1 cells slots Q (F0 m (pc + 3) ls (.int r :: rest))) : W p l e R s m args below meth c H locs cells slots Q (F0 m pc ls (.ref (h + n0) :: rest)) :=
  wc_call (v := (some (.int r))) (va_runV (As := []) (rest := rest) C.1 hM (cwV 0 C.1.2.2.2.2 (lw_V q888 q889 q890 q180 q899) rfl hrc hrs (by decide +kernel) hR) (wc_preV (q := (RX8, TX8, 3)) C.2 hW hS ht rfl _) rfl rfl hsz rfl (lv_room hro) d hf) hV (fun _ z => z) (fun H1 locs1 a b c0 _ _ => kk H1 locs1 a b c0)
theorem cc_X16_17 {n0 : Nat} {r : Int32} {u u1 : CS} {rm : Room} (C : CC p m c cc nL s args D dA RX16) (hW : wc_W D dA h u H) (hS : wc_S u) (hV : va_S (CA h) H0 H locs) (ht : wc_T u n0 = some (.inl 8)) (hM : Met l yX8_ends (ws_ yX8_ends cX8_ends 1 (some .int)) rm (va_Pc [.ref (h + n0)] (wc_St D dA h u)) (wc_Qr D dA h (some (.int r)) u1) 0 0 (CA h)) (hrc : rm.cells = 0) (hrs : rm.slots = 0) (hR : rm.frames + 1 ≤ R.frames ∧ 8 + (1 + 11) + rm.locals ≤ R.locals) (hf : cells + 0 ≤ R.cells ∧ slots + 0 ≤ R.slots) (d : decode cc pc = .ok (.invokevirtual 17, 3)) (hsz : ls.size = nL) (hro : (rest.map fun v => v.category).sum ≤ 8) (kk : ∀ (H1 : Heap) (locs1 : List Loc), wc_W D dA h u1 H1 → wc_S u1 → va_S (CA h) H0 H1 locs1 → W p l e R s m args below meth c H1 locs1 cells slots Q (F0 m (pc + 3) ls (.int r :: rest))) : W p l e R s m args below meth c H locs cells slots Q (F0 m pc ls (.ref (h + n0) :: rest)) :=
  wc_call (v := (some (.int r))) (va_runV (As := []) (rest := rest) C.1 hM (cwV 0 C.1.2.2.2.2 (lw_V q895 q889 q890 q180 q899) rfl hrc hrs (by decide +kernel) hR) (wc_preV (q := (RX8, TX8, 3)) C.2 hW hS ht rfl _) rfl rfl hsz rfl (lv_room hro) d hf) hV (fun _ z => z) (fun H1 locs1 a b c0 _ _ => kk H1 locs1 a b c0)
set_option maxHeartbeats 4000000 in
set_option maxRecDepth 100000 in
theorem kX8_ends {l : Launch} {D : va_G} {dA : Nat → ClassId} {h N : Nat} {n0 : Nat} {u u1 : CS} {r : Int32} (hE : fX8_ends N u n0 = some (r, u1)) : Met l yX8_ends (ws_ yX8_ends cX8_ends 1 (some .int)) ({ frames := 0, cells := 0, slots := 0, locals := 0 }) (va_Pc [.ref (h + n0)] (wc_St D dA h u)) (wc_Qr D dA h (some (.int r)) u1) 0 0 (CA h) := by
  refine wc_met (own := RX8) (lv := [(0, .ref (h + n0))]) (by decide) rfl rfl rfl ?_
  intro p e s m args below meth c ls C hr hlocks hW hS hV hl
  have hx := C.1.1
  have hb := C.1.2.1
  unfold fX8_ends at hE
  refine lv_iconst (v := (1 : Int32)) hx hb dX8_ends_0 rfl ?_
  exact wc_iret C hr hlocks hW hS hV hE dX8_ends_1
theorem cc_X16_20 {n0 : Nat} {a1 : Nat} {u u1 : CS} {rm : Room} (C : CC p m c cc nL s args D dA RX16) (hW : wc_W D dA h u H) (hS : wc_S u) (hV : va_S (CA h) H0 H locs) (ht : wc_T u n0 = some (.inl 8)) (hM : Met l yX8_as (ws_ yX8_as cX8_as 2 none) rm (va_Pc [.ref (h + n0), .ref (h + a1)] (wc_St D dA h u)) (wc_Qr D dA h none u1) 0 0 (CA h)) (hrc : rm.cells = 0) (hrs : rm.slots = 0) (hR : rm.frames + 1 ≤ R.frames ∧ 8 + (2 + 11) + rm.locals ≤ R.locals) (hf : cells + 0 ≤ R.cells ∧ slots + 0 ≤ R.slots) (d : decode cc pc = .ok (.invokevirtual 20, 3)) (hsz : ls.size = nL) (hro : (rest.map fun v => v.category).sum ≤ 8) (kk : ∀ (H1 : Heap) (locs1 : List Loc), wc_W D dA h u1 H1 → wc_S u1 → va_S (CA h) H0 H1 locs1 → W p l e R s m args below meth c H1 locs1 cells slots Q (F0 m (pc + 3) ls (rest))) : W p l e R s m args below meth c H locs cells slots Q (F0 m pc ls (.ref (h + a1) :: .ref (h + n0) :: rest)) :=
  wc_call (v := none) (va_runV (As := [.ref (h + a1)]) (rest := rest) C.1 hM (cwV 1 C.1.2.2.2.2 (lw_V q1546 q1540 q1541 q180 q1548) rfl hrc hrs (by decide +kernel) hR) (wc_preV (q := (RX8, TX8, 3)) C.2 hW hS ht rfl _) rfl rfl hsz rfl (lv_room hro) d hf) hV (fun _ z => z) (fun H1 locs1 a b c0 _ _ => kk H1 locs1 a b c0)
theorem cc_X2_23 {n0 : Nat} {a1 : Nat} {u u1 : CS} {rm : Room} (C : CC p m c cc nL s args D dA RX2) (hW : wc_W D dA h u H) (hS : wc_S u) (hV : va_S (CA h) H0 H locs) (ht : wc_T u n0 = some (.inl 8)) (hM : Met l yX8_as (ws_ yX8_as cX8_as 2 none) rm (va_Pc [.ref (h + n0), .ref (h + a1)] (wc_St D dA h u)) (wc_Qr D dA h none u1) 0 0 (CA h)) (hrc : rm.cells = 0) (hrs : rm.slots = 0) (hR : rm.frames + 1 ≤ R.frames ∧ 8 + (2 + 11) + rm.locals ≤ R.locals) (hf : cells + 0 ≤ R.cells ∧ slots + 0 ≤ R.slots) (d : decode cc pc = .ok (.invokevirtual 23, 3)) (hsz : ls.size = nL) (hro : (rest.map fun v => v.category).sum ≤ 8) (kk : ∀ (H1 : Heap) (locs1 : List Loc), wc_W D dA h u1 H1 → wc_S u1 → va_S (CA h) H0 H1 locs1 → W p l e R s m args below meth c H1 locs1 cells slots Q (F0 m (pc + 3) ls (rest))) : W p l e R s m args below meth c H locs cells slots Q (F0 m pc ls (.ref (h + a1) :: .ref (h + n0) :: rest)) :=
  wc_call (v := none) (va_runV (As := [.ref (h + a1)]) (rest := rest) C.1 hM (cwV 1 C.1.2.2.2.2 (lw_V q1539 q1540 q1541 q180 q1548) rfl hrc hrs (by decide +kernel) hR) (wc_preV (q := (RX8, TX8, 3)) C.2 hW hS ht rfl _) rfl rfl hsz rfl (lv_room hro) d hf) hV (fun _ z => z) (fun H1 locs1 a b c0 _ _ => kk H1 locs1 a b c0)
set_option maxHeartbeats 4000000 in
set_option maxRecDepth 100000 in
theorem kX8_as {l : Launch} {D : va_G} {dA : Nat → ClassId} {h N : Nat} {n0 : Nat} {a1 : Nat} {u u_ : CS} (hE : fX8_as N u n0 a1 = some u_) : Met l yX8_as (ws_ yX8_as cX8_as 2 none) ({ frames := 0, cells := 0, slots := 0, locals := 0 }) (va_Pc [.ref (h + n0), .ref (h + a1)] (wc_St D dA h u)) (wc_Qr D dA h none u_) 0 0 (CA h) := by
  refine wc_met (own := RX8) (lv := [(0, .ref (h + n0)), (1, .ref (h + a1))]) (by decide) rfl rfl rfl ?_
  intro p e s m args below meth c ls C hr hlocks hW hS hV hl
  have hx := C.1.1
  have hb := C.1.2.1
  unfold fX8_as at hE
  refine lv_aload_n hx hb dX8_as_0 rfl (lv_at hl 0 rfl) ?_
  refine lv_aload_n hx hb dX8_as_1 rfl (lv_at hl 1 rfl) ?_
  obtain ⟨ht, hE⟩ := o_lt_some hE
  refine cg_X8_9_l C hW ht dX8_as_2 ?_
  obtain ⟨ht, hE⟩ := o_lt_some hE
  refine cp_X8_9_l (J := wc_S) C hW hV ht hS.uI hE dX8_as_5 (fun u4 H locs hE hW hS hV => ?_)
  refine lv_aload_n hx hb dX8_as_8 rfl (lv_at hl 0 rfl) ?_
  refine lv_aload_n hx hb dX8_as_9 rfl (lv_at hl 1 rfl) ?_
  obtain ⟨ht, hE⟩ := o_lt_some hE
  refine cg_X8_15_l C hW ht dX8_as_10 ?_
  obtain ⟨ht, hE⟩ := o_lt_some hE
  refine cp_X8_15_l (J := wc_S) C hW hV ht hS.uI hE dX8_as_13 (fun u5 H locs hE hW hS hV => ?_)
  refine lv_aload_n hx hb dX8_as_16 rfl (lv_at hl 0 rfl) ?_
  refine lv_aload_n hx hb dX8_as_17 rfl (lv_at hl 1 rfl) ?_
  obtain ⟨ht, hE⟩ := o_lt_some hE
  refine cg_X8_18_l C hW ht dX8_as_18 ?_
  obtain ⟨ht, hE⟩ := o_lt_some hE
  refine cp_X8_18_l (J := wc_S) C hW hV ht hS.uI hE dX8_as_21 (fun u6 H locs hE hW hS hV => ?_)
  exact wc_vret C hr hlocks hW hS hV hE dX8_as_24
theorem cs_X16_7 {n0 : Nat} {r : Int32} {u u1 : CS} {rm : Room} (C : CC p m c cc nL s args D dA RX16) (hW : wc_W D dA h u H) (hS : wc_S u) (hV : va_S (CA h) H0 H locs) (ht : wc_T u n0 = some (.inl 16)) (hM : Met l yX8_kind (ws_ yX8_kind cX8_kind 1 (some .int)) rm (va_Pc [.ref (h + n0)] (wc_St D dA h u)) (wc_Qr D dA h (some (.int r)) u1) 0 0 (CA h)) (hrc : rm.cells = 0) (hrs : rm.slots = 0) (hR : rm.frames + 1 ≤ R.frames ∧ 8 + (1 + 11) + rm.locals ≤ R.locals) (hf : cells + 0 ≤ R.cells ∧ slots + 0 ≤ R.slots) (dd : decode cc pc = .ok (.invokespecial 7, 3)) (hsz : ls.size = nL) (hro : (rest.map fun v => v.category).sum ≤ 8) (kk : ∀ (H1 : Heap) (locs1 : List Loc), wc_W D dA h u1 H1 → wc_S u1 → va_S (CA h) H0 H1 locs1 → W p l e R s m args below meth c H1 locs1 cells slots Q (F0 m (pc + 3) ls (.int r :: rest))) : W p l e R s m args below meth c H locs cells slots Q (F0 m pc ls (.ref (h + n0) :: rest)) :=
  wc_call (v := (some (.int r))) (va_runSU (C := RX16) (As := []) (rest := rest) (C.2.1.1 16 (RX16, TX16, 4) rfl).2 C.1 hM (va_cwSU 0 C.1.2.2.2.2 (lw_SU q854 q850 q855 q848 q180 q861) rfl hrc hrs (by decide +kernel) hR) (wc_preV (q := (RX16, TX16, 4)) C.2 hW hS ht rfl _) rfl rfl hsz rfl (lv_room hro) dd hf) hV (fun _ z => z) (fun H1 locs1 a b c0 _ _ => kk H1 locs1 a b c0)
set_option maxHeartbeats 4000000 in
set_option maxRecDepth 100000 in
theorem kX16_kind {l : Launch} {D : va_G} {dA : Nat → ClassId} {h N : Nat} {n0 : Nat} {u u1 : CS} {r : Int32} (hE : fX16_kind N u n0 = some (r, u1)) : Met l yX16_kind (ws_ yX16_kind cX16_kind 1 (some .int)) ({ frames := 1, cells := 0, slots := 0, locals := 20 }) (va_Pc [.ref (h + n0)] (wc_St D dA h u)) (wc_Qr D dA h (some (.int r)) u1) 0 0 (CA h) := by
  refine wc_met (own := RX16) (lv := [(0, .ref (h + n0))]) (by decide) rfl rfl rfl ?_
  intro p e s m args below meth c ls C hr hlocks hW hS hV hl
  have hx := C.1.1
  have hb := C.1.2.1
  unfold fX16_kind at hE
  refine lv_aload_n hx hb dX16_kind_0 rfl (lv_at hl 0 rfl) ?_
  obtain ⟨ht, hE⟩ := o_sh_some hE
  obtain ⟨r4, u3, hc, hE⟩ := o_bd2_some hE
  refine cs_X16_7 C hW hS hV ht (kX8_kind hc) rfl rfl ⟨Nat.le_of_ble_eq_true rfl, Nat.le_of_ble_eq_true rfl⟩ ⟨Nat.le_refl 0, Nat.le_refl 0⟩ dX16_kind_1 hl.1 (Nat.le_of_ble_eq_true rfl) (fun H locs hW hS hV => ?_)
  refine lv_iconst (v := (1 : Int32)) hx hb dX16_kind_4 rfl ?_
  refine lv_iadd hx hb dX16_kind_5 ?_
  exact wc_iret C hr hlocks hW hS hV hE dX16_kind_6
set_option maxHeartbeats 4000000 in
set_option maxRecDepth 100000 in
theorem kX16_whose {l : Launch} {D : va_G} {dA : Nat → ClassId} {h N : Nat} {n0 : Nat} {u u1 : CS} {r : Int32} (hE : fX16_whose N u n0 = some (r, u1)) : Met l yX16_whose (ws_ yX16_whose cX16_whose 1 (some .int)) ({ frames := 0, cells := 0, slots := 0, locals := 0 }) (va_Pc [.ref (h + n0)] (wc_St D dA h u)) (wc_Qr D dA h (some (.int r)) u1) 0 0 (CA h) := by
  refine wc_met (own := RX16) (lv := [(0, .ref (h + n0))]) (by decide) rfl rfl rfl ?_
  intro p e s m args below meth c ls C hr hlocks hW hS hV hl
  have hx := C.1.1
  have hb := C.1.2.1
  unfold fX16_whose at hE
  refine lv_aload_n hx hb dX16_whose_0 rfl (lv_at hl 0 rfl) ?_
  obtain ⟨ht, hE⟩ := o_sh_some hE
  refine cg_X16_11_16 C hW ht dX16_whose_1 ?_
  exact wc_iret C hr hlocks hW hS hV hE dX16_whose_4
theorem cs_X16_17 {n0 : Nat} {r : Int32} {u u1 : CS} {rm : Room} (C : CC p m c cc nL s args D dA RX16) (hW : wc_W D dA h u H) (hS : wc_S u) (hV : va_S (CA h) H0 H locs) (ht : wc_T u n0 = some (.inl 16)) (hM : Met l yX8_ends (ws_ yX8_ends cX8_ends 1 (some .int)) rm (va_Pc [.ref (h + n0)] (wc_St D dA h u)) (wc_Qr D dA h (some (.int r)) u1) 0 0 (CA h)) (hrc : rm.cells = 0) (hrs : rm.slots = 0) (hR : rm.frames + 1 ≤ R.frames ∧ 8 + (1 + 11) + rm.locals ≤ R.locals) (hf : cells + 0 ≤ R.cells ∧ slots + 0 ≤ R.slots) (dd : decode cc pc = .ok (.invokespecial 17, 3)) (hsz : ls.size = nL) (hro : (rest.map fun v => v.category).sum ≤ 8) (kk : ∀ (H1 : Heap) (locs1 : List Loc), wc_W D dA h u1 H1 → wc_S u1 → va_S (CA h) H0 H1 locs1 → W p l e R s m args below meth c H1 locs1 cells slots Q (F0 m (pc + 3) ls (.int r :: rest))) : W p l e R s m args below meth c H locs cells slots Q (F0 m pc ls (.ref (h + n0) :: rest)) :=
  wc_call (v := (some (.int r))) (va_runSU (C := RX16) (As := []) (rest := rest) (C.2.1.1 16 (RX16, TX16, 4) rfl).2 C.1 hM (va_cwSU 0 C.1.2.2.2.2 (lw_SU q895 q891 q855 q889 q180 q899) rfl hrc hrs (by decide +kernel) hR) (wc_preV (q := (RX16, TX16, 4)) C.2 hW hS ht rfl _) rfl rfl hsz rfl (lv_room hro) dd hf) hV (fun _ z => z) (fun H1 locs1 a b c0 _ _ => kk H1 locs1 a b c0)
set_option maxHeartbeats 4000000 in
set_option maxRecDepth 100000 in
theorem kX16_ends {l : Launch} {D : va_G} {dA : Nat → ClassId} {h N : Nat} {n0 : Nat} {u u1 : CS} {r : Int32} (hE : fX16_ends N u n0 = some (r, u1)) : Met l yX16_ends (ws_ yX16_ends cX16_ends 1 (some .int)) ({ frames := 1, cells := 0, slots := 0, locals := 20 }) (va_Pc [.ref (h + n0)] (wc_St D dA h u)) (wc_Qr D dA h (some (.int r)) u1) 0 0 (CA h) := by
  refine wc_met (own := RX16) (lv := [(0, .ref (h + n0))]) (by decide) rfl rfl rfl ?_
  intro p e s m args below meth c ls C hr hlocks hW hS hV hl
  have hx := C.1.1
  have hb := C.1.2.1
  unfold fX16_ends at hE
  refine lv_aload_n hx hb dX16_ends_0 rfl (lv_at hl 0 rfl) ?_
  obtain ⟨ht, hE⟩ := o_sh_some hE
  obtain ⟨r4, u3, hc, hE⟩ := o_bd2_some hE
  refine cs_X16_17 C hW hS hV ht (kX8_ends hc) rfl rfl ⟨Nat.le_of_ble_eq_true rfl, Nat.le_of_ble_eq_true rfl⟩ ⟨Nat.le_refl 0, Nat.le_refl 0⟩ dX16_ends_1 hl.1 (Nat.le_of_ble_eq_true rfl) (fun H locs hW hS hV => ?_)
  refine lv_iconst (v := (1 : Int32)) hx hb dX16_ends_4 rfl ?_
  refine lv_iadd hx hb dX16_ends_5 ?_
  exact wc_iret C hr hlocks hW hS hV hE dX16_ends_6
theorem cs_X16_20 {n0 : Nat} {a1 : Nat} {u u1 : CS} {rm : Room} (C : CC p m c cc nL s args D dA RX16) (hW : wc_W D dA h u H) (hS : wc_S u) (hV : va_S (CA h) H0 H locs) (ht : wc_T u n0 = some (.inl 16)) (hM : Met l yX8_as (ws_ yX8_as cX8_as 2 none) rm (va_Pc [.ref (h + n0), .ref (h + a1)] (wc_St D dA h u)) (wc_Qr D dA h none u1) 0 0 (CA h)) (hrc : rm.cells = 0) (hrs : rm.slots = 0) (hR : rm.frames + 1 ≤ R.frames ∧ 8 + (2 + 11) + rm.locals ≤ R.locals) (hf : cells + 0 ≤ R.cells ∧ slots + 0 ≤ R.slots) (dd : decode cc pc = .ok (.invokespecial 20, 3)) (hsz : ls.size = nL) (hro : (rest.map fun v => v.category).sum ≤ 8) (kk : ∀ (H1 : Heap) (locs1 : List Loc), wc_W D dA h u1 H1 → wc_S u1 → va_S (CA h) H0 H1 locs1 → W p l e R s m args below meth c H1 locs1 cells slots Q (F0 m (pc + 3) ls (rest))) : W p l e R s m args below meth c H locs cells slots Q (F0 m pc ls (.ref (h + a1) :: .ref (h + n0) :: rest)) :=
  wc_call (v := none) (va_runSU (C := RX16) (As := [.ref (h + a1)]) (rest := rest) (C.2.1.1 16 (RX16, TX16, 4) rfl).2 C.1 hM (va_cwSU 1 C.1.2.2.2.2 (lw_SU q1546 q1542 q855 q1540 q180 q1548) rfl hrc hrs (by decide +kernel) hR) (wc_preV (q := (RX16, TX16, 4)) C.2 hW hS ht rfl _) rfl rfl hsz rfl (lv_room hro) dd hf) hV (fun _ z => z) (fun H1 locs1 a b c0 _ _ => kk H1 locs1 a b c0)
set_option maxHeartbeats 4000000 in
set_option maxRecDepth 100000 in
theorem kX16_as {l : Launch} {D : va_G} {dA : Nat → ClassId} {h N : Nat} {n0 : Nat} {a1 : Nat} {u u_ : CS} (hE : fX16_as N u n0 a1 = some u_) : Met l yX16_as (ws_ yX16_as cX16_as 2 none) ({ frames := 1, cells := 0, slots := 0, locals := 21 }) (va_Pc [.ref (h + n0), .ref (h + a1)] (wc_St D dA h u)) (wc_Qr D dA h none u_) 0 0 (CA h) := by
  refine wc_met (own := RX16) (lv := [(0, .ref (h + n0)), (1, .ref (h + a1))]) (by decide) rfl rfl rfl ?_
  intro p e s m args below meth c ls C hr hlocks hW hS hV hl
  have hx := C.1.1
  have hb := C.1.2.1
  unfold fX16_as at hE
  refine lv_aload_n hx hb dX16_as_0 rfl (lv_at hl 0 rfl) ?_
  refine lv_aload_n hx hb dX16_as_1 rfl (lv_at hl 1 rfl) ?_
  obtain ⟨ht, hE⟩ := o_sh_some hE
  obtain ⟨u4, hc, hE⟩ := o_bd_some hE
  refine cs_X16_20 C hW hS hV ht (kX8_as hc) rfl rfl ⟨Nat.le_of_ble_eq_true rfl, Nat.le_of_ble_eq_true rfl⟩ ⟨Nat.le_refl 0, Nat.le_refl 0⟩ dX16_as_2 hl.1 (Nat.le_of_ble_eq_true rfl) (fun H locs hW hS hV => ?_)
  refine lv_aload_n hx hb dX16_as_5 rfl (lv_at hl 0 rfl) ?_
  refine lv_aload_n hx hb dX16_as_6 rfl (lv_at hl 1 rfl) ?_
  obtain ⟨ht, hE⟩ := o_sh_some hE
  refine wc_castX (nm := RX16) (T := TX16) (N := 4) C hW ht rfl q1529 dX16_as_7 ?_
  obtain ⟨ht, hE⟩ := o_sh_some hE
  refine cg_X16_11_16 C hW ht dX16_as_10 ?_
  obtain ⟨ht, hE⟩ := o_sh_some hE
  refine cp_X16_11_16 (J := wc_S) C hW hV ht hS.uI hE dX16_as_13 (fun u6 H locs hE hW hS hV => ?_)
  exact wc_vret C hr hlocks hW hS hV hE dX16_as_16
theorem cs_X9_9 {n0 : Nat} {r : Int32} {u u1 : CS} {rm : Room} (C : CC p m c cc nL s args D dA RX9) (hW : wc_W D dA h u H) (hS : wc_S u) (hV : va_S (CA h) H0 H locs) (ht : wc_T u n0 = some (.inl 9)) (hM : Met l yX8_kind (ws_ yX8_kind cX8_kind 1 (some .int)) rm (va_Pc [.ref (h + n0)] (wc_St D dA h u)) (wc_Qr D dA h (some (.int r)) u1) 0 0 (CA h)) (hrc : rm.cells = 0) (hrs : rm.slots = 0) (hR : rm.frames + 1 ≤ R.frames ∧ 8 + (1 + 11) + rm.locals ≤ R.locals) (hf : cells + 0 ≤ R.cells ∧ slots + 0 ≤ R.slots) (dd : decode cc pc = .ok (.invokespecial 9, 3)) (hsz : ls.size = nL) (hro : (rest.map fun v => v.category).sum ≤ 8) (kk : ∀ (H1 : Heap) (locs1 : List Loc), wc_W D dA h u1 H1 → wc_S u1 → va_S (CA h) H0 H1 locs1 → W p l e R s m args below meth c H1 locs1 cells slots Q (F0 m (pc + 3) ls (.int r :: rest))) : W p l e R s m args below meth c H locs cells slots Q (F0 m pc ls (.ref (h + n0) :: rest)) :=
  wc_call (v := (some (.int r))) (va_runSU (C := RX9) (As := []) (rest := rest) (C.2.1.1 9 (RX9, TX9, 3) rfl).2 C.1 hM (va_cwSU 0 C.1.2.2.2.2 (lw_SU q859 q850 q860 q848 q180 q861) rfl hrc hrs (by decide +kernel) hR) (wc_preV (q := (RX9, TX9, 3)) C.2 hW hS ht rfl _) rfl rfl hsz rfl (lv_room hro) dd hf) hV (fun _ z => z) (fun H1 locs1 a b c0 _ _ => kk H1 locs1 a b c0)
set_option maxHeartbeats 4000000 in
set_option maxRecDepth 100000 in
theorem kX9_kind {l : Launch} {D : va_G} {dA : Nat → ClassId} {h N : Nat} {n0 : Nat} {u u1 : CS} {r : Int32} (hE : fX9_kind N u n0 = some (r, u1)) : Met l yX9_kind (ws_ yX9_kind cX9_kind 1 (some .int)) ({ frames := 1, cells := 0, slots := 0, locals := 20 }) (va_Pc [.ref (h + n0)] (wc_St D dA h u)) (wc_Qr D dA h (some (.int r)) u1) 0 0 (CA h) := by
  refine wc_met (own := RX9) (lv := [(0, .ref (h + n0))]) (by decide) rfl rfl rfl ?_
  intro p e s m args below meth c ls C hr hlocks hW hS hV hl
  have hx := C.1.1
  have hb := C.1.2.1
  unfold fX9_kind at hE
  refine lv_aload_n hx hb dX9_kind_0 rfl (lv_at hl 0 rfl) ?_
  obtain ⟨ht, hE⟩ := o_sh_some hE
  obtain ⟨r4, u3, hc, hE⟩ := o_bd2_some hE
  refine cs_X9_9 C hW hS hV ht (kX8_kind hc) rfl rfl ⟨Nat.le_of_ble_eq_true rfl, Nat.le_of_ble_eq_true rfl⟩ ⟨Nat.le_refl 0, Nat.le_refl 0⟩ dX9_kind_1 hl.1 (Nat.le_of_ble_eq_true rfl) (fun H locs hW hS hV => ?_)
  refine lv_iconst (v := (2 : Int32)) hx hb dX9_kind_4 rfl ?_
  refine lv_iadd hx hb dX9_kind_5 ?_
  exact wc_iret C hr hlocks hW hS hV hE dX9_kind_6
set_option maxHeartbeats 4000000 in
set_option maxRecDepth 100000 in
theorem kX9_ends {l : Launch} {D : va_G} {dA : Nat → ClassId} {h N : Nat} {n0 : Nat} {u u1 : CS} {r : Int32} (hE : fX9_ends N u n0 = some (r, u1)) : Met l yX9_ends (ws_ yX9_ends cX9_ends 1 (some .int)) ({ frames := 0, cells := 0, slots := 0, locals := 0 }) (va_Pc [.ref (h + n0)] (wc_St D dA h u)) (wc_Qr D dA h (some (.int r)) u1) 0 0 (CA h) := by
  refine wc_met (own := RX9) (lv := [(0, .ref (h + n0))]) (by decide) rfl rfl rfl ?_
  intro p e s m args below meth c ls C hr hlocks hW hS hV hl
  have hx := C.1.1
  have hb := C.1.2.1
  unfold fX9_ends at hE
  refine lv_iconst (v := (-1 : Int32)) hx hb dX9_ends_0 rfl ?_
  exact wc_iret C hr hlocks hW hS hV hE dX9_ends_1
theorem cl_X0_251 {N n0 : Nat} {r : Int32} {u u1 : CS} (C : CC p m c cc nL s args D dA RX0) (hW : wc_W D dA h u H) (hS : wc_S u) (hV : va_S (CA h) H0 H locs) (hc : fLot_kind N u n0 = some (r, u1)) (hR : 1 + 1 ≤ R.frames ∧ 8 + (4 + 11) + 20 ≤ R.locals) (hf : cells + 0 ≤ R.cells ∧ slots + 0 ≤ R.slots) (dd : decode cc pc = .ok (.invokevirtual 251, 3)) (hsz : ls.size = nL) (hro : (rest.map fun v => v.category).sum ≤ 8) (kk : ∀ (H1 : Heap) (locs1 : List Loc), wc_W D dA h u1 H1 → wc_S u1 → va_S (CA h) H0 H1 locs1 → W p l e R s m args below meth c H1 locs1 cells slots Q (F0 m (pc + 3) ls (.int r :: rest))) : W p l e R s m args below meth c H locs cells slots Q (F0 m pc ls (.ref (h + n0) :: rest)) := by
  unfold fLot_kind at hc
  by_cases ct : wc_T u n0 = some (.inl 8)
  · rw [if_pos ct] at hc
    exact wc_call (v := (some (.int r))) (va_runV (C := RX8) (As := []) (rest := rest) C.1 (kX8_kind hc) (cwV 0 C.1.2.2.2.2 (lw_V q847 q848 q849 q180 q861) rfl rfl rfl (by decide +kernel) ⟨(by show 0 + 1 ≤ _; omega), (by show 8 + (1 + 11) + 0 ≤ _; omega)⟩) (wc_preV (q := (RX8, TX8, 3)) C.2 hW hS ct rfl _) rfl rfl hsz rfl (lv_room hro) dd hf) hV (fun _ z => z) (fun H1 locs1 a b c0 _ _ => kk H1 locs1 a b c0)
  rw [if_neg ct] at hc
  by_cases ct : wc_T u n0 = some (.inl 16)
  · rw [if_pos ct] at hc
    exact wc_call (v := (some (.int r))) (va_runU (C := RX16) (owner := "WoodState$Lot") (As := []) (rest := rest) C.1 (kX16_kind hc) (va_cwO 0 C.1.2.2.2.2 (lw_O q847 q850 q848 q851 q852 q189 q853) rfl rfl rfl q861 (by decide +kernel) ⟨(by show 1 + 1 ≤ _; omega), (by show 8 + (1 + 11) + 20 ≤ _; omega)⟩) (wc_preV (q := (RX16, TX16, 4)) C.2 hW hS ct rfl _) rfl rfl hsz rfl (lv_room hro) dd hf) hV (fun _ z => z) (fun H1 locs1 a b c0 _ _ => kk H1 locs1 a b c0)
  rw [if_neg ct] at hc
  by_cases ct : wc_T u n0 = some (.inl 9)
  · rw [if_pos ct] at hc
    exact wc_call (v := (some (.int r))) (va_runU (C := RX9) (owner := "WoodState$Lot") (As := []) (rest := rest) C.1 (kX9_kind hc) (va_cwO 0 C.1.2.2.2.2 (lw_O q847 q850 q848 q856 q857 q181 q858) rfl rfl rfl q861 (by decide +kernel) ⟨(by show 1 + 1 ≤ _; omega), (by show 8 + (1 + 11) + 20 ≤ _; omega)⟩) (wc_preV (q := (RX9, TX9, 3)) C.2 hW hS ct rfl _) rfl rfl hsz rfl (lv_room hro) dd hf) hV (fun _ z => z) (fun H1 locs1 a b c0 _ _ => kk H1 locs1 a b c0)
  rw [if_neg ct] at hc
  cases hc
theorem cl_X2_15 {N n0 : Nat} {r : Int32} {u u1 : CS} (C : CC p m c cc nL s args D dA RX2) (hW : wc_W D dA h u H) (hS : wc_S u) (hV : va_S (CA h) H0 H locs) (hc : fLot_kind N u n0 = some (r, u1)) (hR : 1 + 1 ≤ R.frames ∧ 8 + (4 + 11) + 20 ≤ R.locals) (hf : cells + 0 ≤ R.cells ∧ slots + 0 ≤ R.slots) (dd : decode cc pc = .ok (.invokevirtual 15, 3)) (hsz : ls.size = nL) (hro : (rest.map fun v => v.category).sum ≤ 8) (kk : ∀ (H1 : Heap) (locs1 : List Loc), wc_W D dA h u1 H1 → wc_S u1 → va_S (CA h) H0 H1 locs1 → W p l e R s m args below meth c H1 locs1 cells slots Q (F0 m (pc + 3) ls (.int r :: rest))) : W p l e R s m args below meth c H locs cells slots Q (F0 m pc ls (.ref (h + n0) :: rest)) := by
  unfold fLot_kind at hc
  by_cases ct : wc_T u n0 = some (.inl 8)
  · rw [if_pos ct] at hc
    exact wc_call (v := (some (.int r))) (va_runV (C := RX8) (As := []) (rest := rest) C.1 (kX8_kind hc) (cwV 0 C.1.2.2.2.2 (lw_V q1521 q848 q849 q180 q861) rfl rfl rfl (by decide +kernel) ⟨(by show 0 + 1 ≤ _; omega), (by show 8 + (1 + 11) + 0 ≤ _; omega)⟩) (wc_preV (q := (RX8, TX8, 3)) C.2 hW hS ct rfl _) rfl rfl hsz rfl (lv_room hro) dd hf) hV (fun _ z => z) (fun H1 locs1 a b c0 _ _ => kk H1 locs1 a b c0)
  rw [if_neg ct] at hc
  by_cases ct : wc_T u n0 = some (.inl 16)
  · rw [if_pos ct] at hc
    exact wc_call (v := (some (.int r))) (va_runU (C := RX16) (owner := "WoodState$Lot") (As := []) (rest := rest) C.1 (kX16_kind hc) (va_cwO 0 C.1.2.2.2.2 (lw_O q1521 q850 q848 q851 q852 q189 q853) rfl rfl rfl q861 (by decide +kernel) ⟨(by show 1 + 1 ≤ _; omega), (by show 8 + (1 + 11) + 20 ≤ _; omega)⟩) (wc_preV (q := (RX16, TX16, 4)) C.2 hW hS ct rfl _) rfl rfl hsz rfl (lv_room hro) dd hf) hV (fun _ z => z) (fun H1 locs1 a b c0 _ _ => kk H1 locs1 a b c0)
  rw [if_neg ct] at hc
  by_cases ct : wc_T u n0 = some (.inl 9)
  · rw [if_pos ct] at hc
    exact wc_call (v := (some (.int r))) (va_runU (C := RX9) (owner := "WoodState$Lot") (As := []) (rest := rest) C.1 (kX9_kind hc) (va_cwO 0 C.1.2.2.2.2 (lw_O q1521 q850 q848 q856 q857 q181 q858) rfl rfl rfl q861 (by decide +kernel) ⟨(by show 1 + 1 ≤ _; omega), (by show 8 + (1 + 11) + 20 ≤ _; omega)⟩) (wc_preV (q := (RX9, TX9, 3)) C.2 hW hS ct rfl _) rfl rfl hsz rfl (lv_room hro) dd hf) hV (fun _ z => z) (fun H1 locs1 a b c0 _ _ => kk H1 locs1 a b c0)
  rw [if_neg ct] at hc
  cases hc
theorem cl_X0_266 {N n0 : Nat} {r : Int32} {u u1 : CS} (C : CC p m c cc nL s args D dA RX0) (hW : wc_W D dA h u H) (hS : wc_S u) (hV : va_S (CA h) H0 H locs) (hc : fLot_whose N u n0 = some (r, u1)) (hR : 0 + 1 ≤ R.frames ∧ 8 + (4 + 11) + 0 ≤ R.locals) (hf : cells + 0 ≤ R.cells ∧ slots + 0 ≤ R.slots) (dd : decode cc pc = .ok (.invokevirtual 266, 3)) (hsz : ls.size = nL) (hro : (rest.map fun v => v.category).sum ≤ 8) (kk : ∀ (H1 : Heap) (locs1 : List Loc), wc_W D dA h u1 H1 → wc_S u1 → va_S (CA h) H0 H1 locs1 → W p l e R s m args below meth c H1 locs1 cells slots Q (F0 m (pc + 3) ls (.int r :: rest))) : W p l e R s m args below meth c H locs cells slots Q (F0 m pc ls (.ref (h + n0) :: rest)) := by
  unfold fLot_whose at hc
  by_cases ct : wc_T u n0 = some (.inl 8)
  · rw [if_pos ct] at hc
    exact wc_call (v := (some (.int r))) (va_runV (C := RX8) (As := []) (rest := rest) C.1 (kX8_whose hc) (cwV 0 C.1.2.2.2.2 (lw_V q862 q863 q864 q180 q870) rfl rfl rfl (by decide +kernel) ⟨(by show 0 + 1 ≤ _; omega), (by show 8 + (1 + 11) + 0 ≤ _; omega)⟩) (wc_preV (q := (RX8, TX8, 3)) C.2 hW hS ct rfl _) rfl rfl hsz rfl (lv_room hro) dd hf) hV (fun _ z => z) (fun H1 locs1 a b c0 _ _ => kk H1 locs1 a b c0)
  rw [if_neg ct] at hc
  by_cases ct : wc_T u n0 = some (.inl 16)
  · rw [if_pos ct] at hc
    exact wc_call (v := (some (.int r))) (va_runU (C := RX16) (owner := "WoodState$Lot") (As := []) (rest := rest) C.1 (kX16_whose hc) (va_cwO 0 C.1.2.2.2.2 (lw_O q862 q865 q863 q866 q867 q189 q868) rfl rfl rfl q870 (by decide +kernel) ⟨(by show 0 + 1 ≤ _; omega), (by show 8 + (1 + 11) + 0 ≤ _; omega)⟩) (wc_preV (q := (RX16, TX16, 4)) C.2 hW hS ct rfl _) rfl rfl hsz rfl (lv_room hro) dd hf) hV (fun _ z => z) (fun H1 locs1 a b c0 _ _ => kk H1 locs1 a b c0)
  rw [if_neg ct] at hc
  by_cases ct : wc_T u n0 = some (.inl 9)
  · rw [if_pos ct] at hc
    exact wc_call (v := (some (.int r))) (va_runU (C := RX9) (owner := "WoodState$Lot") (As := []) (rest := rest) C.1 (kX8_whose hc) (va_cwU 0 C.1.2.2.2.2 (lw_U q862 q865 q869 q863 q180 q870) rfl rfl rfl rfl (by decide +kernel) ⟨(by show 0 + 1 ≤ _; omega), (by show 8 + (1 + 11) + 0 ≤ _; omega)⟩) (wc_preV (q := (RX9, TX9, 3)) C.2 hW hS ct rfl _) rfl rfl hsz rfl (lv_room hro) dd hf) hV (fun _ z => z) (fun H1 locs1 a b c0 _ _ => kk H1 locs1 a b c0)
  rw [if_neg ct] at hc
  cases hc
theorem cl_X0_269 {N n0 : Nat} {r : Int32} {u u1 : CS} (C : CC p m c cc nL s args D dA RX0) (hW : wc_W D dA h u H) (hS : wc_S u) (hV : va_S (CA h) H0 H locs) (hc : fLot_ends N u n0 = some (r, u1)) (hR : 1 + 1 ≤ R.frames ∧ 8 + (4 + 11) + 20 ≤ R.locals) (hf : cells + 0 ≤ R.cells ∧ slots + 0 ≤ R.slots) (dd : decode cc pc = .ok (.invokevirtual 269, 3)) (hsz : ls.size = nL) (hro : (rest.map fun v => v.category).sum ≤ 8) (kk : ∀ (H1 : Heap) (locs1 : List Loc), wc_W D dA h u1 H1 → wc_S u1 → va_S (CA h) H0 H1 locs1 → W p l e R s m args below meth c H1 locs1 cells slots Q (F0 m (pc + 3) ls (.int r :: rest))) : W p l e R s m args below meth c H locs cells slots Q (F0 m pc ls (.ref (h + n0) :: rest)) := by
  unfold fLot_ends at hc
  by_cases ct : wc_T u n0 = some (.inl 8)
  · rw [if_pos ct] at hc
    exact wc_call (v := (some (.int r))) (va_runV (C := RX8) (As := []) (rest := rest) C.1 (kX8_ends hc) (cwV 0 C.1.2.2.2.2 (lw_V q888 q889 q890 q180 q899) rfl rfl rfl (by decide +kernel) ⟨(by show 0 + 1 ≤ _; omega), (by show 8 + (1 + 11) + 0 ≤ _; omega)⟩) (wc_preV (q := (RX8, TX8, 3)) C.2 hW hS ct rfl _) rfl rfl hsz rfl (lv_room hro) dd hf) hV (fun _ z => z) (fun H1 locs1 a b c0 _ _ => kk H1 locs1 a b c0)
  rw [if_neg ct] at hc
  by_cases ct : wc_T u n0 = some (.inl 16)
  · rw [if_pos ct] at hc
    exact wc_call (v := (some (.int r))) (va_runU (C := RX16) (owner := "WoodState$Lot") (As := []) (rest := rest) C.1 (kX16_ends hc) (va_cwO 0 C.1.2.2.2.2 (lw_O q888 q891 q889 q892 q893 q189 q894) rfl rfl rfl q899 (by decide +kernel) ⟨(by show 1 + 1 ≤ _; omega), (by show 8 + (1 + 11) + 20 ≤ _; omega)⟩) (wc_preV (q := (RX16, TX16, 4)) C.2 hW hS ct rfl _) rfl rfl hsz rfl (lv_room hro) dd hf) hV (fun _ z => z) (fun H1 locs1 a b c0 _ _ => kk H1 locs1 a b c0)
  rw [if_neg ct] at hc
  by_cases ct : wc_T u n0 = some (.inl 9)
  · rw [if_pos ct] at hc
    exact wc_call (v := (some (.int r))) (va_runU (C := RX9) (owner := "WoodState$Lot") (As := []) (rest := rest) C.1 (kX9_ends hc) (va_cwO 0 C.1.2.2.2.2 (lw_O q888 q891 q889 q896 q897 q181 q898) rfl rfl rfl q899 (by decide +kernel) ⟨(by show 0 + 1 ≤ _; omega), (by show 8 + (1 + 11) + 0 ≤ _; omega)⟩) (wc_preV (q := (RX9, TX9, 3)) C.2 hW hS ct rfl _) rfl rfl hsz rfl (lv_room hro) dd hf) hV (fun _ z => z) (fun H1 locs1 a b c0 _ _ => kk H1 locs1 a b c0)
  rw [if_neg ct] at hc
  cases hc
theorem cl_X2_23 {N n0 : Nat} {a1 : Nat} {u u1 : CS} (C : CC p m c cc nL s args D dA RX2) (hW : wc_W D dA h u H) (hS : wc_S u) (hV : va_S (CA h) H0 H locs) (hc : fLot_as N u n0 a1 = some u1) (hR : 1 + 1 ≤ R.frames ∧ 8 + (4 + 11) + 21 ≤ R.locals) (hf : cells + 0 ≤ R.cells ∧ slots + 0 ≤ R.slots) (dd : decode cc pc = .ok (.invokevirtual 23, 3)) (hsz : ls.size = nL) (hro : (rest.map fun v => v.category).sum ≤ 8) (kk : ∀ (H1 : Heap) (locs1 : List Loc), wc_W D dA h u1 H1 → wc_S u1 → va_S (CA h) H0 H1 locs1 → W p l e R s m args below meth c H1 locs1 cells slots Q (F0 m (pc + 3) ls (rest))) : W p l e R s m args below meth c H locs cells slots Q (F0 m pc ls (.ref (h + a1) :: .ref (h + n0) :: rest)) := by
  unfold fLot_as at hc
  by_cases ct : wc_T u n0 = some (.inl 8)
  · rw [if_pos ct] at hc
    exact wc_call (v := none) (va_runV (C := RX8) (As := [.ref (h + a1)]) (rest := rest) C.1 (kX8_as hc) (cwV 1 C.1.2.2.2.2 (lw_V q1539 q1540 q1541 q180 q1548) rfl rfl rfl (by decide +kernel) ⟨(by show 0 + 1 ≤ _; omega), (by show 8 + (2 + 11) + 0 ≤ _; omega)⟩) (wc_preV (q := (RX8, TX8, 3)) C.2 hW hS ct rfl _) rfl rfl hsz rfl (lv_room hro) dd hf) hV (fun _ z => z) (fun H1 locs1 a b c0 _ _ => kk H1 locs1 a b c0)
  rw [if_neg ct] at hc
  by_cases ct : wc_T u n0 = some (.inl 16)
  · rw [if_pos ct] at hc
    exact wc_call (v := none) (va_runU (C := RX16) (owner := "WoodState$Lot") (As := [.ref (h + a1)]) (rest := rest) C.1 (kX16_as hc) (va_cwO 1 C.1.2.2.2.2 (lw_O q1539 q1542 q1540 q1543 q1544 q189 q1545) rfl rfl rfl q1548 (by decide +kernel) ⟨(by show 1 + 1 ≤ _; omega), (by show 8 + (2 + 11) + 21 ≤ _; omega)⟩) (wc_preV (q := (RX16, TX16, 4)) C.2 hW hS ct rfl _) rfl rfl hsz rfl (lv_room hro) dd hf) hV (fun _ z => z) (fun H1 locs1 a b c0 _ _ => kk H1 locs1 a b c0)
  rw [if_neg ct] at hc
  by_cases ct : wc_T u n0 = some (.inl 9)
  · rw [if_pos ct] at hc
    exact wc_call (v := none) (va_runU (C := RX9) (owner := "WoodState$Lot") (As := [.ref (h + a1)]) (rest := rest) C.1 (kX8_as hc) (va_cwU 1 C.1.2.2.2.2 (lw_U q1539 q1542 q1547 q1540 q180 q1548) rfl rfl rfl rfl (by decide +kernel) ⟨(by show 0 + 1 ≤ _; omega), (by show 8 + (2 + 11) + 0 ≤ _; omega)⟩) (wc_preV (q := (RX9, TX9, 3)) C.2 hW hS ct rfl _) rfl rfl hsz rfl (lv_room hro) dd hf) hV (fun _ z => z) (fun H1 locs1 a b c0 _ _ => kk H1 locs1 a b c0)
  rw [if_neg ct] at hc
  cases hc
theorem cc_X1_139 {F : Nat} {u u1 : CS} {rm : Room} (C : CC p m c cc nL s args D dA RX1) (hW : wc_W D dA h u H) (hS : wc_S u) (hV : va_S (CA h) H0 H locs) (ht : wc_T u F = some (.inl 1)) (hM : Met l yX1_measure (ws_ yX1_measure cX1_measure 5 none) rm (va_Pc [.ref (h + F)] (wc_St D dA h u)) (wc_Qr D dA h none u1) 0 0 (CA h)) (hrc : rm.cells = 0) (hrs : rm.slots = 0) (hR : rm.frames + 1 ≤ R.frames ∧ 8 + (5 + 11) + rm.locals ≤ R.locals) (hf : cells + 0 ≤ R.cells ∧ slots + 0 ≤ R.slots) (d : decode cc pc = .ok (.invokevirtual 139, 3)) (hsz : ls.size = nL) (hro : (rest.map fun v => v.category).sum ≤ 8) (kk : ∀ (H1 : Heap) (locs1 : List Loc), wc_W D dA h u1 H1 → wc_S u1 → va_S (CA h) H0 H1 locs1 → W p l e R s m args below meth c H1 locs1 cells slots Q (F0 m (pc + 3) ls (rest))) : W p l e R s m args below meth c H locs cells slots Q (F0 m pc ls (.ref (h + F) :: rest)) :=
  wc_call (v := none) (va_runV (As := []) (rest := rest) C.1 hM (cwV 0 C.1.2.2.2.2 (lw_V q227 q229 qs0 q167 q230) rfl hrc hrs (by decide +kernel) hR) (wc_preV (q := (RX1, TX1, 46)) C.2 hW hS ht rfl _) rfl rfl hsz rfl (lv_room hro) d hf) hV (fun _ z => z) (fun H1 locs1 a b c0 _ _ => kk H1 locs1 a b c0)
theorem cc_X0_207 {F : Nat} {u u1 : CS} {rm : Room} (C : CC p m c cc nL s args D dA RX0) (hW : wc_W D dA h u H) (hS : wc_S u) (hV : va_S (CA h) H0 H locs) (ht : wc_T u F = some (.inl 1)) (hM : Met l yX1_measure (ws_ yX1_measure cX1_measure 5 none) rm (va_Pc [.ref (h + F)] (wc_St D dA h u)) (wc_Qr D dA h none u1) 0 0 (CA h)) (hrc : rm.cells = 0) (hrs : rm.slots = 0) (hR : rm.frames + 1 ≤ R.frames ∧ 8 + (5 + 11) + rm.locals ≤ R.locals) (hf : cells + 0 ≤ R.cells ∧ slots + 0 ≤ R.slots) (d : decode cc pc = .ok (.invokevirtual 207, 3)) (hsz : ls.size = nL) (hro : (rest.map fun v => v.category).sum ≤ 8) (kk : ∀ (H1 : Heap) (locs1 : List Loc), wc_W D dA h u1 H1 → wc_S u1 → va_S (CA h) H0 H1 locs1 → W p l e R s m args below meth c H1 locs1 cells slots Q (F0 m (pc + 3) ls (rest))) : W p l e R s m args below meth c H locs cells slots Q (F0 m pc ls (.ref (h + F) :: rest)) :=
  wc_call (v := none) (va_runVN (As := []) (rest := rest) C.1 hM ⟨va_cnB 0 C.1.2.2.2.2 (lw_meth q230) rfl hrc hrs (C.2.2.at q796 rfl) (C.1.2.2.2.2 _ q167) (by decide +kernel) hR, C.1.2.2.2.2 _ q229, C.1.2.2.2.2 _ qs0⟩ (wc_preV (q := (RX1, TX1, 46)) C.2 hW hS ht rfl _) rfl rfl hsz rfl (lv_room hro) d hf) hV (fun _ z => z) (fun H1 locs1 a b c0 _ _ => kk H1 locs1 a b c0)
set_option maxHeartbeats 4000000 in
set_option maxRecDepth 100000 in
theorem kX1_measure {l : Launch} {D : va_G} {dA : Nat → ClassId} {h N : Nat} {F : Nat} {u u_ : CS} (hF : wc_F F) (hE : fX1_measure N F u = some u_) : Met l yX1_measure (ws_ yX1_measure cX1_measure 5 none) ({ frames := 1, cells := 0, slots := 0, locals := 24 }) (va_Pc [.ref (h + F)] (wc_St D dA h u)) (wc_Qr D dA h none u_) 0 0 (CA h) := by
  refine wc_met (own := RX1) (lv := [(0, .ref (h + F))]) (by decide) rfl rfl rfl ?_
  intro p e s m args below meth c ls C hr hlocks hW hS hV hl
  have hx := C.1.1
  have hb := C.1.2.1
  have w_40 : ∀ (ag32 : CS → Int32 → Option (CS)) (hag32 : (∀ (u : CS) (x1 : Int32) (H : Heap) (locs : List Loc) (ls : Array Slot), ag32 u x1 = some u_ → wc_W D dA h u H → wc_S u → va_S (CA h) s.heap H locs → lv_has ls 5 [(0, .ref (h + F)), (1, .int x1)] → W p l e ({ frames := 1, cells := 0, slots := 0, locals := 24 }) s m args below meth c H locs 0 0 (MQ below (wc_Qr D dA h none u_) args s 0 0 (CA h)) (F0 m 32 ls []))) (n : Nat) (u : CS) (x1 : Int32) (x2 : Int32) (H : Heap) (locs : List Loc) (ls : Array Slot), fX1_measure_40 N F ag32 n u x1 x2 = some u_ → wc_W D dA h u H → wc_S u → va_S (CA h) s.heap H locs → lv_has ls 5 [(0, .ref (h + F)), (1, .int x1), (2, .int x2)] → W p l e ({ frames := 1, cells := 0, slots := 0, locals := 24 }) s m args below meth c H locs 0 0 (MQ below (wc_Qr D dA h none u_) args s 0 0 (CA h)) (F0 m 40 ls []) := by
    intro ag32 hag32 n
    induction n with
    | zero =>
      intro u x1 x2 H locs ls hE hW hS hV hl
      cases (show (none : Option (CS)) = some u_ from hE)
    | succ n ih =>
      intro u x1 x2 H locs ls hE hW hS hV hl
      rw [fX1_measure_40] at hE
      refine lv_iload_n hx hb dX1_measure_40 rfl (lv_at hl 2 rfl) ?_
      refine lv_aload_n hx hb dX1_measure_41 rfl (lv_at hl 0 rfl) ?_
      refine cg_X1_174_1 C hW (st_F hS hF) dX1_measure_42 ?_
      refine lv_icmp_ge (tgt := 128) hx hb dX1_measure_45 (by decide) (fun c12 => ?_) (fun c12 => ?_)
      · have hE := z_t c12 hE
        refine z_iinc (v := (x1 + (1 : Int32))) (lw := (fun y_ => [(1, .int y_), (0, .ref (h + F)), (2, .int x2)])) hx hb dX1_measure_128 hl hE (k := 1) rfl rfl (by decide) (fun _ => rfl) (fun z13 ls hE hl => ?_)
        refine lv_goto (tgt := 32) hx hb dX1_measure_131 (by decide) ?_
        exact hag32 _ _ _ _ _ hE hW hS hV (lv_sub hl [1, 0] rfl)
      · have hE := z_f c12 hE
        refine lv_aload_n hx hb dX1_measure_48 rfl (lv_at hl 0 rfl) ?_
        refine cgs_X1_55_1 C hW (st_F hS hF) (sp_F_roadA hS hF) dX1_measure_49 ?_
        refine lv_iload_n hx hb dX1_measure_52 rfl (lv_at hl 2 rfl) ?_
        refine wc_ldi C hW (st_F_roadA hS hF) hE dX1_measure_53 (fun hE => ?_)
        refine z_nmi hE (fun v14 hE => ?_)
        refine lv_istore_n (lv' := [(3, .int v14), (0, .ref (h + F)), (1, .int x1), (2, .int x2)]) hx hb dX1_measure_54 rfl hl (by decide) rfl (fun ls hl => ?_)
        refine lv_aload_n hx hb dX1_measure_55 rfl (lv_at hl 1 rfl) ?_
        refine cgs_X1_58_1 C hW (st_F hS hF) (sp_F_roadB hS hF) dX1_measure_56 ?_
        refine lv_iload_n hx hb dX1_measure_59 rfl (lv_at hl 3 rfl) ?_
        refine wc_ldi C hW (st_F_roadB hS hF) hE dX1_measure_60 (fun hE => ?_)
        refine z_nmi hE (fun v15 hE => ?_)
        refine lv_istore (lv' := [(4, .int v15), (3, .int v14), (0, .ref (h + F)), (1, .int x1), (2, .int x2)]) hx hb dX1_measure_61 hl (by decide) rfl (fun ls hl => ?_)
        refine lv_aload_n hx hb dX1_measure_63 rfl (lv_at hl 2 rfl) ?_
        refine cgs_X1_64_1 C hW (st_F hS hF) (sp_F_hauls hS hF) dX1_measure_64 ?_
        refine lv_iload_n hx hb dX1_measure_67 rfl (lv_at hl 1 rfl) ?_
        refine lv_aload_n hx hb dX1_measure_68 rfl (lv_at hl 2 rfl) ?_
        refine cgs_X1_64_1 C hW (st_F hS hF) (sp_F_hauls hS hF) dX1_measure_69 ?_
        refine lv_iload_n hx hb dX1_measure_72 rfl (lv_at hl 1 rfl) ?_
        refine wc_ldi C hW (st_F_hauls hS hF) hE dX1_measure_73 (fun hE => ?_)
        refine z_nmi hE (fun v16 hE => ?_)
        refine lv_aload_n hx hb dX1_measure_74 rfl (lv_at hl 2 rfl) ?_
        refine cgs_X1_64_1 C hW (st_F hS hF) (sp_F_hauls hS hF) dX1_measure_75 ?_
        refine lv_iload hx hb dX1_measure_78 (lv_at hl 0 rfl) ?_
        refine wc_ldi C hW (st_F_hauls hS hF) hE dX1_measure_80 (fun hE => ?_)
        refine z_nmi hE (fun v17 hE => ?_)
        refine lv_aload_n hx hb dX1_measure_81 rfl (lv_at hl 2 rfl) ?_
        refine cgs_X1_61_1 C hW (st_F hS hF) (sp_F_lengths hS hF) dX1_measure_82 ?_
        refine lv_iload_n hx hb dX1_measure_85 rfl (lv_at hl 4 rfl) ?_
        refine wc_ldi C hW (st_F_lengths hS hF) hE dX1_measure_86 (fun hE => ?_)
        refine z_nmi hE (fun v18 hE => ?_)
        refine lv_iadd hx hb dX1_measure_87 ?_
        refine va_mmin hx hb (C.1.2.2.1.trans hl.1.symm) C.1.2.2.2.1 (C.1.2.2.2.2 _ q232) (C.1.2.2.2.2 _ q233) (C.1.2.2.2.2 _ q169) (C.1.2.2.2.2 _ q234) (Nat.le_of_ble_eq_true rfl) (by first | exact Nat.le_of_ble_eq_true rfl | (simp [wc_cat, Value.category])) (Nat.le_refl 0) (Nat.le_refl 0) dX1_measure_88 ?_
        refine wc_sti (J := wc_S) C hW hV (st_F_hauls hS hF) hS.uA hE dX1_measure_91 (fun u19 H locs hE hW hS hV => ?_)
        refine lv_aload_n hx hb dX1_measure_92 rfl (lv_at hl 2 rfl) ?_
        refine cgs_X1_64_1 C hW (st_F hS hF) (sp_F_hauls hS hF) dX1_measure_93 ?_
        refine lv_iload hx hb dX1_measure_96 (lv_at hl 0 rfl) ?_
        refine lv_aload_n hx hb dX1_measure_98 rfl (lv_at hl 2 rfl) ?_
        refine cgs_X1_64_1 C hW (st_F hS hF) (sp_F_hauls hS hF) dX1_measure_99 ?_
        refine lv_iload hx hb dX1_measure_102 (lv_at hl 0 rfl) ?_
        refine wc_ldi C hW (st_F_hauls hS hF) hE dX1_measure_104 (fun hE => ?_)
        refine z_nmi hE (fun v20 hE => ?_)
        refine lv_aload_n hx hb dX1_measure_105 rfl (lv_at hl 2 rfl) ?_
        refine cgs_X1_64_1 C hW (st_F hS hF) (sp_F_hauls hS hF) dX1_measure_106 ?_
        refine lv_iload_n hx hb dX1_measure_109 rfl (lv_at hl 1 rfl) ?_
        refine wc_ldi C hW (st_F_hauls hS hF) hE dX1_measure_110 (fun hE => ?_)
        refine z_nmi hE (fun v21 hE => ?_)
        refine lv_aload_n hx hb dX1_measure_111 rfl (lv_at hl 2 rfl) ?_
        refine cgs_X1_61_1 C hW (st_F hS hF) (sp_F_lengths hS hF) dX1_measure_112 ?_
        refine lv_iload_n hx hb dX1_measure_115 rfl (lv_at hl 4 rfl) ?_
        refine wc_ldi C hW (st_F_lengths hS hF) hE dX1_measure_116 (fun hE => ?_)
        refine z_nmi hE (fun v22 hE => ?_)
        refine lv_iadd hx hb dX1_measure_117 ?_
        refine va_mmin hx hb (C.1.2.2.1.trans hl.1.symm) C.1.2.2.2.1 (C.1.2.2.2.2 _ q232) (C.1.2.2.2.2 _ q233) (C.1.2.2.2.2 _ q169) (C.1.2.2.2.2 _ q234) (Nat.le_of_ble_eq_true rfl) (by first | exact Nat.le_of_ble_eq_true rfl | (simp [wc_cat, Value.category])) (Nat.le_refl 0) (Nat.le_refl 0) dX1_measure_118 ?_
        refine wc_sti (J := wc_S) C hW hV (st_F_hauls hS hF) hS.uA hE dX1_measure_121 (fun u23 H locs hE hW hS hV => ?_)
        refine z_iinc (v := (x2 + (1 : Int32))) (lw := (fun y_ => [(2, .int y_), (4, .int v15), (3, .int v14), (0, .ref (h + F)), (1, .int x1)])) hx hb dX1_measure_122 hl hE (k := 4) rfl rfl (by decide) (fun _ => rfl) (fun z24 ls hE hl => ?_)
        refine lv_goto (tgt := 40) hx hb dX1_measure_125 (by decide) ?_
        exact ih _ _ _ _ _ _ hE hW hS hV (lv_sub hl [3, 4, 0] rfl)
  have w_32 : ∀ (n : Nat) (u : CS) (x1 : Int32) (H : Heap) (locs : List Loc) (ls : Array Slot), fX1_measure_32 N F n u x1 = some u_ → wc_W D dA h u H → wc_S u → va_S (CA h) s.heap H locs → lv_has ls 5 [(0, .ref (h + F)), (1, .int x1)] → W p l e ({ frames := 1, cells := 0, slots := 0, locals := 24 }) s m args below meth c H locs 0 0 (MQ below (wc_Qr D dA h none u_) args s 0 0 (CA h)) (F0 m 32 ls []) := by
    intro n
    induction n with
    | zero =>
      intro u x1 H locs ls hE hW hS hV hl
      cases (show (none : Option (CS)) = some u_ from hE)
    | succ n ih =>
      intro u x1 H locs ls hE hW hS hV hl
      rw [fX1_measure_32] at hE
      refine lv_iload_n hx hb dX1_measure_32 rfl (lv_at hl 1 rfl) ?_
      refine lv_bipush (v := (6 : Int32)) hx hb dX1_measure_33 rfl ?_
      refine lv_icmp_ge (tgt := 134) hx hb dX1_measure_35 (by decide) (fun c25 => ?_) (fun c25 => ?_)
      · have hE := z_t c25 hE
        exact wc_vret C hr hlocks hW hS hV hE dX1_measure_134
      · have hE := z_f c25 hE
        refine lv_iconst (v := (0 : Int32)) hx hb dX1_measure_38 rfl ?_
        refine lv_istore_n (lv' := [(2, .int (0 : Int32)), (0, .ref (h + F)), (1, .int x1)]) hx hb dX1_measure_39 rfl hl (by decide) rfl (fun ls hl => ?_)
        exact w_40 (fX1_measure_32 N F n) ih N _ _ _ _ _ _ hE hW hS hV (lv_sub hl [1, 2, 0] rfl)
  have w_23 : ∀ (ag2 : CS → Int32 → Option (CS)) (hag2 : (∀ (u : CS) (x1 : Int32) (H : Heap) (locs : List Loc) (ls : Array Slot), ag2 u x1 = some u_ → wc_W D dA h u H → wc_S u → va_S (CA h) s.heap H locs → lv_has ls 5 [(0, .ref (h + F)), (1, .int x1)] → W p l e ({ frames := 1, cells := 0, slots := 0, locals := 24 }) s m args below meth c H locs 0 0 (MQ below (wc_Qr D dA h none u_) args s 0 0 (CA h)) (F0 m 2 ls []))) (u : CS) (x1 : Int32) (y1 : Int32) (y2 : Int32) (H : Heap) (locs : List Loc) (ls : Array Slot), fX1_measure_23 N F ag2 u x1 y1 y2 = some u_ → wc_W D dA h u H → wc_S u → va_S (CA h) s.heap H locs → lv_has ls 5 [(0, .ref (h + F)), (1, .int x1)] → W p l e ({ frames := 1, cells := 0, slots := 0, locals := 24 }) s m args below meth c H locs 0 0 (MQ below (wc_Qr D dA h none u_) args s 0 0 (CA h)) (F0 m 23 ls [.int y2, .int y1, .ref (h + (F + 17))]) := by
    intro ag2 hag2 u x1 y1 y2 H locs ls hE hW hS hV hl
    unfold fX1_measure_23 at hE
    refine wc_sti (J := wc_S) C hW hV (st_F_hauls hS hF) hS.uA hE dX1_measure_23 (fun u26 H locs hE hW hS hV => ?_)
    refine z_iinc (v := (x1 + (1 : Int32))) (lw := (fun y_ => [(1, .int y_), (0, .ref (h + F))])) hx hb dX1_measure_24 hl hE (k := 1) rfl rfl (by decide) (fun _ => rfl) (fun z27 ls hE hl => ?_)
    refine lv_goto (tgt := 2) hx hb dX1_measure_27 (by decide) ?_
    exact hag2 _ _ _ _ _ hE hW hS hV (lv_sub hl [1, 0] rfl)
  have w_2 : ∀ (n : Nat) (u : CS) (x1 : Int32) (H : Heap) (locs : List Loc) (ls : Array Slot), fX1_measure_2 N F n u x1 = some u_ → wc_W D dA h u H → wc_S u → va_S (CA h) s.heap H locs → lv_has ls 5 [(0, .ref (h + F)), (1, .int x1)] → W p l e ({ frames := 1, cells := 0, slots := 0, locals := 24 }) s m args below meth c H locs 0 0 (MQ below (wc_Qr D dA h none u_) args s 0 0 (CA h)) (F0 m 2 ls []) := by
    intro n
    induction n with
    | zero =>
      intro u x1 H locs ls hE hW hS hV hl
      cases (show (none : Option (CS)) = some u_ from hE)
    | succ n ih =>
      intro u x1 H locs ls hE hW hS hV hl
      rw [fX1_measure_2] at hE
      refine lv_iload_n hx hb dX1_measure_2 rfl (lv_at hl 1 rfl) ?_
      refine lv_bipush (v := (6 : Int32)) hx hb dX1_measure_3 rfl ?_
      refine lv_icmp_ge (tgt := 30) hx hb dX1_measure_5 (by decide) (fun c28 => ?_) (fun c28 => ?_)
      · have hE := z_t c28 hE
        refine lv_iconst (v := (0 : Int32)) hx hb dX1_measure_30 rfl ?_
        refine lv_istore_n (lv' := [(1, .int (0 : Int32)), (0, .ref (h + F))]) hx hb dX1_measure_31 rfl hl (by decide) rfl (fun ls hl => ?_)
        exact w_32 N _ _ _ _ _ hE hW hS hV (lv_sub hl [1, 0] rfl)
      · have hE := z_f c28 hE
        refine lv_aload_n hx hb dX1_measure_8 rfl (lv_at hl 0 rfl) ?_
        refine cgs_X1_64_1 C hW (st_F hS hF) (sp_F_hauls hS hF) dX1_measure_9 ?_
        refine lv_iload_n hx hb dX1_measure_12 rfl (lv_at hl 1 rfl) ?_
        refine lv_iload_n hx hb dX1_measure_13 rfl (lv_at hl 1 rfl) ?_
        refine lv_if_ne (tgt := 21) hx hb dX1_measure_14 (by decide) (fun c29 => ?_) (fun c29 => ?_)
        · have hE := z_f c29 hE
          refine lv_ldc (v := (100000000 : Int32)) hx hb C.1.2.2.2.1 (C.1.2.2.2.2 _ q231) dX1_measure_21 ?_
          exact w_23 (fX1_measure_2 N F n) ih _ _ _ _ _ _ _ hE hW hS hV (lv_sub hl [0, 1] rfl)
        · have hE := z_t c29 hE
          refine lv_iconst (v := (0 : Int32)) hx hb dX1_measure_17 rfl ?_
          refine lv_goto (tgt := 23) hx hb dX1_measure_18 (by decide) ?_
          exact w_23 (fX1_measure_2 N F n) ih _ _ _ _ _ _ _ hE hW hS hV (lv_sub hl [0, 1] rfl)
  unfold fX1_measure at hE
  refine lv_iconst (v := (0 : Int32)) hx hb dX1_measure_0 rfl ?_
  refine lv_istore_n (lv' := [(1, .int (0 : Int32)), (0, .ref (h + F))]) hx hb dX1_measure_1 rfl hl (by decide) rfl (fun ls hl => ?_)
  exact w_2 N _ _ _ _ _ hE hW hS hV (lv_sub hl [1, 0] rfl)
theorem sc_X0_108 {a1 : Int32} {r : Int32} {rm : Room} (C : CallFix p m c cc nL s args lw_all RX0) (hM : Met l yX0_isStandTold (ws_ yX0_isStandTold cX0_isStandTold 1 (some .boolean)) rm (va_Pc [.int a1] (fun _ => True)) (s_Q (some (.int r))) 0 0 (fun _ => False)) (hrc : rm.cells = 0) (hrs : rm.slots = 0) (hR : rm.frames + 1 ≤ R.frames ∧ 8 + (1 + 11) + rm.locals ≤ R.locals) (hf : cells + 0 ≤ R.cells ∧ slots + 0 ≤ R.slots) (d : decode cc pc = .ok (.invokestatic 108, 3)) (hsz : ls.size = nL) (hro : (rest.map fun v => v.category).sum ≤ 8) (kk : W p l e R s m args below meth c H locs cells slots Q (F0 m (pc + 3) ls (.int r :: rest))) : W p l e R s m args below meth c H locs cells slots Q (F0 m pc ls (.int a1 :: rest)) :=
  s_call (v := (some (.int r))) (va_runS (As := [.int a1]) (rest := rest) C hM (va_cwS 1 C.2.2.2.2 (lw_S q681 q682 q166 q683) rfl hrc hrs (by decide +kernel) hR) (s_pre _) rfl rfl hsz rfl (lv_room hro) d hf) kk
set_option maxHeartbeats 4000000 in
set_option maxRecDepth 100000 in
theorem kX0_isStandTold {l : Launch} {a1 : Int32} {r : Int32} (hE : fX0_isStandTold a1 = some r) : Met l yX0_isStandTold (ws_ yX0_isStandTold cX0_isStandTold 1 (some .boolean)) ({ frames := 0, cells := 0, slots := 0, locals := 0 }) (va_Pc [.int a1] (fun _ => True)) (s_Q (some (.int r))) 0 0 (fun _ => False) := by
  refine s_met (own := RX0) (by decide) rfl rfl rfl ?_
  intro p e s m args below meth c ls C hr hlocks hl
  have hx := C.1
  have hb := C.2.1
  have w_49 : ∀ (y0 : Int32) (ls : Array Slot), fX0_isStandTold_49 y0 = some r → lv_has ls 1 [] → W p l e ({ frames := 0, cells := 0, slots := 0, locals := 0 }) s m args below meth c s.heap [] 0 0 (MQ below (s_Q (some (.int r))) args s 0 0 (fun _ => False)) (F0 m 49 ls [.int y0]) := by
    intro y0 ls hE hl
    unfold fX0_isStandTold_49 at hE
    obtain ⟨hb1, hE⟩ := o_bl_some hE
    exact s_zret C hr hlocks hb1 hE dX0_isStandTold_49
  have w_48 : ∀ (ls : Array Slot), fX0_isStandTold_48 = some r → lv_has ls 1 [] → W p l e ({ frames := 0, cells := 0, slots := 0, locals := 0 }) s m args below meth c s.heap [] 0 0 (MQ below (s_Q (some (.int r))) args s 0 0 (fun _ => False)) (F0 m 48 ls []) := by
    intro ls hE hl
    unfold fX0_isStandTold_48 at hE
    refine lv_iconst (v := (0 : Int32)) hx hb dX0_isStandTold_48 rfl ?_
    exact w_49 _ _ hE (lv_sub hl [] rfl)
  unfold fX0_isStandTold at hE
  refine lv_iload_n hx hb dX0_isStandTold_0 rfl (lv_at hl 0 rfl) ?_
  refine lv_if_lt (tgt := 48) hx hb dX0_isStandTold_1 (by decide) (fun c1 => ?_) (fun c1 => ?_)
  · have hE := z_t c1 hE
    exact w_48 _ hE (lv_sub hl [] rfl)
  · have hE := z_f c1 hE
    refine lv_iload_n hx hb dX0_isStandTold_4 rfl (lv_at hl 0 rfl) ?_
    refine lv_sipush (v := (1000 : Int32)) hx hb dX0_isStandTold_5 rfl ?_
    refine lv_idiv hx hb dX0_isStandTold_8 (by decide) ?_
    refine lv_iconst (v := (1 : Int32)) hx hb dX0_isStandTold_9 rfl ?_
    refine lv_icmp_gt (tgt := 48) hx hb dX0_isStandTold_10 (by decide) (fun c2 => ?_) (fun c2 => ?_)
    · have hE := z_t c2 hE
      exact w_48 _ hE (lv_sub hl [] rfl)
    · have hE := z_f c2 hE
      refine lv_iload_n hx hb dX0_isStandTold_13 rfl (lv_at hl 0 rfl) ?_
      refine lv_bipush (v := (100 : Int32)) hx hb dX0_isStandTold_14 rfl ?_
      refine lv_idiv hx hb dX0_isStandTold_16 (by decide) ?_
      refine lv_bipush (v := (10 : Int32)) hx hb dX0_isStandTold_17 rfl ?_
      refine lv_irem hx hb dX0_isStandTold_19 (by decide) ?_
      refine lv_bipush (v := (6 : Int32)) hx hb dX0_isStandTold_20 rfl ?_
      refine lv_icmp_ge (tgt := 48) hx hb dX0_isStandTold_22 (by decide) (fun c3 => ?_) (fun c3 => ?_)
      · have hE := z_t c3 hE
        exact w_48 _ hE (lv_sub hl [] rfl)
      · have hE := z_f c3 hE
        refine lv_iload_n hx hb dX0_isStandTold_25 rfl (lv_at hl 0 rfl) ?_
        refine lv_bipush (v := (10 : Int32)) hx hb dX0_isStandTold_26 rfl ?_
        refine lv_idiv hx hb dX0_isStandTold_28 (by decide) ?_
        refine lv_bipush (v := (10 : Int32)) hx hb dX0_isStandTold_29 rfl ?_
        refine lv_irem hx hb dX0_isStandTold_31 (by decide) ?_
        refine lv_iconst (v := (4 : Int32)) hx hb dX0_isStandTold_32 rfl ?_
        refine lv_icmp_gt (tgt := 48) hx hb dX0_isStandTold_33 (by decide) (fun c4 => ?_) (fun c4 => ?_)
        · have hE := z_t c4 hE
          exact w_48 _ hE (lv_sub hl [] rfl)
        · have hE := z_f c4 hE
          refine lv_iload_n hx hb dX0_isStandTold_36 rfl (lv_at hl 0 rfl) ?_
          refine lv_bipush (v := (10 : Int32)) hx hb dX0_isStandTold_37 rfl ?_
          refine lv_irem hx hb dX0_isStandTold_39 (by decide) ?_
          refine lv_iconst (v := (3 : Int32)) hx hb dX0_isStandTold_40 rfl ?_
          refine lv_icmp_gt (tgt := 48) hx hb dX0_isStandTold_41 (by decide) (fun c5 => ?_) (fun c5 => ?_)
          · have hE := z_t c5 hE
            exact w_48 _ hE (lv_sub hl [] rfl)
          · have hE := z_f c5 hE
            refine lv_iconst (v := (1 : Int32)) hx hb dX0_isStandTold_44 rfl ?_
            refine lv_goto (tgt := 49) hx hb dX0_isStandTold_45 (by decide) ?_
            exact w_49 _ _ hE (lv_sub hl [] rfl)
theorem sc_X0_31 {a1 : Int64} {a2 : Int64} {a3 : Int64} {r : Int32} {rm : Room} (C : CallFix p m c cc nL s args lw_all RX0) (hM : Met l yX0_isIn (ws_ yX0_isIn cX0_isIn 6 (some .boolean)) rm (va_Pc [.long a1, .long a2, .long a3] (fun _ => True)) (s_Q (some (.int r))) 0 0 (fun _ => False)) (hrc : rm.cells = 0) (hrs : rm.slots = 0) (hR : rm.frames + 1 ≤ R.frames ∧ 8 + (6 + 11) + rm.locals ≤ R.locals) (hf : cells + 0 ≤ R.cells ∧ slots + 0 ≤ R.slots) (d : decode cc pc = .ok (.invokestatic 31, 3)) (hsz : ls.size = nL) (hro : (rest.map fun v => v.category).sum ≤ 8) (kk : W p l e R s m args below meth c H locs cells slots Q (F0 m (pc + 3) ls (.int r :: rest))) : W p l e R s m args below meth c H locs cells slots Q (F0 m pc ls (.long a3 :: .long a2 :: .long a1 :: rest)) :=
  s_call (v := (some (.int r))) (va_runS (As := [.long a1, .long a2, .long a3]) (rest := rest) C hM (va_cwS 3 C.2.2.2.2 (lw_S q685 q686 q166 q687) rfl hrc hrs (by decide +kernel) hR) (s_pre _) rfl rfl hsz rfl (lv_room hro) d hf) kk
set_option maxHeartbeats 4000000 in
set_option maxRecDepth 100000 in
theorem kX0_isIn {l : Launch} {a1 : Int64} {a2 : Int64} {a3 : Int64} {r : Int32} (hE : fX0_isIn a1 a2 a3 = some r) : Met l yX0_isIn (ws_ yX0_isIn cX0_isIn 6 (some .boolean)) ({ frames := 0, cells := 0, slots := 0, locals := 0 }) (va_Pc [.long a1, .long a2, .long a3] (fun _ => True)) (s_Q (some (.int r))) 0 0 (fun _ => False) := by
  refine s_met (own := RX0) (by decide) rfl rfl rfl ?_
  intro p e s m args below meth c ls C hr hlocks hl
  have hx := C.1
  have hb := C.2.1
  have w_18 : ∀ (y0 : Int32) (ls : Array Slot), fX0_isIn_18 y0 = some r → lv_has ls 6 [] → W p l e ({ frames := 0, cells := 0, slots := 0, locals := 0 }) s m args below meth c s.heap [] 0 0 (MQ below (s_Q (some (.int r))) args s 0 0 (fun _ => False)) (F0 m 18 ls [.int y0]) := by
    intro y0 ls hE hl
    unfold fX0_isIn_18 at hE
    obtain ⟨hb1, hE⟩ := o_bl_some hE
    exact s_zret C hr hlocks hb1 hE dX0_isIn_18
  have w_17 : ∀ (ls : Array Slot), fX0_isIn_17 = some r → lv_has ls 6 [] → W p l e ({ frames := 0, cells := 0, slots := 0, locals := 0 }) s m args below meth c s.heap [] 0 0 (MQ below (s_Q (some (.int r))) args s 0 0 (fun _ => False)) (F0 m 17 ls []) := by
    intro ls hE hl
    unfold fX0_isIn_17 at hE
    refine lv_iconst (v := (0 : Int32)) hx hb dX0_isIn_17 rfl ?_
    exact w_18 _ _ hE (lv_sub hl [] rfl)
  unfold fX0_isIn at hE
  refine lv_lload_n hx hb dX0_isIn_0 rfl (lv_at hl 0 rfl) ?_
  refine lv_lload_n hx hb dX0_isIn_1 rfl (lv_at hl 1 rfl) ?_
  refine W.lcmp hx hb dX0_isIn_2 ?_
  refine lv_if_lt (tgt := 17) hx hb dX0_isIn_3 (by decide) (fun c1 => ?_) (fun c1 => ?_)
  · have hE := z_t c1 hE
    exact w_17 _ hE (lv_sub hl [] rfl)
  · have hE := z_f c1 hE
    refine lv_lload_n hx hb dX0_isIn_6 rfl (lv_at hl 0 rfl) ?_
    refine lv_lload hx hb dX0_isIn_7 (lv_at hl 2 rfl) ?_
    refine W.lcmp hx hb dX0_isIn_9 ?_
    refine lv_if_gt (tgt := 17) hx hb dX0_isIn_10 (by decide) (fun c2 => ?_) (fun c2 => ?_)
    · have hE := z_t c2 hE
      exact w_17 _ hE (lv_sub hl [] rfl)
    · have hE := z_f c2 hE
      refine lv_iconst (v := (1 : Int32)) hx hb dX0_isIn_13 rfl ?_
      refine lv_goto (tgt := 18) hx hb dX0_isIn_14 (by decide) ?_
      exact w_18 _ _ hE (lv_sub hl [] rfl)
theorem cc_X0_118 {a1 : Int32} {r : Int32} {u u1 : CS} {rm : Room} (C : CC p m c cc nL s args D dA RX0) (hW : wc_W D dA h u H) (hS : wc_S u) (hV : va_S (CA h) H0 H locs) (ht : wc_T u 0 = some (.inl 0)) (hM : Met l yX0_refuse (ws_ yX0_refuse cX0_refuse 2 (some .int)) rm (va_Pc [.ref (h + 0), .int a1] (wc_St D dA h u)) (wc_Qr D dA h (some (.int r)) u1) 0 0 (CA h)) (hrc : rm.cells = 0) (hrs : rm.slots = 0) (hR : rm.frames + 1 ≤ R.frames ∧ 8 + (2 + 11) + rm.locals ≤ R.locals) (hf : cells + 0 ≤ R.cells ∧ slots + 0 ≤ R.slots) (d : decode cc pc = .ok (.invokevirtual 118, 3)) (hsz : ls.size = nL) (hro : (rest.map fun v => v.category).sum ≤ 8) (kk : ∀ (H1 : Heap) (locs1 : List Loc), wc_W D dA h u1 H1 → wc_S u1 → va_S (CA h) H0 H1 locs1 → W p l e R s m args below meth c H1 locs1 cells slots Q (F0 m (pc + 3) ls (.int r :: rest))) : W p l e R s m args below meth c H locs cells slots Q (F0 m pc ls (.int a1 :: .ref (h + 0) :: rest)) :=
  wc_call (v := (some (.int r))) (va_runV (As := [.int a1]) (rest := rest) C.1 hM (cwV 1 C.1.2.2.2.2 (lw_V q690 q692 qs3 q166 q693) rfl hrc hrs (by decide +kernel) hR) (wc_preV (q := (RX0, TX0, 27)) C.2 hW hS ht rfl _) rfl rfl hsz rfl (lv_room hro) d hf) hV (fun _ z => z) (fun H1 locs1 a b c0 _ _ => kk H1 locs1 a b c0)
set_option maxHeartbeats 4000000 in
set_option maxRecDepth 100000 in
theorem kX0_refuse {l : Launch} {D : va_G} {dA : Nat → ClassId} {h N : Nat} {a1 : Int32} {u u1 : CS} {r : Int32} (hE : fX0_refuse N u a1 = some (r, u1)) : Met l yX0_refuse (ws_ yX0_refuse cX0_refuse 2 (some .int)) ({ frames := 0, cells := 0, slots := 0, locals := 0 }) (va_Pc [.ref (h + 0), .int a1] (wc_St D dA h u)) (wc_Qr D dA h (some (.int r)) u1) 0 0 (CA h) := by
  refine wc_met (own := RX0) (lv := [(0, .ref (h + 0)), (1, .int a1)]) (by decide) rfl rfl rfl ?_
  intro p e s m args below meth c ls C hr hlocks hW hS hV hl
  have hx := C.1.1
  have hb := C.1.2.1
  unfold fX0_refuse at hE
  refine lv_aload_n hx hb dX0_refuse_0 rfl (lv_at hl 0 rfl) ?_
  refine cgs_X0_1_0 C hW (st_0 hS) (sp_0_refused hS) dX0_refuse_1 ?_
  refine lv_iload_n hx hb dX0_refuse_4 rfl (lv_at hl 1 rfl) ?_
  refine lv_ineg hx hb dX0_refuse_5 ?_
  refine lv_dup2_11 hx hb dX0_refuse_6 rfl rfl ?_
  refine wc_ldi C hW (st_0_refused hS) hE dX0_refuse_7 (fun hE => ?_)
  refine z_nmi hE (fun v2 hE => ?_)
  refine lv_iconst (v := (1 : Int32)) hx hb dX0_refuse_8 rfl ?_
  refine lv_iadd hx hb dX0_refuse_9 ?_
  refine wc_sti (J := wc_S) C hW hV (st_0_refused hS) hS.uA hE dX0_refuse_10 (fun u3 H locs hE hW hS hV => ?_)
  refine lv_iload_n hx hb dX0_refuse_11 rfl (lv_at hl 1 rfl) ?_
  exact wc_iret C hr hlocks hW hS hV hE dX0_refuse_12
set_option maxHeartbeats 4000000 in
set_option maxRecDepth 100000 in
theorem kX0_stand {l : Launch} {D : va_G} {dA : Nat → ClassId} {h N : Nat} {a1 : Int32} {a2 : Int32} {a3 : Int32} {a4 : Int32} {u u1 : CS} {r : Int32} (hE : fX0_stand N u a1 a2 a3 a4 = some (r, u1)) : Met l yX0_stand (ws_ yX0_stand cX0_stand 7 (some .int)) ({ frames := 1, cells := 0, slots := 0, locals := 25 }) (va_Pc [.ref (h + 0), .int a1, .int a2, .int a3, .int a4] (wc_St D dA h u)) (wc_Qr D dA h (some (.int r)) u1) 0 0 (CA h) := by
  refine wc_met (own := RX0) (lv := [(0, .ref (h + 0)), (1, .int a1), (2, .int a2), (3, .int a3), (4, .int a4)]) (by decide) rfl rfl rfl ?_
  intro p e s m args below meth c ls C hr hlocks hW hS hV hl
  have hx := C.1.1
  have hb := C.1.2.1
  have w_65 : ∀ (u : CS) (H : Heap) (locs : List Loc) (ls : Array Slot), fX0_stand_65 N u = some (r, u1) → wc_W D dA h u H → wc_S u → va_S (CA h) s.heap H locs → lv_has ls 7 [(0, .ref (h + 0))] → W p l e ({ frames := 1, cells := 0, slots := 0, locals := 25 }) s m args below meth c H locs 0 0 (MQ below (wc_Qr D dA h (some (.int r)) u1) args s 0 0 (CA h)) (F0 m 65 ls []) := by
    intro u H locs ls hE hW hS hV hl
    unfold fX0_stand_65 at hE
    refine lv_aload_n hx hb dX0_stand_65 rfl (lv_at hl 0 rfl) ?_
    refine lv_bipush (v := (-7 : Int32)) hx hb dX0_stand_66 rfl ?_
    obtain ⟨r10, u11, hc, hE⟩ := o_bd2_some hE
    refine cc_X0_118 C hW hS hV (st_0 hS) (kX0_refuse hc) rfl rfl ⟨Nat.le_of_ble_eq_true rfl, Nat.le_of_ble_eq_true rfl⟩ ⟨Nat.le_refl 0, Nat.le_refl 0⟩ dX0_stand_68 hl.1 (Nat.le_of_ble_eq_true rfl) (fun H locs hW hS hV => ?_)
    exact wc_iret C hr hlocks hW hS hV hE dX0_stand_71
  have w_72 : ∀ (u : CS) (x1 : Int32) (x2 : Int32) (x3 : Int32) (x4 : Int32) (H : Heap) (locs : List Loc) (ls : Array Slot), fX0_stand_72 N u x1 x2 x3 x4 = some (r, u1) → wc_W D dA h u H → wc_S u → va_S (CA h) s.heap H locs → lv_has ls 7 [(0, .ref (h + 0)), (1, .int x1), (2, .int x2), (3, .int x3), (4, .int x4)] → W p l e ({ frames := 1, cells := 0, slots := 0, locals := 25 }) s m args below meth c H locs 0 0 (MQ below (wc_Qr D dA h (some (.int r)) u1) args s 0 0 (CA h)) (F0 m 72 ls []) := by
    intro u x1 x2 x3 x4 H locs ls hE hW hS hV hl
    unfold fX0_stand_72 at hE
    refine lv_aload_n hx hb dX0_stand_72 rfl (lv_at hl 0 rfl) ?_
    refine cgs_X0_19_0 C hW (st_0 hS) (sp_0_now hS) dX0_stand_73 ?_
    refine cg_X0_23_1 C hW (st_F hS wc_F3) dX0_stand_76 ?_
    refine lv_bipush (v := (24 : Int32)) hx hb dX0_stand_79 rfl ?_
    refine lv_icmp_ne (tgt := 91) hx hb dX0_stand_81 (by decide) (fun c12 => ?_) (fun c12 => ?_)
    · have hE := z_f c12 hE
      refine lv_aload_n hx hb dX0_stand_91 rfl (lv_at hl 0 rfl) ?_
      refine cgs_X0_19_0 C hW (st_0 hS) (sp_0_now hS) dX0_stand_92 ?_
      refine cg_X0_23_1 C hW (st_F hS wc_F3) dX0_stand_95 ?_
      refine z_nmi hE (fun z13 hE => ?_)
      refine lv_istore (lv' := [(6, .int z13), (0, .ref (h + 0)), (1, .int x1), (2, .int x2), (3, .int x3), (4, .int x4)]) hx hb dX0_stand_98 hl (by decide) rfl (fun ls hl => ?_)
      refine lv_aload_n hx hb dX0_stand_100 rfl (lv_at hl 1 rfl) ?_
      refine cgs_X0_19_0 C hW (st_0 hS) (sp_0_now hS) dX0_stand_101 ?_
      refine cgs_X0_121_1 C hW (st_F hS wc_F3) (sp_F_steeps hS wc_F3) dX0_stand_104 ?_
      refine lv_iload hx hb dX0_stand_107 (lv_at hl 0 rfl) ?_
      refine lv_iload_n hx hb dX0_stand_109 rfl (lv_at hl 2 rfl) ?_
      refine lv_sipush (v := (1000 : Int32)) hx hb dX0_stand_110 rfl ?_
      refine lv_idiv hx hb dX0_stand_113 (by decide) ?_
      refine wc_sti (J := wc_S) C hW hV (st_F_steeps hS wc_F3) hS.uA hE dX0_stand_114 (fun u14 H locs hE hW hS hV => ?_)
      refine lv_aload_n hx hb dX0_stand_115 rfl (lv_at hl 1 rfl) ?_
      refine cgs_X0_19_0 C hW (st_0 hS) (sp_0_now hS) dX0_stand_116 ?_
      refine cgs_X0_124_1 C hW (st_F hS wc_F3) (sp_F_blocks hS wc_F3) dX0_stand_119 ?_
      refine lv_iload hx hb dX0_stand_122 (lv_at hl 0 rfl) ?_
      refine lv_iload_n hx hb dX0_stand_124 rfl (lv_at hl 2 rfl) ?_
      refine lv_bipush (v := (100 : Int32)) hx hb dX0_stand_125 rfl ?_
      refine lv_idiv hx hb dX0_stand_127 (by decide) ?_
      refine lv_bipush (v := (10 : Int32)) hx hb dX0_stand_128 rfl ?_
      refine lv_irem hx hb dX0_stand_130 (by decide) ?_
      refine wc_sti (J := wc_S) C hW hV (st_F_blocks hS wc_F3) hS.uA hE dX0_stand_131 (fun u15 H locs hE hW hS hV => ?_)
      refine lv_aload_n hx hb dX0_stand_132 rfl (lv_at hl 1 rfl) ?_
      refine cgs_X0_19_0 C hW (st_0 hS) (sp_0_now hS) dX0_stand_133 ?_
      refine cgs_X0_127_1 C hW (st_F hS wc_F3) (sp_F_sites hS wc_F3) dX0_stand_136 ?_
      refine lv_iload hx hb dX0_stand_139 (lv_at hl 0 rfl) ?_
      refine lv_iload_n hx hb dX0_stand_141 rfl (lv_at hl 2 rfl) ?_
      refine lv_bipush (v := (10 : Int32)) hx hb dX0_stand_142 rfl ?_
      refine lv_idiv hx hb dX0_stand_144 (by decide) ?_
      refine lv_bipush (v := (10 : Int32)) hx hb dX0_stand_145 rfl ?_
      refine lv_irem hx hb dX0_stand_147 (by decide) ?_
      refine wc_sti (J := wc_S) C hW hV (st_F_sites hS wc_F3) hS.uA hE dX0_stand_148 (fun u16 H locs hE hW hS hV => ?_)
      refine lv_aload_n hx hb dX0_stand_149 rfl (lv_at hl 1 rfl) ?_
      refine cgs_X0_19_0 C hW (st_0 hS) (sp_0_now hS) dX0_stand_150 ?_
      refine cgs_X0_130_1 C hW (st_F hS wc_F3) (sp_F_kinds hS wc_F3) dX0_stand_153 ?_
      refine lv_iload hx hb dX0_stand_156 (lv_at hl 0 rfl) ?_
      refine lv_iload_n hx hb dX0_stand_158 rfl (lv_at hl 2 rfl) ?_
      refine lv_bipush (v := (10 : Int32)) hx hb dX0_stand_159 rfl ?_
      refine lv_irem hx hb dX0_stand_161 (by decide) ?_
      refine wc_sti (J := wc_S) C hW hV (st_F_kinds hS wc_F3) hS.uA hE dX0_stand_162 (fun u17 H locs hE hW hS hV => ?_)
      refine lv_aload_n hx hb dX0_stand_163 rfl (lv_at hl 1 rfl) ?_
      refine cgs_X0_19_0 C hW (st_0 hS) (sp_0_now hS) dX0_stand_164 ?_
      refine cgs_X0_133_1 C hW (st_F hS wc_F3) (sp_F_acres hS wc_F3) dX0_stand_167 ?_
      refine lv_iload hx hb dX0_stand_170 (lv_at hl 0 rfl) ?_
      refine lv_iload_n hx hb dX0_stand_172 rfl (lv_at hl 3 rfl) ?_
      refine wc_sti (J := wc_S) C hW hV (st_F_acres hS wc_F3) hS.uA hE dX0_stand_173 (fun u18 H locs hE hW hS hV => ?_)
      refine lv_aload_n hx hb dX0_stand_174 rfl (lv_at hl 1 rfl) ?_
      refine cgs_X0_19_0 C hW (st_0 hS) (sp_0_now hS) dX0_stand_175 ?_
      refine cgs_X0_136_1 C hW (st_F hS wc_F3) (sp_F_ages hS wc_F3) dX0_stand_178 ?_
      refine lv_iload hx hb dX0_stand_181 (lv_at hl 0 rfl) ?_
      refine lv_iload_n hx hb dX0_stand_183 rfl (lv_at hl 4 rfl) ?_
      refine wc_sti (J := wc_S) C hW hV (st_F_ages hS wc_F3) hS.uA hE dX0_stand_184 (fun u19 H locs hE hW hS hV => ?_)
      refine lv_aload_n hx hb dX0_stand_185 rfl (lv_at hl 1 rfl) ?_
      refine cgs_X0_19_0 C hW (st_0 hS) (sp_0_now hS) dX0_stand_186 ?_
      refine cgs_X0_139_1 C hW (st_F hS wc_F3) (sp_F_fulls hS wc_F3) dX0_stand_189 ?_
      refine lv_iload hx hb dX0_stand_192 (lv_at hl 0 rfl) ?_
      refine lv_iload hx hb dX0_stand_194 (lv_at hl 5 rfl) ?_
      refine wc_sti (J := wc_S) C hW hV (st_F_fulls hS wc_F3) hS.uA hE dX0_stand_196 (fun u20 H locs hE hW hS hV => ?_)
      refine lv_aload_n hx hb dX0_stand_197 rfl (lv_at hl 1 rfl) ?_
      refine cgs_X0_19_0 C hW (st_0 hS) (sp_0_now hS) dX0_stand_198 ?_
      refine cgs_X0_142_1 C hW (st_F hS wc_F3) (sp_F_cutIn hS wc_F3) dX0_stand_201 ?_
      refine lv_iload hx hb dX0_stand_204 (lv_at hl 0 rfl) ?_
      refine lv_iconst (v := (-1 : Int32)) hx hb dX0_stand_206 rfl ?_
      refine wc_sti (J := wc_S) C hW hV (st_F_cutIn hS wc_F3) hS.uA hE dX0_stand_207 (fun u21 H locs hE hW hS hV => ?_)
      refine lv_aload_n hx hb dX0_stand_208 rfl (lv_at hl 1 rfl) ?_
      refine cgs_X0_19_0 C hW (st_0 hS) (sp_0_now hS) dX0_stand_209 ?_
      refine cgs_X0_145_1 C hW (st_F hS wc_F3) (sp_F_plantedIn hS wc_F3) dX0_stand_212 ?_
      refine lv_iload hx hb dX0_stand_215 (lv_at hl 0 rfl) ?_
      refine lv_iconst (v := (-1 : Int32)) hx hb dX0_stand_217 rfl ?_
      refine wc_sti (J := wc_S) C hW hV (st_F_plantedIn hS wc_F3) hS.uA hE dX0_stand_218 (fun u22 H locs hE hW hS hV => ?_)
      refine lv_aload_n hx hb dX0_stand_219 rfl (lv_at hl 1 rfl) ?_
      refine cgs_X0_19_0 C hW (st_0 hS) (sp_0_now hS) dX0_stand_220 ?_
      refine lv_dup hx hb dX0_stand_223 rfl ?_
      refine cg_X0_23_1 C hW (st_F hS wc_F3) dX0_stand_224 ?_
      refine lv_iconst (v := (1 : Int32)) hx hb dX0_stand_227 rfl ?_
      refine lv_iadd hx hb dX0_stand_228 ?_
      refine cp_X0_23_1 (J := wc_S) C hW hV (st_F hS wc_F3) hS.uI hE dX0_stand_229 (fun u23 H locs hE hW hS hV => ?_)
      refine lv_iload hx hb dX0_stand_232 (lv_at hl 0 rfl) ?_
      exact wc_iret C hr hlocks hW hS hV hE dX0_stand_234
    · have hE := z_t c12 hE
      refine lv_aload_n hx hb dX0_stand_84 rfl (lv_at hl 0 rfl) ?_
      refine lv_bipush (v := (-8 : Int32)) hx hb dX0_stand_85 rfl ?_
      obtain ⟨r24, u25, hc, hE⟩ := o_bd2_some hE
      refine cc_X0_118 C hW hS hV (st_0 hS) (kX0_refuse hc) rfl rfl ⟨Nat.le_of_ble_eq_true rfl, Nat.le_of_ble_eq_true rfl⟩ ⟨Nat.le_refl 0, Nat.le_refl 0⟩ dX0_stand_87 hl.1 (Nat.le_of_ble_eq_true rfl) (fun H locs hW hS hV => ?_)
      exact wc_iret C hr hlocks hW hS hV hE dX0_stand_90
  have w_49 : ∀ (u : CS) (x1 : Int32) (x2 : Int32) (x3 : Int32) (x4 : Int32) (y0 : Int32) (H : Heap) (locs : List Loc) (ls : Array Slot), fX0_stand_49 N u x1 x2 x3 x4 y0 = some (r, u1) → wc_W D dA h u H → wc_S u → va_S (CA h) s.heap H locs → lv_has ls 7 [(0, .ref (h + 0)), (1, .int x1), (2, .int x2), (3, .int x3), (4, .int x4)] → W p l e ({ frames := 1, cells := 0, slots := 0, locals := 25 }) s m args below meth c H locs 0 0 (MQ below (wc_Qr D dA h (some (.int r)) u1) args s 0 0 (CA h)) (F0 m 49 ls [.int y0]) := by
    intro u x1 x2 x3 x4 y0 H locs ls hE hW hS hV hl
    unfold fX0_stand_49 at hE
    refine lv_istore (lv' := [(5, .int y0), (0, .ref (h + 0)), (1, .int x1), (2, .int x2), (3, .int x3), (4, .int x4)]) hx hb dX0_stand_49 hl (by decide) rfl (fun ls hl => ?_)
    refine lv_iload hx hb dX0_stand_51 (lv_at hl 0 rfl) ?_
    refine lv_if_eq (tgt := 65) hx hb dX0_stand_53 (by decide) (fun c26 => ?_) (fun c26 => ?_)
    · have hE := z_t c26 hE
      exact w_65 _ _ _ _ hE hW hS hV (lv_sub hl [1] rfl)
    · have hE := z_f c26 hE
      refine lv_iload hx hb dX0_stand_56 (lv_at hl 5 rfl) ?_
      refine lv_if_ne (tgt := 72) hx hb dX0_stand_58 (by decide) (fun c27 => ?_) (fun c27 => ?_)
      · have hE := z_f c27 hE
        exact w_72 _ _ _ _ _ _ _ _ hE hW hS hV (lv_sub hl [1, 2, 3, 4, 5] rfl)
      · have hE := z_t c27 hE
        refine lv_iload_n hx hb dX0_stand_61 rfl (lv_at hl 4 rfl) ?_
        refine lv_if_le (tgt := 72) hx hb dX0_stand_62 (by decide) (fun c28 => ?_) (fun c28 => ?_)
        · have hE := z_t c28 hE
          exact w_72 _ _ _ _ _ _ _ _ hE hW hS hV (lv_sub hl [1, 2, 3, 4, 5] rfl)
        · have hE := z_f c28 hE
          exact w_65 _ _ _ _ hE hW hS hV (lv_sub hl [1] rfl)
  have w_48 : ∀ (u : CS) (x1 : Int32) (x2 : Int32) (x3 : Int32) (x4 : Int32) (H : Heap) (locs : List Loc) (ls : Array Slot), fX0_stand_48 N u x1 x2 x3 x4 = some (r, u1) → wc_W D dA h u H → wc_S u → va_S (CA h) s.heap H locs → lv_has ls 7 [(0, .ref (h + 0)), (1, .int x1), (2, .int x2), (3, .int x3), (4, .int x4)] → W p l e ({ frames := 1, cells := 0, slots := 0, locals := 25 }) s m args below meth c H locs 0 0 (MQ below (wc_Qr D dA h (some (.int r)) u1) args s 0 0 (CA h)) (F0 m 48 ls []) := by
    intro u x1 x2 x3 x4 H locs ls hE hW hS hV hl
    unfold fX0_stand_48 at hE
    refine lv_iconst (v := (0 : Int32)) hx hb dX0_stand_48 rfl ?_
    exact w_49 _ _ _ _ _ _ _ _ _ hE hW hS hV (lv_sub hl [0, 1, 2, 3, 4] rfl)
  unfold fX0_stand at hE
  refine lv_iload_n hx hb dX0_stand_0 rfl (lv_at hl 1 rfl) ?_
  obtain ⟨r29, hc, hE⟩ := o_bd_some hE
  refine sc_X0_108 C.1 (kX0_isStandTold hc) rfl rfl ⟨Nat.le_of_ble_eq_true rfl, Nat.le_of_ble_eq_true rfl⟩ ⟨Nat.le_refl 0, Nat.le_refl 0⟩ dX0_stand_1 hl.1 (Nat.le_of_ble_eq_true rfl) ?_
  refine lv_if_eq (tgt := 48) hx hb dX0_stand_4 (by decide) (fun c30 => ?_) (fun c30 => ?_)
  · have hE := z_t c30 hE
    exact w_48 _ _ _ _ _ _ _ _ hE hW hS hV (lv_sub hl [0, 1, 2, 3, 4] rfl)
  · have hE := z_f c30 hE
    refine lv_iload_n hx hb dX0_stand_7 rfl (lv_at hl 2 rfl) ?_
    refine lv_i2l hx hb dX0_stand_8 rfl ?_
    refine lv_lconst (v := (1 : Int64)) hx hb dX0_stand_9 rfl ?_
    refine lv_ldc2 (v := (999 : Int64)) hx hb C.1.2.2.2.1 (C.1.2.2.2.2 _ q684) dX0_stand_10 ?_
    obtain ⟨r31, hc, hE⟩ := o_bd_some hE
    refine sc_X0_31 C.1 (kX0_isIn hc) rfl rfl ⟨Nat.le_of_ble_eq_true rfl, Nat.le_of_ble_eq_true rfl⟩ ⟨Nat.le_refl 0, Nat.le_refl 0⟩ dX0_stand_13 hl.1 (Nat.le_of_ble_eq_true rfl) ?_
    refine lv_if_eq (tgt := 48) hx hb dX0_stand_16 (by decide) (fun c32 => ?_) (fun c32 => ?_)
    · have hE := z_t c32 hE
      exact w_48 _ _ _ _ _ _ _ _ hE hW hS hV (lv_sub hl [0, 1, 2, 3, 4] rfl)
    · have hE := z_f c32 hE
      refine lv_iload_n hx hb dX0_stand_19 rfl (lv_at hl 3 rfl) ?_
      refine lv_i2l hx hb dX0_stand_20 rfl ?_
      refine lv_lconst (v := (0 : Int64)) hx hb dX0_stand_21 rfl ?_
      refine lv_ldc2 (v := (400 : Int64)) hx hb C.1.2.2.2.1 (C.1.2.2.2.2 _ q688) dX0_stand_22 ?_
      obtain ⟨r33, hc, hE⟩ := o_bd_some hE
      refine sc_X0_31 C.1 (kX0_isIn hc) rfl rfl ⟨Nat.le_of_ble_eq_true rfl, Nat.le_of_ble_eq_true rfl⟩ ⟨Nat.le_refl 0, Nat.le_refl 0⟩ dX0_stand_25 hl.1 (Nat.le_of_ble_eq_true rfl) ?_
      refine lv_if_eq (tgt := 48) hx hb dX0_stand_28 (by decide) (fun c34 => ?_) (fun c34 => ?_)
      · have hE := z_t c34 hE
        exact w_48 _ _ _ _ _ _ _ _ hE hW hS hV (lv_sub hl [0, 1, 2, 3, 4] rfl)
      · have hE := z_f c34 hE
        refine lv_iload hx hb dX0_stand_31 (lv_at hl 4 rfl) ?_
        refine lv_i2l hx hb dX0_stand_33 rfl ?_
        refine lv_lconst (v := (0 : Int64)) hx hb dX0_stand_34 rfl ?_
        refine lv_ldc2 (v := (100 : Int64)) hx hb C.1.2.2.2.1 (C.1.2.2.2.2 _ q689) dX0_stand_35 ?_
        obtain ⟨r35, hc, hE⟩ := o_bd_some hE
        refine sc_X0_31 C.1 (kX0_isIn hc) rfl rfl ⟨Nat.le_of_ble_eq_true rfl, Nat.le_of_ble_eq_true rfl⟩ ⟨Nat.le_refl 0, Nat.le_refl 0⟩ dX0_stand_38 hl.1 (Nat.le_of_ble_eq_true rfl) ?_
        refine lv_if_eq (tgt := 48) hx hb dX0_stand_41 (by decide) (fun c36 => ?_) (fun c36 => ?_)
        · have hE := z_t c36 hE
          exact w_48 _ _ _ _ _ _ _ _ hE hW hS hV (lv_sub hl [0, 1, 2, 3, 4] rfl)
        · have hE := z_f c36 hE
          refine lv_iconst (v := (1 : Int32)) hx hb dX0_stand_44 rfl ?_
          refine lv_goto (tgt := 49) hx hb dX0_stand_45 (by decide) ?_
          exact w_49 _ _ _ _ _ _ _ _ _ hE hW hS hV (lv_sub hl [0, 1, 2, 3, 4] rfl)
end CG0
