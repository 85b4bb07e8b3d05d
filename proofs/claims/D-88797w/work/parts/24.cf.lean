section CG5
variable {p : Program} {l : Launch} {e : Env} {R : Room} {s : State} {m : MethodId} {args : Array Value} {below : List Frame} {meth : Method} {c : Code} {H : Heap} {locs : List Loc} {cells slots : Nat} {Q : State → Prop} {cc : ByteArray} {nL pc : Nat} {ls : Array Slot} {rest : List Value} {D : va_G} {dA : Nat → ClassId} {h : Nat} {H0 : Heap}
theorem cc_X0_436 {F : Nat} {a1 : Int32} {a2 : Int32} {r : Int32} {u u1 : CS} {rm : Room} (C : CC p m c cc nL s args D dA RX0) (hW : wc_W D dA h u H) (hS : wc_S u) (hV : va_S (CA h) H0 H locs) (ht : wc_T u F = some (.inl 1)) (hM : Met l yX1_count (ws_ yX1_count cX1_count 9 (some .int)) rm (va_Pc [.ref (h + F), .int a1, .int a2] (wc_St D dA h u)) (wc_Qr D dA h (some (.int r)) u1) 0 0 (CA h)) (hrc : rm.cells = 0) (hrs : rm.slots = 0) (hR : rm.frames + 1 ≤ R.frames ∧ 8 + (9 + 11) + rm.locals ≤ R.locals) (hf : cells + 0 ≤ R.cells ∧ slots + 0 ≤ R.slots) (d : decode cc pc = .ok (.invokevirtual 436, 3)) (hsz : ls.size = nL) (hro : (rest.map fun v => v.category).sum ≤ 8) (kk : ∀ (H1 : Heap) (locs1 : List Loc), wc_W D dA h u1 H1 → wc_S u1 → va_S (CA h) H0 H1 locs1 → W p l e R s m args below meth c H1 locs1 cells slots Q (F0 m (pc + 3) ls (.int r :: rest))) : W p l e R s m args below meth c H locs cells slots Q (F0 m pc ls (.int a2 :: .int a1 :: .ref (h + F) :: rest)) :=
  wc_call (v := (some (.int r))) (va_runVN (As := [.int a1, .int a2]) (rest := rest) C.1 hM ⟨va_cnB 2 C.1.2.2.2.2 (lw_meth q1370) rfl hrc hrs (C.2.2.at q1367 rfl) (C.1.2.2.2.2 _ q167) (by decide +kernel) hR, C.1.2.2.2.2 _ q1369, C.1.2.2.2.2 _ qs74⟩ (wc_preV (q := (RX1, TX1, 46)) C.2 hW hS ht rfl _) rfl rfl hsz rfl (lv_room hro) d hf) hV (fun _ z => z) (fun H1 locs1 a b c0 _ _ => kk H1 locs1 a b c0)
set_option maxHeartbeats 4000000 in
set_option maxRecDepth 100000 in
theorem kX1_count {l : Launch} {D : va_G} {dA : Nat → ClassId} {h N : Nat} {F : Nat} {a1 : Int32} {a2 : Int32} {u u1 : CS} {r : Int32} (hF : wc_F F) (hE : fX1_count N F u a1 a2 = some (r, u1)) : Met l yX1_count (ws_ yX1_count cX1_count 9 (some .int)) ({ frames := 4, cells := 0, slots := 0, locals := 88 }) (va_Pc [.ref (h + F), .int a1, .int a2] (wc_St D dA h u)) (wc_Qr D dA h (some (.int r)) u1) 0 0 (CA h) := by
  refine wc_met (own := RX1) (lv := [(0, .ref (h + F)), (1, .int a1), (2, .int a2)]) (by decide) rfl rfl rfl ?_
  intro p e s m args below meth c ls C hr hlocks hW hS hV hl
  have hx := C.1.1
  have hb := C.1.2.1
  have w_126 : ∀ (u : CS) (x1 : Int32) (x2 : Int32) (x4 : Int32) (x5 : Int32) (x6 : Int32) (H : Heap) (locs : List Loc) (ls : Array Slot), fX1_count_126 N F u x1 x2 x4 x5 x6 = some (r, u1) → wc_W D dA h u H → wc_S u → va_S (CA h) s.heap H locs → lv_has ls 9 [(0, .ref (h + F)), (1, .int x1), (2, .int x2), (4, .int x4), (5, .int x5), (6, .int x6)] → W p l e ({ frames := 4, cells := 0, slots := 0, locals := 88 }) s m args below meth c H locs 0 0 (MQ below (wc_Qr D dA h (some (.int r)) u1) args s 0 0 (CA h)) (F0 m 126 ls []) := by
    intro u x1 x2 x4 x5 x6 H locs ls hE hW hS hV hl
    unfold fX1_count_126 at hE
    refine lv_iconst (v := (5 : Int32)) hx hb dX1_count_126 rfl ?_
    refine lv_bipush (v := (8 : Int32)) hx hb dX1_count_127 rfl ?_
    refine lv_iload_n hx hb dX1_count_129 rfl (lv_at hl 1 rfl) ?_
    refine lv_imul hx hb dX1_count_130 ?_
    refine lv_aload_n hx hb dX1_count_131 rfl (lv_at hl 0 rfl) ?_
    refine cgs_X1_122_1 C hW (st_F hS hF) (sp_F_countMany hS hF) dX1_count_132 ?_
    refine lv_iload_n hx hb dX1_count_135 rfl (lv_at hl 1 rfl) ?_
    refine wc_ldi C hW (st_F_countMany hS hF) hE dX1_count_136 (fun hE => ?_)
    refine z_nmi hE (fun v16 hE => ?_)
    refine lv_iadd hx hb dX1_count_137 ?_
    refine lv_imul hx hb dX1_count_138 ?_
    refine z_nmi hE (fun z17 hE => ?_)
    refine lv_istore (lv' := [(7, .int z17), (0, .ref (h + F)), (1, .int x1), (2, .int x2), (4, .int x4), (5, .int x5), (6, .int x6)]) hx hb dX1_count_139 hl (by decide) rfl (fun ls hl => ?_)
    refine lv_aload_n hx hb dX1_count_141 rfl (lv_at hl 1 rfl) ?_
    refine cgs_X1_125_1 C hW (st_F hS hF) (sp_F_counts hS hF) dX1_count_142 ?_
    refine lv_iload hx hb dX1_count_145 (lv_at hl 0 rfl) ?_
    refine lv_aload_n hx hb dX1_count_147 rfl (lv_at hl 1 rfl) ?_
    refine cg_X1_142_1 C hW (st_F hS hF) dX1_count_148 ?_
    refine wc_sti (J := wc_S) C hW hV (st_F_counts hS hF) hS.uA hE dX1_count_151 (fun u18 H locs hE hW hS hV => ?_)
    refine lv_aload_n hx hb dX1_count_152 rfl (lv_at hl 1 rfl) ?_
    refine cgs_X1_125_1 C hW (st_F hS hF) (sp_F_counts hS hF) dX1_count_153 ?_
    refine lv_iload hx hb dX1_count_156 (lv_at hl 0 rfl) ?_
    refine lv_iconst (v := (1 : Int32)) hx hb dX1_count_158 rfl ?_
    refine lv_iadd hx hb dX1_count_159 ?_
    refine lv_aload_n hx hb dX1_count_160 rfl (lv_at hl 1 rfl) ?_
    refine cgs_X1_27_1 C hW (st_F hS hF) (sp_F_ages hS hF) dX1_count_161 ?_
    refine lv_iload_n hx hb dX1_count_164 rfl (lv_at hl 2 rfl) ?_
    refine wc_ldi C hW (st_F_ages hS hF) hE dX1_count_165 (fun hE => ?_)
    refine z_nmi hE (fun v19 hE => ?_)
    refine wc_sti (J := wc_S) C hW hV (st_F_counts hS hF) hS.uA hE dX1_count_166 (fun u20 H locs hE hW hS hV => ?_)
    refine lv_aload_n hx hb dX1_count_167 rfl (lv_at hl 1 rfl) ?_
    refine cgs_X1_125_1 C hW (st_F hS hF) (sp_F_counts hS hF) dX1_count_168 ?_
    refine lv_iload hx hb dX1_count_171 (lv_at hl 0 rfl) ?_
    refine lv_iconst (v := (2 : Int32)) hx hb dX1_count_173 rfl ?_
    refine lv_iadd hx hb dX1_count_174 ?_
    refine lv_iload hx hb dX1_count_175 (lv_at hl 4 rfl) ?_
    refine lv_i2l hx hb dX1_count_177 rfl ?_
    refine lv_aload_n hx hb dX1_count_178 rfl (lv_at hl 1 rfl) ?_
    refine cgs_X1_24_1 C hW (st_F hS hF) (sp_F_acres hS hF) dX1_count_179 ?_
    refine lv_iload_n hx hb dX1_count_182 rfl (lv_at hl 2 rfl) ?_
    refine wc_ldi C hW (st_F_acres hS hF) hE dX1_count_183 (fun hE => ?_)
    refine z_nmi hE (fun v21 hE => ?_)
    refine lv_i2l hx hb dX1_count_184 rfl ?_
    refine lv_lmul hx hb dX1_count_185 ?_
    refine lv_iload_n hx hb dX1_count_186 rfl (lv_at hl 3 rfl) ?_
    refine lv_i2l hx hb dX1_count_187 rfl ?_
    obtain ⟨hz, hE⟩ := o_nzl_some hE
    refine lv_ldiv hx hb dX1_count_188 hz ?_
    refine lv_l2i hx hb dX1_count_189 rfl ?_
    refine wc_sti (J := wc_S) C hW hV (st_F_counts hS hF) hS.uA hE dX1_count_190 (fun u22 H locs hE hW hS hV => ?_)
    refine lv_aload_n hx hb dX1_count_191 rfl (lv_at hl 1 rfl) ?_
    refine cgs_X1_125_1 C hW (st_F hS hF) (sp_F_counts hS hF) dX1_count_192 ?_
    refine lv_iload hx hb dX1_count_195 (lv_at hl 0 rfl) ?_
    refine lv_iconst (v := (3 : Int32)) hx hb dX1_count_197 rfl ?_
    refine lv_iadd hx hb dX1_count_198 ?_
    refine lv_iload hx hb dX1_count_199 (lv_at hl 5 rfl) ?_
    refine lv_aload_n hx hb dX1_count_201 rfl (lv_at hl 1 rfl) ?_
    refine cgs_X1_24_1 C hW (st_F hS hF) (sp_F_acres hS hF) dX1_count_202 ?_
    refine lv_iload_n hx hb dX1_count_205 rfl (lv_at hl 2 rfl) ?_
    refine wc_ldi C hW (st_F_acres hS hF) hE dX1_count_206 (fun hE => ?_)
    refine z_nmi hE (fun v23 hE => ?_)
    refine lv_imul hx hb dX1_count_207 ?_
    refine wc_sti (J := wc_S) C hW hV (st_F_counts hS hF) hS.uA hE dX1_count_208 (fun u24 H locs hE hW hS hV => ?_)
    refine lv_aload_n hx hb dX1_count_209 rfl (lv_at hl 1 rfl) ?_
    refine cgs_X1_125_1 C hW (st_F hS hF) (sp_F_counts hS hF) dX1_count_210 ?_
    refine lv_iload hx hb dX1_count_213 (lv_at hl 0 rfl) ?_
    refine lv_iconst (v := (4 : Int32)) hx hb dX1_count_215 rfl ?_
    refine lv_iadd hx hb dX1_count_216 ?_
    refine lv_iload hx hb dX1_count_217 (lv_at hl 6 rfl) ?_
    refine lv_aload_n hx hb dX1_count_219 rfl (lv_at hl 1 rfl) ?_
    refine cgs_X1_24_1 C hW (st_F hS hF) (sp_F_acres hS hF) dX1_count_220 ?_
    refine lv_iload_n hx hb dX1_count_223 rfl (lv_at hl 2 rfl) ?_
    refine wc_ldi C hW (st_F_acres hS hF) hE dX1_count_224 (fun hE => ?_)
    refine z_nmi hE (fun v25 hE => ?_)
    refine lv_imul hx hb dX1_count_225 ?_
    refine wc_sti (J := wc_S) C hW hV (st_F_counts hS hF) hS.uA hE dX1_count_226 (fun u26 H locs hE hW hS hV => ?_)
    refine lv_aload_n hx hb dX1_count_227 rfl (lv_at hl 1 rfl) ?_
    refine cgs_X1_122_1 C hW (st_F hS hF) (sp_F_countMany hS hF) dX1_count_228 ?_
    refine lv_iload_n hx hb dX1_count_231 rfl (lv_at hl 2 rfl) ?_
    refine lv_dup2_11 hx hb dX1_count_232 rfl rfl ?_
    refine wc_ldi C hW (st_F_countMany hS hF) hE dX1_count_233 (fun hE => ?_)
    refine z_nmi hE (fun v27 hE => ?_)
    refine lv_iconst (v := (1 : Int32)) hx hb dX1_count_234 rfl ?_
    refine lv_iadd hx hb dX1_count_235 ?_
    refine wc_sti (J := wc_S) C hW hV (st_F_countMany hS hF) hS.uA hE dX1_count_236 (fun u28 H locs hE hW hS hV => ?_)
    refine lv_aload_n hx hb dX1_count_237 rfl (lv_at hl 1 rfl) ?_
    refine cgs_X1_125_1 C hW (st_F hS hF) (sp_F_counts hS hF) dX1_count_238 ?_
    refine lv_iload hx hb dX1_count_241 (lv_at hl 0 rfl) ?_
    refine lv_iconst (v := (2 : Int32)) hx hb dX1_count_243 rfl ?_
    refine lv_iadd hx hb dX1_count_244 ?_
    refine wc_ldi C hW (st_F_counts hS hF) hE dX1_count_245 (fun hE => ?_)
    refine z_nmi hE (fun v29 hE => ?_)
    exact wc_iret C hr hlocks hW hS hV hE dX1_count_246
  have w_27 : ∀ (n : Nat) (u : CS) (x1 : Int32) (x2 : Int32) (x3 : Int32) (x4 : Int32) (x5 : Int32) (x6 : Int32) (x7 : Int32) (H : Heap) (locs : List Loc) (ls : Array Slot), fX1_count_27 N F n u x1 x2 x3 x4 x5 x6 x7 = some (r, u1) → wc_W D dA h u H → wc_S u → va_S (CA h) s.heap H locs → lv_has ls 9 [(0, .ref (h + F)), (1, .int x1), (2, .int x2), (3, .int x3), (4, .int x4), (5, .int x5), (6, .int x6), (7, .int x7)] → W p l e ({ frames := 4, cells := 0, slots := 0, locals := 88 }) s m args below meth c H locs 0 0 (MQ below (wc_Qr D dA h (some (.int r)) u1) args s 0 0 (CA h)) (F0 m 27 ls []) := by
    intro n
    induction n with
    | zero =>
      intro u x1 x2 x3 x4 x5 x6 x7 H locs ls hE hW hS hV hl
      cases (show (none : Option (Int32 × CS)) = some (r, u1) from hE)
    | succ n ih =>
      intro u x1 x2 x3 x4 x5 x6 x7 H locs ls hE hW hS hV hl
      rw [fX1_count_27] at hE
      refine lv_iload hx hb dX1_count_27 (lv_at hl 7 rfl) ?_
      refine lv_iload_n hx hb dX1_count_29 rfl (lv_at hl 2 rfl) ?_
      refine lv_icmp_ge (tgt := 80) hx hb dX1_count_30 (by decide) (fun c30 => ?_) (fun c30 => ?_)
      · have hE := z_t c30 hE
        refine lv_aload_n hx hb dX1_count_80 rfl (lv_at hl 0 rfl) ?_
        refine cgs_X1_122_1 C hW (st_F hS hF) (sp_F_countMany hS hF) dX1_count_81 ?_
        refine lv_iload_n hx hb dX1_count_84 rfl (lv_at hl 1 rfl) ?_
        refine wc_ldi C hW (st_F_countMany hS hF) hE dX1_count_85 (fun hE => ?_)
        refine z_nmi hE (fun v31 hE => ?_)
        refine lv_bipush (v := (8 : Int32)) hx hb dX1_count_86 rfl ?_
        refine lv_icmp_ne (tgt := 126) hx hb dX1_count_88 (by decide) (fun c32 => ?_) (fun c32 => ?_)
        · have hE := z_f c32 hE
          exact w_126 _ _ _ _ _ _ _ _ _ hE hW hS hV (lv_sub hl [0, 1, 2, 4, 5, 6] rfl)
        · have hE := z_t c32 hE
          refine lv_bipush (v := (40 : Int32)) hx hb dX1_count_91 rfl ?_
          refine lv_iload_n hx hb dX1_count_93 rfl (lv_at hl 1 rfl) ?_
          refine lv_imul hx hb dX1_count_94 ?_
          refine z_nmi hE (fun z33 hE => ?_)
          refine lv_istore (lv' := [(7, .int z33), (0, .ref (h + F)), (1, .int x1), (2, .int x2), (3, .int x3), (4, .int x4), (5, .int x5), (6, .int x6)]) hx hb dX1_count_95 hl (by decide) rfl (fun ls hl => ?_)
          refine lv_aload_n hx hb dX1_count_97 rfl (lv_at hl 1 rfl) ?_
          refine cgs_X1_125_1 C hW (st_F hS hF) (sp_F_counts hS hF) dX1_count_98 ?_
          refine lv_iload hx hb dX1_count_101 (lv_at hl 0 rfl) ?_
          refine lv_iconst (v := (5 : Int32)) hx hb dX1_count_103 rfl ?_
          refine lv_iadd hx hb dX1_count_104 ?_
          refine lv_aload_n hx hb dX1_count_105 rfl (lv_at hl 1 rfl) ?_
          refine cgs_X1_125_1 C hW (st_F hS hF) (sp_F_counts hS hF) dX1_count_106 ?_
          refine lv_iload hx hb dX1_count_109 (lv_at hl 0 rfl) ?_
          refine lv_bipush (v := (35 : Int32)) hx hb dX1_count_111 rfl ?_
          refine wc_copyI (J := wc_S) C hl.1 q1377 q1379 q1378 q190 hW hV (st_F_counts hS hF) (st_F_counts hS hF) hS.aA hE (Nat.le_of_ble_eq_true rfl) (by first | exact Nat.le_of_ble_eq_true rfl | (simp [wc_cat, Value.category]; decide)) dX1_count_113 (fun u34 H locs hE hW hS hV => ?_)
          refine lv_aload_n hx hb dX1_count_116 rfl (lv_at hl 1 rfl) ?_
          refine cgs_X1_122_1 C hW (st_F hS hF) (sp_F_countMany hS hF) dX1_count_117 ?_
          refine lv_iload_n hx hb dX1_count_120 rfl (lv_at hl 2 rfl) ?_
          refine lv_dup2_11 hx hb dX1_count_121 rfl rfl ?_
          refine wc_ldi C hW (st_F_countMany hS hF) hE dX1_count_122 (fun hE => ?_)
          refine z_nmi hE (fun v35 hE => ?_)
          refine lv_iconst (v := (1 : Int32)) hx hb dX1_count_123 rfl ?_
          refine lv_isub hx hb dX1_count_124 ?_
          refine wc_sti (J := wc_S) C hW hV (st_F_countMany hS hF) hS.uA hE dX1_count_125 (fun u36 H locs hE hW hS hV => ?_)
          exact w_126 _ _ _ _ _ _ _ _ _ hE hW hS hV (lv_sub hl [1, 2, 3, 5, 6, 7] rfl)
      · have hE := z_f c30 hE
        refine lv_iload_n hx hb dX1_count_33 rfl (lv_at hl 3 rfl) ?_
        refine lv_bipush (v := (50 : Int32)) hx hb dX1_count_34 rfl ?_
        refine lv_aload_n hx hb dX1_count_36 rfl (lv_at hl 0 rfl) ?_
        refine lv_bipush (v := (101 : Int32)) hx hb dX1_count_37 rfl ?_
        obtain ⟨r37, u38, hc, hE⟩ := o_bd2_some hE
        refine cc_X1_318 C hW hS hV (st_F hS hF) (kX1_draw hF hc) rfl rfl ⟨Nat.le_of_ble_eq_true rfl, Nat.le_of_ble_eq_true rfl⟩ ⟨Nat.le_refl 0, Nat.le_refl 0⟩ dX1_count_39 hl.1 (Nat.le_of_ble_eq_true rfl) (fun H locs hW hS hV => ?_)
        refine lv_iadd hx hb dX1_count_42 ?_
        refine lv_imul hx hb dX1_count_43 ?_
        refine lv_bipush (v := (100 : Int32)) hx hb dX1_count_44 rfl ?_
        refine lv_idiv hx hb dX1_count_46 (by decide) ?_
        refine z_nmi hE (fun z39 hE => ?_)
        refine lv_istore (lv' := [(8, .int z39), (0, .ref (h + F)), (1, .int x1), (2, .int x2), (3, .int x3), (4, .int x4), (5, .int x5), (6, .int x6), (7, .int x7)]) hx hb dX1_count_47 hl (by decide) rfl (fun ls hl => ?_)
        refine lv_iload hx hb dX1_count_49 (lv_at hl 5 rfl) ?_
        refine lv_iload hx hb dX1_count_51 (lv_at hl 0 rfl) ?_
        refine lv_iadd hx hb dX1_count_53 ?_
        refine z_nmi hE (fun z40 hE => ?_)
        refine lv_istore (lv' := [(4, .int z40), (8, .int z39), (0, .ref (h + F)), (1, .int x1), (2, .int x2), (3, .int x3), (5, .int x5), (6, .int x6), (7, .int x7)]) hx hb dX1_count_54 hl (by decide) rfl (fun ls hl => ?_)
        refine lv_iload hx hb dX1_count_56 (lv_at hl 6 rfl) ?_
        refine lv_iload hx hb dX1_count_58 (lv_at hl 1 rfl) ?_
        refine va_mmin hx hb (C.1.2.2.1.trans hl.1.symm) C.1.2.2.2.1 (C.1.2.2.2.2 _ q232) (C.1.2.2.2.2 _ q233) (C.1.2.2.2.2 _ q169) (C.1.2.2.2.2 _ q234) (Nat.le_of_ble_eq_true rfl) (by first | exact Nat.le_of_ble_eq_true rfl | (simp [wc_cat, Value.category])) (Nat.le_refl 0) (Nat.le_refl 0) dX1_count_60 ?_
        refine z_nmi hE (fun z41 hE => ?_)
        refine lv_istore (lv' := [(5, .int z41), (4, .int z40), (8, .int z39), (0, .ref (h + F)), (1, .int x1), (2, .int x2), (3, .int x3), (6, .int x6), (7, .int x7)]) hx hb dX1_count_63 hl (by decide) rfl (fun ls hl => ?_)
        refine lv_iload hx hb dX1_count_65 (lv_at hl 7 rfl) ?_
        refine lv_iload hx hb dX1_count_67 (lv_at hl 2 rfl) ?_
        refine va_mmax hx hb (C.1.2.2.1.trans hl.1.symm) C.1.2.2.2.1 (C.1.2.2.2.2 _ q827) (C.1.2.2.2.2 _ q828) (C.1.2.2.2.2 _ q169) (C.1.2.2.2.2 _ q829) (Nat.le_of_ble_eq_true rfl) (by first | exact Nat.le_of_ble_eq_true rfl | (simp [wc_cat, Value.category])) (Nat.le_refl 0) (Nat.le_refl 0) dX1_count_69 ?_
        refine z_nmi hE (fun z42 hE => ?_)
        refine lv_istore (lv' := [(6, .int z42), (5, .int z41), (4, .int z40), (8, .int z39), (0, .ref (h + F)), (1, .int x1), (2, .int x2), (3, .int x3), (7, .int x7)]) hx hb dX1_count_72 hl (by decide) rfl (fun ls hl => ?_)
        refine z_iinc (v := (x7 + (1 : Int32))) (lw := (fun y_ => [(7, .int y_), (6, .int z42), (5, .int z41), (4, .int z40), (8, .int z39), (0, .ref (h + F)), (1, .int x1), (2, .int x2), (3, .int x3)])) hx hb dX1_count_74 hl hE (k := 8) rfl rfl (by decide) (fun _ => rfl) (fun z43 ls hE hl => ?_)
        refine lv_goto (tgt := 27) hx hb dX1_count_77 (by decide) ?_
        exact ih _ _ _ _ _ _ _ _ _ _ _ hE hW hS hV (lv_sub hl [5, 6, 7, 8, 3, 2, 1, 0] rfl)
  unfold fX1_count at hE
  refine lv_aload_n hx hb dX1_count_0 rfl (lv_at hl 0 rfl) ?_
  refine lv_iload_n hx hb dX1_count_1 rfl (lv_at hl 1 rfl) ?_
  obtain ⟨r44, u45, hc, hE⟩ := o_bd2_some hE
  refine cc_X1_283 C hW hS hV (st_F hS hF) (kX1_wood hF hc) rfl rfl ⟨Nat.le_of_ble_eq_true rfl, Nat.le_of_ble_eq_true rfl⟩ ⟨Nat.le_refl 0, Nat.le_refl 0⟩ dX1_count_2 hl.1 (Nat.le_of_ble_eq_true rfl) (fun H locs hW hS hV => ?_)
  refine lv_aload_n hx hb dX1_count_5 rfl (lv_at hl 0 rfl) ?_
  refine cgs_X1_24_1 C hW (st_F hS hF) (sp_F_acres hS hF) dX1_count_6 ?_
  refine lv_iload_n hx hb dX1_count_9 rfl (lv_at hl 1 rfl) ?_
  refine wc_ldi C hW (st_F_acres hS hF) hE dX1_count_10 (fun hE => ?_)
  refine z_nmi hE (fun v46 hE => ?_)
  obtain ⟨hz, hE⟩ := o_nz_some hE
  refine lv_idiv hx hb dX1_count_11 hz ?_
  refine z_nmi hE (fun z47 hE => ?_)
  refine lv_istore_n (lv' := [(3, .int z47), (0, .ref (h + F)), (1, .int a1), (2, .int a2)]) hx hb dX1_count_12 rfl hl (by decide) rfl (fun ls hl => ?_)
  refine lv_iconst (v := (0 : Int32)) hx hb dX1_count_13 rfl ?_
  refine lv_istore (lv' := [(4, .int (0 : Int32)), (3, .int z47), (0, .ref (h + F)), (1, .int a1), (2, .int a2)]) hx hb dX1_count_14 hl (by decide) rfl (fun ls hl => ?_)
  refine lv_ldcw (v := (2147483647 : Int32)) hx hb C.1.2.2.2.1 (C.1.2.2.2.2 _ q1371) dX1_count_16 ?_
  refine lv_istore (lv' := [(5, .int (2147483647 : Int32)), (4, .int (0 : Int32)), (3, .int z47), (0, .ref (h + F)), (1, .int a1), (2, .int a2)]) hx hb dX1_count_19 hl (by decide) rfl (fun ls hl => ?_)
  refine lv_iconst (v := (0 : Int32)) hx hb dX1_count_21 rfl ?_
  refine lv_istore (lv' := [(6, .int (0 : Int32)), (5, .int (2147483647 : Int32)), (4, .int (0 : Int32)), (3, .int z47), (0, .ref (h + F)), (1, .int a1), (2, .int a2)]) hx hb dX1_count_22 hl (by decide) rfl (fun ls hl => ?_)
  refine lv_iconst (v := (0 : Int32)) hx hb dX1_count_24 rfl ?_
  refine lv_istore (lv' := [(7, .int (0 : Int32)), (6, .int (0 : Int32)), (5, .int (2147483647 : Int32)), (4, .int (0 : Int32)), (3, .int z47), (0, .ref (h + F)), (1, .int a1), (2, .int a2)]) hx hb dX1_count_25 hl (by decide) rfl (fun ls hl => ?_)
  exact w_27 N _ _ _ _ _ _ _ _ _ _ _ hE hW hS hV (lv_sub hl [5, 6, 7, 4, 3, 2, 1, 0] rfl)
set_option maxHeartbeats 4000000 in
set_option maxRecDepth 100000 in
theorem kX0_count {l : Launch} {D : va_G} {dA : Nat → ClassId} {h N : Nat} {a1 : Int32} {a2 : Int32} {u u1 : CS} {r : Int32} (hE : fX0_count N u a1 a2 = some (r, u1)) : Met l yX0_count (ws_ yX0_count cX0_count 3 (some .int)) ({ frames := 5, cells := 0, slots := 0, locals := 116 }) (va_Pc [.ref (h + 0), .int a1, .int a2] (wc_St D dA h u)) (wc_Qr D dA h (some (.int r)) u1) 0 0 (CA h) := by
  refine wc_met (own := RX0) (lv := [(0, .ref (h + 0)), (1, .int a1), (2, .int a2)]) (by decide) rfl rfl rfl ?_
  intro p e s m args below meth c ls C hr hlocks hW hS hV hl
  have hx := C.1.1
  have hb := C.1.2.1
  have w_56 : ∀ (u : CS) (y0 : Int32) (H : Heap) (locs : List Loc) (ls : Array Slot), fX0_count_56 N u y0 = some (r, u1) → wc_W D dA h u H → wc_S u → va_S (CA h) s.heap H locs → lv_has ls 3 [] → W p l e ({ frames := 5, cells := 0, slots := 0, locals := 116 }) s m args below meth c H locs 0 0 (MQ below (wc_Qr D dA h (some (.int r)) u1) args s 0 0 (CA h)) (F0 m 56 ls [.int y0]) := by
    intro u y0 H locs ls hE hW hS hV hl
    unfold fX0_count_56 at hE
    exact wc_iret C hr hlocks hW hS hV hE dX0_count_56
  have w_50 : ∀ (u : CS) (H : Heap) (locs : List Loc) (ls : Array Slot), fX0_count_50 N u = some (r, u1) → wc_W D dA h u H → wc_S u → va_S (CA h) s.heap H locs → lv_has ls 3 [(0, .ref (h + 0))] → W p l e ({ frames := 5, cells := 0, slots := 0, locals := 116 }) s m args below meth c H locs 0 0 (MQ below (wc_Qr D dA h (some (.int r)) u1) args s 0 0 (CA h)) (F0 m 50 ls []) := by
    intro u H locs ls hE hW hS hV hl
    unfold fX0_count_50 at hE
    refine lv_aload_n hx hb dX0_count_50 rfl (lv_at hl 0 rfl) ?_
    refine lv_bipush (v := (-7 : Int32)) hx hb dX0_count_51 rfl ?_
    obtain ⟨r12, u13, hc, hE⟩ := o_bd2_some hE
    refine cc_X0_118 C hW hS hV (st_0 hS) (kX0_refuse hc) rfl rfl ⟨Nat.le_of_ble_eq_true rfl, Nat.le_of_ble_eq_true rfl⟩ ⟨Nat.le_refl 0, Nat.le_refl 0⟩ dX0_count_53 hl.1 (Nat.le_of_ble_eq_true rfl) (fun H locs hW hS hV => ?_)
    exact w_56 _ _ _ _ _ hE hW hS hV (lv_sub hl [] rfl)
  unfold fX0_count at hE
  refine lv_aload_n hx hb dX0_count_0 rfl (lv_at hl 0 rfl) ?_
  refine lv_iload_n hx hb dX0_count_1 rfl (lv_at hl 1 rfl) ?_
  obtain ⟨r14, u15, hc, hE⟩ := o_bd2_some hE
  refine cc_X0_148 C hW hS hV (st_0 hS) (kX0_isStand hc) rfl rfl ⟨Nat.le_of_ble_eq_true rfl, Nat.le_of_ble_eq_true rfl⟩ ⟨Nat.le_refl 0, Nat.le_refl 0⟩ dX0_count_2 hl.1 (Nat.le_of_ble_eq_true rfl) (fun H locs hW hS hV => ?_)
  refine lv_if_ne (tgt := 15) hx hb dX0_count_5 (by decide) (fun c16 => ?_) (fun c16 => ?_)
  · have hE := z_f c16 hE
    refine lv_iload_n hx hb dX0_count_15 rfl (lv_at hl 2 rfl) ?_
    refine lv_i2l hx hb dX0_count_16 rfl ?_
    refine lv_lconst (v := (1 : Int64)) hx hb dX0_count_17 rfl ?_
    refine lv_ldc2 (v := (20 : Int64)) hx hb C.1.2.2.2.1 (C.1.2.2.2.2 _ q1366) dX0_count_18 ?_
    obtain ⟨r17, hc, hE⟩ := o_bd_some hE
    refine sc_X0_31 C.1 (kX0_isIn hc) rfl rfl ⟨Nat.le_of_ble_eq_true rfl, Nat.le_of_ble_eq_true rfl⟩ ⟨Nat.le_refl 0, Nat.le_refl 0⟩ dX0_count_21 hl.1 (Nat.le_of_ble_eq_true rfl) ?_
    refine lv_if_eq (tgt := 50) hx hb dX0_count_24 (by decide) (fun c18 => ?_) (fun c18 => ?_)
    · have hE := z_t c18 hE
      exact w_50 _ _ _ _ hE hW hS hV (lv_sub hl [0] rfl)
    · have hE := z_f c18 hE
      refine lv_aload_n hx hb dX0_count_27 rfl (lv_at hl 0 rfl) ?_
      refine cgs_X0_19_0 C hW (st_0 hS) (sp_0_now hS) dX0_count_28 ?_
      refine lv_iload_n hx hb dX0_count_31 rfl (lv_at hl 1 rfl) ?_
      obtain ⟨r19, u20, hc, hE⟩ := o_bd2_some hE
      refine cc_X0_424 C hW hS hV (st_F hS wc_F3) (kX1_isBare wc_F3 hc) rfl rfl ⟨Nat.le_of_ble_eq_true rfl, Nat.le_of_ble_eq_true rfl⟩ ⟨Nat.le_refl 0, Nat.le_refl 0⟩ dX0_count_32 hl.1 (Nat.le_of_ble_eq_true rfl) (fun H locs hW hS hV => ?_)
      refine lv_if_ne (tgt := 50) hx hb dX0_count_35 (by decide) (fun c21 => ?_) (fun c21 => ?_)
      · have hE := z_f c21 hE
        exact w_50 _ _ _ _ hE hW hS hV (lv_sub hl [0] rfl)
      · have hE := z_t c21 hE
        refine lv_aload_n hx hb dX0_count_38 rfl (lv_at hl 0 rfl) ?_
        refine cgs_X0_19_0 C hW (st_0 hS) (sp_0_now hS) dX0_count_39 ?_
        refine lv_iload_n hx hb dX0_count_42 rfl (lv_at hl 1 rfl) ?_
        refine lv_iload_n hx hb dX0_count_43 rfl (lv_at hl 2 rfl) ?_
        obtain ⟨r22, u23, hc, hE⟩ := o_bd2_some hE
        refine cc_X0_436 C hW hS hV (st_F hS wc_F3) (kX1_count wc_F3 hc) rfl rfl ⟨Nat.le_of_ble_eq_true rfl, Nat.le_of_ble_eq_true rfl⟩ ⟨Nat.le_refl 0, Nat.le_refl 0⟩ dX0_count_44 hl.1 (Nat.le_of_ble_eq_true rfl) (fun H locs hW hS hV => ?_)
        refine lv_goto (tgt := 56) hx hb dX0_count_47 (by decide) ?_
        exact w_56 _ _ _ _ _ hE hW hS hV (lv_sub hl [] rfl)
  · have hE := z_t c16 hE
    refine lv_aload_n hx hb dX0_count_8 rfl (lv_at hl 0 rfl) ?_
    refine lv_bipush (v := (-3 : Int32)) hx hb dX0_count_9 rfl ?_
    obtain ⟨r24, u25, hc, hE⟩ := o_bd2_some hE
    refine cc_X0_118 C hW hS hV (st_0 hS) (kX0_refuse hc) rfl rfl ⟨Nat.le_of_ble_eq_true rfl, Nat.le_of_ble_eq_true rfl⟩ ⟨Nat.le_refl 0, Nat.le_refl 0⟩ dX0_count_11 hl.1 (Nat.le_of_ble_eq_true rfl) (fun H locs hW hS hV => ?_)
    exact wc_iret C hr hlocks hW hS hV hE dX0_count_14
set_option maxHeartbeats 4000000 in
set_option maxRecDepth 100000 in
theorem kX0_counted {l : Launch} {D : va_G} {dA : Nat → ClassId} {h N : Nat} {a1 : Int32} {a2 : Int32} {a3 : Int32} {u u1 : CS} {r : Int32} (hE : fX0_counted N u a1 a2 a3 = some (r, u1)) : Met l yX0_counted (ws_ yX0_counted cX0_counted 4 (some .int)) ({ frames := 3, cells := 0, slots := 0, locals := 68 }) (va_Pc [.ref (h + 0), .int a1, .int a2, .int a3] (wc_St D dA h u)) (wc_Qr D dA h (some (.int r)) u1) 0 0 (CA h) := by
  refine wc_met (own := RX0) (lv := [(0, .ref (h + 0)), (1, .int a1), (2, .int a2), (3, .int a3)]) (by decide) rfl rfl rfl ?_
  intro p e s m args below meth c ls C hr hlocks hW hS hV hl
  have hx := C.1.1
  have hb := C.1.2.1
  have w_25 : ∀ (u : CS) (H : Heap) (locs : List Loc) (ls : Array Slot), fX0_counted_25 N u = some (r, u1) → wc_W D dA h u H → wc_S u → va_S (CA h) s.heap H locs → lv_has ls 4 [(0, .ref (h + 0))] → W p l e ({ frames := 3, cells := 0, slots := 0, locals := 68 }) s m args below meth c H locs 0 0 (MQ below (wc_Qr D dA h (some (.int r)) u1) args s 0 0 (CA h)) (F0 m 25 ls []) := by
    intro u H locs ls hE hW hS hV hl
    unfold fX0_counted_25 at hE
    refine lv_aload_n hx hb dX0_counted_25 rfl (lv_at hl 0 rfl) ?_
    refine lv_bipush (v := (-3 : Int32)) hx hb dX0_counted_26 rfl ?_
    obtain ⟨r13, u14, hc, hE⟩ := o_bd2_some hE
    refine cc_X0_118 C hW hS hV (st_0 hS) (kX0_refuse hc) rfl rfl ⟨Nat.le_of_ble_eq_true rfl, Nat.le_of_ble_eq_true rfl⟩ ⟨Nat.le_refl 0, Nat.le_refl 0⟩ dX0_counted_28 hl.1 (Nat.le_of_ble_eq_true rfl) (fun H locs hW hS hV => ?_)
    exact wc_iret C hr hlocks hW hS hV hE dX0_counted_31
  have w_78 : ∀ (u : CS) (y0 : Int32) (H : Heap) (locs : List Loc) (ls : Array Slot), fX0_counted_78 N u y0 = some (r, u1) → wc_W D dA h u H → wc_S u → va_S (CA h) s.heap H locs → lv_has ls 4 [] → W p l e ({ frames := 3, cells := 0, slots := 0, locals := 68 }) s m args below meth c H locs 0 0 (MQ below (wc_Qr D dA h (some (.int r)) u1) args s 0 0 (CA h)) (F0 m 78 ls [.int y0]) := by
    intro u y0 H locs ls hE hW hS hV hl
    unfold fX0_counted_78 at hE
    exact wc_iret C hr hlocks hW hS hV hE dX0_counted_78
  unfold fX0_counted at hE
  refine lv_aload_n hx hb dX0_counted_0 rfl (lv_at hl 0 rfl) ?_
  refine lv_iload_n hx hb dX0_counted_1 rfl (lv_at hl 1 rfl) ?_
  obtain ⟨r15, u16, hc, hE⟩ := o_bd2_some hE
  refine cc_X0_148 C hW hS hV (st_0 hS) (kX0_isStand hc) rfl rfl ⟨Nat.le_of_ble_eq_true rfl, Nat.le_of_ble_eq_true rfl⟩ ⟨Nat.le_refl 0, Nat.le_refl 0⟩ dX0_counted_2 hl.1 (Nat.le_of_ble_eq_true rfl) (fun H locs hW hS hV => ?_)
  refine lv_if_eq (tgt := 25) hx hb dX0_counted_5 (by decide) (fun c17 => ?_) (fun c17 => ?_)
  · have hE := z_t c17 hE
    exact w_25 _ _ _ _ hE hW hS hV (lv_sub hl [0] rfl)
  · have hE := z_f c17 hE
    refine lv_iload_n hx hb dX0_counted_8 rfl (lv_at hl 2 rfl) ?_
    refine lv_if_lt (tgt := 25) hx hb dX0_counted_9 (by decide) (fun c18 => ?_) (fun c18 => ?_)
    · have hE := z_t c18 hE
      exact w_25 _ _ _ _ hE hW hS hV (lv_sub hl [0] rfl)
    · have hE := z_f c18 hE
      refine lv_iload_n hx hb dX0_counted_12 rfl (lv_at hl 2 rfl) ?_
      refine lv_aload_n hx hb dX0_counted_13 rfl (lv_at hl 0 rfl) ?_
      refine cgs_X0_19_0 C hW (st_0 hS) (sp_0_now hS) dX0_counted_14 ?_
      refine cgs_X0_173_1 C hW (st_F hS wc_F3) (sp_F_countMany hS wc_F3) dX0_counted_17 ?_
      refine lv_iload_n hx hb dX0_counted_20 rfl (lv_at hl 1 rfl) ?_
      refine wc_ldi C hW (st_F_countMany hS wc_F3) hE dX0_counted_21 (fun hE => ?_)
      refine z_nmi hE (fun v19 hE => ?_)
      refine lv_icmp_lt (tgt := 32) hx hb dX0_counted_22 (by decide) (fun c20 => ?_) (fun c20 => ?_)
      · have hE := z_t c20 hE
        refine lv_iload_n hx hb dX0_counted_32 rfl (lv_at hl 3 rfl) ?_
        refine lv_i2l hx hb dX0_counted_33 rfl ?_
        refine lv_lconst (v := (0 : Int64)) hx hb dX0_counted_34 rfl ?_
        refine lv_ldc2 (v := (5 : Int64)) hx hb C.1.2.2.2.1 (C.1.2.2.2.2 _ q795) dX0_counted_35 ?_
        obtain ⟨r21, hc, hE⟩ := o_bd_some hE
        refine sc_X0_31 C.1 (kX0_isIn hc) rfl rfl ⟨Nat.le_of_ble_eq_true rfl, Nat.le_of_ble_eq_true rfl⟩ ⟨Nat.le_refl 0, Nat.le_refl 0⟩ dX0_counted_38 hl.1 (Nat.le_of_ble_eq_true rfl) ?_
        refine lv_if_ne (tgt := 51) hx hb dX0_counted_41 (by decide) (fun c22 => ?_) (fun c22 => ?_)
        · have hE := z_f c22 hE
          refine lv_iload_n hx hb dX0_counted_51 rfl (lv_at hl 3 rfl) ?_
          refine lv_iconst (v := (5 : Int32)) hx hb dX0_counted_52 rfl ?_
          refine lv_icmp_ne (tgt := 68) hx hb dX0_counted_53 (by decide) (fun c23 => ?_) (fun c23 => ?_)
          · have hE := z_f c23 hE
            refine lv_aload_n hx hb dX0_counted_68 rfl (lv_at hl 0 rfl) ?_
            refine cgs_X0_19_0 C hW (st_0 hS) (sp_0_now hS) dX0_counted_69 ?_
            refine lv_iload_n hx hb dX0_counted_72 rfl (lv_at hl 1 rfl) ?_
            refine lv_iload_n hx hb dX0_counted_73 rfl (lv_at hl 2 rfl) ?_
            refine lv_iload_n hx hb dX0_counted_74 rfl (lv_at hl 3 rfl) ?_
            obtain ⟨r24, u25, hc, hE⟩ := o_bd2_some hE
            refine cc_X0_442 C hW hS hV (st_F hS wc_F3) (kX1_countAt wc_F3 hc) rfl rfl ⟨Nat.le_of_ble_eq_true rfl, Nat.le_of_ble_eq_true rfl⟩ ⟨Nat.le_refl 0, Nat.le_refl 0⟩ dX0_counted_75 hl.1 (Nat.le_of_ble_eq_true rfl) (fun H locs hW hS hV => ?_)
            exact w_78 _ _ _ _ _ hE hW hS hV (lv_sub hl [] rfl)
          · have hE := z_t c23 hE
            refine lv_aload_n hx hb dX0_counted_56 rfl (lv_at hl 0 rfl) ?_
            refine cgs_X0_19_0 C hW (st_0 hS) (sp_0_now hS) dX0_counted_57 ?_
            refine lv_iload_n hx hb dX0_counted_60 rfl (lv_at hl 1 rfl) ?_
            refine lv_iload_n hx hb dX0_counted_61 rfl (lv_at hl 2 rfl) ?_
            obtain ⟨r26, u27, hc, hE⟩ := o_bd2_some hE
            refine cc_X0_439 C hW hS hV (st_F hS wc_F3) (kX1_grown wc_F3 hc) rfl rfl ⟨Nat.le_of_ble_eq_true rfl, Nat.le_of_ble_eq_true rfl⟩ ⟨Nat.le_refl 0, Nat.le_refl 0⟩ dX0_counted_62 hl.1 (Nat.le_of_ble_eq_true rfl) (fun H locs hW hS hV => ?_)
            refine lv_goto (tgt := 78) hx hb dX0_counted_65 (by decide) ?_
            exact w_78 _ _ _ _ _ hE hW hS hV (lv_sub hl [] rfl)
        · have hE := z_t c22 hE
          refine lv_aload_n hx hb dX0_counted_44 rfl (lv_at hl 0 rfl) ?_
          refine lv_bipush (v := (-7 : Int32)) hx hb dX0_counted_45 rfl ?_
          obtain ⟨r28, u29, hc, hE⟩ := o_bd2_some hE
          refine cc_X0_118 C hW hS hV (st_0 hS) (kX0_refuse hc) rfl rfl ⟨Nat.le_of_ble_eq_true rfl, Nat.le_of_ble_eq_true rfl⟩ ⟨Nat.le_refl 0, Nat.le_refl 0⟩ dX0_counted_47 hl.1 (Nat.le_of_ble_eq_true rfl) (fun H locs hW hS hV => ?_)
          exact wc_iret C hr hlocks hW hS hV hE dX0_counted_50
      · have hE := z_f c20 hE
        exact w_25 _ _ _ _ hE hW hS hV (lv_sub hl [0] rfl)
set_option maxHeartbeats 4000000 in
set_option maxRecDepth 100000 in
theorem kX0_lack {l : Launch} {D : va_G} {dA : Nat → ClassId} {h N : Nat} {a1 : Int32} {u u1 : CS} {r : Int32} (hE : fX0_lack N u a1 = some (r, u1)) : Met l yX0_lack (ws_ yX0_lack cX0_lack 2 (some .int)) ({ frames := 4, cells := 0, slots := 0, locals := 90 }) (va_Pc [.ref (h + 0), .int a1] (wc_St D dA h u)) (wc_Qr D dA h (some (.int r)) u1) 0 0 (CA h) := by
  refine wc_met (own := RX0) (lv := [(0, .ref (h + 0)), (1, .int a1)]) (by decide) rfl rfl rfl ?_
  intro p e s m args below meth c ls C hr hlocks hW hS hV hl
  have hx := C.1.1
  have hb := C.1.2.1
  have w_45 : ∀ (u : CS) (y0 : Int32) (H : Heap) (locs : List Loc) (ls : Array Slot), fX0_lack_45 N u y0 = some (r, u1) → wc_W D dA h u H → wc_S u → va_S (CA h) s.heap H locs → lv_has ls 2 [] → W p l e ({ frames := 4, cells := 0, slots := 0, locals := 90 }) s m args below meth c H locs 0 0 (MQ below (wc_Qr D dA h (some (.int r)) u1) args s 0 0 (CA h)) (F0 m 45 ls [.int y0]) := by
    intro u y0 H locs ls hE hW hS hV hl
    unfold fX0_lack_45 at hE
    exact wc_iret C hr hlocks hW hS hV hE dX0_lack_45
  unfold fX0_lack at hE
  refine lv_aload_n hx hb dX0_lack_0 rfl (lv_at hl 0 rfl) ?_
  refine lv_iload_n hx hb dX0_lack_1 rfl (lv_at hl 1 rfl) ?_
  obtain ⟨r10, u11, hc, hE⟩ := o_bd2_some hE
  refine cc_X0_148 C hW hS hV (st_0 hS) (kX0_isStand hc) rfl rfl ⟨Nat.le_of_ble_eq_true rfl, Nat.le_of_ble_eq_true rfl⟩ ⟨Nat.le_refl 0, Nat.le_refl 0⟩ dX0_lack_2 hl.1 (Nat.le_of_ble_eq_true rfl) (fun H locs hW hS hV => ?_)
  refine lv_if_ne (tgt := 15) hx hb dX0_lack_5 (by decide) (fun c12 => ?_) (fun c12 => ?_)
  · have hE := z_f c12 hE
    refine lv_aload_n hx hb dX0_lack_15 rfl (lv_at hl 0 rfl) ?_
    refine cgs_X0_19_0 C hW (st_0 hS) (sp_0_now hS) dX0_lack_16 ?_
    refine cgs_X0_173_1 C hW (st_F hS wc_F3) (sp_F_countMany hS wc_F3) dX0_lack_19 ?_
    refine lv_iload_n hx hb dX0_lack_22 rfl (lv_at hl 1 rfl) ?_
    refine wc_ldi C hW (st_F_countMany hS wc_F3) hE dX0_lack_23 (fun hE => ?_)
    refine z_nmi hE (fun v13 hE => ?_)
    refine lv_iconst (v := (2 : Int32)) hx hb dX0_lack_24 rfl ?_
    refine lv_icmp_ge (tgt := 37) hx hb dX0_lack_25 (by decide) (fun c14 => ?_) (fun c14 => ?_)
    · have hE := z_t c14 hE
      refine lv_aload_n hx hb dX0_lack_37 rfl (lv_at hl 0 rfl) ?_
      refine cgs_X0_19_0 C hW (st_0 hS) (sp_0_now hS) dX0_lack_38 ?_
      refine lv_iload_n hx hb dX0_lack_41 rfl (lv_at hl 1 rfl) ?_
      obtain ⟨r15, u16, hc, hE⟩ := o_bd2_some hE
      refine cc_X0_295 C hW hS hV (st_F hS wc_F3) (kX1_lack wc_F3 hc) rfl rfl ⟨Nat.le_of_ble_eq_true rfl, Nat.le_of_ble_eq_true rfl⟩ ⟨Nat.le_refl 0, Nat.le_refl 0⟩ dX0_lack_42 hl.1 (Nat.le_of_ble_eq_true rfl) (fun H locs hW hS hV => ?_)
      exact w_45 _ _ _ _ _ hE hW hS hV (lv_sub hl [] rfl)
    · have hE := z_f c14 hE
      refine lv_aload_n hx hb dX0_lack_28 rfl (lv_at hl 0 rfl) ?_
      refine lv_bipush (v := (-2 : Int32)) hx hb dX0_lack_29 rfl ?_
      obtain ⟨r17, u18, hc, hE⟩ := o_bd2_some hE
      refine cc_X0_118 C hW hS hV (st_0 hS) (kX0_refuse hc) rfl rfl ⟨Nat.le_of_ble_eq_true rfl, Nat.le_of_ble_eq_true rfl⟩ ⟨Nat.le_refl 0, Nat.le_refl 0⟩ dX0_lack_31 hl.1 (Nat.le_of_ble_eq_true rfl) (fun H locs hW hS hV => ?_)
      refine lv_goto (tgt := 45) hx hb dX0_lack_34 (by decide) ?_
      exact w_45 _ _ _ _ _ hE hW hS hV (lv_sub hl [] rfl)
  · have hE := z_t c12 hE
    refine lv_aload_n hx hb dX0_lack_8 rfl (lv_at hl 0 rfl) ?_
    refine lv_bipush (v := (-3 : Int32)) hx hb dX0_lack_9 rfl ?_
    obtain ⟨r19, u20, hc, hE⟩ := o_bd2_some hE
    refine cc_X0_118 C hW hS hV (st_0 hS) (kX0_refuse hc) rfl rfl ⟨Nat.le_of_ble_eq_true rfl, Nat.le_of_ble_eq_true rfl⟩ ⟨Nat.le_refl 0, Nat.le_refl 0⟩ dX0_lack_11 hl.1 (Nat.le_of_ble_eq_true rfl) (fun H locs hW hS hV => ?_)
    exact wc_iret C hr hlocks hW hS hV hE dX0_lack_14
theorem cc_X0_456 {a1 : Int32} {u u1 : CS} {rm : Room} (C : CC p m c cc nL s args D dA RX0) (hW : wc_W D dA h u H) (hS : wc_S u) (hV : va_S (CA h) H0 H locs) (ht : wc_T u 0 = some (.inl 0)) (hM : Met l yX0_prepareOne (ws_ yX0_prepareOne cX0_prepareOne 5 none) rm (va_Pc [.ref (h + 0), .int a1] (wc_St D dA h u)) (wc_Qr D dA h none u1) 0 0 (CA h)) (hrc : rm.cells = 0) (hrs : rm.slots = 0) (hR : rm.frames + 1 ≤ R.frames ∧ 8 + (5 + 11) + rm.locals ≤ R.locals) (hf : cells + 0 ≤ R.cells ∧ slots + 0 ≤ R.slots) (d : decode cc pc = .ok (.invokevirtual 456, 3)) (hsz : ls.size = nL) (hro : (rest.map fun v => v.category).sum ≤ 8) (kk : ∀ (H1 : Heap) (locs1 : List Loc), wc_W D dA h u1 H1 → wc_S u1 → va_S (CA h) H0 H1 locs1 → W p l e R s m args below meth c H1 locs1 cells slots Q (F0 m (pc + 3) ls (rest))) : W p l e R s m args below meth c H locs cells slots Q (F0 m pc ls (.int a1 :: .ref (h + 0) :: rest)) :=
  wc_call (v := none) (va_runV (As := [.int a1]) (rest := rest) C.1 hM (cwV 1 C.1.2.2.2.2 (lw_V q1417 q1419 qs80 q166 q1420) rfl hrc hrs (by decide +kernel) hR) (wc_preV (q := (RX0, TX0, 27)) C.2 hW hS ht rfl _) rfl rfl hsz rfl (lv_room hro) d hf) hV (fun _ z => z) (fun H1 locs1 a b c0 _ _ => kk H1 locs1 a b c0)
set_option maxHeartbeats 4000000 in
set_option maxRecDepth 100000 in
theorem kX0_prepareOne {l : Launch} {D : va_G} {dA : Nat → ClassId} {h N : Nat} {a1 : Int32} {u u_ : CS} (hE : fX0_prepareOne N u a1 = some u_) : Met l yX0_prepareOne (ws_ yX0_prepareOne cX0_prepareOne 5 none) ({ frames := 205, cells := 0, slots := 0, locals := 6522 }) (va_Pc [.ref (h + 0), .int a1] (wc_St D dA h u)) (wc_Qr D dA h none u_) 0 0 (CA h) := by
  refine wc_met (own := RX0) (lv := [(0, .ref (h + 0)), (1, .int a1)]) (by decide) rfl rfl rfl ?_
  intro p e s m args below meth c ls C hr hlocks hW hS hV hl
  have hx := C.1.1
  have hb := C.1.2.1
  have w_98 : ∀ (ag24 : CS → Int32 → Int32 → Int32 → Option (CS)) (hag24 : (∀ (u : CS) (x1 : Int32) (x2 : Int32) (x3 : Int32) (H : Heap) (locs : List Loc) (ls : Array Slot), ag24 u x1 x2 x3 = some u_ → wc_W D dA h u H → wc_S u → va_S (CA h) s.heap H locs → lv_has ls 5 [(0, .ref (h + 0)), (1, .int x1), (2, .int x2), (3, .int x3)] → W p l e ({ frames := 205, cells := 0, slots := 0, locals := 6522 }) s m args below meth c H locs 0 0 (MQ below (wc_Qr D dA h none u_) args s 0 0 (CA h)) (F0 m 24 ls []))) (u : CS) (x1 : Int32) (x2 : Int32) (x3 : Int32) (x4 : Int32) (y1 : Int32) (y2 : Int32) (H : Heap) (locs : List Loc) (ls : Array Slot), fX0_prepareOne_98 N ag24 u x1 x2 x3 x4 y1 y2 = some u_ → wc_W D dA h u H → wc_S u → va_S (CA h) s.heap H locs → lv_has ls 5 [(0, .ref (h + 0)), (1, .int x1), (2, .int x2), (3, .int x3), (4, .int x4)] → W p l e ({ frames := 205, cells := 0, slots := 0, locals := 6522 }) s m args below meth c H locs 0 0 (MQ below (wc_Qr D dA h none u_) args s 0 0 (CA h)) (F0 m 98 ls [.int y2, .int y1, .ref (h + 326)]) := by
    intro ag24 hag24 u x1 x2 x3 x4 y1 y2 H locs ls hE hW hS hV hl
    unfold fX0_prepareOne_98 at hE
    obtain ⟨hb1, hE⟩ := o_bl_some hE
    refine wc_stz (J := wc_S) C hW hV (st_0_isRipe hS) hS.uA hb1 hE dX0_prepareOne_98 (fun u15 H locs hE hW hS hV => ?_)
    refine lv_aload_n hx hb dX0_prepareOne_99 rfl (lv_at hl 0 rfl) ?_
    refine cgs_X0_19_0 C hW (st_0 hS) (sp_0_now hS) dX0_prepareOne_100 ?_
    refine lv_iconst (v := (-1 : Int32)) hx hb dX0_prepareOne_103 rfl ?_
    refine cp_X0_461_1 (J := wc_S) C hW hV (st_F hS wc_F3) hS.uI hE dX0_prepareOne_104 (fun u16 H locs hE hW hS hV => ?_)
    refine lv_aload_n hx hb dX0_prepareOne_107 rfl (lv_at hl 0 rfl) ?_
    refine cgs_X0_79_0 C hW (st_0 hS) (sp_0_woodThen hS) dX0_prepareOne_108 ?_
    refine lv_iconst (v := (4 : Int32)) hx hb dX0_prepareOne_111 rfl ?_
    refine lv_iload_n hx hb dX0_prepareOne_112 rfl (lv_at hl 1 rfl) ?_
    refine lv_imul hx hb dX0_prepareOne_113 ?_
    refine lv_iload_n hx hb dX0_prepareOne_114 rfl (lv_at hl 3 rfl) ?_
    refine lv_iadd hx hb dX0_prepareOne_115 ?_
    refine lv_aload_n hx hb dX0_prepareOne_116 rfl (lv_at hl 0 rfl) ?_
    refine cgs_X0_19_0 C hW (st_0 hS) (sp_0_now hS) dX0_prepareOne_117 ?_
    refine lv_iload_n hx hb dX0_prepareOne_120 rfl (lv_at hl 2 rfl) ?_
    refine lv_iload hx hb dX0_prepareOne_121 (lv_at hl 4 rfl) ?_
    refine lv_aload_n hx hb dX0_prepareOne_123 rfl (lv_at hl 0 rfl) ?_
    refine cgs_X0_19_0 C hW (st_0 hS) (sp_0_now hS) dX0_prepareOne_124 ?_
    refine cgs_X0_139_1 C hW (st_F hS wc_F3) (sp_F_fulls hS wc_F3) dX0_prepareOne_127 ?_
    refine lv_iload_n hx hb dX0_prepareOne_130 rfl (lv_at hl 2 rfl) ?_
    refine wc_ldi C hW (st_F_fulls hS wc_F3) hE dX0_prepareOne_131 (fun hE => ?_)
    refine z_nmi hE (fun v17 hE => ?_)
    obtain ⟨r18, u19, hc, hE⟩ := o_bd2_some hE
    refine cc_X0_464 C hW hS hV (st_F hS wc_F3) (kX1_woodAt wc_F3 hc) rfl rfl ⟨Nat.le_of_ble_eq_true rfl, Nat.le_of_ble_eq_true rfl⟩ ⟨Nat.le_refl 0, Nat.le_refl 0⟩ dX0_prepareOne_132 hl.1 (Nat.le_of_ble_eq_true rfl) (fun H locs hW hS hV => ?_)
    refine wc_sti (J := wc_S) C hW hV (st_0_woodThen hS) hS.uA hE dX0_prepareOne_135 (fun u20 H locs hE hW hS hV => ?_)
    refine z_iinc (v := (x3 + (1 : Int32))) (lw := (fun y_ => [(3, .int y_), (0, .ref (h + 0)), (1, .int x1), (2, .int x2), (4, .int x4)])) hx hb dX0_prepareOne_136 hl hE (k := 3) rfl rfl (by decide) (fun _ => rfl) (fun z21 ls hE hl => ?_)
    refine lv_goto (tgt := 24) hx hb dX0_prepareOne_139 (by decide) ?_
    exact hag24 _ _ _ _ _ _ _ hE hW hS hV (lv_sub hl [1, 2, 3, 0] rfl)
  have w_97 : ∀ (ag24 : CS → Int32 → Int32 → Int32 → Option (CS)) (hag24 : (∀ (u : CS) (x1 : Int32) (x2 : Int32) (x3 : Int32) (H : Heap) (locs : List Loc) (ls : Array Slot), ag24 u x1 x2 x3 = some u_ → wc_W D dA h u H → wc_S u → va_S (CA h) s.heap H locs → lv_has ls 5 [(0, .ref (h + 0)), (1, .int x1), (2, .int x2), (3, .int x3)] → W p l e ({ frames := 205, cells := 0, slots := 0, locals := 6522 }) s m args below meth c H locs 0 0 (MQ below (wc_Qr D dA h none u_) args s 0 0 (CA h)) (F0 m 24 ls []))) (u : CS) (x1 : Int32) (x2 : Int32) (x3 : Int32) (x4 : Int32) (y1 : Int32) (H : Heap) (locs : List Loc) (ls : Array Slot), fX0_prepareOne_97 N ag24 u x1 x2 x3 x4 y1 = some u_ → wc_W D dA h u H → wc_S u → va_S (CA h) s.heap H locs → lv_has ls 5 [(0, .ref (h + 0)), (1, .int x1), (2, .int x2), (3, .int x3), (4, .int x4)] → W p l e ({ frames := 205, cells := 0, slots := 0, locals := 6522 }) s m args below meth c H locs 0 0 (MQ below (wc_Qr D dA h none u_) args s 0 0 (CA h)) (F0 m 97 ls [.int y1, .ref (h + 326)]) := by
    intro ag24 hag24 u x1 x2 x3 x4 y1 H locs ls hE hW hS hV hl
    unfold fX0_prepareOne_97 at hE
    refine lv_iconst (v := (0 : Int32)) hx hb dX0_prepareOne_97 rfl ?_
    exact w_98 ag24 hag24 _ _ _ _ _ _ _ _ _ _ hE hW hS hV (lv_sub hl [0, 1, 2, 3, 4] rfl)
  have w_24 : ∀ (n : Nat) (u : CS) (x1 : Int32) (x2 : Int32) (x3 : Int32) (H : Heap) (locs : List Loc) (ls : Array Slot), fX0_prepareOne_24 N n u x1 x2 x3 = some u_ → wc_W D dA h u H → wc_S u → va_S (CA h) s.heap H locs → lv_has ls 5 [(0, .ref (h + 0)), (1, .int x1), (2, .int x2), (3, .int x3)] → W p l e ({ frames := 205, cells := 0, slots := 0, locals := 6522 }) s m args below meth c H locs 0 0 (MQ below (wc_Qr D dA h none u_) args s 0 0 (CA h)) (F0 m 24 ls []) := by
    intro n
    induction n with
    | zero =>
      intro u x1 x2 x3 H locs ls hE hW hS hV hl
      cases (show (none : Option (CS)) = some u_ from hE)
    | succ n ih =>
      intro u x1 x2 x3 H locs ls hE hW hS hV hl
      rw [fX0_prepareOne_24] at hE
      refine lv_iload_n hx hb dX0_prepareOne_24 rfl (lv_at hl 3 rfl) ?_
      refine lv_aload_n hx hb dX0_prepareOne_25 rfl (lv_at hl 0 rfl) ?_
      refine cg_X0_450_0 C hW (st_0 hS) dX0_prepareOne_26 ?_
      refine lv_icmp_ge (tgt := 142) hx hb dX0_prepareOne_29 (by decide) (fun c22 => ?_) (fun c22 => ?_)
      · have hE := z_t c22 hE
        exact wc_vret C hr hlocks hW hS hV hE dX0_prepareOne_142
      · have hE := z_f c22 hE
        refine lv_aload_n hx hb dX0_prepareOne_32 rfl (lv_at hl 0 rfl) ?_
        refine cgs_X0_19_0 C hW (st_0 hS) (sp_0_now hS) dX0_prepareOne_33 ?_
        refine cgs_X0_136_1 C hW (st_F hS wc_F3) (sp_F_ages hS wc_F3) dX0_prepareOne_36 ?_
        refine lv_iload_n hx hb dX0_prepareOne_39 rfl (lv_at hl 2 rfl) ?_
        refine wc_ldi C hW (st_F_ages hS wc_F3) hE dX0_prepareOne_40 (fun hE => ?_)
        refine z_nmi hE (fun v23 hE => ?_)
        refine lv_bipush (v := (10 : Int32)) hx hb dX0_prepareOne_41 rfl ?_
        refine lv_iload_n hx hb dX0_prepareOne_43 rfl (lv_at hl 3 rfl) ?_
        refine lv_imul hx hb dX0_prepareOne_44 ?_
        refine lv_iadd hx hb dX0_prepareOne_45 ?_
        refine lv_iconst (v := (5 : Int32)) hx hb dX0_prepareOne_46 rfl ?_
        refine lv_iadd hx hb dX0_prepareOne_47 ?_
        refine z_nmi hE (fun z24 hE => ?_)
        refine lv_istore (lv' := [(4, .int z24), (0, .ref (h + 0)), (1, .int x1), (2, .int x2), (3, .int x3)]) hx hb dX0_prepareOne_48 hl (by decide) rfl (fun ls hl => ?_)
        refine lv_aload_n hx hb dX0_prepareOne_50 rfl (lv_at hl 1 rfl) ?_
        refine cgs_X0_19_0 C hW (st_0 hS) (sp_0_now hS) dX0_prepareOne_51 ?_
        refine lv_iload hx hb dX0_prepareOne_54 (lv_at hl 0 rfl) ?_
        refine cp_X0_461_1 (J := wc_S) C hW hV (st_F hS wc_F3) hS.uI hE dX0_prepareOne_56 (fun u25 H locs hE hW hS hV => ?_)
        refine lv_aload_n hx hb dX0_prepareOne_59 rfl (lv_at hl 1 rfl) ?_
        refine cgs_X0_75_0 C hW (st_0 hS) (sp_0_isRipe hS) dX0_prepareOne_60 ?_
        refine lv_iconst (v := (4 : Int32)) hx hb dX0_prepareOne_63 rfl ?_
        refine lv_iload_n hx hb dX0_prepareOne_64 rfl (lv_at hl 2 rfl) ?_
        refine lv_imul hx hb dX0_prepareOne_65 ?_
        refine lv_iload_n hx hb dX0_prepareOne_66 rfl (lv_at hl 4 rfl) ?_
        refine lv_iadd hx hb dX0_prepareOne_67 ?_
        refine lv_aload_n hx hb dX0_prepareOne_68 rfl (lv_at hl 1 rfl) ?_
        refine cgs_X0_19_0 C hW (st_0 hS) (sp_0_now hS) dX0_prepareOne_69 ?_
        refine lv_iload_n hx hb dX0_prepareOne_72 rfl (lv_at hl 3 rfl) ?_
        obtain ⟨r26, u27, hc, hE⟩ := o_bd2_some hE
        refine cc_X0_424 C hW hS hV (st_F hS wc_F3) (kX1_isBare wc_F3 hc) rfl rfl ⟨Nat.le_of_ble_eq_true rfl, Nat.le_of_ble_eq_true rfl⟩ ⟨Nat.le_refl 0, Nat.le_refl 0⟩ dX0_prepareOne_73 hl.1 (Nat.le_of_ble_eq_true rfl) (fun H locs hW hS hV => ?_)
        refine lv_if_ne (tgt := 97) hx hb dX0_prepareOne_76 (by decide) (fun c28 => ?_) (fun c28 => ?_)
        · have hE := z_f c28 hE
          exact w_97 (fX0_prepareOne_24 N n) ih _ _ _ _ _ _ _ _ _ hE hW hS hV (lv_sub hl [1, 2, 3, 4, 0] rfl)
        · have hE := z_t c28 hE
          refine lv_iload hx hb dX0_prepareOne_79 (lv_at hl 0 rfl) ?_
          refine lv_aload_n hx hb dX0_prepareOne_81 rfl (lv_at hl 1 rfl) ?_
          refine cgs_X0_19_0 C hW (st_0 hS) (sp_0_now hS) dX0_prepareOne_82 ?_
          refine lv_iconst (v := (0 : Int32)) hx hb dX0_prepareOne_85 rfl ?_
          refine lv_iload_n hx hb dX0_prepareOne_86 rfl (lv_at hl 3 rfl) ?_
          obtain ⟨r29, u30, hc, hE⟩ := o_bd2_some hE
          refine cc_X0_226 C hW hS hV (st_F hS wc_F3) (kX1_saysNow wc_F3 hc) rfl rfl ⟨Nat.le_of_ble_eq_true rfl, Nat.le_of_ble_eq_true rfl⟩ ⟨Nat.le_refl 0, Nat.le_refl 0⟩ dX0_prepareOne_87 hl.1 (Nat.le_of_ble_eq_true rfl) (fun H locs hW hS hV => ?_)
          refine lv_icmp_lt (tgt := 97) hx hb dX0_prepareOne_90 (by decide) (fun c31 => ?_) (fun c31 => ?_)
          · have hE := z_t c31 hE
            exact w_97 (fX0_prepareOne_24 N n) ih _ _ _ _ _ _ _ _ _ hE hW hS hV (lv_sub hl [1, 2, 3, 4, 0] rfl)
          · have hE := z_f c31 hE
            refine lv_iconst (v := (1 : Int32)) hx hb dX0_prepareOne_93 rfl ?_
            refine lv_goto (tgt := 98) hx hb dX0_prepareOne_94 (by decide) ?_
            exact w_98 (fX0_prepareOne_24 N n) ih _ _ _ _ _ _ _ _ _ _ hE hW hS hV (lv_sub hl [1, 2, 3, 4, 0] rfl)
  unfold fX0_prepareOne at hE
  refine lv_aload_n hx hb dX0_prepareOne_0 rfl (lv_at hl 0 rfl) ?_
  refine cgs_X0_72_0 C hW (st_0 hS) (sp_0_members hS) dX0_prepareOne_1 ?_
  refine lv_iload_n hx hb dX0_prepareOne_4 rfl (lv_at hl 1 rfl) ?_
  refine wc_ldi C hW (st_0_members hS) hE dX0_prepareOne_5 (fun hE => ?_)
  refine z_nmi hE (fun v32 hE => ?_)
  refine lv_istore_n (lv' := [(2, .int v32), (0, .ref (h + 0)), (1, .int a1)]) hx hb dX0_prepareOne_6 rfl hl (by decide) rfl (fun ls hl => ?_)
  refine lv_aload_n hx hb dX0_prepareOne_7 rfl (lv_at hl 1 rfl) ?_
  refine cgs_X0_82_0 C hW (st_0 hS) (sp_0_areas hS) dX0_prepareOne_8 ?_
  refine lv_iload_n hx hb dX0_prepareOne_11 rfl (lv_at hl 2 rfl) ?_
  refine lv_aload_n hx hb dX0_prepareOne_12 rfl (lv_at hl 1 rfl) ?_
  refine cgs_X0_19_0 C hW (st_0 hS) (sp_0_now hS) dX0_prepareOne_13 ?_
  refine lv_iconst (v := (1 : Int32)) hx hb dX0_prepareOne_16 rfl ?_
  refine lv_iload_n hx hb dX0_prepareOne_17 rfl (lv_at hl 0 rfl) ?_
  obtain ⟨r33, u34, hc, hE⟩ := o_bd2_some hE
  refine cc_X0_226 C hW hS hV (st_F hS wc_F3) (kX1_saysNow wc_F3 hc) rfl rfl ⟨Nat.le_of_ble_eq_true rfl, Nat.le_of_ble_eq_true rfl⟩ ⟨Nat.le_refl 0, Nat.le_refl 0⟩ dX0_prepareOne_18 hl.1 (Nat.le_of_ble_eq_true rfl) (fun H locs hW hS hV => ?_)
  refine wc_sti (J := wc_S) C hW hV (st_0_areas hS) hS.uA hE dX0_prepareOne_21 (fun u35 H locs hE hW hS hV => ?_)
  refine lv_iconst (v := (0 : Int32)) hx hb dX0_prepareOne_22 rfl ?_
  refine lv_istore_n (lv' := [(3, .int (0 : Int32)), (2, .int v32), (0, .ref (h + 0)), (1, .int a1)]) hx hb dX0_prepareOne_23 rfl hl (by decide) rfl (fun ls hl => ?_)
  exact w_24 N _ _ _ _ _ _ _ hE hW hS hV (lv_sub hl [2, 3, 1, 0] rfl)
theorem cc_X0_529 {a1 : Int32} {a2 : Int32} {u u1 : CS} {rm : Room} (C : CC p m c cc nL s args D dA RX0) (hW : wc_W D dA h u H) (hS : wc_S u) (hV : va_S (CA h) H0 H locs) (ht : wc_T u 0 = some (.inl 0)) (hM : Met l yX0_prepare (ws_ yX0_prepare cX0_prepare 6 none) rm (va_Pc [.ref (h + 0), .int a1, .int a2] (wc_St D dA h u)) (wc_Qr D dA h none u1) 0 0 (CA h)) (hrc : rm.cells = 0) (hrs : rm.slots = 0) (hR : rm.frames + 1 ≤ R.frames ∧ 8 + (6 + 11) + rm.locals ≤ R.locals) (hf : cells + 0 ≤ R.cells ∧ slots + 0 ≤ R.slots) (d : decode cc pc = .ok (.invokevirtual 529, 3)) (hsz : ls.size = nL) (hro : (rest.map fun v => v.category).sum ≤ 8) (kk : ∀ (H1 : Heap) (locs1 : List Loc), wc_W D dA h u1 H1 → wc_S u1 → va_S (CA h) H0 H1 locs1 → W p l e R s m args below meth c H1 locs1 cells slots Q (F0 m (pc + 3) ls (rest))) : W p l e R s m args below meth c H locs cells slots Q (F0 m pc ls (.int a2 :: .int a1 :: .ref (h + 0) :: rest)) :=
  wc_call (v := none) (va_runV (As := [.int a1, .int a2]) (rest := rest) C.1 hM (cwV 2 C.1.2.2.2.2 (lw_V q1413 q1415 qs79 q166 q1416) rfl hrc hrs (by decide +kernel) hR) (wc_preV (q := (RX0, TX0, 27)) C.2 hW hS ht rfl _) rfl rfl hsz rfl (lv_room hro) d hf) hV (fun _ z => z) (fun H1 locs1 a b c0 _ _ => kk H1 locs1 a b c0)
set_option maxHeartbeats 4000000 in
set_option maxRecDepth 100000 in
theorem kX0_prepare {l : Launch} {D : va_G} {dA : Nat → ClassId} {h N : Nat} {a1 : Int32} {a2 : Int32} {u u_ : CS} (hE : fX0_prepare N u a1 a2 = some u_) : Met l yX0_prepare (ws_ yX0_prepare cX0_prepare 6 none) ({ frames := 206, cells := 0, slots := 0, locals := 6546 }) (va_Pc [.ref (h + 0), .int a1, .int a2] (wc_St D dA h u)) (wc_Qr D dA h none u_) 0 0 (CA h) := by
  refine wc_met (own := RX0) (lv := [(0, .ref (h + 0)), (1, .int a1), (2, .int a2)]) (by decide) rfl rfl rfl ?_
  intro p e s m args below meth c ls C hr hlocks hW hS hV hl
  have hx := C.1.1
  have hb := C.1.2.1
  have w_161 : ∀ (ag60 : CS → Int32 → Option (CS)) (hag60 : (∀ (u : CS) (x3 : Int32) (H : Heap) (locs : List Loc) (ls : Array Slot), ag60 u x3 = some u_ → wc_W D dA h u H → wc_S u → va_S (CA h) s.heap H locs → lv_has ls 6 [(0, .ref (h + 0)), (3, .int x3)] → W p l e ({ frames := 206, cells := 0, slots := 0, locals := 6546 }) s m args below meth c H locs 0 0 (MQ below (wc_Qr D dA h none u_) args s 0 0 (CA h)) (F0 m 60 ls []))) (ag76 : CS → Int32 → Int32 → Option (CS)) (hag76 : (∀ (u : CS) (x3 : Int32) (x4 : Int32) (H : Heap) (locs : List Loc) (ls : Array Slot), ag76 u x3 x4 = some u_ → wc_W D dA h u H → wc_S u → va_S (CA h) s.heap H locs → lv_has ls 6 [(0, .ref (h + 0)), (3, .int x3), (4, .int x4)] → W p l e ({ frames := 206, cells := 0, slots := 0, locals := 6546 }) s m args below meth c H locs 0 0 (MQ below (wc_Qr D dA h none u_) args s 0 0 (CA h)) (F0 m 76 ls []))) (u : CS) (x3 : Int32) (x4 : Int32) (y1 : Int32) (y2 : Int32) (H : Heap) (locs : List Loc) (ls : Array Slot), fX0_prepare_161 N ag60 ag76 u x3 x4 y1 y2 = some u_ → wc_W D dA h u H → wc_S u → va_S (CA h) s.heap H locs → lv_has ls 6 [(0, .ref (h + 0)), (3, .int x3), (4, .int x4)] → W p l e ({ frames := 206, cells := 0, slots := 0, locals := 6546 }) s m args below meth c H locs 0 0 (MQ below (wc_Qr D dA h none u_) args s 0 0 (CA h)) (F0 m 161 ls [.int y2, .int y1, .ref (h + 329)]) := by
    intro ag60 hag60 ag76 hag76 u x3 x4 y1 y2 H locs ls hE hW hS hV hl
    unfold fX0_prepare_161 at hE
    obtain ⟨hb1, hE⟩ := o_bl_some hE
    refine wc_stz (J := wc_S) C hW hV (st_0_isNear hS) hS.uA hb1 hE dX0_prepare_161 (fun u16 H locs hE hW hS hV => ?_)
    refine z_iinc (v := (x4 + (1 : Int32))) (lw := (fun y_ => [(4, .int y_), (0, .ref (h + 0)), (3, .int x3)])) hx hb dX0_prepare_162 hl hE (k := 2) rfl rfl (by decide) (fun _ => rfl) (fun z17 ls hE hl => ?_)
    refine lv_goto (tgt := 76) hx hb dX0_prepare_165 (by decide) ?_
    exact hag76 _ _ _ _ _ _ hE hW hS hV (lv_sub hl [1, 2, 0] rfl)
  have w_160 : ∀ (ag60 : CS → Int32 → Option (CS)) (hag60 : (∀ (u : CS) (x3 : Int32) (H : Heap) (locs : List Loc) (ls : Array Slot), ag60 u x3 = some u_ → wc_W D dA h u H → wc_S u → va_S (CA h) s.heap H locs → lv_has ls 6 [(0, .ref (h + 0)), (3, .int x3)] → W p l e ({ frames := 206, cells := 0, slots := 0, locals := 6546 }) s m args below meth c H locs 0 0 (MQ below (wc_Qr D dA h none u_) args s 0 0 (CA h)) (F0 m 60 ls []))) (ag76 : CS → Int32 → Int32 → Option (CS)) (hag76 : (∀ (u : CS) (x3 : Int32) (x4 : Int32) (H : Heap) (locs : List Loc) (ls : Array Slot), ag76 u x3 x4 = some u_ → wc_W D dA h u H → wc_S u → va_S (CA h) s.heap H locs → lv_has ls 6 [(0, .ref (h + 0)), (3, .int x3), (4, .int x4)] → W p l e ({ frames := 206, cells := 0, slots := 0, locals := 6546 }) s m args below meth c H locs 0 0 (MQ below (wc_Qr D dA h none u_) args s 0 0 (CA h)) (F0 m 76 ls []))) (u : CS) (x3 : Int32) (x4 : Int32) (y1 : Int32) (H : Heap) (locs : List Loc) (ls : Array Slot), fX0_prepare_160 N ag60 ag76 u x3 x4 y1 = some u_ → wc_W D dA h u H → wc_S u → va_S (CA h) s.heap H locs → lv_has ls 6 [(0, .ref (h + 0)), (3, .int x3), (4, .int x4)] → W p l e ({ frames := 206, cells := 0, slots := 0, locals := 6546 }) s m args below meth c H locs 0 0 (MQ below (wc_Qr D dA h none u_) args s 0 0 (CA h)) (F0 m 160 ls [.int y1, .ref (h + 329)]) := by
    intro ag60 hag60 ag76 hag76 u x3 x4 y1 H locs ls hE hW hS hV hl
    unfold fX0_prepare_160 at hE
    refine lv_iconst (v := (0 : Int32)) hx hb dX0_prepare_160 rfl ?_
    exact w_161 ag60 hag60 ag76 hag76 _ _ _ _ _ _ _ _ hE hW hS hV (lv_sub hl [0, 1, 2] rfl)
  have w_76 : ∀ (ag60 : CS → Int32 → Option (CS)) (hag60 : (∀ (u : CS) (x3 : Int32) (H : Heap) (locs : List Loc) (ls : Array Slot), ag60 u x3 = some u_ → wc_W D dA h u H → wc_S u → va_S (CA h) s.heap H locs → lv_has ls 6 [(0, .ref (h + 0)), (3, .int x3)] → W p l e ({ frames := 206, cells := 0, slots := 0, locals := 6546 }) s m args below meth c H locs 0 0 (MQ below (wc_Qr D dA h none u_) args s 0 0 (CA h)) (F0 m 60 ls []))) (n : Nat) (u : CS) (x3 : Int32) (x4 : Int32) (H : Heap) (locs : List Loc) (ls : Array Slot), fX0_prepare_76 N ag60 n u x3 x4 = some u_ → wc_W D dA h u H → wc_S u → va_S (CA h) s.heap H locs → lv_has ls 6 [(0, .ref (h + 0)), (3, .int x3), (4, .int x4)] → W p l e ({ frames := 206, cells := 0, slots := 0, locals := 6546 }) s m args below meth c H locs 0 0 (MQ below (wc_Qr D dA h none u_) args s 0 0 (CA h)) (F0 m 76 ls []) := by
    intro ag60 hag60 n
    induction n with
    | zero =>
      intro u x3 x4 H locs ls hE hW hS hV hl
      cases (show (none : Option (CS)) = some u_ from hE)
    | succ n ih =>
      intro u x3 x4 H locs ls hE hW hS hV hl
      rw [fX0_prepare_76] at hE
      refine lv_iload hx hb dX0_prepare_76 (lv_at hl 2 rfl) ?_
      refine lv_aload_n hx hb dX0_prepare_78 rfl (lv_at hl 0 rfl) ?_
      refine cg_X0_453_0 C hW (st_0 hS) dX0_prepare_79 ?_
      refine lv_icmp_ge (tgt := 168) hx hb dX0_prepare_82 (by decide) (fun c18 => ?_) (fun c18 => ?_)
      · have hE := z_t c18 hE
        refine z_iinc (v := (x3 + (1 : Int32))) (lw := (fun y_ => [(3, .int y_), (0, .ref (h + 0)), (4, .int x4)])) hx hb dX0_prepare_168 hl hE (k := 1) rfl rfl (by decide) (fun _ => rfl) (fun z19 ls hE hl => ?_)
        refine lv_goto (tgt := 60) hx hb dX0_prepare_171 (by decide) ?_
        exact hag60 _ _ _ _ _ hE hW hS hV (lv_sub hl [1, 0] rfl)
      · have hE := z_f c18 hE
        refine lv_aload_n hx hb dX0_prepare_85 rfl (lv_at hl 0 rfl) ?_
        refine cgs_X0_72_0 C hW (st_0 hS) (sp_0_members hS) dX0_prepare_86 ?_
        refine lv_iload_n hx hb dX0_prepare_89 rfl (lv_at hl 1 rfl) ?_
        refine wc_ldi C hW (st_0_members hS) hE dX0_prepare_90 (fun hE => ?_)
        refine z_nmi hE (fun v20 hE => ?_)
        refine lv_aload_n hx hb dX0_prepare_91 rfl (lv_at hl 0 rfl) ?_
        refine cgs_X0_72_0 C hW (st_0 hS) (sp_0_members hS) dX0_prepare_92 ?_
        refine lv_iload hx hb dX0_prepare_95 (lv_at hl 2 rfl) ?_
        refine wc_ldi C hW (st_0_members hS) hE dX0_prepare_97 (fun hE => ?_)
        refine z_nmi hE (fun v21 hE => ?_)
        refine va_mmin hx hb (C.1.2.2.1.trans hl.1.symm) C.1.2.2.2.1 (C.1.2.2.2.2 _ q1422) (C.1.2.2.2.2 _ q233) (C.1.2.2.2.2 _ q169) (C.1.2.2.2.2 _ q234) (Nat.le_of_ble_eq_true rfl) (by first | exact Nat.le_of_ble_eq_true rfl | (simp [wc_cat, Value.category])) (Nat.le_refl 0) (Nat.le_refl 0) dX0_prepare_98 ?_
        refine z_nmi hE (fun z22 hE => ?_)
        refine lv_istore (lv' := [(5, .int z22), (0, .ref (h + 0)), (3, .int x3), (4, .int x4)]) hx hb dX0_prepare_101 hl (by decide) rfl (fun ls hl => ?_)
        refine lv_aload_n hx hb dX0_prepare_103 rfl (lv_at hl 1 rfl) ?_
        refine cgs_X0_85_0 C hW (st_0 hS) (sp_0_isNear hS) dX0_prepare_104 ?_
        refine lv_bipush (v := (7 : Int32)) hx hb dX0_prepare_107 rfl ?_
        refine lv_iload_n hx hb dX0_prepare_109 rfl (lv_at hl 2 rfl) ?_
        refine lv_imul hx hb dX0_prepare_110 ?_
        refine lv_iload hx hb dX0_prepare_111 (lv_at hl 3 rfl) ?_
        refine lv_iadd hx hb dX0_prepare_113 ?_
        refine lv_iload_n hx hb dX0_prepare_114 rfl (lv_at hl 2 rfl) ?_
        refine lv_iload hx hb dX0_prepare_115 (lv_at hl 3 rfl) ?_
        refine lv_icmp_eq (tgt := 160) hx hb dX0_prepare_117 (by decide) (fun c23 => ?_) (fun c23 => ?_)
        · have hE := z_t c23 hE
          exact w_160 ag60 hag60 (fX0_prepare_76 N ag60 n) ih _ _ _ _ _ _ _ hE hW hS hV (lv_sub hl [1, 2, 3] rfl)
        · have hE := z_f c23 hE
          refine lv_aload_n hx hb dX0_prepare_120 rfl (lv_at hl 1 rfl) ?_
          refine cgs_X0_19_0 C hW (st_0 hS) (sp_0_now hS) dX0_prepare_121 ?_
          refine lv_aload_n hx hb dX0_prepare_124 rfl (lv_at hl 1 rfl) ?_
          refine cgs_X0_72_0 C hW (st_0 hS) (sp_0_members hS) dX0_prepare_125 ?_
          refine lv_iload_n hx hb dX0_prepare_128 rfl (lv_at hl 2 rfl) ?_
          refine wc_ldi C hW (st_0_members hS) hE dX0_prepare_129 (fun hE => ?_)
          refine z_nmi hE (fun v24 hE => ?_)
          refine lv_aload_n hx hb dX0_prepare_130 rfl (lv_at hl 1 rfl) ?_
          refine cgs_X0_72_0 C hW (st_0 hS) (sp_0_members hS) dX0_prepare_131 ?_
          refine lv_iload hx hb dX0_prepare_134 (lv_at hl 3 rfl) ?_
          refine wc_ldi C hW (st_0_members hS) hE dX0_prepare_136 (fun hE => ?_)
          refine z_nmi hE (fun v25 hE => ?_)
          obtain ⟨r26, u27, hc, hE⟩ := o_bd2_some hE
          refine cc_X0_151 C hW hS hV (st_F hS wc_F3) (kX1_areNeighbours wc_F3 hc) rfl rfl ⟨Nat.le_of_ble_eq_true rfl, Nat.le_of_ble_eq_true rfl⟩ ⟨Nat.le_refl 0, Nat.le_refl 0⟩ dX0_prepare_137 hl.1 (Nat.le_of_ble_eq_true rfl) (fun H locs hW hS hV => ?_)
          refine lv_if_eq (tgt := 160) hx hb dX0_prepare_140 (by decide) (fun c28 => ?_) (fun c28 => ?_)
          · have hE := z_t c28 hE
            exact w_160 ag60 hag60 (fX0_prepare_76 N ag60 n) ih _ _ _ _ _ _ _ hE hW hS hV (lv_sub hl [1, 2, 3] rfl)
          · have hE := z_f c28 hE
            refine lv_aload_n hx hb dX0_prepare_143 rfl (lv_at hl 1 rfl) ?_
            refine cgs_X0_19_0 C hW (st_0 hS) (sp_0_now hS) dX0_prepare_144 ?_
            refine lv_iconst (v := (2 : Int32)) hx hb dX0_prepare_147 rfl ?_
            refine lv_iload hx hb dX0_prepare_148 (lv_at hl 0 rfl) ?_
            obtain ⟨r29, u30, hc, hE⟩ := o_bd2_some hE
            refine cc_X0_226 C hW hS hV (st_F hS wc_F3) (kX1_saysNow wc_F3 hc) rfl rfl ⟨Nat.le_of_ble_eq_true rfl, Nat.le_of_ble_eq_true rfl⟩ ⟨Nat.le_refl 0, Nat.le_refl 0⟩ dX0_prepare_150 hl.1 (Nat.le_of_ble_eq_true rfl) (fun H locs hW hS hV => ?_)
            refine lv_if_le (tgt := 160) hx hb dX0_prepare_153 (by decide) (fun c31 => ?_) (fun c31 => ?_)
            · have hE := z_t c31 hE
              exact w_160 ag60 hag60 (fX0_prepare_76 N ag60 n) ih _ _ _ _ _ _ _ hE hW hS hV (lv_sub hl [1, 2, 3] rfl)
            · have hE := z_f c31 hE
              refine lv_iconst (v := (1 : Int32)) hx hb dX0_prepare_156 rfl ?_
              refine lv_goto (tgt := 161) hx hb dX0_prepare_157 (by decide) ?_
              exact w_161 ag60 hag60 (fX0_prepare_76 N ag60 n) ih _ _ _ _ _ _ _ _ hE hW hS hV (lv_sub hl [1, 2, 3] rfl)
  have w_60 : ∀ (n : Nat) (u : CS) (x3 : Int32) (H : Heap) (locs : List Loc) (ls : Array Slot), fX0_prepare_60 N n u x3 = some u_ → wc_W D dA h u H → wc_S u → va_S (CA h) s.heap H locs → lv_has ls 6 [(0, .ref (h + 0)), (3, .int x3)] → W p l e ({ frames := 206, cells := 0, slots := 0, locals := 6546 }) s m args below meth c H locs 0 0 (MQ below (wc_Qr D dA h none u_) args s 0 0 (CA h)) (F0 m 60 ls []) := by
    intro n
    induction n with
    | zero =>
      intro u x3 H locs ls hE hW hS hV hl
      cases (show (none : Option (CS)) = some u_ from hE)
    | succ n ih =>
      intro u x3 H locs ls hE hW hS hV hl
      rw [fX0_prepare_60] at hE
      refine lv_iload_n hx hb dX0_prepare_60 rfl (lv_at hl 1 rfl) ?_
      refine lv_aload_n hx hb dX0_prepare_61 rfl (lv_at hl 0 rfl) ?_
      refine cg_X0_453_0 C hW (st_0 hS) dX0_prepare_62 ?_
      refine lv_icmp_ge (tgt := 174) hx hb dX0_prepare_65 (by decide) (fun c32 => ?_) (fun c32 => ?_)
      · have hE := z_t c32 hE
        exact wc_vret C hr hlocks hW hS hV hE dX0_prepare_174
      · have hE := z_f c32 hE
        refine lv_aload_n hx hb dX0_prepare_68 rfl (lv_at hl 0 rfl) ?_
        refine lv_iload_n hx hb dX0_prepare_69 rfl (lv_at hl 1 rfl) ?_
        obtain ⟨u33, hc, hE⟩ := o_bd_some hE
        refine cc_X0_456 C hW hS hV (st_0 hS) (kX0_prepareOne hc) rfl rfl ⟨Nat.le_of_ble_eq_true rfl, Nat.le_of_ble_eq_true rfl⟩ ⟨Nat.le_refl 0, Nat.le_refl 0⟩ dX0_prepare_70 hl.1 (Nat.le_of_ble_eq_true rfl) (fun H locs hW hS hV => ?_)
        refine lv_iconst (v := (0 : Int32)) hx hb dX0_prepare_73 rfl ?_
        refine lv_istore (lv' := [(4, .int (0 : Int32)), (0, .ref (h + 0)), (3, .int x3)]) hx hb dX0_prepare_74 hl (by decide) rfl (fun ls hl => ?_)
        exact w_76 (fX0_prepare_60 N n) ih N _ _ _ _ _ _ hE hW hS hV (lv_sub hl [1, 2, 0] rfl)
  have w_52 : ∀ (ag12 : CS → Int32 → Int32 → Option (CS)) (hag12 : (∀ (u : CS) (x1 : Int32) (x3 : Int32) (H : Heap) (locs : List Loc) (ls : Array Slot), ag12 u x1 x3 = some u_ → wc_W D dA h u H → wc_S u → va_S (CA h) s.heap H locs → lv_has ls 6 [(0, .ref (h + 0)), (1, .int x1), (3, .int x3)] → W p l e ({ frames := 206, cells := 0, slots := 0, locals := 6546 }) s m args below meth c H locs 0 0 (MQ below (wc_Qr D dA h none u_) args s 0 0 (CA h)) (F0 m 12 ls []))) (u : CS) (x1 : Int32) (x3 : Int32) (H : Heap) (locs : List Loc) (ls : Array Slot), fX0_prepare_52 N ag12 u x1 x3 = some u_ → wc_W D dA h u H → wc_S u → va_S (CA h) s.heap H locs → lv_has ls 6 [(0, .ref (h + 0)), (1, .int x1), (3, .int x3)] → W p l e ({ frames := 206, cells := 0, slots := 0, locals := 6546 }) s m args below meth c H locs 0 0 (MQ below (wc_Qr D dA h none u_) args s 0 0 (CA h)) (F0 m 52 ls []) := by
    intro ag12 hag12 u x1 x3 H locs ls hE hW hS hV hl
    unfold fX0_prepare_52 at hE
    refine z_iinc (v := (x3 + (1 : Int32))) (lw := (fun y_ => [(3, .int y_), (0, .ref (h + 0)), (1, .int x1)])) hx hb dX0_prepare_52 hl hE (k := 2) rfl rfl (by decide) (fun _ => rfl) (fun z34 ls hE hl => ?_)
    refine lv_goto (tgt := 12) hx hb dX0_prepare_55 (by decide) ?_
    exact hag12 _ _ _ _ _ _ hE hW hS hV (lv_sub hl [1, 2, 0] rfl)
  have w_12 : ∀ (n : Nat) (u : CS) (x1 : Int32) (x3 : Int32) (H : Heap) (locs : List Loc) (ls : Array Slot), fX0_prepare_12 N n u x1 x3 = some u_ → wc_W D dA h u H → wc_S u → va_S (CA h) s.heap H locs → lv_has ls 6 [(0, .ref (h + 0)), (1, .int x1), (3, .int x3)] → W p l e ({ frames := 206, cells := 0, slots := 0, locals := 6546 }) s m args below meth c H locs 0 0 (MQ below (wc_Qr D dA h none u_) args s 0 0 (CA h)) (F0 m 12 ls []) := by
    intro n
    induction n with
    | zero =>
      intro u x1 x3 H locs ls hE hW hS hV hl
      cases (show (none : Option (CS)) = some u_ from hE)
    | succ n ih =>
      intro u x1 x3 H locs ls hE hW hS hV hl
      rw [fX0_prepare_12] at hE
      refine lv_iload_n hx hb dX0_prepare_12 rfl (lv_at hl 2 rfl) ?_
      refine lv_aload_n hx hb dX0_prepare_13 rfl (lv_at hl 0 rfl) ?_
      refine cgs_X0_19_0 C hW (st_0 hS) (sp_0_now hS) dX0_prepare_14 ?_
      refine cg_X0_23_1 C hW (st_F hS wc_F3) dX0_prepare_17 ?_
      refine lv_icmp_ge (tgt := 58) hx hb dX0_prepare_20 (by decide) (fun c35 => ?_) (fun c35 => ?_)
      · have hE := z_t c35 hE
        refine lv_iconst (v := (0 : Int32)) hx hb dX0_prepare_58 rfl ?_
        refine lv_istore_n (lv' := [(3, .int (0 : Int32)), (0, .ref (h + 0)), (1, .int x1)]) hx hb dX0_prepare_59 rfl hl (by decide) rfl (fun ls hl => ?_)
        exact w_60 N _ _ _ _ _ hE hW hS hV (lv_sub hl [1, 0] rfl)
      · have hE := z_f c35 hE
        refine lv_iload_n hx hb dX0_prepare_23 rfl (lv_at hl 1 rfl) ?_
        refine lv_iload_n hx hb dX0_prepare_24 rfl (lv_at hl 2 rfl) ?_
        refine lv_ishr hx hb dX0_prepare_25 ?_
        refine lv_iconst (v := (1 : Int32)) hx hb dX0_prepare_26 rfl ?_
        refine lv_iand hx hb dX0_prepare_27 ?_
        refine lv_iconst (v := (1 : Int32)) hx hb dX0_prepare_28 rfl ?_
        refine lv_icmp_ne (tgt := 52) hx hb dX0_prepare_29 (by decide) (fun c36 => ?_) (fun c36 => ?_)
        · have hE := z_f c36 hE
          exact w_52 (fX0_prepare_12 N n) ih _ _ _ _ _ _ hE hW hS hV (lv_sub hl [0, 1, 2] rfl)
        · have hE := z_t c36 hE
          refine lv_aload_n hx hb dX0_prepare_32 rfl (lv_at hl 0 rfl) ?_
          refine cgs_X0_72_0 C hW (st_0 hS) (sp_0_members hS) dX0_prepare_33 ?_
          refine lv_aload_n hx hb dX0_prepare_36 rfl (lv_at hl 0 rfl) ?_
          refine cg_X0_453_0 C hW (st_0 hS) dX0_prepare_37 ?_
          refine lv_iload_n hx hb dX0_prepare_40 rfl (lv_at hl 2 rfl) ?_
          refine wc_sti (J := wc_S) C hW hV (st_0_members hS) hS.uA hE dX0_prepare_41 (fun u37 H locs hE hW hS hV => ?_)
          refine lv_aload_n hx hb dX0_prepare_42 rfl (lv_at hl 0 rfl) ?_
          refine lv_dup hx hb dX0_prepare_43 rfl ?_
          refine cg_X0_453_0 C hW (st_0 hS) dX0_prepare_44 ?_
          refine lv_iconst (v := (1 : Int32)) hx hb dX0_prepare_47 rfl ?_
          refine lv_iadd hx hb dX0_prepare_48 ?_
          refine cp_X0_453_0 (J := wc_S) C hW hV (st_0 hS) hS.uI hE dX0_prepare_49 (fun u38 H locs hE hW hS hV => ?_)
          exact w_52 (fX0_prepare_12 N n) ih _ _ _ _ _ _ hE hW hS hV (lv_sub hl [0, 1, 2] rfl)
  unfold fX0_prepare at hE
  refine lv_aload_n hx hb dX0_prepare_0 rfl (lv_at hl 0 rfl) ?_
  refine lv_iload_n hx hb dX0_prepare_1 rfl (lv_at hl 2 rfl) ?_
  refine cp_X0_450_0 (J := wc_S) C hW hV (st_0 hS) hS.uI hE dX0_prepare_2 (fun u39 H locs hE hW hS hV => ?_)
  refine lv_aload_n hx hb dX0_prepare_5 rfl (lv_at hl 0 rfl) ?_
  refine lv_iconst (v := (0 : Int32)) hx hb dX0_prepare_6 rfl ?_
  refine cp_X0_453_0 (J := wc_S) C hW hV (st_0 hS) hS.uI hE dX0_prepare_7 (fun u40 H locs hE hW hS hV => ?_)
  refine lv_iconst (v := (0 : Int32)) hx hb dX0_prepare_10 rfl ?_
  refine lv_istore_n (lv' := [(3, .int (0 : Int32)), (0, .ref (h + 0)), (1, .int a1), (2, .int a2)]) hx hb dX0_prepare_11 rfl hl (by decide) rfl (fun ls hl => ?_)
  exact w_12 N _ _ _ _ _ _ hE hW hS hV (lv_sub hl [1, 2, 0] rfl)
theorem cc_X0_469 {a1 : Int32} {a2 : Int32} {r : Int32} {u u1 : CS} {rm : Room} (C : CC p m c cc nL s args D dA RX0) (hW : wc_W D dA h u H) (hS : wc_S u) (hV : va_S (CA h) H0 H locs) (ht : wc_T u 0 = some (.inl 0)) (hM : Met l yX0_fits (ws_ yX0_fits cX0_fits 5 (some .boolean)) rm (va_Pc [.ref (h + 0), .int a1, .int a2] (wc_St D dA h u)) (wc_Qr D dA h (some (.int r)) u1) 0 0 (CA h)) (hrc : rm.cells = 0) (hrs : rm.slots = 0) (hR : rm.frames + 1 ≤ R.frames ∧ 8 + (5 + 11) + rm.locals ≤ R.locals) (hf : cells + 0 ≤ R.cells ∧ slots + 0 ≤ R.slots) (d : decode cc pc = .ok (.invokevirtual 469, 3)) (hsz : ls.size = nL) (hro : (rest.map fun v => v.category).sum ≤ 8) (kk : ∀ (H1 : Heap) (locs1 : List Loc), wc_W D dA h u1 H1 → wc_S u1 → va_S (CA h) H0 H1 locs1 → W p l e R s m args below meth c H1 locs1 cells slots Q (F0 m (pc + 3) ls (.int r :: rest))) : W p l e R s m args below meth c H locs cells slots Q (F0 m pc ls (.int a2 :: .int a1 :: .ref (h + 0) :: rest)) :=
  wc_call (v := (some (.int r))) (va_runV (As := [.int a1, .int a2]) (rest := rest) C.1 hM (cwV 2 C.1.2.2.2.2 (lw_V q1435 q1437 qs84 q166 q1438) rfl hrc hrs (by decide +kernel) hR) (wc_preV (q := (RX0, TX0, 27)) C.2 hW hS ht rfl _) rfl rfl hsz rfl (lv_room hro) d hf) hV (fun _ z => z) (fun H1 locs1 a b c0 _ _ => kk H1 locs1 a b c0)
set_option maxHeartbeats 4000000 in
set_option maxRecDepth 100000 in
theorem kX0_fits {l : Launch} {D : va_G} {dA : Nat → ClassId} {h N : Nat} {a1 : Int32} {a2 : Int32} {u u1 : CS} {r : Int32} (hE : fX0_fits N u a1 a2 = some (r, u1)) : Met l yX0_fits (ws_ yX0_fits cX0_fits 5 (some .boolean)) ({ frames := 0, cells := 0, slots := 0, locals := 0 }) (va_Pc [.ref (h + 0), .int a1, .int a2] (wc_St D dA h u)) (wc_Qr D dA h (some (.int r)) u1) 0 0 (CA h) := by
  refine wc_met (own := RX0) (lv := [(0, .ref (h + 0)), (1, .int a1), (2, .int a2)]) (by decide) rfl rfl rfl ?_
  intro p e s m args below meth c ls C hr hlocks hW hS hV hl
  have hx := C.1.1
  have hb := C.1.2.1
  have w_86 : ∀ (u : CS) (x3 : Int32) (H : Heap) (locs : List Loc) (ls : Array Slot), fX0_fits_86 N u x3 = some (r, u1) → wc_W D dA h u H → wc_S u → va_S (CA h) s.heap H locs → lv_has ls 5 [(3, .int x3)] → W p l e ({ frames := 0, cells := 0, slots := 0, locals := 0 }) s m args below meth c H locs 0 0 (MQ below (wc_Qr D dA h (some (.int r)) u1) args s 0 0 (CA h)) (F0 m 86 ls []) := by
    intro u x3 H locs ls hE hW hS hV hl
    unfold fX0_fits_86 at hE
    refine lv_iload_n hx hb dX0_fits_86 rfl (lv_at hl 0 rfl) ?_
    obtain ⟨hb1, hE⟩ := o_bl_some hE
    exact wc_zret C hr hlocks hW hS hV hb1 hE dX0_fits_87
  have w_79 : ∀ (ag30 : CS → Int32 → Int32 → Int32 → Int32 → Option (Int32 × CS)) (hag30 : (∀ (u : CS) (x1 : Int32) (x2 : Int32) (x3 : Int32) (x4 : Int32) (H : Heap) (locs : List Loc) (ls : Array Slot), ag30 u x1 x2 x3 x4 = some (r, u1) → wc_W D dA h u H → wc_S u → va_S (CA h) s.heap H locs → lv_has ls 5 [(0, .ref (h + 0)), (1, .int x1), (2, .int x2), (3, .int x3), (4, .int x4)] → W p l e ({ frames := 0, cells := 0, slots := 0, locals := 0 }) s m args below meth c H locs 0 0 (MQ below (wc_Qr D dA h (some (.int r)) u1) args s 0 0 (CA h)) (F0 m 30 ls []))) (u : CS) (x1 : Int32) (x2 : Int32) (x4 : Int32) (y0 : Int32) (H : Heap) (locs : List Loc) (ls : Array Slot), fX0_fits_79 N ag30 u x1 x2 x4 y0 = some (r, u1) → wc_W D dA h u H → wc_S u → va_S (CA h) s.heap H locs → lv_has ls 5 [(0, .ref (h + 0)), (1, .int x1), (2, .int x2), (4, .int x4)] → W p l e ({ frames := 0, cells := 0, slots := 0, locals := 0 }) s m args below meth c H locs 0 0 (MQ below (wc_Qr D dA h (some (.int r)) u1) args s 0 0 (CA h)) (F0 m 79 ls [.int y0]) := by
    intro ag30 hag30 u x1 x2 x4 y0 H locs ls hE hW hS hV hl
    unfold fX0_fits_79 at hE
    refine lv_istore_n (lv' := [(3, .int y0), (0, .ref (h + 0)), (1, .int x1), (2, .int x2), (4, .int x4)]) hx hb dX0_fits_79 rfl hl (by decide) rfl (fun ls hl => ?_)
    refine z_iinc (v := (x4 + (1 : Int32))) (lw := (fun y_ => [(4, .int y_), (3, .int y0), (0, .ref (h + 0)), (1, .int x1), (2, .int x2)])) hx hb dX0_fits_80 hl hE (k := 4) rfl rfl (by decide) (fun _ => rfl) (fun z5 ls hE hl => ?_)
    refine lv_goto (tgt := 30) hx hb dX0_fits_83 (by decide) ?_
    exact hag30 _ _ _ _ _ _ _ _ hE hW hS hV (lv_sub hl [2, 3, 4, 1, 0] rfl)
  have w_78 : ∀ (ag30 : CS → Int32 → Int32 → Int32 → Int32 → Option (Int32 × CS)) (hag30 : (∀ (u : CS) (x1 : Int32) (x2 : Int32) (x3 : Int32) (x4 : Int32) (H : Heap) (locs : List Loc) (ls : Array Slot), ag30 u x1 x2 x3 x4 = some (r, u1) → wc_W D dA h u H → wc_S u → va_S (CA h) s.heap H locs → lv_has ls 5 [(0, .ref (h + 0)), (1, .int x1), (2, .int x2), (3, .int x3), (4, .int x4)] → W p l e ({ frames := 0, cells := 0, slots := 0, locals := 0 }) s m args below meth c H locs 0 0 (MQ below (wc_Qr D dA h (some (.int r)) u1) args s 0 0 (CA h)) (F0 m 30 ls []))) (u : CS) (x1 : Int32) (x2 : Int32) (x4 : Int32) (H : Heap) (locs : List Loc) (ls : Array Slot), fX0_fits_78 N ag30 u x1 x2 x4 = some (r, u1) → wc_W D dA h u H → wc_S u → va_S (CA h) s.heap H locs → lv_has ls 5 [(0, .ref (h + 0)), (1, .int x1), (2, .int x2), (4, .int x4)] → W p l e ({ frames := 0, cells := 0, slots := 0, locals := 0 }) s m args below meth c H locs 0 0 (MQ below (wc_Qr D dA h (some (.int r)) u1) args s 0 0 (CA h)) (F0 m 78 ls []) := by
    intro ag30 hag30 u x1 x2 x4 H locs ls hE hW hS hV hl
    unfold fX0_fits_78 at hE
    refine lv_iconst (v := (0 : Int32)) hx hb dX0_fits_78 rfl ?_
    exact w_79 ag30 hag30 _ _ _ _ _ _ _ _ hE hW hS hV (lv_sub hl [0, 1, 2, 3] rfl)
  have w_74 : ∀ (ag30 : CS → Int32 → Int32 → Int32 → Int32 → Option (Int32 × CS)) (hag30 : (∀ (u : CS) (x1 : Int32) (x2 : Int32) (x3 : Int32) (x4 : Int32) (H : Heap) (locs : List Loc) (ls : Array Slot), ag30 u x1 x2 x3 x4 = some (r, u1) → wc_W D dA h u H → wc_S u → va_S (CA h) s.heap H locs → lv_has ls 5 [(0, .ref (h + 0)), (1, .int x1), (2, .int x2), (3, .int x3), (4, .int x4)] → W p l e ({ frames := 0, cells := 0, slots := 0, locals := 0 }) s m args below meth c H locs 0 0 (MQ below (wc_Qr D dA h (some (.int r)) u1) args s 0 0 (CA h)) (F0 m 30 ls []))) (u : CS) (x1 : Int32) (x2 : Int32) (x4 : Int32) (H : Heap) (locs : List Loc) (ls : Array Slot), fX0_fits_74 N ag30 u x1 x2 x4 = some (r, u1) → wc_W D dA h u H → wc_S u → va_S (CA h) s.heap H locs → lv_has ls 5 [(0, .ref (h + 0)), (1, .int x1), (2, .int x2), (4, .int x4)] → W p l e ({ frames := 0, cells := 0, slots := 0, locals := 0 }) s m args below meth c H locs 0 0 (MQ below (wc_Qr D dA h (some (.int r)) u1) args s 0 0 (CA h)) (F0 m 74 ls []) := by
    intro ag30 hag30 u x1 x2 x4 H locs ls hE hW hS hV hl
    unfold fX0_fits_74 at hE
    refine lv_iconst (v := (1 : Int32)) hx hb dX0_fits_74 rfl ?_
    refine lv_goto (tgt := 79) hx hb dX0_fits_75 (by decide) ?_
    exact w_79 ag30 hag30 _ _ _ _ _ _ _ _ hE hW hS hV (lv_sub hl [0, 1, 2, 3] rfl)
  have w_30 : ∀ (n : Nat) (u : CS) (x1 : Int32) (x2 : Int32) (x3 : Int32) (x4 : Int32) (H : Heap) (locs : List Loc) (ls : Array Slot), fX0_fits_30 N n u x1 x2 x3 x4 = some (r, u1) → wc_W D dA h u H → wc_S u → va_S (CA h) s.heap H locs → lv_has ls 5 [(0, .ref (h + 0)), (1, .int x1), (2, .int x2), (3, .int x3), (4, .int x4)] → W p l e ({ frames := 0, cells := 0, slots := 0, locals := 0 }) s m args below meth c H locs 0 0 (MQ below (wc_Qr D dA h (some (.int r)) u1) args s 0 0 (CA h)) (F0 m 30 ls []) := by
    intro n
    induction n with
    | zero =>
      intro u x1 x2 x3 x4 H locs ls hE hW hS hV hl
      cases (show (none : Option (Int32 × CS)) = some (r, u1) from hE)
    | succ n ih =>
      intro u x1 x2 x3 x4 H locs ls hE hW hS hV hl
      rw [fX0_fits_30] at hE
      refine lv_iload hx hb dX0_fits_30 (lv_at hl 4 rfl) ?_
      refine lv_iload_n hx hb dX0_fits_32 rfl (lv_at hl 1 rfl) ?_
      refine lv_icmp_ge (tgt := 86) hx hb dX0_fits_33 (by decide) (fun c6 => ?_) (fun c6 => ?_)
      · have hE := z_t c6 hE
        exact w_86 _ _ _ _ _ hE hW hS hV (lv_sub hl [3] rfl)
      · have hE := z_f c6 hE
        refine lv_iload_n hx hb dX0_fits_36 rfl (lv_at hl 2 rfl) ?_
        refine lv_aload_n hx hb dX0_fits_37 rfl (lv_at hl 0 rfl) ?_
        refine cg_X0_450_0 C hW (st_0 hS) dX0_fits_38 ?_
        refine lv_icmp_ge (tgt := 86) hx hb dX0_fits_41 (by decide) (fun c7 => ?_) (fun c7 => ?_)
        · have hE := z_t c7 hE
          exact w_86 _ _ _ _ _ hE hW hS hV (lv_sub hl [3] rfl)
        · have hE := z_f c7 hE
          refine lv_iload_n hx hb dX0_fits_44 rfl (lv_at hl 3 rfl) ?_
          refine lv_if_eq (tgt := 78) hx hb dX0_fits_45 (by decide) (fun c8 => ?_) (fun c8 => ?_)
          · have hE := z_t c8 hE
            exact w_78 (fX0_fits_30 N n) ih _ _ _ _ _ _ _ hE hW hS hV (lv_sub hl [0, 1, 2, 4] rfl)
          · have hE := z_f c8 hE
            refine lv_aload_n hx hb dX0_fits_48 rfl (lv_at hl 0 rfl) ?_
            refine cgs_X0_85_0 C hW (st_0 hS) (sp_0_isNear hS) dX0_fits_49 ?_
            refine lv_bipush (v := (7 : Int32)) hx hb dX0_fits_52 rfl ?_
            refine lv_iload_n hx hb dX0_fits_54 rfl (lv_at hl 1 rfl) ?_
            refine lv_imul hx hb dX0_fits_55 ?_
            refine lv_iload hx hb dX0_fits_56 (lv_at hl 4 rfl) ?_
            refine lv_iadd hx hb dX0_fits_58 ?_
            refine wc_ldz C hW (st_0_isNear hS) hE dX0_fits_59 (fun hE => ?_)
            refine z_nmi hE (fun v9 hE => ?_)
            refine lv_if_eq (tgt := 74) hx hb dX0_fits_60 (by decide) (fun c10 => ?_) (fun c10 => ?_)
            · have hE := z_t c10 hE
              exact w_74 (fX0_fits_30 N n) ih _ _ _ _ _ _ _ hE hW hS hV (lv_sub hl [0, 1, 2, 4] rfl)
            · have hE := z_f c10 hE
              refine lv_aload_n hx hb dX0_fits_63 rfl (lv_at hl 0 rfl) ?_
              refine cgs_X0_88_0 C hW (st_0 hS) (sp_0_choice hS) dX0_fits_64 ?_
              refine lv_iload hx hb dX0_fits_67 (lv_at hl 4 rfl) ?_
              refine wc_ldi C hW (st_0_choice hS) hE dX0_fits_69 (fun hE => ?_)
              refine z_nmi hE (fun v11 hE => ?_)
              refine lv_iload_n hx hb dX0_fits_70 rfl (lv_at hl 2 rfl) ?_
              refine lv_icmp_eq (tgt := 78) hx hb dX0_fits_71 (by decide) (fun c12 => ?_) (fun c12 => ?_)
              · have hE := z_t c12 hE
                exact w_78 (fX0_fits_30 N n) ih _ _ _ _ _ _ _ hE hW hS hV (lv_sub hl [0, 1, 2, 4] rfl)
              · have hE := z_f c12 hE
                exact w_74 (fX0_fits_30 N n) ih _ _ _ _ _ _ _ hE hW hS hV (lv_sub hl [0, 1, 2, 4] rfl)
  have w_26 : ∀ (u : CS) (x1 : Int32) (x2 : Int32) (y0 : Int32) (H : Heap) (locs : List Loc) (ls : Array Slot), fX0_fits_26 N u x1 x2 y0 = some (r, u1) → wc_W D dA h u H → wc_S u → va_S (CA h) s.heap H locs → lv_has ls 5 [(0, .ref (h + 0)), (1, .int x1), (2, .int x2)] → W p l e ({ frames := 0, cells := 0, slots := 0, locals := 0 }) s m args below meth c H locs 0 0 (MQ below (wc_Qr D dA h (some (.int r)) u1) args s 0 0 (CA h)) (F0 m 26 ls [.int y0]) := by
    intro u x1 x2 y0 H locs ls hE hW hS hV hl
    unfold fX0_fits_26 at hE
    refine lv_istore_n (lv' := [(3, .int y0), (0, .ref (h + 0)), (1, .int x1), (2, .int x2)]) hx hb dX0_fits_26 rfl hl (by decide) rfl (fun ls hl => ?_)
    refine lv_iconst (v := (0 : Int32)) hx hb dX0_fits_27 rfl ?_
    refine lv_istore (lv' := [(4, .int (0 : Int32)), (3, .int y0), (0, .ref (h + 0)), (1, .int x1), (2, .int x2)]) hx hb dX0_fits_28 hl (by decide) rfl (fun ls hl => ?_)
    exact w_30 N _ _ _ _ _ _ _ _ hE hW hS hV (lv_sub hl [2, 3, 4, 1, 0] rfl)
  have w_21 : ∀ (u : CS) (x1 : Int32) (x2 : Int32) (H : Heap) (locs : List Loc) (ls : Array Slot), fX0_fits_21 N u x1 x2 = some (r, u1) → wc_W D dA h u H → wc_S u → va_S (CA h) s.heap H locs → lv_has ls 5 [(0, .ref (h + 0)), (1, .int x1), (2, .int x2)] → W p l e ({ frames := 0, cells := 0, slots := 0, locals := 0 }) s m args below meth c H locs 0 0 (MQ below (wc_Qr D dA h (some (.int r)) u1) args s 0 0 (CA h)) (F0 m 21 ls []) := by
    intro u x1 x2 H locs ls hE hW hS hV hl
    unfold fX0_fits_21 at hE
    refine lv_iconst (v := (1 : Int32)) hx hb dX0_fits_21 rfl ?_
    refine lv_goto (tgt := 26) hx hb dX0_fits_22 (by decide) ?_
    exact w_26 _ _ _ _ _ _ _ hE hW hS hV (lv_sub hl [0, 1, 2] rfl)
  unfold fX0_fits at hE
  refine lv_iload_n hx hb dX0_fits_0 rfl (lv_at hl 2 rfl) ?_
  refine lv_aload_n hx hb dX0_fits_1 rfl (lv_at hl 0 rfl) ?_
  refine cg_X0_450_0 C hW (st_0 hS) dX0_fits_2 ?_
  refine lv_icmp_eq (tgt := 21) hx hb dX0_fits_5 (by decide) (fun c13 => ?_) (fun c13 => ?_)
  · have hE := z_t c13 hE
    exact w_21 _ _ _ _ _ _ hE hW hS hV (lv_sub hl [0, 1, 2] rfl)
  · have hE := z_f c13 hE
    refine lv_aload_n hx hb dX0_fits_8 rfl (lv_at hl 0 rfl) ?_
    refine cgs_X0_75_0 C hW (st_0 hS) (sp_0_isRipe hS) dX0_fits_9 ?_
    refine lv_iconst (v := (4 : Int32)) hx hb dX0_fits_12 rfl ?_
    refine lv_iload_n hx hb dX0_fits_13 rfl (lv_at hl 1 rfl) ?_
    refine lv_imul hx hb dX0_fits_14 ?_
    refine lv_iload_n hx hb dX0_fits_15 rfl (lv_at hl 2 rfl) ?_
    refine lv_iadd hx hb dX0_fits_16 ?_
    refine wc_ldz C hW (st_0_isRipe hS) hE dX0_fits_17 (fun hE => ?_)
    refine z_nmi hE (fun v14 hE => ?_)
    refine lv_if_eq (tgt := 25) hx hb dX0_fits_18 (by decide) (fun c15 => ?_) (fun c15 => ?_)
    · have hE := z_t c15 hE
      refine lv_iconst (v := (0 : Int32)) hx hb dX0_fits_25 rfl ?_
      exact w_26 _ _ _ _ _ _ _ hE hW hS hV (lv_sub hl [0, 1, 2] rfl)
    · have hE := z_f c15 hE
      exact w_21 _ _ _ _ _ _ hE hW hS hV (lv_sub hl [0, 1, 2] rfl)
theorem cc_X0_472 {a1 : Int32} {r : Int32} {u u1 : CS} {rm : Room} (C : CC p m c cc nL s args D dA RX0) (hW : wc_W D dA h u H) (hS : wc_S u) (hV : va_S (CA h) H0 H locs) (ht : wc_T u 0 = some (.inl 0)) (hM : Met l yX0_isWithin (ws_ yX0_isWithin cX0_isWithin 6 (some .boolean)) rm (va_Pc [.ref (h + 0), .int a1] (wc_St D dA h u)) (wc_Qr D dA h (some (.int r)) u1) 0 0 (CA h)) (hrc : rm.cells = 0) (hrs : rm.slots = 0) (hR : rm.frames + 1 ≤ R.frames ∧ 8 + (6 + 11) + rm.locals ≤ R.locals) (hf : cells + 0 ≤ R.cells ∧ slots + 0 ≤ R.slots) (d : decode cc pc = .ok (.invokevirtual 472, 3)) (hsz : ls.size = nL) (hro : (rest.map fun v => v.category).sum ≤ 8) (kk : ∀ (H1 : Heap) (locs1 : List Loc), wc_W D dA h u1 H1 → wc_S u1 → va_S (CA h) H0 H1 locs1 → W p l e R s m args below meth c H1 locs1 cells slots Q (F0 m (pc + 3) ls (.int r :: rest))) : W p l e R s m args below meth c H locs cells slots Q (F0 m pc ls (.int a1 :: .ref (h + 0) :: rest)) :=
  wc_call (v := (some (.int r))) (va_runV (As := [.int a1]) (rest := rest) C.1 hM (cwV 1 C.1.2.2.2.2 (lw_V q1439 q1441 qs85 q166 q1442) rfl hrc hrs (by decide +kernel) hR) (wc_preV (q := (RX0, TX0, 27)) C.2 hW hS ht rfl _) rfl rfl hsz rfl (lv_room hro) d hf) hV (fun _ z => z) (fun H1 locs1 a b c0 _ _ => kk H1 locs1 a b c0)
set_option maxHeartbeats 4000000 in
set_option maxRecDepth 100000 in
theorem kX0_isWithin {l : Launch} {D : va_G} {dA : Nat → ClassId} {h N : Nat} {a1 : Int32} {u u1 : CS} {r : Int32} (hE : fX0_isWithin N u a1 = some (r, u1)) : Met l yX0_isWithin (ws_ yX0_isWithin cX0_isWithin 6 (some .boolean)) ({ frames := 0, cells := 0, slots := 0, locals := 0 }) (va_Pc [.ref (h + 0), .int a1] (wc_St D dA h u)) (wc_Qr D dA h (some (.int r)) u1) 0 0 (CA h) := by
  refine wc_met (own := RX0) (lv := [(0, .ref (h + 0)), (1, .int a1)]) (by decide) rfl rfl rfl ?_
  intro p e s m args below meth c ls C hr hlocks hW hS hV hl
  have hx := C.1.1
  have hb := C.1.2.1
  have w_116 : ∀ (u : CS) (y0 : Int32) (H : Heap) (locs : List Loc) (ls : Array Slot), fX0_isWithin_116 N u y0 = some (r, u1) → wc_W D dA h u H → wc_S u → va_S (CA h) s.heap H locs → lv_has ls 6 [] → W p l e ({ frames := 0, cells := 0, slots := 0, locals := 0 }) s m args below meth c H locs 0 0 (MQ below (wc_Qr D dA h (some (.int r)) u1) args s 0 0 (CA h)) (F0 m 116 ls [.int y0]) := by
    intro u y0 H locs ls hE hW hS hV hl
    unfold fX0_isWithin_116 at hE
    obtain ⟨hb1, hE⟩ := o_bl_some hE
    exact wc_zret C hr hlocks hW hS hV hb1 hE dX0_isWithin_116
  have w_88 : ∀ (ag8 : CS → Int32 → Int64 → Int32 → Int32 → Option (Int32 × CS)) (hag8 : (∀ (u : CS) (x1 : Int32) (x2 : Int64) (x4 : Int32) (x5 : Int32) (H : Heap) (locs : List Loc) (ls : Array Slot), ag8 u x1 x2 x4 x5 = some (r, u1) → wc_W D dA h u H → wc_S u → va_S (CA h) s.heap H locs → lv_has ls 6 [(0, .ref (h + 0)), (1, .int x1), (2, .long x2), (4, .int x4), (5, .int x5)] → W p l e ({ frames := 0, cells := 0, slots := 0, locals := 0 }) s m args below meth c H locs 0 0 (MQ below (wc_Qr D dA h (some (.int r)) u1) args s 0 0 (CA h)) (F0 m 8 ls []))) (u : CS) (x1 : Int32) (x2 : Int64) (x4 : Int32) (x5 : Int32) (H : Heap) (locs : List Loc) (ls : Array Slot), fX0_isWithin_88 N ag8 u x1 x2 x4 x5 = some (r, u1) → wc_W D dA h u H → wc_S u → va_S (CA h) s.heap H locs → lv_has ls 6 [(0, .ref (h + 0)), (1, .int x1), (2, .long x2), (4, .int x4), (5, .int x5)] → W p l e ({ frames := 0, cells := 0, slots := 0, locals := 0 }) s m args below meth c H locs 0 0 (MQ below (wc_Qr D dA h (some (.int r)) u1) args s 0 0 (CA h)) (F0 m 88 ls []) := by
    intro ag8 hag8 u x1 x2 x4 x5 H locs ls hE hW hS hV hl
    unfold fX0_isWithin_88 at hE
    refine z_iinc (v := (x5 + (1 : Int32))) (lw := (fun y_ => [(5, .int y_), (0, .ref (h + 0)), (1, .int x1), (2, .long x2), (4, .int x4)])) hx hb dX0_isWithin_88 hl hE (k := 4) rfl rfl (by decide) (fun _ => rfl) (fun z11 ls hE hl => ?_)
    refine lv_goto (tgt := 8) hx hb dX0_isWithin_91 (by decide) ?_
    exact hag8 _ _ _ _ _ _ _ _ hE hW hS hV (lv_sub hl [1, 2, 3, 4, 0] rfl)
  have w_8 : ∀ (n : Nat) (u : CS) (x1 : Int32) (x2 : Int64) (x4 : Int32) (x5 : Int32) (H : Heap) (locs : List Loc) (ls : Array Slot), fX0_isWithin_8 N n u x1 x2 x4 x5 = some (r, u1) → wc_W D dA h u H → wc_S u → va_S (CA h) s.heap H locs → lv_has ls 6 [(0, .ref (h + 0)), (1, .int x1), (2, .long x2), (4, .int x4), (5, .int x5)] → W p l e ({ frames := 0, cells := 0, slots := 0, locals := 0 }) s m args below meth c H locs 0 0 (MQ below (wc_Qr D dA h (some (.int r)) u1) args s 0 0 (CA h)) (F0 m 8 ls []) := by
    intro n
    induction n with
    | zero =>
      intro u x1 x2 x4 x5 H locs ls hE hW hS hV hl
      cases (show (none : Option (Int32 × CS)) = some (r, u1) from hE)
    | succ n ih =>
      intro u x1 x2 x4 x5 H locs ls hE hW hS hV hl
      rw [fX0_isWithin_8] at hE
      refine lv_iload hx hb dX0_isWithin_8 (lv_at hl 4 rfl) ?_
      refine lv_aload_n hx hb dX0_isWithin_10 rfl (lv_at hl 0 rfl) ?_
      refine cg_X0_453_0 C hW (st_0 hS) dX0_isWithin_11 ?_
      refine lv_icmp_ge (tgt := 94) hx hb dX0_isWithin_14 (by decide) (fun c12 => ?_) (fun c12 => ?_)
      · have hE := z_t c12 hE
        refine lv_lload_n hx hb dX0_isWithin_94 rfl (lv_at hl 2 rfl) ?_
        refine lv_ldc2 (v := (10 : Int64)) hx hb C.1.2.2.2.1 (C.1.2.2.2.2 _ q1443) dX0_isWithin_95 ?_
        refine lv_aload_n hx hb dX0_isWithin_98 rfl (lv_at hl 0 rfl) ?_
        refine cgs_X0_82_0 C hW (st_0 hS) (sp_0_areas hS) dX0_isWithin_99 ?_
        refine lv_iload hx hb dX0_isWithin_102 (lv_at hl 3 rfl) ?_
        refine wc_ldi C hW (st_0_areas hS) hE dX0_isWithin_104 (fun hE => ?_)
        refine z_nmi hE (fun v13 hE => ?_)
        refine lv_i2l hx hb dX0_isWithin_105 rfl ?_
        refine lv_lmul hx hb dX0_isWithin_106 ?_
        refine W.lcmp hx hb dX0_isWithin_107 ?_
        refine lv_if_gt (tgt := 115) hx hb dX0_isWithin_108 (by decide) (fun c14 => ?_) (fun c14 => ?_)
        · have hE := z_t c14 hE
          refine lv_iconst (v := (0 : Int32)) hx hb dX0_isWithin_115 rfl ?_
          exact w_116 _ _ _ _ _ hE hW hS hV (lv_sub hl [] rfl)
        · have hE := z_f c14 hE
          refine lv_iconst (v := (1 : Int32)) hx hb dX0_isWithin_111 rfl ?_
          refine lv_goto (tgt := 116) hx hb dX0_isWithin_112 (by decide) ?_
          exact w_116 _ _ _ _ _ hE hW hS hV (lv_sub hl [] rfl)
      · have hE := z_f c12 hE
        refine lv_aload_n hx hb dX0_isWithin_17 rfl (lv_at hl 0 rfl) ?_
        refine cgs_X0_88_0 C hW (st_0 hS) (sp_0_choice hS) dX0_isWithin_18 ?_
        refine lv_iload hx hb dX0_isWithin_21 (lv_at hl 4 rfl) ?_
        refine wc_ldi C hW (st_0_choice hS) hE dX0_isWithin_23 (fun hE => ?_)
        refine z_nmi hE (fun v15 hE => ?_)
        refine lv_aload_n hx hb dX0_isWithin_24 rfl (lv_at hl 0 rfl) ?_
        refine cgs_X0_88_0 C hW (st_0 hS) (sp_0_choice hS) dX0_isWithin_25 ?_
        refine lv_iload_n hx hb dX0_isWithin_28 rfl (lv_at hl 1 rfl) ?_
        refine wc_ldi C hW (st_0_choice hS) hE dX0_isWithin_29 (fun hE => ?_)
        refine z_nmi hE (fun v16 hE => ?_)
        refine lv_icmp_ne (tgt := 88) hx hb dX0_isWithin_30 (by decide) (fun c17 => ?_) (fun c17 => ?_)
        · have hE := z_f c17 hE
          exact w_88 (fX0_isWithin_8 N n) ih _ _ _ _ _ _ _ _ hE hW hS hV (lv_sub hl [0, 1, 2, 3, 4] rfl)
        · have hE := z_t c17 hE
          refine lv_aload_n hx hb dX0_isWithin_33 rfl (lv_at hl 0 rfl) ?_
          refine cgs_X0_19_0 C hW (st_0 hS) (sp_0_now hS) dX0_isWithin_34 ?_
          refine cgs_X0_124_1 C hW (st_F hS wc_F3) (sp_F_blocks hS wc_F3) dX0_isWithin_37 ?_
          refine lv_aload_n hx hb dX0_isWithin_40 rfl (lv_at hl 0 rfl) ?_
          refine cgs_X0_72_0 C hW (st_0 hS) (sp_0_members hS) dX0_isWithin_41 ?_
          refine lv_iload hx hb dX0_isWithin_44 (lv_at hl 4 rfl) ?_
          refine wc_ldi C hW (st_0_members hS) hE dX0_isWithin_46 (fun hE => ?_)
          refine z_nmi hE (fun v18 hE => ?_)
          refine wc_ldi C hW (st_F_blocks hS wc_F3) hE dX0_isWithin_47 (fun hE => ?_)
          refine z_nmi hE (fun v19 hE => ?_)
          refine lv_aload_n hx hb dX0_isWithin_48 rfl (lv_at hl 0 rfl) ?_
          refine cgs_X0_19_0 C hW (st_0 hS) (sp_0_now hS) dX0_isWithin_49 ?_
          refine cgs_X0_124_1 C hW (st_F hS wc_F3) (sp_F_blocks hS wc_F3) dX0_isWithin_52 ?_
          refine lv_aload_n hx hb dX0_isWithin_55 rfl (lv_at hl 0 rfl) ?_
          refine cgs_X0_72_0 C hW (st_0 hS) (sp_0_members hS) dX0_isWithin_56 ?_
          refine lv_iload_n hx hb dX0_isWithin_59 rfl (lv_at hl 1 rfl) ?_
          refine wc_ldi C hW (st_0_members hS) hE dX0_isWithin_60 (fun hE => ?_)
          refine z_nmi hE (fun v20 hE => ?_)
          refine wc_ldi C hW (st_F_blocks hS wc_F3) hE dX0_isWithin_61 (fun hE => ?_)
          refine z_nmi hE (fun v21 hE => ?_)
          refine lv_icmp_ne (tgt := 88) hx hb dX0_isWithin_62 (by decide) (fun c22 => ?_) (fun c22 => ?_)
          · have hE := z_f c22 hE
            exact w_88 (fX0_isWithin_8 N n) ih _ _ _ _ _ _ _ _ hE hW hS hV (lv_sub hl [0, 1, 2, 3, 4] rfl)
          · have hE := z_t c22 hE
            refine lv_lload_n hx hb dX0_isWithin_65 rfl (lv_at hl 2 rfl) ?_
            refine lv_aload_n hx hb dX0_isWithin_66 rfl (lv_at hl 0 rfl) ?_
            refine cgs_X0_19_0 C hW (st_0 hS) (sp_0_now hS) dX0_isWithin_67 ?_
            refine cgs_X0_133_1 C hW (st_F hS wc_F3) (sp_F_acres hS wc_F3) dX0_isWithin_70 ?_
            refine lv_aload_n hx hb dX0_isWithin_73 rfl (lv_at hl 0 rfl) ?_
            refine cgs_X0_72_0 C hW (st_0 hS) (sp_0_members hS) dX0_isWithin_74 ?_
            refine lv_iload hx hb dX0_isWithin_77 (lv_at hl 4 rfl) ?_
            refine wc_ldi C hW (st_0_members hS) hE dX0_isWithin_79 (fun hE => ?_)
            refine z_nmi hE (fun v23 hE => ?_)
            refine wc_ldi C hW (st_F_acres hS wc_F3) hE dX0_isWithin_80 (fun hE => ?_)
            refine z_nmi hE (fun v24 hE => ?_)
            refine lv_i2l hx hb dX0_isWithin_81 rfl ?_
            refine lv_ladd hx hb dX0_isWithin_82 ?_
            refine z_nml hE (fun z25 hE => ?_)
            refine lv_lstore_n (lv' := [(2, .long z25), (0, .ref (h + 0)), (1, .int x1), (4, .int x4), (5, .int x5)]) hx hb dX0_isWithin_83 rfl hl (by decide) rfl (fun ls hl => ?_)
            refine lv_iload hx hb dX0_isWithin_84 (lv_at hl 4 rfl) ?_
            refine lv_istore (lv' := [(4, .int x5), (2, .long z25), (0, .ref (h + 0)), (1, .int x1), (5, .int x5)]) hx hb dX0_isWithin_86 hl (by decide) rfl (fun ls hl => ?_)
            exact w_88 (fX0_isWithin_8 N n) ih _ _ _ _ _ _ _ _ hE hW hS hV (lv_sub hl [2, 3, 1, 0, 4] rfl)
  unfold fX0_isWithin at hE
  refine lv_lconst (v := (0 : Int64)) hx hb dX0_isWithin_0 rfl ?_
  refine lv_lstore_n (lv' := [(2, .long (0 : Int64)), (0, .ref (h + 0)), (1, .int a1)]) hx hb dX0_isWithin_1 rfl hl (by decide) rfl (fun ls hl => ?_)
  refine lv_iload_n hx hb dX0_isWithin_2 rfl (lv_at hl 2 rfl) ?_
  refine lv_istore (lv' := [(4, .int a1), (2, .long (0 : Int64)), (0, .ref (h + 0)), (1, .int a1)]) hx hb dX0_isWithin_3 hl (by decide) rfl (fun ls hl => ?_)
  refine lv_iconst (v := (0 : Int32)) hx hb dX0_isWithin_5 rfl ?_
  refine lv_istore (lv' := [(5, .int (0 : Int32)), (4, .int a1), (2, .long (0 : Int64)), (0, .ref (h + 0)), (1, .int a1)]) hx hb dX0_isWithin_6 hl (by decide) rfl (fun ls hl => ?_)
  exact w_8 N _ _ _ _ _ _ _ _ hE hW hS hV (lv_sub hl [3, 4, 2, 1, 0] rfl)
theorem cc_X0_486 {r : Int32} {u u1 : CS} {rm : Room} (C : CC p m c cc nL s args D dA RX0) (hW : wc_W D dA h u H) (hS : wc_S u) (hV : va_S (CA h) H0 H locs) (ht : wc_T u 0 = some (.inl 0)) (hM : Met l yX0_isAllowed (ws_ yX0_isAllowed cX0_isAllowed 3 (some .boolean)) rm (va_Pc [.ref (h + 0)] (wc_St D dA h u)) (wc_Qr D dA h (some (.int r)) u1) 0 0 (CA h)) (hrc : rm.cells = 0) (hrs : rm.slots = 0) (hR : rm.frames + 1 ≤ R.frames ∧ 8 + (3 + 11) + rm.locals ≤ R.locals) (hf : cells + 0 ≤ R.cells ∧ slots + 0 ≤ R.slots) (d : decode cc pc = .ok (.invokevirtual 486, 3)) (hsz : ls.size = nL) (hro : (rest.map fun v => v.category).sum ≤ 8) (kk : ∀ (H1 : Heap) (locs1 : List Loc), wc_W D dA h u1 H1 → wc_S u1 → va_S (CA h) H0 H1 locs1 → W p l e R s m args below meth c H1 locs1 cells slots Q (F0 m (pc + 3) ls (.int r :: rest))) : W p l e R s m args below meth c H locs cells slots Q (F0 m pc ls (.ref (h + 0) :: rest)) :=
  wc_call (v := (some (.int r))) (va_runV (As := []) (rest := rest) C.1 hM (cwV 0 C.1.2.2.2.2 (lw_V q1431 q1433 qs83 q166 q1434) rfl hrc hrs (by decide +kernel) hR) (wc_preV (q := (RX0, TX0, 27)) C.2 hW hS ht rfl _) rfl rfl hsz rfl (lv_room hro) d hf) hV (fun _ z => z) (fun H1 locs1 a b c0 _ _ => kk H1 locs1 a b c0)
set_option maxHeartbeats 4000000 in
set_option maxRecDepth 100000 in
theorem kX0_isAllowed {l : Launch} {D : va_G} {dA : Nat → ClassId} {h N : Nat} {u u1 : CS} {r : Int32} (hE : fX0_isAllowed N u = some (r, u1)) : Met l yX0_isAllowed (ws_ yX0_isAllowed cX0_isAllowed 3 (some .boolean)) ({ frames := 1, cells := 0, slots := 0, locals := 25 }) (va_Pc [.ref (h + 0)] (wc_St D dA h u)) (wc_Qr D dA h (some (.int r)) u1) 0 0 (CA h) := by
  refine wc_met (own := RX0) (lv := [(0, .ref (h + 0))]) (by decide) rfl rfl rfl ?_
  intro p e s m args below meth c ls C hr hlocks hW hS hV hl
  have hx := C.1.1
  have hb := C.1.2.1
  have w_63 : ∀ (u : CS) (x1 : Int32) (H : Heap) (locs : List Loc) (ls : Array Slot), fX0_isAllowed_63 N u x1 = some (r, u1) → wc_W D dA h u H → wc_S u → va_S (CA h) s.heap H locs → lv_has ls 3 [(1, .int x1)] → W p l e ({ frames := 1, cells := 0, slots := 0, locals := 25 }) s m args below meth c H locs 0 0 (MQ below (wc_Qr D dA h (some (.int r)) u1) args s 0 0 (CA h)) (F0 m 63 ls []) := by
    intro u x1 H locs ls hE hW hS hV hl
    unfold fX0_isAllowed_63 at hE
    refine lv_iload_n hx hb dX0_isAllowed_63 rfl (lv_at hl 0 rfl) ?_
    obtain ⟨hb1, hE⟩ := o_bl_some hE
    exact wc_zret C hr hlocks hW hS hV hb1 hE dX0_isAllowed_64
  have w_56 : ∀ (ag4 : CS → Int32 → Int32 → Option (Int32 × CS)) (hag4 : (∀ (u : CS) (x1 : Int32) (x2 : Int32) (H : Heap) (locs : List Loc) (ls : Array Slot), ag4 u x1 x2 = some (r, u1) → wc_W D dA h u H → wc_S u → va_S (CA h) s.heap H locs → lv_has ls 3 [(0, .ref (h + 0)), (1, .int x1), (2, .int x2)] → W p l e ({ frames := 1, cells := 0, slots := 0, locals := 25 }) s m args below meth c H locs 0 0 (MQ below (wc_Qr D dA h (some (.int r)) u1) args s 0 0 (CA h)) (F0 m 4 ls []))) (u : CS) (x2 : Int32) (y0 : Int32) (H : Heap) (locs : List Loc) (ls : Array Slot), fX0_isAllowed_56 N ag4 u x2 y0 = some (r, u1) → wc_W D dA h u H → wc_S u → va_S (CA h) s.heap H locs → lv_has ls 3 [(0, .ref (h + 0)), (2, .int x2)] → W p l e ({ frames := 1, cells := 0, slots := 0, locals := 25 }) s m args below meth c H locs 0 0 (MQ below (wc_Qr D dA h (some (.int r)) u1) args s 0 0 (CA h)) (F0 m 56 ls [.int y0]) := by
    intro ag4 hag4 u x2 y0 H locs ls hE hW hS hV hl
    unfold fX0_isAllowed_56 at hE
    refine lv_istore_n (lv' := [(1, .int y0), (0, .ref (h + 0)), (2, .int x2)]) hx hb dX0_isAllowed_56 rfl hl (by decide) rfl (fun ls hl => ?_)
    refine z_iinc (v := (x2 + (1 : Int32))) (lw := (fun y_ => [(2, .int y_), (1, .int y0), (0, .ref (h + 0))])) hx hb dX0_isAllowed_57 hl hE (k := 2) rfl rfl (by decide) (fun _ => rfl) (fun z8 ls hE hl => ?_)
    refine lv_goto (tgt := 4) hx hb dX0_isAllowed_60 (by decide) ?_
    exact hag4 _ _ _ _ _ _ hE hW hS hV (lv_sub hl [2, 1, 0] rfl)
  have w_55 : ∀ (ag4 : CS → Int32 → Int32 → Option (Int32 × CS)) (hag4 : (∀ (u : CS) (x1 : Int32) (x2 : Int32) (H : Heap) (locs : List Loc) (ls : Array Slot), ag4 u x1 x2 = some (r, u1) → wc_W D dA h u H → wc_S u → va_S (CA h) s.heap H locs → lv_has ls 3 [(0, .ref (h + 0)), (1, .int x1), (2, .int x2)] → W p l e ({ frames := 1, cells := 0, slots := 0, locals := 25 }) s m args below meth c H locs 0 0 (MQ below (wc_Qr D dA h (some (.int r)) u1) args s 0 0 (CA h)) (F0 m 4 ls []))) (u : CS) (x2 : Int32) (H : Heap) (locs : List Loc) (ls : Array Slot), fX0_isAllowed_55 N ag4 u x2 = some (r, u1) → wc_W D dA h u H → wc_S u → va_S (CA h) s.heap H locs → lv_has ls 3 [(0, .ref (h + 0)), (2, .int x2)] → W p l e ({ frames := 1, cells := 0, slots := 0, locals := 25 }) s m args below meth c H locs 0 0 (MQ below (wc_Qr D dA h (some (.int r)) u1) args s 0 0 (CA h)) (F0 m 55 ls []) := by
    intro ag4 hag4 u x2 H locs ls hE hW hS hV hl
    unfold fX0_isAllowed_55 at hE
    refine lv_iconst (v := (0 : Int32)) hx hb dX0_isAllowed_55 rfl ?_
    exact w_56 ag4 hag4 _ _ _ _ _ _ hE hW hS hV (lv_sub hl [0, 1] rfl)
  have w_51 : ∀ (ag4 : CS → Int32 → Int32 → Option (Int32 × CS)) (hag4 : (∀ (u : CS) (x1 : Int32) (x2 : Int32) (H : Heap) (locs : List Loc) (ls : Array Slot), ag4 u x1 x2 = some (r, u1) → wc_W D dA h u H → wc_S u → va_S (CA h) s.heap H locs → lv_has ls 3 [(0, .ref (h + 0)), (1, .int x1), (2, .int x2)] → W p l e ({ frames := 1, cells := 0, slots := 0, locals := 25 }) s m args below meth c H locs 0 0 (MQ below (wc_Qr D dA h (some (.int r)) u1) args s 0 0 (CA h)) (F0 m 4 ls []))) (u : CS) (x2 : Int32) (H : Heap) (locs : List Loc) (ls : Array Slot), fX0_isAllowed_51 N ag4 u x2 = some (r, u1) → wc_W D dA h u H → wc_S u → va_S (CA h) s.heap H locs → lv_has ls 3 [(0, .ref (h + 0)), (2, .int x2)] → W p l e ({ frames := 1, cells := 0, slots := 0, locals := 25 }) s m args below meth c H locs 0 0 (MQ below (wc_Qr D dA h (some (.int r)) u1) args s 0 0 (CA h)) (F0 m 51 ls []) := by
    intro ag4 hag4 u x2 H locs ls hE hW hS hV hl
    unfold fX0_isAllowed_51 at hE
    refine lv_iconst (v := (1 : Int32)) hx hb dX0_isAllowed_51 rfl ?_
    refine lv_goto (tgt := 56) hx hb dX0_isAllowed_52 (by decide) ?_
    exact w_56 ag4 hag4 _ _ _ _ _ _ hE hW hS hV (lv_sub hl [0, 1] rfl)
  have w_4 : ∀ (n : Nat) (u : CS) (x1 : Int32) (x2 : Int32) (H : Heap) (locs : List Loc) (ls : Array Slot), fX0_isAllowed_4 N n u x1 x2 = some (r, u1) → wc_W D dA h u H → wc_S u → va_S (CA h) s.heap H locs → lv_has ls 3 [(0, .ref (h + 0)), (1, .int x1), (2, .int x2)] → W p l e ({ frames := 1, cells := 0, slots := 0, locals := 25 }) s m args below meth c H locs 0 0 (MQ below (wc_Qr D dA h (some (.int r)) u1) args s 0 0 (CA h)) (F0 m 4 ls []) := by
    intro n
    induction n with
    | zero =>
      intro u x1 x2 H locs ls hE hW hS hV hl
      cases (show (none : Option (Int32 × CS)) = some (r, u1) from hE)
    | succ n ih =>
      intro u x1 x2 H locs ls hE hW hS hV hl
      rw [fX0_isAllowed_4] at hE
      refine lv_iload_n hx hb dX0_isAllowed_4 rfl (lv_at hl 2 rfl) ?_
      refine lv_aload_n hx hb dX0_isAllowed_5 rfl (lv_at hl 0 rfl) ?_
      refine cg_X0_453_0 C hW (st_0 hS) dX0_isAllowed_6 ?_
      refine lv_icmp_ge (tgt := 63) hx hb dX0_isAllowed_9 (by decide) (fun c9 => ?_) (fun c9 => ?_)
      · have hE := z_t c9 hE
        exact w_63 _ _ _ _ _ hE hW hS hV (lv_sub hl [1] rfl)
      · have hE := z_f c9 hE
        refine lv_iload_n hx hb dX0_isAllowed_12 rfl (lv_at hl 1 rfl) ?_
        refine lv_if_eq (tgt := 63) hx hb dX0_isAllowed_13 (by decide) (fun c10 => ?_) (fun c10 => ?_)
        · have hE := z_t c10 hE
          exact w_63 _ _ _ _ _ hE hW hS hV (lv_sub hl [1] rfl)
        · have hE := z_f c10 hE
          refine lv_aload_n hx hb dX0_isAllowed_16 rfl (lv_at hl 0 rfl) ?_
          refine lv_iload_n hx hb dX0_isAllowed_17 rfl (lv_at hl 2 rfl) ?_
          refine lv_aload_n hx hb dX0_isAllowed_18 rfl (lv_at hl 0 rfl) ?_
          refine cgs_X0_88_0 C hW (st_0 hS) (sp_0_choice hS) dX0_isAllowed_19 ?_
          refine lv_iload_n hx hb dX0_isAllowed_22 rfl (lv_at hl 2 rfl) ?_
          refine wc_ldi C hW (st_0_choice hS) hE dX0_isAllowed_23 (fun hE => ?_)
          refine z_nmi hE (fun v11 hE => ?_)
          obtain ⟨r12, u13, hc, hE⟩ := o_bd2_some hE
          refine cc_X0_469 C hW hS hV (st_0 hS) (kX0_fits hc) rfl rfl ⟨Nat.le_of_ble_eq_true rfl, Nat.le_of_ble_eq_true rfl⟩ ⟨Nat.le_refl 0, Nat.le_refl 0⟩ dX0_isAllowed_24 hl.1 (Nat.le_of_ble_eq_true rfl) (fun H locs hW hS hV => ?_)
          refine lv_if_eq (tgt := 55) hx hb dX0_isAllowed_27 (by decide) (fun c14 => ?_) (fun c14 => ?_)
          · have hE := z_t c14 hE
            exact w_55 (fX0_isAllowed_4 N n) ih _ _ _ _ _ hE hW hS hV (lv_sub hl [0, 2] rfl)
          · have hE := z_f c14 hE
            refine lv_aload_n hx hb dX0_isAllowed_30 rfl (lv_at hl 0 rfl) ?_
            refine cgs_X0_88_0 C hW (st_0 hS) (sp_0_choice hS) dX0_isAllowed_31 ?_
            refine lv_iload_n hx hb dX0_isAllowed_34 rfl (lv_at hl 2 rfl) ?_
            refine wc_ldi C hW (st_0_choice hS) hE dX0_isAllowed_35 (fun hE => ?_)
            refine z_nmi hE (fun v15 hE => ?_)
            refine lv_aload_n hx hb dX0_isAllowed_36 rfl (lv_at hl 0 rfl) ?_
            refine cg_X0_450_0 C hW (st_0 hS) dX0_isAllowed_37 ?_
            refine lv_icmp_eq (tgt := 51) hx hb dX0_isAllowed_40 (by decide) (fun c16 => ?_) (fun c16 => ?_)
            · have hE := z_t c16 hE
              exact w_51 (fX0_isAllowed_4 N n) ih _ _ _ _ _ hE hW hS hV (lv_sub hl [0, 2] rfl)
            · have hE := z_f c16 hE
              refine lv_aload_n hx hb dX0_isAllowed_43 rfl (lv_at hl 0 rfl) ?_
              refine lv_iload_n hx hb dX0_isAllowed_44 rfl (lv_at hl 2 rfl) ?_
              obtain ⟨r17, u18, hc, hE⟩ := o_bd2_some hE
              refine cc_X0_472 C hW hS hV (st_0 hS) (kX0_isWithin hc) rfl rfl ⟨Nat.le_of_ble_eq_true rfl, Nat.le_of_ble_eq_true rfl⟩ ⟨Nat.le_refl 0, Nat.le_refl 0⟩ dX0_isAllowed_45 hl.1 (Nat.le_of_ble_eq_true rfl) (fun H locs hW hS hV => ?_)
              refine lv_if_eq (tgt := 55) hx hb dX0_isAllowed_48 (by decide) (fun c19 => ?_) (fun c19 => ?_)
              · have hE := z_t c19 hE
                exact w_55 (fX0_isAllowed_4 N n) ih _ _ _ _ _ hE hW hS hV (lv_sub hl [0, 2] rfl)
              · have hE := z_f c19 hE
                exact w_51 (fX0_isAllowed_4 N n) ih _ _ _ _ _ hE hW hS hV (lv_sub hl [0, 2] rfl)
  unfold fX0_isAllowed at hE
  refine lv_iconst (v := (1 : Int32)) hx hb dX0_isAllowed_0 rfl ?_
  refine lv_istore_n (lv' := [(1, .int (1 : Int32)), (0, .ref (h + 0))]) hx hb dX0_isAllowed_1 rfl hl (by decide) rfl (fun ls hl => ?_)
  refine lv_iconst (v := (0 : Int32)) hx hb dX0_isAllowed_2 rfl ?_
  refine lv_istore_n (lv' := [(2, .int (0 : Int32)), (1, .int (1 : Int32)), (0, .ref (h + 0))]) hx hb dX0_isAllowed_3 rfl hl (by decide) rfl (fun ls hl => ?_)
  exact w_4 N _ _ _ _ _ _ hE hW hS hV (lv_sub hl [2, 1, 0] rfl)
theorem cc_X0_479 {a1 : Int32} {r : Int64} {u u1 : CS} {rm : Room} (C : CC p m c cc nL s args D dA RX0) (hW : wc_W D dA h u H) (hS : wc_S u) (hV : va_S (CA h) H0 H locs) (ht : wc_T u 0 = some (.inl 0)) (hM : Met l yX0_woodOf (ws_ yX0_woodOf cX0_woodOf 5 (some .long)) rm (va_Pc [.ref (h + 0), .int a1] (wc_St D dA h u)) (wc_Qr D dA h (some (.long r)) u1) 0 0 (CA h)) (hrc : rm.cells = 0) (hrs : rm.slots = 0) (hR : rm.frames + 1 ≤ R.frames ∧ 8 + (5 + 11) + rm.locals ≤ R.locals) (hf : cells + 0 ≤ R.cells ∧ slots + 0 ≤ R.slots) (d : decode cc pc = .ok (.invokevirtual 479, 3)) (hsz : ls.size = nL) (hro : (rest.map fun v => v.category).sum ≤ 8) (kk : ∀ (H1 : Heap) (locs1 : List Loc), wc_W D dA h u1 H1 → wc_S u1 → va_S (CA h) H0 H1 locs1 → W p l e R s m args below meth c H1 locs1 cells slots Q (F0 m (pc + 3) ls (.long r :: rest))) : W p l e R s m args below meth c H locs cells slots Q (F0 m pc ls (.int a1 :: .ref (h + 0) :: rest)) :=
  wc_call (v := (some (.long r))) (va_runV (As := [.int a1]) (rest := rest) C.1 hM (cwV 1 C.1.2.2.2.2 (lw_V q1449 q1451 qs87 q166 q1452) rfl hrc hrs (by decide +kernel) hR) (wc_preV (q := (RX0, TX0, 27)) C.2 hW hS ht rfl _) rfl rfl hsz rfl (lv_room hro) d hf) hV (fun _ z => z) (fun H1 locs1 a b c0 _ _ => kk H1 locs1 a b c0)
set_option maxHeartbeats 4000000 in
set_option maxRecDepth 100000 in
theorem kX0_woodOf {l : Launch} {D : va_G} {dA : Nat → ClassId} {h N : Nat} {a1 : Int32} {u u1 : CS} {r : Int64} (hE : fX0_woodOf N u a1 = some (r, u1)) : Met l yX0_woodOf (ws_ yX0_woodOf cX0_woodOf 5 (some .long)) ({ frames := 0, cells := 0, slots := 0, locals := 0 }) (va_Pc [.ref (h + 0), .int a1] (wc_St D dA h u)) (wc_Qr D dA h (some (.long r)) u1) 0 0 (CA h) := by
  refine wc_met (own := RX0) (lv := [(0, .ref (h + 0)), (1, .int a1)]) (by decide) rfl rfl rfl ?_
  intro p e s m args below meth c ls C hr hlocks hW hS hV hl
  have hx := C.1.1
  have hb := C.1.2.1
  have w_42 : ∀ (ag5 : CS → Int32 → Int64 → Int32 → Option (Int64 × CS)) (hag5 : (∀ (u : CS) (x1 : Int32) (x2 : Int64) (x4 : Int32) (H : Heap) (locs : List Loc) (ls : Array Slot), ag5 u x1 x2 x4 = some (r, u1) → wc_W D dA h u H → wc_S u → va_S (CA h) s.heap H locs → lv_has ls 5 [(0, .ref (h + 0)), (1, .int x1), (2, .long x2), (4, .int x4)] → W p l e ({ frames := 0, cells := 0, slots := 0, locals := 0 }) s m args below meth c H locs 0 0 (MQ below (wc_Qr D dA h (some (.long r)) u1) args s 0 0 (CA h)) (F0 m 5 ls []))) (u : CS) (x1 : Int32) (x4 : Int32) (y0 : Int64) (y1 : Int64) (H : Heap) (locs : List Loc) (ls : Array Slot), fX0_woodOf_42 N ag5 u x1 x4 y0 y1 = some (r, u1) → wc_W D dA h u H → wc_S u → va_S (CA h) s.heap H locs → lv_has ls 5 [(0, .ref (h + 0)), (1, .int x1), (4, .int x4)] → W p l e ({ frames := 0, cells := 0, slots := 0, locals := 0 }) s m args below meth c H locs 0 0 (MQ below (wc_Qr D dA h (some (.long r)) u1) args s 0 0 (CA h)) (F0 m 42 ls [.long y1, .long y0]) := by
    intro ag5 hag5 u x1 x4 y0 y1 H locs ls hE hW hS hV hl
    unfold fX0_woodOf_42 at hE
    refine lv_ladd hx hb dX0_woodOf_42 ?_
    refine z_nml hE (fun z4 hE => ?_)
    refine lv_lstore_n (lv' := [(2, .long z4), (0, .ref (h + 0)), (1, .int x1), (4, .int x4)]) hx hb dX0_woodOf_43 rfl hl (by decide) rfl (fun ls hl => ?_)
    refine z_iinc (v := (x4 + (1 : Int32))) (lw := (fun y_ => [(4, .int y_), (2, .long z4), (0, .ref (h + 0)), (1, .int x1)])) hx hb dX0_woodOf_44 hl hE (k := 3) rfl rfl (by decide) (fun _ => rfl) (fun z5 ls hE hl => ?_)
    refine lv_goto (tgt := 5) hx hb dX0_woodOf_47 (by decide) ?_
    exact hag5 _ _ _ _ _ _ _ hE hW hS hV (lv_sub hl [2, 3, 1, 0] rfl)
  have w_5 : ∀ (n : Nat) (u : CS) (x1 : Int32) (x2 : Int64) (x4 : Int32) (H : Heap) (locs : List Loc) (ls : Array Slot), fX0_woodOf_5 N n u x1 x2 x4 = some (r, u1) → wc_W D dA h u H → wc_S u → va_S (CA h) s.heap H locs → lv_has ls 5 [(0, .ref (h + 0)), (1, .int x1), (2, .long x2), (4, .int x4)] → W p l e ({ frames := 0, cells := 0, slots := 0, locals := 0 }) s m args below meth c H locs 0 0 (MQ below (wc_Qr D dA h (some (.long r)) u1) args s 0 0 (CA h)) (F0 m 5 ls []) := by
    intro n
    induction n with
    | zero =>
      intro u x1 x2 x4 H locs ls hE hW hS hV hl
      cases (show (none : Option (Int64 × CS)) = some (r, u1) from hE)
    | succ n ih =>
      intro u x1 x2 x4 H locs ls hE hW hS hV hl
      rw [fX0_woodOf_5] at hE
      refine lv_iload hx hb dX0_woodOf_5 (lv_at hl 3 rfl) ?_
      refine lv_aload_n hx hb dX0_woodOf_7 rfl (lv_at hl 0 rfl) ?_
      refine cg_X0_453_0 C hW (st_0 hS) dX0_woodOf_8 ?_
      refine lv_icmp_ge (tgt := 50) hx hb dX0_woodOf_11 (by decide) (fun c6 => ?_) (fun c6 => ?_)
      · have hE := z_t c6 hE
        refine lv_lload_n hx hb dX0_woodOf_50 rfl (lv_at hl 2 rfl) ?_
        exact wc_lret C hr hlocks hW hS hV hE dX0_woodOf_51
      · have hE := z_f c6 hE
        refine lv_lload_n hx hb dX0_woodOf_14 rfl (lv_at hl 2 rfl) ?_
        refine lv_aload_n hx hb dX0_woodOf_15 rfl (lv_at hl 0 rfl) ?_
        refine cgs_X0_88_0 C hW (st_0 hS) (sp_0_choice hS) dX0_woodOf_16 ?_
        refine lv_iload hx hb dX0_woodOf_19 (lv_at hl 3 rfl) ?_
        refine wc_ldi C hW (st_0_choice hS) hE dX0_woodOf_21 (fun hE => ?_)
        refine z_nmi hE (fun v7 hE => ?_)
        refine lv_iload_n hx hb dX0_woodOf_22 rfl (lv_at hl 1 rfl) ?_
        refine lv_icmp_ne (tgt := 41) hx hb dX0_woodOf_23 (by decide) (fun c8 => ?_) (fun c8 => ?_)
        · have hE := z_f c8 hE
          refine lv_lconst (v := (0 : Int64)) hx hb dX0_woodOf_41 rfl ?_
          exact w_42 (fX0_woodOf_5 N n) ih _ _ _ _ _ _ _ _ hE hW hS hV (lv_sub hl [0, 1, 3] rfl)
        · have hE := z_t c8 hE
          refine lv_aload_n hx hb dX0_woodOf_26 rfl (lv_at hl 0 rfl) ?_
          refine cgs_X0_79_0 C hW (st_0 hS) (sp_0_woodThen hS) dX0_woodOf_27 ?_
          refine lv_iconst (v := (4 : Int32)) hx hb dX0_woodOf_30 rfl ?_
          refine lv_iload hx hb dX0_woodOf_31 (lv_at hl 3 rfl) ?_
          refine lv_imul hx hb dX0_woodOf_33 ?_
          refine lv_iload_n hx hb dX0_woodOf_34 rfl (lv_at hl 1 rfl) ?_
          refine lv_iadd hx hb dX0_woodOf_35 ?_
          refine wc_ldi C hW (st_0_woodThen hS) hE dX0_woodOf_36 (fun hE => ?_)
          refine z_nmi hE (fun v9 hE => ?_)
          refine lv_i2l hx hb dX0_woodOf_37 rfl ?_
          refine lv_goto (tgt := 42) hx hb dX0_woodOf_38 (by decide) ?_
          exact w_42 (fX0_woodOf_5 N n) ih _ _ _ _ _ _ _ _ hE hW hS hV (lv_sub hl [0, 1, 3] rfl)
  unfold fX0_woodOf at hE
  refine lv_lconst (v := (0 : Int64)) hx hb dX0_woodOf_0 rfl ?_
  refine lv_lstore_n (lv' := [(2, .long (0 : Int64)), (0, .ref (h + 0)), (1, .int a1)]) hx hb dX0_woodOf_1 rfl hl (by decide) rfl (fun ls hl => ?_)
  refine lv_iconst (v := (0 : Int32)) hx hb dX0_woodOf_2 rfl ?_
  refine lv_istore (lv' := [(4, .int (0 : Int32)), (2, .long (0 : Int64)), (0, .ref (h + 0)), (1, .int a1)]) hx hb dX0_woodOf_3 hl (by decide) rfl (fun ls hl => ?_)
  exact w_5 N _ _ _ _ _ _ _ hE hW hS hV (lv_sub hl [2, 3, 1, 0] rfl)
theorem cc_X0_490 {r : Int64} {u u1 : CS} {rm : Room} (C : CC p m c cc nL s args D dA RX0) (hW : wc_W D dA h u H) (hS : wc_S u) (hV : va_S (CA h) H0 H locs) (ht : wc_T u 0 = some (.inl 0)) (hM : Met l yX0_leastOf (ws_ yX0_leastOf cX0_leastOf 4 (some .long)) rm (va_Pc [.ref (h + 0)] (wc_St D dA h u)) (wc_Qr D dA h (some (.long r)) u1) 0 0 (CA h)) (hrc : rm.cells = 0) (hrs : rm.slots = 0) (hR : rm.frames + 1 ≤ R.frames ∧ 8 + (4 + 11) + rm.locals ≤ R.locals) (hf : cells + 0 ≤ R.cells ∧ slots + 0 ≤ R.slots) (d : decode cc pc = .ok (.invokevirtual 490, 3)) (hsz : ls.size = nL) (hro : (rest.map fun v => v.category).sum ≤ 8) (kk : ∀ (H1 : Heap) (locs1 : List Loc), wc_W D dA h u1 H1 → wc_S u1 → va_S (CA h) H0 H1 locs1 → W p l e R s m args below meth c H1 locs1 cells slots Q (F0 m (pc + 3) ls (.long r :: rest))) : W p l e R s m args below meth c H locs cells slots Q (F0 m pc ls (.ref (h + 0) :: rest)) :=
  wc_call (v := (some (.long r))) (va_runV (As := []) (rest := rest) C.1 hM (cwV 0 C.1.2.2.2.2 (lw_V q1444 q1446 qs86 q166 q1447) rfl hrc hrs (by decide +kernel) hR) (wc_preV (q := (RX0, TX0, 27)) C.2 hW hS ht rfl _) rfl rfl hsz rfl (lv_room hro) d hf) hV (fun _ z => z) (fun H1 locs1 a b c0 _ _ => kk H1 locs1 a b c0)
set_option maxHeartbeats 4000000 in
set_option maxRecDepth 100000 in
theorem kX0_leastOf {l : Launch} {D : va_G} {dA : Nat → ClassId} {h N : Nat} {u u1 : CS} {r : Int64} (hE : fX0_leastOf N u = some (r, u1)) : Met l yX0_leastOf (ws_ yX0_leastOf cX0_leastOf 4 (some .long)) ({ frames := 1, cells := 0, slots := 0, locals := 24 }) (va_Pc [.ref (h + 0)] (wc_St D dA h u)) (wc_Qr D dA h (some (.long r)) u1) 0 0 (CA h) := by
  refine wc_met (own := RX0) (lv := [(0, .ref (h + 0))]) (by decide) rfl rfl rfl ?_
  intro p e s m args below meth c ls C hr hlocks hW hS hV hl
  have hx := C.1.1
  have hb := C.1.2.1
  have w_6 : ∀ (n : Nat) (u : CS) (x1 : Int64) (x3 : Int32) (H : Heap) (locs : List Loc) (ls : Array Slot), fX0_leastOf_6 N n u x1 x3 = some (r, u1) → wc_W D dA h u H → wc_S u → va_S (CA h) s.heap H locs → lv_has ls 4 [(0, .ref (h + 0)), (1, .long x1), (3, .int x3)] → W p l e ({ frames := 1, cells := 0, slots := 0, locals := 24 }) s m args below meth c H locs 0 0 (MQ below (wc_Qr D dA h (some (.long r)) u1) args s 0 0 (CA h)) (F0 m 6 ls []) := by
    intro n
    induction n with
    | zero =>
      intro u x1 x3 H locs ls hE hW hS hV hl
      cases (show (none : Option (Int64 × CS)) = some (r, u1) from hE)
    | succ n ih =>
      intro u x1 x3 H locs ls hE hW hS hV hl
      rw [fX0_leastOf_6] at hE
      refine lv_iload_n hx hb dX0_leastOf_6 rfl (lv_at hl 2 rfl) ?_
      refine lv_aload_n hx hb dX0_leastOf_7 rfl (lv_at hl 0 rfl) ?_
      refine cg_X0_450_0 C hW (st_0 hS) dX0_leastOf_8 ?_
      refine lv_icmp_ge (tgt := 30) hx hb dX0_leastOf_11 (by decide) (fun c4 => ?_) (fun c4 => ?_)
      · have hE := z_t c4 hE
        refine lv_lload_n hx hb dX0_leastOf_30 rfl (lv_at hl 1 rfl) ?_
        exact wc_lret C hr hlocks hW hS hV hE dX0_leastOf_31
      · have hE := z_f c4 hE
        refine lv_lload_n hx hb dX0_leastOf_14 rfl (lv_at hl 1 rfl) ?_
        refine lv_aload_n hx hb dX0_leastOf_15 rfl (lv_at hl 0 rfl) ?_
        refine lv_iload_n hx hb dX0_leastOf_16 rfl (lv_at hl 2 rfl) ?_
        obtain ⟨r5, u6, hc, hE⟩ := o_bd2_some hE
        refine cc_X0_479 C hW hS hV (st_0 hS) (kX0_woodOf hc) rfl rfl ⟨Nat.le_of_ble_eq_true rfl, Nat.le_of_ble_eq_true rfl⟩ ⟨Nat.le_refl 0, Nat.le_refl 0⟩ dX0_leastOf_17 hl.1 (Nat.le_of_ble_eq_true rfl) (fun H locs hW hS hV => ?_)
        refine va_mmin_long hx hb (C.1.2.2.1.trans hl.1.symm) C.1.2.2.2.1 (C.1.2.2.2.2 _ q830) (C.1.2.2.2.2 _ q831) (C.1.2.2.2.2 _ q169) (C.1.2.2.2.2 _ q832) (Nat.le_of_ble_eq_true rfl) (by first | exact Nat.le_of_ble_eq_true rfl | (simp [wc_cat, Value.category])) (Nat.le_refl 0) (Nat.le_refl 0) dX0_leastOf_20 ?_
        refine z_nml hE (fun z7 hE => ?_)
        refine lv_lstore_n (lv' := [(1, .long z7), (0, .ref (h + 0)), (3, .int x3)]) hx hb dX0_leastOf_23 rfl hl (by decide) rfl (fun ls hl => ?_)
        refine z_iinc (v := (x3 + (1 : Int32))) (lw := (fun y_ => [(3, .int y_), (1, .long z7), (0, .ref (h + 0))])) hx hb dX0_leastOf_24 hl hE (k := 2) rfl rfl (by decide) (fun _ => rfl) (fun z8 ls hE hl => ?_)
        refine lv_goto (tgt := 6) hx hb dX0_leastOf_27 (by decide) ?_
        exact ih _ _ _ _ _ _ hE hW hS hV (lv_sub hl [2, 1, 0] rfl)
  unfold fX0_leastOf at hE
  refine lv_ldc2 (v := (9223372036854775807 : Int64)) hx hb C.1.2.2.2.1 (C.1.2.2.2.2 _ q1448) dX0_leastOf_0 ?_
  refine lv_lstore_n (lv' := [(1, .long (9223372036854775807 : Int64)), (0, .ref (h + 0))]) hx hb dX0_leastOf_3 rfl hl (by decide) rfl (fun ls hl => ?_)
  refine lv_iconst (v := (0 : Int32)) hx hb dX0_leastOf_4 rfl ?_
  refine lv_istore_n (lv' := [(3, .int (0 : Int32)), (1, .long (9223372036854775807 : Int64)), (0, .ref (h + 0))]) hx hb dX0_leastOf_5 rfl hl (by decide) rfl (fun ls hl => ?_)
  exact w_6 N _ _ _ _ _ _ hE hW hS hV (lv_sub hl [2, 1, 0] rfl)
theorem cc_X0_494 {r : Int64} {u u1 : CS} {rm : Room} (C : CC p m c cc nL s args D dA RX0) (hW : wc_W D dA h u H) (hS : wc_S u) (hV : va_S (CA h) H0 H locs) (ht : wc_T u 0 = some (.inl 0)) (hM : Met l yX0_allOf (ws_ yX0_allOf cX0_allOf 4 (some .long)) rm (va_Pc [.ref (h + 0)] (wc_St D dA h u)) (wc_Qr D dA h (some (.long r)) u1) 0 0 (CA h)) (hrc : rm.cells = 0) (hrs : rm.slots = 0) (hR : rm.frames + 1 ≤ R.frames ∧ 8 + (4 + 11) + rm.locals ≤ R.locals) (hf : cells + 0 ≤ R.cells ∧ slots + 0 ≤ R.slots) (d : decode cc pc = .ok (.invokevirtual 494, 3)) (hsz : ls.size = nL) (hro : (rest.map fun v => v.category).sum ≤ 8) (kk : ∀ (H1 : Heap) (locs1 : List Loc), wc_W D dA h u1 H1 → wc_S u1 → va_S (CA h) H0 H1 locs1 → W p l e R s m args below meth c H1 locs1 cells slots Q (F0 m (pc + 3) ls (.long r :: rest))) : W p l e R s m args below meth c H locs cells slots Q (F0 m pc ls (.ref (h + 0) :: rest)) :=
  wc_call (v := (some (.long r))) (va_runV (As := []) (rest := rest) C.1 hM (cwV 0 C.1.2.2.2.2 (lw_V q1453 q1455 qs88 q166 q1456) rfl hrc hrs (by decide +kernel) hR) (wc_preV (q := (RX0, TX0, 27)) C.2 hW hS ht rfl _) rfl rfl hsz rfl (lv_room hro) d hf) hV (fun _ z => z) (fun H1 locs1 a b c0 _ _ => kk H1 locs1 a b c0)
set_option maxHeartbeats 4000000 in
set_option maxRecDepth 100000 in
theorem kX0_allOf {l : Launch} {D : va_G} {dA : Nat → ClassId} {h N : Nat} {u u1 : CS} {r : Int64} (hE : fX0_allOf N u = some (r, u1)) : Met l yX0_allOf (ws_ yX0_allOf cX0_allOf 4 (some .long)) ({ frames := 1, cells := 0, slots := 0, locals := 24 }) (va_Pc [.ref (h + 0)] (wc_St D dA h u)) (wc_Qr D dA h (some (.long r)) u1) 0 0 (CA h) := by
  refine wc_met (own := RX0) (lv := [(0, .ref (h + 0))]) (by decide) rfl rfl rfl ?_
  intro p e s m args below meth c ls C hr hlocks hW hS hV hl
  have hx := C.1.1
  have hb := C.1.2.1
  have w_4 : ∀ (n : Nat) (u : CS) (x1 : Int64) (x3 : Int32) (H : Heap) (locs : List Loc) (ls : Array Slot), fX0_allOf_4 N n u x1 x3 = some (r, u1) → wc_W D dA h u H → wc_S u → va_S (CA h) s.heap H locs → lv_has ls 4 [(0, .ref (h + 0)), (1, .long x1), (3, .int x3)] → W p l e ({ frames := 1, cells := 0, slots := 0, locals := 24 }) s m args below meth c H locs 0 0 (MQ below (wc_Qr D dA h (some (.long r)) u1) args s 0 0 (CA h)) (F0 m 4 ls []) := by
    intro n
    induction n with
    | zero =>
      intro u x1 x3 H locs ls hE hW hS hV hl
      cases (show (none : Option (Int64 × CS)) = some (r, u1) from hE)
    | succ n ih =>
      intro u x1 x3 H locs ls hE hW hS hV hl
      rw [fX0_allOf_4] at hE
      refine lv_iload_n hx hb dX0_allOf_4 rfl (lv_at hl 2 rfl) ?_
      refine lv_aload_n hx hb dX0_allOf_5 rfl (lv_at hl 0 rfl) ?_
      refine cg_X0_450_0 C hW (st_0 hS) dX0_allOf_6 ?_
      refine lv_icmp_ge (tgt := 26) hx hb dX0_allOf_9 (by decide) (fun c4 => ?_) (fun c4 => ?_)
      · have hE := z_t c4 hE
        refine lv_lload_n hx hb dX0_allOf_26 rfl (lv_at hl 1 rfl) ?_
        exact wc_lret C hr hlocks hW hS hV hE dX0_allOf_27
      · have hE := z_f c4 hE
        refine lv_lload_n hx hb dX0_allOf_12 rfl (lv_at hl 1 rfl) ?_
        refine lv_aload_n hx hb dX0_allOf_13 rfl (lv_at hl 0 rfl) ?_
        refine lv_iload_n hx hb dX0_allOf_14 rfl (lv_at hl 2 rfl) ?_
        obtain ⟨r5, u6, hc, hE⟩ := o_bd2_some hE
        refine cc_X0_479 C hW hS hV (st_0 hS) (kX0_woodOf hc) rfl rfl ⟨Nat.le_of_ble_eq_true rfl, Nat.le_of_ble_eq_true rfl⟩ ⟨Nat.le_refl 0, Nat.le_refl 0⟩ dX0_allOf_15 hl.1 (Nat.le_of_ble_eq_true rfl) (fun H locs hW hS hV => ?_)
        refine lv_ladd hx hb dX0_allOf_18 ?_
        refine z_nml hE (fun z7 hE => ?_)
        refine lv_lstore_n (lv' := [(1, .long z7), (0, .ref (h + 0)), (3, .int x3)]) hx hb dX0_allOf_19 rfl hl (by decide) rfl (fun ls hl => ?_)
        refine z_iinc (v := (x3 + (1 : Int32))) (lw := (fun y_ => [(3, .int y_), (1, .long z7), (0, .ref (h + 0))])) hx hb dX0_allOf_20 hl hE (k := 2) rfl rfl (by decide) (fun _ => rfl) (fun z8 ls hE hl => ?_)
        refine lv_goto (tgt := 4) hx hb dX0_allOf_23 (by decide) ?_
        exact ih _ _ _ _ _ _ hE hW hS hV (lv_sub hl [2, 1, 0] rfl)
  unfold fX0_allOf at hE
  refine lv_lconst (v := (0 : Int64)) hx hb dX0_allOf_0 rfl ?_
  refine lv_lstore_n (lv' := [(1, .long (0 : Int64)), (0, .ref (h + 0))]) hx hb dX0_allOf_1 rfl hl (by decide) rfl (fun ls hl => ?_)
  refine lv_iconst (v := (0 : Int32)) hx hb dX0_allOf_2 rfl ?_
  refine lv_istore_n (lv' := [(3, .int (0 : Int32)), (1, .long (0 : Int64)), (0, .ref (h + 0))]) hx hb dX0_allOf_3 rfl hl (by decide) rfl (fun ls hl => ?_)
  exact w_4 N _ _ _ _ _ _ hE hW hS hV (lv_sub hl [2, 1, 0] rfl)
theorem cc_X0_501 {r : Int32} {u u1 : CS} {rm : Room} (C : CC p m c cc nL s args D dA RX0) (hW : wc_W D dA h u H) (hS : wc_S u) (hV : va_S (CA h) H0 H locs) (ht : wc_T u 0 = some (.inl 0)) (hM : Met l yX0_movedOf (ws_ yX0_movedOf cX0_movedOf 5 (some .int)) rm (va_Pc [.ref (h + 0)] (wc_St D dA h u)) (wc_Qr D dA h (some (.int r)) u1) 0 0 (CA h)) (hrc : rm.cells = 0) (hrs : rm.slots = 0) (hR : rm.frames + 1 ≤ R.frames ∧ 8 + (5 + 11) + rm.locals ≤ R.locals) (hf : cells + 0 ≤ R.cells ∧ slots + 0 ≤ R.slots) (d : decode cc pc = .ok (.invokevirtual 501, 3)) (hsz : ls.size = nL) (hro : (rest.map fun v => v.category).sum ≤ 8) (kk : ∀ (H1 : Heap) (locs1 : List Loc), wc_W D dA h u1 H1 → wc_S u1 → va_S (CA h) H0 H1 locs1 → W p l e R s m args below meth c H1 locs1 cells slots Q (F0 m (pc + 3) ls (.int r :: rest))) : W p l e R s m args below meth c H locs cells slots Q (F0 m pc ls (.ref (h + 0) :: rest)) :=
  wc_call (v := (some (.int r))) (va_runV (As := []) (rest := rest) C.1 hM (cwV 0 C.1.2.2.2.2 (lw_V q1457 q1459 qs89 q166 q1460) rfl hrc hrs (by decide +kernel) hR) (wc_preV (q := (RX0, TX0, 27)) C.2 hW hS ht rfl _) rfl rfl hsz rfl (lv_room hro) d hf) hV (fun _ z => z) (fun H1 locs1 a b c0 _ _ => kk H1 locs1 a b c0)
set_option maxHeartbeats 4000000 in
set_option maxRecDepth 100000 in
theorem kX0_movedOf {l : Launch} {D : va_G} {dA : Nat → ClassId} {h N : Nat} {u u1 : CS} {r : Int32} (hE : fX0_movedOf N u = some (r, u1)) : Met l yX0_movedOf (ws_ yX0_movedOf cX0_movedOf 5 (some .int)) ({ frames := 0, cells := 0, slots := 0, locals := 0 }) (va_Pc [.ref (h + 0)] (wc_St D dA h u)) (wc_Qr D dA h (some (.int r)) u1) 0 0 (CA h) := by
  refine wc_met (own := RX0) (lv := [(0, .ref (h + 0))]) (by decide) rfl rfl rfl ?_
  intro p e s m args below meth c ls C hr hlocks hW hS hV hl
  have hx := C.1.1
  have hb := C.1.2.1
  have w_72 : ∀ (ag4 : CS → Int32 → Int32 → Option (Int32 × CS)) (hag4 : (∀ (u : CS) (x1 : Int32) (x2 : Int32) (H : Heap) (locs : List Loc) (ls : Array Slot), ag4 u x1 x2 = some (r, u1) → wc_W D dA h u H → wc_S u → va_S (CA h) s.heap H locs → lv_has ls 5 [(0, .ref (h + 0)), (1, .int x1), (2, .int x2)] → W p l e ({ frames := 0, cells := 0, slots := 0, locals := 0 }) s m args below meth c H locs 0 0 (MQ below (wc_Qr D dA h (some (.int r)) u1) args s 0 0 (CA h)) (F0 m 4 ls []))) (u : CS) (x2 : Int32) (y0 : Int32) (y1 : Int32) (H : Heap) (locs : List Loc) (ls : Array Slot), fX0_movedOf_72 N ag4 u x2 y0 y1 = some (r, u1) → wc_W D dA h u H → wc_S u → va_S (CA h) s.heap H locs → lv_has ls 5 [(0, .ref (h + 0)), (2, .int x2)] → W p l e ({ frames := 0, cells := 0, slots := 0, locals := 0 }) s m args below meth c H locs 0 0 (MQ below (wc_Qr D dA h (some (.int r)) u1) args s 0 0 (CA h)) (F0 m 72 ls [.int y1, .int y0]) := by
    intro ag4 hag4 u x2 y0 y1 H locs ls hE hW hS hV hl
    unfold fX0_movedOf_72 at hE
    refine lv_iadd hx hb dX0_movedOf_72 ?_
    refine z_nmi hE (fun z6 hE => ?_)
    refine lv_istore_n (lv' := [(1, .int z6), (0, .ref (h + 0)), (2, .int x2)]) hx hb dX0_movedOf_73 rfl hl (by decide) rfl (fun ls hl => ?_)
    refine z_iinc (v := (x2 + (1 : Int32))) (lw := (fun y_ => [(2, .int y_), (1, .int z6), (0, .ref (h + 0))])) hx hb dX0_movedOf_74 hl hE (k := 2) rfl rfl (by decide) (fun _ => rfl) (fun z7 ls hE hl => ?_)
    refine lv_goto (tgt := 4) hx hb dX0_movedOf_77 (by decide) ?_
    exact hag4 _ _ _ _ _ _ hE hW hS hV (lv_sub hl [2, 1, 0] rfl)
  have w_67 : ∀ (ag4 : CS → Int32 → Int32 → Option (Int32 × CS)) (hag4 : (∀ (u : CS) (x1 : Int32) (x2 : Int32) (H : Heap) (locs : List Loc) (ls : Array Slot), ag4 u x1 x2 = some (r, u1) → wc_W D dA h u H → wc_S u → va_S (CA h) s.heap H locs → lv_has ls 5 [(0, .ref (h + 0)), (1, .int x1), (2, .int x2)] → W p l e ({ frames := 0, cells := 0, slots := 0, locals := 0 }) s m args below meth c H locs 0 0 (MQ below (wc_Qr D dA h (some (.int r)) u1) args s 0 0 (CA h)) (F0 m 4 ls []))) (u : CS) (x2 : Int32) (y0 : Int32) (H : Heap) (locs : List Loc) (ls : Array Slot), fX0_movedOf_67 N ag4 u x2 y0 = some (r, u1) → wc_W D dA h u H → wc_S u → va_S (CA h) s.heap H locs → lv_has ls 5 [(0, .ref (h + 0)), (2, .int x2)] → W p l e ({ frames := 0, cells := 0, slots := 0, locals := 0 }) s m args below meth c H locs 0 0 (MQ below (wc_Qr D dA h (some (.int r)) u1) args s 0 0 (CA h)) (F0 m 67 ls [.int y0]) := by
    intro ag4 hag4 u x2 y0 H locs ls hE hW hS hV hl
    unfold fX0_movedOf_67 at hE
    refine lv_iconst (v := (1 : Int32)) hx hb dX0_movedOf_67 rfl ?_
    refine lv_goto (tgt := 72) hx hb dX0_movedOf_68 (by decide) ?_
    exact w_72 ag4 hag4 _ _ _ _ _ _ _ hE hW hS hV (lv_sub hl [0, 1] rfl)
  have w_42 : ∀ (ag4 : CS → Int32 → Int32 → Option (Int32 × CS)) (hag4 : (∀ (u : CS) (x1 : Int32) (x2 : Int32) (H : Heap) (locs : List Loc) (ls : Array Slot), ag4 u x1 x2 = some (r, u1) → wc_W D dA h u H → wc_S u → va_S (CA h) s.heap H locs → lv_has ls 5 [(0, .ref (h + 0)), (1, .int x1), (2, .int x2)] → W p l e ({ frames := 0, cells := 0, slots := 0, locals := 0 }) s m args below meth c H locs 0 0 (MQ below (wc_Qr D dA h (some (.int r)) u1) args s 0 0 (CA h)) (F0 m 4 ls []))) (u : CS) (x1 : Int32) (x2 : Int32) (x3 : Int32) (y0 : Int32) (H : Heap) (locs : List Loc) (ls : Array Slot), fX0_movedOf_42 N ag4 u x1 x2 x3 y0 = some (r, u1) → wc_W D dA h u H → wc_S u → va_S (CA h) s.heap H locs → lv_has ls 5 [(0, .ref (h + 0)), (1, .int x1), (2, .int x2), (3, .int x3)] → W p l e ({ frames := 0, cells := 0, slots := 0, locals := 0 }) s m args below meth c H locs 0 0 (MQ below (wc_Qr D dA h (some (.int r)) u1) args s 0 0 (CA h)) (F0 m 42 ls [.int y0]) := by
    intro ag4 hag4 u x1 x2 x3 y0 H locs ls hE hW hS hV hl
    unfold fX0_movedOf_42 at hE
    refine lv_istore (lv' := [(4, .int y0), (0, .ref (h + 0)), (1, .int x1), (2, .int x2), (3, .int x3)]) hx hb dX0_movedOf_42 hl (by decide) rfl (fun ls hl => ?_)
    refine lv_iload_n hx hb dX0_movedOf_44 rfl (lv_at hl 2 rfl) ?_
    refine lv_aload_n hx hb dX0_movedOf_45 rfl (lv_at hl 1 rfl) ?_
    refine cg_X0_483_0 C hW (st_0 hS) dX0_movedOf_46 ?_
    refine lv_iload_n hx hb dX0_movedOf_49 rfl (lv_at hl 4 rfl) ?_
    refine lv_ishr hx hb dX0_movedOf_50 ?_
    refine lv_iconst (v := (1 : Int32)) hx hb dX0_movedOf_51 rfl ?_
    refine lv_iand hx hb dX0_movedOf_52 ?_
    refine lv_if_eq (tgt := 67) hx hb dX0_movedOf_53 (by decide) (fun c8 => ?_) (fun c8 => ?_)
    · have hE := z_t c8 hE
      exact w_67 ag4 hag4 _ _ _ _ _ _ hE hW hS hV (lv_sub hl [1, 3] rfl)
    · have hE := z_f c8 hE
      refine lv_aload_n hx hb dX0_movedOf_56 rfl (lv_at hl 1 rfl) ?_
      refine cgs_X0_94_0 C hW (st_0 hS) (sp_0_keptTen hS) dX0_movedOf_57 ?_
      refine lv_iload_n hx hb dX0_movedOf_60 rfl (lv_at hl 4 rfl) ?_
      refine wc_ldi C hW (st_0_keptTen hS) hE dX0_movedOf_61 (fun hE => ?_)
      refine z_nmi hE (fun v9 hE => ?_)
      refine lv_iload hx hb dX0_movedOf_62 (lv_at hl 0 rfl) ?_
      refine lv_icmp_eq (tgt := 71) hx hb dX0_movedOf_64 (by decide) (fun c10 => ?_) (fun c10 => ?_)
      · have hE := z_t c10 hE
        refine lv_iconst (v := (0 : Int32)) hx hb dX0_movedOf_71 rfl ?_
        exact w_72 ag4 hag4 _ _ _ _ _ _ _ hE hW hS hV (lv_sub hl [1, 3] rfl)
      · have hE := z_f c10 hE
        exact w_67 ag4 hag4 _ _ _ _ _ _ hE hW hS hV (lv_sub hl [1, 3] rfl)
  have w_4 : ∀ (n : Nat) (u : CS) (x1 : Int32) (x2 : Int32) (H : Heap) (locs : List Loc) (ls : Array Slot), fX0_movedOf_4 N n u x1 x2 = some (r, u1) → wc_W D dA h u H → wc_S u → va_S (CA h) s.heap H locs → lv_has ls 5 [(0, .ref (h + 0)), (1, .int x1), (2, .int x2)] → W p l e ({ frames := 0, cells := 0, slots := 0, locals := 0 }) s m args below meth c H locs 0 0 (MQ below (wc_Qr D dA h (some (.int r)) u1) args s 0 0 (CA h)) (F0 m 4 ls []) := by
    intro n
    induction n with
    | zero =>
      intro u x1 x2 H locs ls hE hW hS hV hl
      cases (show (none : Option (Int32 × CS)) = some (r, u1) from hE)
    | succ n ih =>
      intro u x1 x2 H locs ls hE hW hS hV hl
      rw [fX0_movedOf_4] at hE
      refine lv_iload_n hx hb dX0_movedOf_4 rfl (lv_at hl 2 rfl) ?_
      refine lv_aload_n hx hb dX0_movedOf_5 rfl (lv_at hl 0 rfl) ?_
      refine cg_X0_453_0 C hW (st_0 hS) dX0_movedOf_6 ?_
      refine lv_icmp_ge (tgt := 80) hx hb dX0_movedOf_9 (by decide) (fun c11 => ?_) (fun c11 => ?_)
      · have hE := z_t c11 hE
        refine lv_iload_n hx hb dX0_movedOf_80 rfl (lv_at hl 1 rfl) ?_
        exact wc_iret C hr hlocks hW hS hV hE dX0_movedOf_81
      · have hE := z_f c11 hE
        refine lv_aload_n hx hb dX0_movedOf_12 rfl (lv_at hl 0 rfl) ?_
        refine cgs_X0_72_0 C hW (st_0 hS) (sp_0_members hS) dX0_movedOf_13 ?_
        refine lv_iload_n hx hb dX0_movedOf_16 rfl (lv_at hl 2 rfl) ?_
        refine wc_ldi C hW (st_0_members hS) hE dX0_movedOf_17 (fun hE => ?_)
        refine z_nmi hE (fun v12 hE => ?_)
        refine lv_istore_n (lv' := [(3, .int v12), (0, .ref (h + 0)), (1, .int x1), (2, .int x2)]) hx hb dX0_movedOf_18 rfl hl (by decide) rfl (fun ls hl => ?_)
        refine lv_aload_n hx hb dX0_movedOf_19 rfl (lv_at hl 1 rfl) ?_
        refine cgs_X0_88_0 C hW (st_0 hS) (sp_0_choice hS) dX0_movedOf_20 ?_
        refine lv_iload_n hx hb dX0_movedOf_23 rfl (lv_at hl 3 rfl) ?_
        refine wc_ldi C hW (st_0_choice hS) hE dX0_movedOf_24 (fun hE => ?_)
        refine z_nmi hE (fun v13 hE => ?_)
        refine lv_aload_n hx hb dX0_movedOf_25 rfl (lv_at hl 1 rfl) ?_
        refine cg_X0_450_0 C hW (st_0 hS) dX0_movedOf_26 ?_
        refine lv_icmp_ne (tgt := 36) hx hb dX0_movedOf_29 (by decide) (fun c14 => ?_) (fun c14 => ?_)
        · have hE := z_f c14 hE
          refine lv_aload_n hx hb dX0_movedOf_36 rfl (lv_at hl 1 rfl) ?_
          refine cgs_X0_88_0 C hW (st_0 hS) (sp_0_choice hS) dX0_movedOf_37 ?_
          refine lv_iload_n hx hb dX0_movedOf_40 rfl (lv_at hl 3 rfl) ?_
          refine wc_ldi C hW (st_0_choice hS) hE dX0_movedOf_41 (fun hE => ?_)
          refine z_nmi hE (fun v15 hE => ?_)
          exact w_42 (fX0_movedOf_4 N n) ih _ _ _ _ _ _ _ _ hE hW hS hV (lv_sub hl [1, 2, 3, 0] rfl)
        · have hE := z_t c14 hE
          refine lv_iconst (v := (-1 : Int32)) hx hb dX0_movedOf_32 rfl ?_
          refine lv_goto (tgt := 42) hx hb dX0_movedOf_33 (by decide) ?_
          exact w_42 (fX0_movedOf_4 N n) ih _ _ _ _ _ _ _ _ hE hW hS hV (lv_sub hl [1, 2, 3, 0] rfl)
  unfold fX0_movedOf at hE
  refine lv_iconst (v := (0 : Int32)) hx hb dX0_movedOf_0 rfl ?_
  refine lv_istore_n (lv' := [(1, .int (0 : Int32)), (0, .ref (h + 0))]) hx hb dX0_movedOf_1 rfl hl (by decide) rfl (fun ls hl => ?_)
  refine lv_iconst (v := (0 : Int32)) hx hb dX0_movedOf_2 rfl ?_
  refine lv_istore_n (lv' := [(2, .int (0 : Int32)), (1, .int (0 : Int32)), (0, .ref (h + 0))]) hx hb dX0_movedOf_3 rfl hl (by decide) rfl (fun ls hl => ?_)
  exact w_4 N _ _ _ _ _ _ hE hW hS hV (lv_sub hl [2, 1, 0] rfl)
end CG5
