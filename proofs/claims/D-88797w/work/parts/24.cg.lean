section CG6
variable {p : Program} {l : Launch} {e : Env} {R : Room} {s : State} {m : MethodId} {args : Array Value} {below : List Frame} {meth : Method} {c : Code} {H : Heap} {locs : List Loc} {cells slots : Nat} {Q : State → Prop} {cc : ByteArray} {nL pc : Nat} {ls : Array Slot} {rest : List Value} {D : va_G} {dA : Nat → ClassId} {h : Nat} {H0 : Heap}
theorem cc_X0_523 {u u1 : CS} {rm : Room} (C : CC p m c cc nL s args D dA RX0) (hW : wc_W D dA h u H) (hS : wc_S u) (hV : va_S (CA h) H0 H locs) (ht : wc_T u 0 = some (.inl 0)) (hM : Met l yX0_judgeRow (ws_ yX0_judgeRow cX0_judgeRow 7 none) rm (va_Pc [.ref (h + 0)] (wc_St D dA h u)) (wc_Qr D dA h none u1) 0 0 (CA h)) (hrc : rm.cells = 0) (hrs : rm.slots = 0) (hR : rm.frames + 1 ≤ R.frames ∧ 8 + (7 + 11) + rm.locals ≤ R.locals) (hf : cells + 0 ≤ R.cells ∧ slots + 0 ≤ R.slots) (d : decode cc pc = .ok (.invokevirtual 523, 3)) (hsz : ls.size = nL) (hro : (rest.map fun v => v.category).sum ≤ 8) (kk : ∀ (H1 : Heap) (locs1 : List Loc), wc_W D dA h u1 H1 → wc_S u1 → va_S (CA h) H0 H1 locs1 → W p l e R s m args below meth c H1 locs1 cells slots Q (F0 m (pc + 3) ls (rest))) : W p l e R s m args below meth c H locs cells slots Q (F0 m pc ls (.ref (h + 0) :: rest)) :=
  wc_call (v := none) (va_runV (As := []) (rest := rest) C.1 hM (cwV 0 C.1.2.2.2.2 (lw_V q1427 q1429 qs82 q166 q1430) rfl hrc hrs (by decide +kernel) hR) (wc_preV (q := (RX0, TX0, 27)) C.2 hW hS ht rfl _) rfl rfl hsz rfl (lv_room hro) d hf) hV (fun _ z => z) (fun H1 locs1 a b c0 _ _ => kk H1 locs1 a b c0)
set_option maxHeartbeats 4000000 in
set_option maxRecDepth 100000 in
theorem kX0_judgeRow {l : Launch} {D : va_G} {dA : Nat → ClassId} {h N : Nat} {u u_ : CS} (hE : fX0_judgeRow N u = some u_) : Met l yX0_judgeRow (ws_ yX0_judgeRow cX0_judgeRow 7 none) ({ frames := 2, cells := 0, slots := 0, locals := 64 }) (va_Pc [.ref (h + 0)] (wc_St D dA h u)) (wc_Qr D dA h none u_) 0 0 (CA h) := by
  refine wc_met (own := RX0) (lv := [(0, .ref (h + 0))]) (by decide) rfl rfl rfl ?_
  intro p e s m args below meth c ls C hr hlocks hW hS hV hl
  have hx := C.1.1
  have hb := C.1.2.1
  have w_181 : ∀ (u : CS) (H : Heap) (locs : List Loc) (ls : Array Slot), fX0_judgeRow_181 N u = some u_ → wc_W D dA h u H → wc_S u → va_S (CA h) s.heap H locs → lv_has ls 7 [] → W p l e ({ frames := 2, cells := 0, slots := 0, locals := 64 }) s m args below meth c H locs 0 0 (MQ below (wc_Qr D dA h none u_) args s 0 0 (CA h)) (F0 m 181 ls []) := by
    intro u H locs ls hE hW hS hV hl
    unfold fX0_judgeRow_181 at hE
    exact wc_vret C hr hlocks hW hS hV hE dX0_judgeRow_181
  have w_143 : ∀ (u : CS) (x1 : Int64) (x3 : Int64) (x5 : Int32) (H : Heap) (locs : List Loc) (ls : Array Slot), fX0_judgeRow_143 N u x1 x3 x5 = some u_ → wc_W D dA h u H → wc_S u → va_S (CA h) s.heap H locs → lv_has ls 7 [(0, .ref (h + 0)), (1, .long x1), (3, .long x3), (5, .int x5)] → W p l e ({ frames := 2, cells := 0, slots := 0, locals := 64 }) s m args below meth c H locs 0 0 (MQ below (wc_Qr D dA h none u_) args s 0 0 (CA h)) (F0 m 143 ls []) := by
    intro u x1 x3 x5 H locs ls hE hW hS hV hl
    unfold fX0_judgeRow_143 at hE
    refine lv_aload_n hx hb dX0_judgeRow_143 rfl (lv_at hl 0 rfl) ?_
    refine lv_iconst (v := (1 : Int32)) hx hb dX0_judgeRow_144 rfl ?_
    refine cp_X0_513_0 (J := wc_S) C hW hV (st_0 hS) hS.uI (Or.inr rfl) hE dX0_judgeRow_145 (fun u13 H locs hE hW hS hV => ?_)
    refine lv_aload_n hx hb dX0_judgeRow_148 rfl (lv_at hl 0 rfl) ?_
    refine lv_lload_n hx hb dX0_judgeRow_149 rfl (lv_at hl 1 rfl) ?_
    refine cp_X0_504_0 (J := wc_S) C hW hV (st_0 hS) hS.uL hE dX0_judgeRow_150 (fun u14 H locs hE hW hS hV => ?_)
    refine lv_aload_n hx hb dX0_judgeRow_153 rfl (lv_at hl 0 rfl) ?_
    refine lv_lload_n hx hb dX0_judgeRow_154 rfl (lv_at hl 2 rfl) ?_
    refine cp_X0_507_0 (J := wc_S) C hW hV (st_0 hS) hS.uL hE dX0_judgeRow_155 (fun u15 H locs hE hW hS hV => ?_)
    refine lv_aload_n hx hb dX0_judgeRow_158 rfl (lv_at hl 0 rfl) ?_
    refine lv_iload hx hb dX0_judgeRow_159 (lv_at hl 3 rfl) ?_
    refine cp_X0_510_0 (J := wc_S) C hW hV (st_0 hS) hS.uI hE dX0_judgeRow_161 (fun u16 H locs hE hW hS hV => ?_)
    refine lv_aload_n hx hb dX0_judgeRow_164 rfl (lv_at hl 0 rfl) ?_
    refine cgs_X0_88_0 C hW (st_0 hS) (sp_0_choice hS) dX0_judgeRow_165 ?_
    refine lv_iconst (v := (0 : Int32)) hx hb dX0_judgeRow_168 rfl ?_
    refine lv_aload_n hx hb dX0_judgeRow_169 rfl (lv_at hl 0 rfl) ?_
    refine cgs_X0_91_0 C hW (st_0 hS) (sp_0_best hS) dX0_judgeRow_170 ?_
    refine lv_iconst (v := (0 : Int32)) hx hb dX0_judgeRow_173 rfl ?_
    refine lv_aload_n hx hb dX0_judgeRow_174 rfl (lv_at hl 0 rfl) ?_
    refine cg_X0_453_0 C hW (st_0 hS) dX0_judgeRow_175 ?_
    refine wc_copyI (J := wc_S) C hl.1 q1461 q1379 q1378 q190 hW hV (st_0_choice hS) (st_0_best hS) hS.aA hE (Nat.le_of_ble_eq_true rfl) (by first | exact Nat.le_of_ble_eq_true rfl | (simp [wc_cat, Value.category]; decide)) dX0_judgeRow_178 (fun u17 H locs hE hW hS hV => ?_)
    exact w_181 _ _ _ _ hE hW hS hV (lv_sub hl [] rfl)
  have w_131 : ∀ (u : CS) (x1 : Int64) (x3 : Int64) (x5 : Int32) (x6 : Int32) (H : Heap) (locs : List Loc) (ls : Array Slot), fX0_judgeRow_131 N u x1 x3 x5 x6 = some u_ → wc_W D dA h u H → wc_S u → va_S (CA h) s.heap H locs → lv_has ls 7 [(0, .ref (h + 0)), (1, .long x1), (3, .long x3), (5, .int x5), (6, .int x6)] → W p l e ({ frames := 2, cells := 0, slots := 0, locals := 64 }) s m args below meth c H locs 0 0 (MQ below (wc_Qr D dA h none u_) args s 0 0 (CA h)) (F0 m 131 ls []) := by
    intro u x1 x3 x5 x6 H locs ls hE hW hS hV hl
    unfold fX0_judgeRow_131 at hE
    refine lv_aload_n hx hb dX0_judgeRow_131 rfl (lv_at hl 0 rfl) ?_
    refine cg_X0_513_0 C hW (st_0 hS) dX0_judgeRow_132 ?_
    refine lv_if_eq (tgt := 181) hx hb dX0_judgeRow_135 (by decide) (fun c18 => ?_) (fun c18 => ?_)
    · have hE := z_t c18 hE
      exact w_181 _ _ _ _ hE hW hS hV (lv_sub hl [] rfl)
    · have hE := z_f c18 hE
      refine lv_iload hx hb dX0_judgeRow_138 (lv_at hl 4 rfl) ?_
      refine lv_if_eq (tgt := 181) hx hb dX0_judgeRow_140 (by decide) (fun c19 => ?_) (fun c19 => ?_)
      · have hE := z_t c19 hE
        exact w_181 _ _ _ _ hE hW hS hV (lv_sub hl [] rfl)
      · have hE := z_f c19 hE
        exact w_143 _ _ _ _ _ _ _ hE hW hS hV (lv_sub hl [0, 1, 2, 3] rfl)
  have w_104 : ∀ (u : CS) (x1 : Int64) (x3 : Int64) (x5 : Int32) (y0 : Int32) (H : Heap) (locs : List Loc) (ls : Array Slot), fX0_judgeRow_104 N u x1 x3 x5 y0 = some u_ → wc_W D dA h u H → wc_S u → va_S (CA h) s.heap H locs → lv_has ls 7 [(0, .ref (h + 0)), (1, .long x1), (3, .long x3), (5, .int x5)] → W p l e ({ frames := 2, cells := 0, slots := 0, locals := 64 }) s m args below meth c H locs 0 0 (MQ below (wc_Qr D dA h none u_) args s 0 0 (CA h)) (F0 m 104 ls [.int y0]) := by
    intro u x1 x3 x5 y0 H locs ls hE hW hS hV hl
    unfold fX0_judgeRow_104 at hE
    refine lv_istore (lv' := [(6, .int y0), (0, .ref (h + 0)), (1, .long x1), (3, .long x3), (5, .int x5)]) hx hb dX0_judgeRow_104 hl (by decide) rfl (fun ls hl => ?_)
    refine lv_aload_n hx hb dX0_judgeRow_106 rfl (lv_at hl 1 rfl) ?_
    refine cg_X0_513_0 C hW (st_0 hS) dX0_judgeRow_107 ?_
    refine lv_if_ne (tgt := 131) hx hb dX0_judgeRow_110 (by decide) (fun c20 => ?_) (fun c20 => ?_)
    · have hE := z_f c20 hE
      exact w_131 _ _ _ _ _ _ _ _ hE hW hS hV (lv_sub hl [1, 2, 3, 4, 0] rfl)
    · have hE := z_t c20 hE
      refine lv_aload_n hx hb dX0_judgeRow_113 rfl (lv_at hl 1 rfl) ?_
      refine cg_X0_497_0 C hW (st_0 hS) dX0_judgeRow_114 ?_
      refine lv_lconst (v := (0 : Int64)) hx hb dX0_judgeRow_117 rfl ?_
      refine W.lcmp hx hb dX0_judgeRow_118 ?_
      refine lv_if_lt (tgt := 143) hx hb dX0_judgeRow_119 (by decide) (fun c21 => ?_) (fun c21 => ?_)
      · have hE := z_t c21 hE
        exact w_143 _ _ _ _ _ _ _ hE hW hS hV (lv_sub hl [1, 2, 3, 4] rfl)
      · have hE := z_f c21 hE
        refine lv_lload_n hx hb dX0_judgeRow_122 rfl (lv_at hl 2 rfl) ?_
        refine lv_aload_n hx hb dX0_judgeRow_123 rfl (lv_at hl 1 rfl) ?_
        refine cg_X0_497_0 C hW (st_0 hS) dX0_judgeRow_124 ?_
        refine W.lcmp hx hb dX0_judgeRow_127 ?_
        refine lv_if_ge (tgt := 143) hx hb dX0_judgeRow_128 (by decide) (fun c22 => ?_) (fun c22 => ?_)
        · have hE := z_t c22 hE
          exact w_143 _ _ _ _ _ _ _ hE hW hS hV (lv_sub hl [1, 2, 3, 4] rfl)
        · have hE := z_f c22 hE
          exact w_131 _ _ _ _ _ _ _ _ hE hW hS hV (lv_sub hl [1, 2, 3, 4, 0] rfl)
  have w_103 : ∀ (u : CS) (x1 : Int64) (x3 : Int64) (x5 : Int32) (H : Heap) (locs : List Loc) (ls : Array Slot), fX0_judgeRow_103 N u x1 x3 x5 = some u_ → wc_W D dA h u H → wc_S u → va_S (CA h) s.heap H locs → lv_has ls 7 [(0, .ref (h + 0)), (1, .long x1), (3, .long x3), (5, .int x5)] → W p l e ({ frames := 2, cells := 0, slots := 0, locals := 64 }) s m args below meth c H locs 0 0 (MQ below (wc_Qr D dA h none u_) args s 0 0 (CA h)) (F0 m 103 ls []) := by
    intro u x1 x3 x5 H locs ls hE hW hS hV hl
    unfold fX0_judgeRow_103 at hE
    refine lv_iconst (v := (0 : Int32)) hx hb dX0_judgeRow_103 rfl ?_
    exact w_104 _ _ _ _ _ _ _ _ hE hW hS hV (lv_sub hl [0, 1, 2, 3] rfl)
  have w_73 : ∀ (u : CS) (x1 : Int64) (x3 : Int64) (x5 : Int32) (H : Heap) (locs : List Loc) (ls : Array Slot), fX0_judgeRow_73 N u x1 x3 x5 = some u_ → wc_W D dA h u H → wc_S u → va_S (CA h) s.heap H locs → lv_has ls 7 [(0, .ref (h + 0)), (1, .long x1), (3, .long x3), (5, .int x5)] → W p l e ({ frames := 2, cells := 0, slots := 0, locals := 64 }) s m args below meth c H locs 0 0 (MQ below (wc_Qr D dA h none u_) args s 0 0 (CA h)) (F0 m 73 ls []) := by
    intro u x1 x3 x5 H locs ls hE hW hS hV hl
    unfold fX0_judgeRow_73 at hE
    refine lv_iconst (v := (1 : Int32)) hx hb dX0_judgeRow_73 rfl ?_
    refine lv_goto (tgt := 104) hx hb dX0_judgeRow_74 (by decide) ?_
    exact w_104 _ _ _ _ _ _ _ _ hE hW hS hV (lv_sub hl [0, 1, 2, 3] rfl)
  have w_77 : ∀ (u : CS) (x1 : Int64) (x3 : Int64) (x5 : Int32) (H : Heap) (locs : List Loc) (ls : Array Slot), fX0_judgeRow_77 N u x1 x3 x5 = some u_ → wc_W D dA h u H → wc_S u → va_S (CA h) s.heap H locs → lv_has ls 7 [(0, .ref (h + 0)), (1, .long x1), (3, .long x3), (5, .int x5)] → W p l e ({ frames := 2, cells := 0, slots := 0, locals := 64 }) s m args below meth c H locs 0 0 (MQ below (wc_Qr D dA h none u_) args s 0 0 (CA h)) (F0 m 77 ls []) := by
    intro u x1 x3 x5 H locs ls hE hW hS hV hl
    unfold fX0_judgeRow_77 at hE
    refine lv_iconst (v := (0 : Int32)) hx hb dX0_judgeRow_77 rfl ?_
    refine lv_goto (tgt := 104) hx hb dX0_judgeRow_78 (by decide) ?_
    exact w_104 _ _ _ _ _ _ _ _ hE hW hS hV (lv_sub hl [0, 1, 2, 3] rfl)
  have w_35 : ∀ (u : CS) (x1 : Int64) (x3 : Int64) (y0 : Int32) (H : Heap) (locs : List Loc) (ls : Array Slot), fX0_judgeRow_35 N u x1 x3 y0 = some u_ → wc_W D dA h u H → wc_S u → va_S (CA h) s.heap H locs → lv_has ls 7 [(0, .ref (h + 0)), (1, .long x1), (3, .long x3)] → W p l e ({ frames := 2, cells := 0, slots := 0, locals := 64 }) s m args below meth c H locs 0 0 (MQ below (wc_Qr D dA h none u_) args s 0 0 (CA h)) (F0 m 35 ls [.int y0]) := by
    intro u x1 x3 y0 H locs ls hE hW hS hV hl
    unfold fX0_judgeRow_35 at hE
    refine lv_istore (lv' := [(5, .int y0), (0, .ref (h + 0)), (1, .long x1), (3, .long x3)]) hx hb dX0_judgeRow_35 hl (by decide) rfl (fun ls hl => ?_)
    refine lv_aload_n hx hb dX0_judgeRow_37 rfl (lv_at hl 1 rfl) ?_
    refine cg_X0_497_0 C hW (st_0 hS) dX0_judgeRow_38 ?_
    refine lv_lconst (v := (0 : Int64)) hx hb dX0_judgeRow_41 rfl ?_
    refine W.lcmp hx hb dX0_judgeRow_42 ?_
    refine lv_if_ge (tgt := 81) hx hb dX0_judgeRow_43 (by decide) (fun c23 => ?_) (fun c23 => ?_)
    · have hE := z_t c23 hE
      refine lv_lload_n hx hb dX0_judgeRow_81 rfl (lv_at hl 2 rfl) ?_
      refine lv_aload_n hx hb dX0_judgeRow_82 rfl (lv_at hl 1 rfl) ?_
      refine cg_X0_497_0 C hW (st_0 hS) dX0_judgeRow_83 ?_
      refine W.lcmp hx hb dX0_judgeRow_86 ?_
      refine lv_if_lt (tgt := 103) hx hb dX0_judgeRow_87 (by decide) (fun c24 => ?_) (fun c24 => ?_)
      · have hE := z_t c24 hE
        exact w_103 _ _ _ _ _ _ _ hE hW hS hV (lv_sub hl [1, 2, 3, 0] rfl)
      · have hE := z_f c24 hE
        refine lv_iload hx hb dX0_judgeRow_90 (lv_at hl 0 rfl) ?_
        refine lv_aload_n hx hb dX0_judgeRow_92 rfl (lv_at hl 1 rfl) ?_
        refine cg_X0_510_0 C hW (st_0 hS) dX0_judgeRow_93 ?_
        refine lv_icmp_ge (tgt := 103) hx hb dX0_judgeRow_96 (by decide) (fun c25 => ?_) (fun c25 => ?_)
        · have hE := z_t c25 hE
          exact w_103 _ _ _ _ _ _ _ hE hW hS hV (lv_sub hl [1, 2, 3, 0] rfl)
        · have hE := z_f c25 hE
          refine lv_iconst (v := (1 : Int32)) hx hb dX0_judgeRow_99 rfl ?_
          refine lv_goto (tgt := 104) hx hb dX0_judgeRow_100 (by decide) ?_
          exact w_104 _ _ _ _ _ _ _ _ hE hW hS hV (lv_sub hl [1, 2, 3, 0] rfl)
    · have hE := z_f c23 hE
      refine lv_lload_n hx hb dX0_judgeRow_46 rfl (lv_at hl 2 rfl) ?_
      refine lv_aload_n hx hb dX0_judgeRow_47 rfl (lv_at hl 1 rfl) ?_
      refine cg_X0_504_0 C hW (st_0 hS) dX0_judgeRow_48 ?_
      refine W.lcmp hx hb dX0_judgeRow_51 ?_
      refine lv_if_gt (tgt := 73) hx hb dX0_judgeRow_52 (by decide) (fun c26 => ?_) (fun c26 => ?_)
      · have hE := z_t c26 hE
        exact w_73 _ _ _ _ _ _ _ hE hW hS hV (lv_sub hl [1, 2, 3, 0] rfl)
      · have hE := z_f c26 hE
        refine lv_lload_n hx hb dX0_judgeRow_55 rfl (lv_at hl 2 rfl) ?_
        refine lv_aload_n hx hb dX0_judgeRow_56 rfl (lv_at hl 1 rfl) ?_
        refine cg_X0_504_0 C hW (st_0 hS) dX0_judgeRow_57 ?_
        refine W.lcmp hx hb dX0_judgeRow_60 ?_
        refine lv_if_ne (tgt := 77) hx hb dX0_judgeRow_61 (by decide) (fun c27 => ?_) (fun c27 => ?_)
        · have hE := z_f c27 hE
          exact w_77 _ _ _ _ _ _ _ hE hW hS hV (lv_sub hl [1, 2, 3, 0] rfl)
        · have hE := z_t c27 hE
          refine lv_lload_n hx hb dX0_judgeRow_64 rfl (lv_at hl 3 rfl) ?_
          refine lv_aload_n hx hb dX0_judgeRow_65 rfl (lv_at hl 1 rfl) ?_
          refine cg_X0_507_0 C hW (st_0 hS) dX0_judgeRow_66 ?_
          refine W.lcmp hx hb dX0_judgeRow_69 ?_
          refine lv_if_le (tgt := 77) hx hb dX0_judgeRow_70 (by decide) (fun c28 => ?_) (fun c28 => ?_)
          · have hE := z_t c28 hE
            exact w_77 _ _ _ _ _ _ _ hE hW hS hV (lv_sub hl [1, 2, 3, 0] rfl)
          · have hE := z_f c28 hE
            exact w_73 _ _ _ _ _ _ _ hE hW hS hV (lv_sub hl [1, 2, 3, 0] rfl)
  unfold fX0_judgeRow at hE
  refine lv_aload_n hx hb dX0_judgeRow_0 rfl (lv_at hl 0 rfl) ?_
  obtain ⟨r29, u30, hc, hE⟩ := o_bd2_some hE
  refine cc_X0_486 C hW hS hV (st_0 hS) (kX0_isAllowed hc) rfl rfl ⟨Nat.le_of_ble_eq_true rfl, Nat.le_of_ble_eq_true rfl⟩ ⟨Nat.le_refl 0, Nat.le_refl 0⟩ dX0_judgeRow_1 hl.1 (Nat.le_of_ble_eq_true rfl) (fun H locs hW hS hV => ?_)
  refine lv_if_ne (tgt := 8) hx hb dX0_judgeRow_4 (by decide) (fun c31 => ?_) (fun c31 => ?_)
  · have hE := z_f c31 hE
    refine lv_aload_n hx hb dX0_judgeRow_8 rfl (lv_at hl 0 rfl) ?_
    obtain ⟨r32, u33, hc, hE⟩ := o_bd2_some hE
    refine cc_X0_490 C hW hS hV (st_0 hS) (kX0_leastOf hc) rfl rfl ⟨Nat.le_of_ble_eq_true rfl, Nat.le_of_ble_eq_true rfl⟩ ⟨Nat.le_refl 0, Nat.le_refl 0⟩ dX0_judgeRow_9 hl.1 (Nat.le_of_ble_eq_true rfl) (fun H locs hW hS hV => ?_)
    refine lv_lstore_n (lv' := [(1, .long r32), (0, .ref (h + 0))]) hx hb dX0_judgeRow_12 rfl hl (by decide) rfl (fun ls hl => ?_)
    refine lv_aload_n hx hb dX0_judgeRow_13 rfl (lv_at hl 1 rfl) ?_
    obtain ⟨r34, u35, hc, hE⟩ := o_bd2_some hE
    refine cc_X0_494 C hW hS hV (st_0 hS) (kX0_allOf hc) rfl rfl ⟨Nat.le_of_ble_eq_true rfl, Nat.le_of_ble_eq_true rfl⟩ ⟨Nat.le_refl 0, Nat.le_refl 0⟩ dX0_judgeRow_14 hl.1 (Nat.le_of_ble_eq_true rfl) (fun H locs hW hS hV => ?_)
    refine lv_lstore_n (lv' := [(3, .long r34), (1, .long r32), (0, .ref (h + 0))]) hx hb dX0_judgeRow_17 rfl hl (by decide) rfl (fun ls hl => ?_)
    refine lv_aload_n hx hb dX0_judgeRow_18 rfl (lv_at hl 2 rfl) ?_
    refine cg_X0_497_0 C hW (st_0 hS) dX0_judgeRow_19 ?_
    refine lv_lconst (v := (0 : Int64)) hx hb dX0_judgeRow_22 rfl ?_
    refine W.lcmp hx hb dX0_judgeRow_23 ?_
    refine lv_if_ge (tgt := 31) hx hb dX0_judgeRow_24 (by decide) (fun c36 => ?_) (fun c36 => ?_)
    · have hE := z_t c36 hE
      refine lv_aload_n hx hb dX0_judgeRow_31 rfl (lv_at hl 2 rfl) ?_
      obtain ⟨r37, u38, hc, hE⟩ := o_bd2_some hE
      refine cc_X0_501 C hW hS hV (st_0 hS) (kX0_movedOf hc) rfl rfl ⟨Nat.le_of_ble_eq_true rfl, Nat.le_of_ble_eq_true rfl⟩ ⟨Nat.le_refl 0, Nat.le_refl 0⟩ dX0_judgeRow_32 hl.1 (Nat.le_of_ble_eq_true rfl) (fun H locs hW hS hV => ?_)
      exact w_35 _ _ _ _ _ _ _ hE hW hS hV (lv_sub hl [2, 1, 0] rfl)
    · have hE := z_f c36 hE
      refine lv_iconst (v := (0 : Int32)) hx hb dX0_judgeRow_27 rfl ?_
      refine lv_goto (tgt := 35) hx hb dX0_judgeRow_28 (by decide) ?_
      exact w_35 _ _ _ _ _ _ _ hE hW hS hV (lv_sub hl [2, 1, 0] rfl)
  · have hE := z_t c31 hE
    exact wc_vret C hr hlocks hW hS hV hE dX0_judgeRow_7
def pt_rm (d : Nat) : Room := { frames := 3 + d, cells := 0, slots := 0, locals := 90 + 40 * d }
def pt_hyp (l : Launch) (D : va_G) (dA : Nat → ClassId) (h d : Nat) (g : CS → Int32 → Option CS) : Prop := ∀ (u u1 : CS) (a1 : Int32), g u a1 = some u1 → Met l yX0_tryAll (ws_ yX0_tryAll cX0_tryAll 3 none) (pt_rm d) (va_Pc [.ref (h + 0), .int a1] (wc_St D dA h u)) (wc_Qr D dA h none u1) 0 0 (CA h)
theorem pt_rr {d : Nat} : (pt_rm d).frames + 1 ≤ (pt_rm (d + 1)).frames ∧ 8 + (3 + 11) + (pt_rm d).locals ≤ (pt_rm (d + 1)).locals := by
  constructor
  · show 3 + d + 1 ≤ 3 + (d + 1)
    omega
  · show 8 + (3 + 11) + (90 + 40 * d) ≤ 90 + 40 * (d + 1)
    omega
theorem pt_r {d f x : Nat} (h1 : f + 1 ≤ 3) (h2 : x ≤ 90) : f + 1 ≤ (pt_rm (d + 1)).frames ∧ x ≤ (pt_rm (d + 1)).locals := by
  constructor
  · show _ ≤ 3 + (d + 1)
    omega
  · show _ ≤ 90 + 40 * (d + 1)
    omega
theorem cc_X0_526 {a1 : Int32} {u u1 : CS} {rm : Room} (C : CC p m c cc nL s args D dA RX0) (hW : wc_W D dA h u H) (hS : wc_S u) (hV : va_S (CA h) H0 H locs) (ht : wc_T u 0 = some (.inl 0)) (hM : Met l yX0_tryAll (ws_ yX0_tryAll cX0_tryAll 3 none) rm (va_Pc [.ref (h + 0), .int a1] (wc_St D dA h u)) (wc_Qr D dA h none u1) 0 0 (CA h)) (hrc : rm.cells = 0) (hrs : rm.slots = 0) (hR : rm.frames + 1 ≤ R.frames ∧ 8 + (3 + 11) + rm.locals ≤ R.locals) (hf : cells + 0 ≤ R.cells ∧ slots + 0 ≤ R.slots) (d : decode cc pc = .ok (.invokevirtual 526, 3)) (hsz : ls.size = nL) (hro : (rest.map fun v => v.category).sum ≤ 8) (kk : ∀ (H1 : Heap) (locs1 : List Loc), wc_W D dA h u1 H1 → wc_S u1 → va_S (CA h) H0 H1 locs1 → W p l e R s m args below meth c H1 locs1 cells slots Q (F0 m (pc + 3) ls (rest))) : W p l e R s m args below meth c H locs cells slots Q (F0 m pc ls (.int a1 :: .ref (h + 0) :: rest)) :=
  wc_call (v := none) (va_runV (As := [.int a1]) (rest := rest) C.1 hM (cwV 1 C.1.2.2.2.2 (lw_V q1423 q1425 qs81 q166 q1426) rfl hrc hrs (by decide +kernel) hR) (wc_preV (q := (RX0, TX0, 27)) C.2 hW hS ht rfl _) rfl rfl hsz rfl (lv_room hro) d hf) hV (fun _ z => z) (fun H1 locs1 a b c0 _ _ => kk H1 locs1 a b c0)
set_option maxHeartbeats 4000000 in
set_option maxRecDepth 100000 in
theorem kX0_tryAll_open {l : Launch} {D : va_G} {dA : Nat → ClassId} {h N : Nat} {a1 : Int32} {u u_ : CS} {d : Nat} {g : CS → Int32 → Option CS} (hg : pt_hyp l D dA h d g) (hE : fX0_tryAll N g u a1 = some u_) : Met l yX0_tryAll (ws_ yX0_tryAll cX0_tryAll 3 none) (pt_rm (d + 1)) (va_Pc [.ref (h + 0), .int a1] (wc_St D dA h u)) (wc_Qr D dA h none u_) 0 0 (CA h) := by
  refine wc_met (own := RX0) (lv := [(0, .ref (h + 0)), (1, .int a1)]) (by decide) rfl rfl rfl ?_
  intro p e s m args below meth c ls C hr hlocks hW hS hV hl
  have hx := C.1.1
  have hb := C.1.2.1
  have w_46 : ∀ (ag15 : CS → Int32 → Int32 → Option (CS)) (hag15 : (∀ (u : CS) (x1 : Int32) (x2 : Int32) (H : Heap) (locs : List Loc) (ls : Array Slot), ag15 u x1 x2 = some u_ → wc_W D dA h u H → wc_S u → va_S (CA h) s.heap H locs → lv_has ls 3 [(0, .ref (h + 0)), (1, .int x1), (2, .int x2)] → W p l e (pt_rm (d + 1)) s m args below meth c H locs 0 0 (MQ below (wc_Qr D dA h none u_) args s 0 0 (CA h)) (F0 m 15 ls []))) (u : CS) (x1 : Int32) (x2 : Int32) (H : Heap) (locs : List Loc) (ls : Array Slot), fX0_tryAll_46 N g ag15 u x1 x2 = some u_ → wc_W D dA h u H → wc_S u → va_S (CA h) s.heap H locs → lv_has ls 3 [(0, .ref (h + 0)), (1, .int x1), (2, .int x2)] → W p l e (pt_rm (d + 1)) s m args below meth c H locs 0 0 (MQ below (wc_Qr D dA h none u_) args s 0 0 (CA h)) (F0 m 46 ls []) := by
    intro ag15 hag15 u x1 x2 H locs ls hE hW hS hV hl
    unfold fX0_tryAll_46 at hE
    refine z_iinc (v := (x2 + (1 : Int32))) (lw := (fun y_ => [(2, .int y_), (0, .ref (h + 0)), (1, .int x1)])) hx hb dX0_tryAll_46 hl hE (k := 2) rfl rfl (by decide) (fun _ => rfl) (fun z6 ls hE hl => ?_)
    refine lv_goto (tgt := 15) hx hb dX0_tryAll_49 (by decide) ?_
    exact hag15 _ _ _ _ _ _ hE hW hS hV (lv_sub hl [1, 2, 0] rfl)
  have w_15 : ∀ (n : Nat) (u : CS) (x1 : Int32) (x2 : Int32) (H : Heap) (locs : List Loc) (ls : Array Slot), fX0_tryAll_15 N g n u x1 x2 = some u_ → wc_W D dA h u H → wc_S u → va_S (CA h) s.heap H locs → lv_has ls 3 [(0, .ref (h + 0)), (1, .int x1), (2, .int x2)] → W p l e (pt_rm (d + 1)) s m args below meth c H locs 0 0 (MQ below (wc_Qr D dA h none u_) args s 0 0 (CA h)) (F0 m 15 ls []) := by
    intro n
    induction n with
    | zero =>
      intro u x1 x2 H locs ls hE hW hS hV hl
      cases (show (none : Option (CS)) = some u_ from hE)
    | succ n ih =>
      intro u x1 x2 H locs ls hE hW hS hV hl
      rw [fX0_tryAll_15] at hE
      refine lv_iload_n hx hb dX0_tryAll_15 rfl (lv_at hl 2 rfl) ?_
      refine lv_aload_n hx hb dX0_tryAll_16 rfl (lv_at hl 0 rfl) ?_
      refine cg_X0_450_0 C hW (st_0 hS) dX0_tryAll_17 ?_
      refine lv_icmp_gt (tgt := 52) hx hb dX0_tryAll_20 (by decide) (fun c7 => ?_) (fun c7 => ?_)
      · have hE := z_t c7 hE
        exact wc_vret C hr hlocks hW hS hV hE dX0_tryAll_52
      · have hE := z_f c7 hE
        refine lv_aload_n hx hb dX0_tryAll_23 rfl (lv_at hl 0 rfl) ?_
        refine lv_iload_n hx hb dX0_tryAll_24 rfl (lv_at hl 1 rfl) ?_
        refine lv_iload_n hx hb dX0_tryAll_25 rfl (lv_at hl 2 rfl) ?_
        obtain ⟨r8, u9, hc, hE⟩ := o_bd2_some hE
        refine cc_X0_469 C hW hS hV (st_0 hS) (kX0_fits hc) rfl rfl (pt_r (by decide) (by decide)) ⟨Nat.le_refl 0, Nat.le_refl 0⟩ dX0_tryAll_26 hl.1 (Nat.le_of_ble_eq_true rfl) (fun H locs hW hS hV => ?_)
        refine lv_if_eq (tgt := 46) hx hb dX0_tryAll_29 (by decide) (fun c10 => ?_) (fun c10 => ?_)
        · have hE := z_t c10 hE
          exact w_46 (fX0_tryAll_15 N g n) ih _ _ _ _ _ _ hE hW hS hV (lv_sub hl [0, 1, 2] rfl)
        · have hE := z_f c10 hE
          refine lv_aload_n hx hb dX0_tryAll_32 rfl (lv_at hl 0 rfl) ?_
          refine cgs_X0_88_0 C hW (st_0 hS) (sp_0_choice hS) dX0_tryAll_33 ?_
          refine lv_iload_n hx hb dX0_tryAll_36 rfl (lv_at hl 1 rfl) ?_
          refine lv_iload_n hx hb dX0_tryAll_37 rfl (lv_at hl 2 rfl) ?_
          refine wc_sti (J := wc_S) C hW hV (st_0_choice hS) hS.uA hE dX0_tryAll_38 (fun u11 H locs hE hW hS hV => ?_)
          refine lv_aload_n hx hb dX0_tryAll_39 rfl (lv_at hl 0 rfl) ?_
          refine lv_iload_n hx hb dX0_tryAll_40 rfl (lv_at hl 1 rfl) ?_
          refine lv_iconst (v := (1 : Int32)) hx hb dX0_tryAll_41 rfl ?_
          refine lv_iadd hx hb dX0_tryAll_42 ?_
          obtain ⟨u12, hc, hE⟩ := o_bd_some hE
          refine cc_X0_526 C hW hS hV (st_0 hS) (hg _ _ _ hc) rfl rfl pt_rr ⟨Nat.le_refl 0, Nat.le_refl 0⟩ dX0_tryAll_43 hl.1 (Nat.le_of_ble_eq_true rfl) (fun H locs hW hS hV => ?_)
          exact w_46 (fX0_tryAll_15 N g n) ih _ _ _ _ _ _ hE hW hS hV (lv_sub hl [0, 1, 2] rfl)
  unfold fX0_tryAll at hE
  refine lv_iload_n hx hb dX0_tryAll_0 rfl (lv_at hl 1 rfl) ?_
  refine lv_aload_n hx hb dX0_tryAll_1 rfl (lv_at hl 0 rfl) ?_
  refine cg_X0_453_0 C hW (st_0 hS) dX0_tryAll_2 ?_
  refine lv_icmp_ne (tgt := 13) hx hb dX0_tryAll_5 (by decide) (fun c13 => ?_) (fun c13 => ?_)
  · have hE := z_f c13 hE
    refine lv_iconst (v := (0 : Int32)) hx hb dX0_tryAll_13 rfl ?_
    refine lv_istore_n (lv' := [(2, .int (0 : Int32)), (0, .ref (h + 0)), (1, .int a1)]) hx hb dX0_tryAll_14 rfl hl (by decide) rfl (fun ls hl => ?_)
    exact w_15 N _ _ _ _ _ _ hE hW hS hV (lv_sub hl [1, 2, 0] rfl)
  · have hE := z_t c13 hE
    refine lv_aload_n hx hb dX0_tryAll_8 rfl (lv_at hl 0 rfl) ?_
    obtain ⟨u14, hc, hE⟩ := o_bd_some hE
    refine cc_X0_523 C hW hS hV (st_0 hS) (kX0_judgeRow hc) rfl rfl (pt_r (by decide) (by decide)) ⟨Nat.le_refl 0, Nat.le_refl 0⟩ dX0_tryAll_9 hl.1 (Nat.le_of_ble_eq_true rfl) (fun H locs hW hS hV => ?_)
    exact wc_vret C hr hlocks hW hS hV hE dX0_tryAll_12
theorem pt_all {l : Launch} {D : va_G} {dA : Nat → ClassId} {h N : Nat} : ∀ d : Nat, pt_hyp l D dA h d (ptX N d)
  | 0 => fun u u1 a1 hE => by cases (show (none : Option CS) = some u1 from hE)
  | d + 1 => fun u u1 a1 hE => kX0_tryAll_open (N := N) (pt_all d) hE
theorem cc_X0_538 {a1 : Int32} {a2 : Int32} {a3 : Int64} {u u1 : CS} {rm : Room} (C : CC p m c cc nL s args D dA RX0) (hW : wc_W D dA h u H) (hS : wc_S u) (hV : va_S (CA h) H0 H locs) (ht : wc_T u 0 = some (.inl 0)) (hM : Met l yX0_search (ws_ yX0_search cX0_search 5 none) rm (va_Pc [.ref (h + 0), .int a1, .int a2, .long a3] (wc_St D dA h u)) (wc_Qr D dA h none u1) 0 0 (CA h)) (hrc : rm.cells = 0) (hrs : rm.slots = 0) (hR : rm.frames + 1 ≤ R.frames ∧ 8 + (5 + 11) + rm.locals ≤ R.locals) (hf : cells + 0 ≤ R.cells ∧ slots + 0 ≤ R.slots) (d : decode cc pc = .ok (.invokevirtual 538, 3)) (hsz : ls.size = nL) (hro : (rest.map fun v => v.category).sum ≤ 8) (kk : ∀ (H1 : Heap) (locs1 : List Loc), wc_W D dA h u1 H1 → wc_S u1 → va_S (CA h) H0 H1 locs1 → W p l e R s m args below meth c H1 locs1 cells slots Q (F0 m (pc + 3) ls (rest))) : W p l e R s m args below meth c H locs cells slots Q (F0 m pc ls (.long a3 :: .int a2 :: .int a1 :: .ref (h + 0) :: rest)) :=
  wc_call (v := none) (va_runV (As := [.int a1, .int a2, .long a3]) (rest := rest) C.1 hM (cwV 3 C.1.2.2.2.2 (lw_V q1409 q1411 qs78 q166 q1412) rfl hrc hrs (by decide +kernel) hR) (wc_preV (q := (RX0, TX0, 27)) C.2 hW hS ht rfl _) rfl rfl hsz rfl (lv_room hro) d hf) hV (fun _ z => z) (fun H1 locs1 a b c0 _ _ => kk H1 locs1 a b c0)
set_option maxHeartbeats 4000000 in
set_option maxRecDepth 100000 in
theorem kX0_search {l : Launch} {D : va_G} {dA : Nat → ClassId} {h N : Nat} {a1 : Int32} {a2 : Int32} {a3 : Int64} {u u_ : CS} (hE : fX0_search N u a1 a2 a3 = some u_) : Met l yX0_search (ws_ yX0_search cX0_search 5 none) ({ frames := 207, cells := 0, slots := 0, locals := 6571 }) (va_Pc [.ref (h + 0), .int a1, .int a2, .long a3] (wc_St D dA h u)) (wc_Qr D dA h none u_) 0 0 (CA h) := by
  refine wc_met (own := RX0) (lv := [(0, .ref (h + 0)), (1, .int a1), (2, .int a2), (3, .long a3)]) (by decide) rfl rfl rfl ?_
  intro p e s m args below meth c ls C hr hlocks hW hS hV hl
  have hx := C.1.1
  have hb := C.1.2.1
  unfold fX0_search at hE
  refine lv_aload_n hx hb dX0_search_0 rfl (lv_at hl 0 rfl) ?_
  refine lv_iload_n hx hb dX0_search_1 rfl (lv_at hl 1 rfl) ?_
  refine lv_iload_n hx hb dX0_search_2 rfl (lv_at hl 2 rfl) ?_
  obtain ⟨u5, hc, hE⟩ := o_bd_some hE
  refine cc_X0_529 C hW hS hV (st_0 hS) (kX0_prepare hc) rfl rfl ⟨Nat.le_of_ble_eq_true rfl, Nat.le_of_ble_eq_true rfl⟩ ⟨Nat.le_refl 0, Nat.le_refl 0⟩ dX0_search_3 hl.1 (Nat.le_of_ble_eq_true rfl) (fun H locs hW hS hV => ?_)
  refine lv_aload_n hx hb dX0_search_6 rfl (lv_at hl 0 rfl) ?_
  refine lv_lload_n hx hb dX0_search_7 rfl (lv_at hl 3 rfl) ?_
  refine cp_X0_497_0 (J := wc_S) C hW hV (st_0 hS) hS.uL hE dX0_search_8 (fun u6 H locs hE hW hS hV => ?_)
  refine lv_aload_n hx hb dX0_search_11 rfl (lv_at hl 0 rfl) ?_
  refine lv_iconst (v := (0 : Int32)) hx hb dX0_search_12 rfl ?_
  refine cp_X0_513_0 (J := wc_S) C hW hV (st_0 hS) hS.uI (Or.inl rfl) hE dX0_search_13 (fun u7 H locs hE hW hS hV => ?_)
  refine lv_aload_n hx hb dX0_search_16 rfl (lv_at hl 0 rfl) ?_
  refine lv_iconst (v := (0 : Int32)) hx hb dX0_search_17 rfl ?_
  obtain ⟨u8, hc, hE⟩ := o_bd_some hE
  refine cc_X0_526 C hW hS hV (st_0 hS) (pt_all 16 _ _ _ hc) rfl rfl ⟨Nat.le_of_ble_eq_true rfl, Nat.le_of_ble_eq_true rfl⟩ ⟨Nat.le_refl 0, Nat.le_refl 0⟩ dX0_search_18 hl.1 (Nat.le_of_ble_eq_true rfl) (fun H locs hW hS hV => ?_)
  exact wc_vret C hr hlocks hW hS hV hE dX0_search_21
theorem cc_X0_542 {a1 : Int32} {u u1 : CS} {rm : Room} (C : CC p m c cc nL s args D dA RX0) (hW : wc_W D dA h u H) (hS : wc_S u) (hV : va_S (CA h) H0 H locs) (ht : wc_T u 0 = some (.inl 0)) (hM : Met l yX0_keep (ws_ yX0_keep cX0_keep 3 none) rm (va_Pc [.ref (h + 0), .int a1] (wc_St D dA h u)) (wc_Qr D dA h none u1) 0 0 (CA h)) (hrc : rm.cells = 0) (hrs : rm.slots = 0) (hR : rm.frames + 1 ≤ R.frames ∧ 8 + (3 + 11) + rm.locals ≤ R.locals) (hf : cells + 0 ≤ R.cells ∧ slots + 0 ≤ R.slots) (d : decode cc pc = .ok (.invokevirtual 542, 3)) (hsz : ls.size = nL) (hro : (rest.map fun v => v.category).sum ≤ 8) (kk : ∀ (H1 : Heap) (locs1 : List Loc), wc_W D dA h u1 H1 → wc_S u1 → va_S (CA h) H0 H1 locs1 → W p l e R s m args below meth c H1 locs1 cells slots Q (F0 m (pc + 3) ls (rest))) : W p l e R s m args below meth c H locs cells slots Q (F0 m pc ls (.int a1 :: .ref (h + 0) :: rest)) :=
  wc_call (v := none) (va_runV (As := [.int a1]) (rest := rest) C.1 hM (cwV 1 C.1.2.2.2.2 (lw_V q1462 q1464 qs90 q166 q1465) rfl hrc hrs (by decide +kernel) hR) (wc_preV (q := (RX0, TX0, 27)) C.2 hW hS ht rfl _) rfl rfl hsz rfl (lv_room hro) d hf) hV (fun _ z => z) (fun H1 locs1 a b c0 _ _ => kk H1 locs1 a b c0)
set_option maxHeartbeats 4000000 in
set_option maxRecDepth 100000 in
theorem kX0_keep {l : Launch} {D : va_G} {dA : Nat → ClassId} {h N : Nat} {a1 : Int32} {u u_ : CS} (hE : fX0_keep N u a1 = some u_) : Met l yX0_keep (ws_ yX0_keep cX0_keep 3 none) ({ frames := 0, cells := 0, slots := 0, locals := 0 }) (va_Pc [.ref (h + 0), .int a1] (wc_St D dA h u)) (wc_Qr D dA h none u_) 0 0 (CA h) := by
  refine wc_met (own := RX0) (lv := [(0, .ref (h + 0)), (1, .int a1)]) (by decide) rfl rfl rfl ?_
  intro p e s m args below meth c ls C hr hlocks hW hS hV hl
  have hx := C.1.1
  have hb := C.1.2.1
  have w_48 : ∀ (ag7 : CS → Int32 → Option (CS)) (hag7 : (∀ (u : CS) (x2 : Int32) (H : Heap) (locs : List Loc) (ls : Array Slot), ag7 u x2 = some u_ → wc_W D dA h u H → wc_S u → va_S (CA h) s.heap H locs → lv_has ls 3 [(0, .ref (h + 0)), (2, .int x2)] → W p l e ({ frames := 0, cells := 0, slots := 0, locals := 0 }) s m args below meth c H locs 0 0 (MQ below (wc_Qr D dA h none u_) args s 0 0 (CA h)) (F0 m 7 ls []))) (u : CS) (x2 : Int32) (y1 : Int32) (y2 : Int32) (H : Heap) (locs : List Loc) (ls : Array Slot), fX0_keep_48 N ag7 u x2 y1 y2 = some u_ → wc_W D dA h u H → wc_S u → va_S (CA h) s.heap H locs → lv_has ls 3 [(0, .ref (h + 0)), (2, .int x2)] → W p l e ({ frames := 0, cells := 0, slots := 0, locals := 0 }) s m args below meth c H locs 0 0 (MQ below (wc_Qr D dA h none u_) args s 0 0 (CA h)) (F0 m 48 ls [.int y2, .int y1, .ref (h + 332)]) := by
    intro ag7 hag7 u x2 y1 y2 H locs ls hE hW hS hV hl
    unfold fX0_keep_48 at hE
    refine wc_sti (J := wc_S) C hW hV (st_0_keptTen hS) hS.uA hE dX0_keep_48 (fun u6 H locs hE hW hS hV => ?_)
    refine z_iinc (v := (x2 + (1 : Int32))) (lw := (fun y_ => [(2, .int y_), (0, .ref (h + 0))])) hx hb dX0_keep_49 hl hE (k := 1) rfl rfl (by decide) (fun _ => rfl) (fun z7 ls hE hl => ?_)
    refine lv_goto (tgt := 7) hx hb dX0_keep_52 (by decide) ?_
    exact hag7 _ _ _ _ _ hE hW hS hV (lv_sub hl [1, 0] rfl)
  have w_7 : ∀ (n : Nat) (u : CS) (x2 : Int32) (H : Heap) (locs : List Loc) (ls : Array Slot), fX0_keep_7 N n u x2 = some u_ → wc_W D dA h u H → wc_S u → va_S (CA h) s.heap H locs → lv_has ls 3 [(0, .ref (h + 0)), (2, .int x2)] → W p l e ({ frames := 0, cells := 0, slots := 0, locals := 0 }) s m args below meth c H locs 0 0 (MQ below (wc_Qr D dA h none u_) args s 0 0 (CA h)) (F0 m 7 ls []) := by
    intro n
    induction n with
    | zero =>
      intro u x2 H locs ls hE hW hS hV hl
      cases (show (none : Option (CS)) = some u_ from hE)
    | succ n ih =>
      intro u x2 H locs ls hE hW hS hV hl
      rw [fX0_keep_7] at hE
      refine lv_iload_n hx hb dX0_keep_7 rfl (lv_at hl 1 rfl) ?_
      refine lv_aload_n hx hb dX0_keep_8 rfl (lv_at hl 0 rfl) ?_
      refine cg_X0_453_0 C hW (st_0 hS) dX0_keep_9 ?_
      refine lv_icmp_ge (tgt := 55) hx hb dX0_keep_12 (by decide) (fun c8 => ?_) (fun c8 => ?_)
      · have hE := z_t c8 hE
        exact wc_vret C hr hlocks hW hS hV hE dX0_keep_55
      · have hE := z_f c8 hE
        refine lv_aload_n hx hb dX0_keep_15 rfl (lv_at hl 0 rfl) ?_
        refine cgs_X0_94_0 C hW (st_0 hS) (sp_0_keptTen hS) dX0_keep_16 ?_
        refine lv_aload_n hx hb dX0_keep_19 rfl (lv_at hl 0 rfl) ?_
        refine cgs_X0_72_0 C hW (st_0 hS) (sp_0_members hS) dX0_keep_20 ?_
        refine lv_iload_n hx hb dX0_keep_23 rfl (lv_at hl 1 rfl) ?_
        refine wc_ldi C hW (st_0_members hS) hE dX0_keep_24 (fun hE => ?_)
        refine z_nmi hE (fun v9 hE => ?_)
        refine lv_aload_n hx hb dX0_keep_25 rfl (lv_at hl 0 rfl) ?_
        refine cgs_X0_91_0 C hW (st_0 hS) (sp_0_best hS) dX0_keep_26 ?_
        refine lv_iload_n hx hb dX0_keep_29 rfl (lv_at hl 1 rfl) ?_
        refine wc_ldi C hW (st_0_best hS) hE dX0_keep_30 (fun hE => ?_)
        refine z_nmi hE (fun v10 hE => ?_)
        refine lv_aload_n hx hb dX0_keep_31 rfl (lv_at hl 0 rfl) ?_
        refine cg_X0_450_0 C hW (st_0 hS) dX0_keep_32 ?_
        refine lv_icmp_ne (tgt := 42) hx hb dX0_keep_35 (by decide) (fun c11 => ?_) (fun c11 => ?_)
        · have hE := z_f c11 hE
          refine lv_aload_n hx hb dX0_keep_42 rfl (lv_at hl 0 rfl) ?_
          refine cgs_X0_91_0 C hW (st_0 hS) (sp_0_best hS) dX0_keep_43 ?_
          refine lv_iload_n hx hb dX0_keep_46 rfl (lv_at hl 1 rfl) ?_
          refine wc_ldi C hW (st_0_best hS) hE dX0_keep_47 (fun hE => ?_)
          refine z_nmi hE (fun v12 hE => ?_)
          exact w_48 (fX0_keep_7 N n) ih _ _ _ _ _ _ _ hE hW hS hV (lv_sub hl [0, 1] rfl)
        · have hE := z_t c11 hE
          refine lv_iconst (v := (-1 : Int32)) hx hb dX0_keep_38 rfl ?_
          refine lv_goto (tgt := 48) hx hb dX0_keep_39 (by decide) ?_
          exact w_48 (fX0_keep_7 N n) ih _ _ _ _ _ _ _ hE hW hS hV (lv_sub hl [0, 1] rfl)
  unfold fX0_keep at hE
  refine lv_aload_n hx hb dX0_keep_0 rfl (lv_at hl 0 rfl) ?_
  refine lv_iload_n hx hb dX0_keep_1 rfl (lv_at hl 1 rfl) ?_
  refine cp_X0_483_0 (J := wc_S) C hW hV (st_0 hS) hS.uI hE dX0_keep_2 (fun u13 H locs hE hW hS hV => ?_)
  refine lv_iconst (v := (0 : Int32)) hx hb dX0_keep_5 rfl ?_
  refine lv_istore_n (lv' := [(2, .int (0 : Int32)), (0, .ref (h + 0)), (1, .int a1)]) hx hb dX0_keep_6 rfl hl (by decide) rfl (fun ls hl => ?_)
  exact w_7 N _ _ _ _ _ hE hW hS hV (lv_sub hl [1, 0] rfl)
set_option maxHeartbeats 4000000 in
set_option maxRecDepth 100000 in
theorem kX0_planned {l : Launch} {D : va_G} {dA : Nat → ClassId} {h N : Nat} {a1 : Int32} {u u1 : CS} {r : Int32} (hE : fX0_planned N u a1 = some (r, u1)) : Met l yX0_planned (ws_ yX0_planned cX0_planned 2 (some .int)) ({ frames := 1, cells := 0, slots := 0, locals := 21 }) (va_Pc [.ref (h + 0), .int a1] (wc_St D dA h u)) (wc_Qr D dA h (some (.int r)) u1) 0 0 (CA h) := by
  refine wc_met (own := RX0) (lv := [(0, .ref (h + 0)), (1, .int a1)]) (by decide) rfl rfl rfl ?_
  intro p e s m args below meth c ls C hr hlocks hW hS hV hl
  have hx := C.1.1
  have hb := C.1.2.1
  have w_49 : ∀ (u : CS) (y0 : Int32) (H : Heap) (locs : List Loc) (ls : Array Slot), fX0_planned_49 N u y0 = some (r, u1) → wc_W D dA h u H → wc_S u → va_S (CA h) s.heap H locs → lv_has ls 2 [] → W p l e ({ frames := 1, cells := 0, slots := 0, locals := 21 }) s m args below meth c H locs 0 0 (MQ below (wc_Qr D dA h (some (.int r)) u1) args s 0 0 (CA h)) (F0 m 49 ls [.int y0]) := by
    intro u y0 H locs ls hE hW hS hV hl
    unfold fX0_planned_49 at hE
    exact wc_iret C hr hlocks hW hS hV hE dX0_planned_49
  have w_43 : ∀ (u : CS) (H : Heap) (locs : List Loc) (ls : Array Slot), fX0_planned_43 N u = some (r, u1) → wc_W D dA h u H → wc_S u → va_S (CA h) s.heap H locs → lv_has ls 2 [(0, .ref (h + 0))] → W p l e ({ frames := 1, cells := 0, slots := 0, locals := 21 }) s m args below meth c H locs 0 0 (MQ below (wc_Qr D dA h (some (.int r)) u1) args s 0 0 (CA h)) (F0 m 43 ls []) := by
    intro u H locs ls hE hW hS hV hl
    unfold fX0_planned_43 at hE
    refine lv_aload_n hx hb dX0_planned_43 rfl (lv_at hl 0 rfl) ?_
    refine lv_bipush (v := (-3 : Int32)) hx hb dX0_planned_44 rfl ?_
    obtain ⟨r8, u9, hc, hE⟩ := o_bd2_some hE
    refine cc_X0_118 C hW hS hV (st_0 hS) (kX0_refuse hc) rfl rfl ⟨Nat.le_of_ble_eq_true rfl, Nat.le_of_ble_eq_true rfl⟩ ⟨Nat.le_refl 0, Nat.le_refl 0⟩ dX0_planned_46 hl.1 (Nat.le_of_ble_eq_true rfl) (fun H locs hW hS hV => ?_)
    exact w_49 _ _ _ _ _ hE hW hS hV (lv_sub hl [] rfl)
  unfold fX0_planned at hE
  refine lv_aload_n hx hb dX0_planned_0 rfl (lv_at hl 0 rfl) ?_
  refine cg_X0_483_0 C hW (st_0 hS) dX0_planned_1 ?_
  refine lv_if_ne (tgt := 14) hx hb dX0_planned_4 (by decide) (fun c10 => ?_) (fun c10 => ?_)
  · have hE := z_f c10 hE
    refine lv_aload_n hx hb dX0_planned_14 rfl (lv_at hl 0 rfl) ?_
    refine lv_iload_n hx hb dX0_planned_15 rfl (lv_at hl 1 rfl) ?_
    obtain ⟨r11, u12, hc, hE⟩ := o_bd2_some hE
    refine cc_X0_148 C hW hS hV (st_0 hS) (kX0_isStand hc) rfl rfl ⟨Nat.le_of_ble_eq_true rfl, Nat.le_of_ble_eq_true rfl⟩ ⟨Nat.le_refl 0, Nat.le_refl 0⟩ dX0_planned_16 hl.1 (Nat.le_of_ble_eq_true rfl) (fun H locs hW hS hV => ?_)
    refine lv_if_eq (tgt := 43) hx hb dX0_planned_19 (by decide) (fun c13 => ?_) (fun c13 => ?_)
    · have hE := z_t c13 hE
      exact w_43 _ _ _ _ hE hW hS hV (lv_sub hl [0] rfl)
    · have hE := z_f c13 hE
      refine lv_aload_n hx hb dX0_planned_22 rfl (lv_at hl 0 rfl) ?_
      refine cg_X0_483_0 C hW (st_0 hS) dX0_planned_23 ?_
      refine lv_iload_n hx hb dX0_planned_26 rfl (lv_at hl 1 rfl) ?_
      refine lv_ishr hx hb dX0_planned_27 ?_
      refine lv_iconst (v := (1 : Int32)) hx hb dX0_planned_28 rfl ?_
      refine lv_iand hx hb dX0_planned_29 ?_
      refine lv_iconst (v := (1 : Int32)) hx hb dX0_planned_30 rfl ?_
      refine lv_icmp_ne (tgt := 43) hx hb dX0_planned_31 (by decide) (fun c14 => ?_) (fun c14 => ?_)
      · have hE := z_f c14 hE
        exact w_43 _ _ _ _ hE hW hS hV (lv_sub hl [0] rfl)
      · have hE := z_t c14 hE
        refine lv_aload_n hx hb dX0_planned_34 rfl (lv_at hl 0 rfl) ?_
        refine cgs_X0_94_0 C hW (st_0 hS) (sp_0_keptTen hS) dX0_planned_35 ?_
        refine lv_iload_n hx hb dX0_planned_38 rfl (lv_at hl 1 rfl) ?_
        refine wc_ldi C hW (st_0_keptTen hS) hE dX0_planned_39 (fun hE => ?_)
        refine z_nmi hE (fun v15 hE => ?_)
        refine lv_goto (tgt := 49) hx hb dX0_planned_40 (by decide) ?_
        exact w_49 _ _ _ _ _ hE hW hS hV (lv_sub hl [] rfl)
  · have hE := z_t c10 hE
    refine lv_aload_n hx hb dX0_planned_7 rfl (lv_at hl 0 rfl) ?_
    refine lv_bipush (v := (-2 : Int32)) hx hb dX0_planned_8 rfl ?_
    obtain ⟨r16, u17, hc, hE⟩ := o_bd2_some hE
    refine cc_X0_118 C hW hS hV (st_0 hS) (kX0_refuse hc) rfl rfl ⟨Nat.le_of_ble_eq_true rfl, Nat.le_of_ble_eq_true rfl⟩ ⟨Nat.le_refl 0, Nat.le_refl 0⟩ dX0_planned_10 hl.1 (Nat.le_of_ble_eq_true rfl) (fun H locs hW hS hV => ?_)
    exact wc_iret C hr hlocks hW hS hV hE dX0_planned_13
theorem cc_X1_145 {F : Nat} {G1 : Nat} {u u1 : CS} {rm : Room} (C : CC p m c cc nL s args D dA RX1) (hW : wc_W D dA h u H) (hS : wc_S u) (hV : va_S (CA h) H0 H locs) (ht : wc_T u F = some (.inl 1)) (hM : Met l yX1_asStands (ws_ yX1_asStands cX1_asStands 2 none) rm (va_Pc [.ref (h + F), .ref (h + G1)] (wc_St D dA h u)) (wc_Qr D dA h none u1) 0 0 (CA h)) (hrc : rm.cells = 0) (hrs : rm.slots = 0) (hR : rm.frames + 1 ≤ R.frames ∧ 8 + (2 + 11) + rm.locals ≤ R.locals) (hf : cells + 0 ≤ R.cells ∧ slots + 0 ≤ R.slots) (d : decode cc pc = .ok (.invokevirtual 145, 3)) (hsz : ls.size = nL) (hro : (rest.map fun v => v.category).sum ≤ 8) (kk : ∀ (H1 : Heap) (locs1 : List Loc), wc_W D dA h u1 H1 → wc_S u1 → va_S (CA h) H0 H1 locs1 → W p l e R s m args below meth c H1 locs1 cells slots Q (F0 m (pc + 3) ls (rest))) : W p l e R s m args below meth c H locs cells slots Q (F0 m pc ls (.ref (h + G1) :: .ref (h + F) :: rest)) :=
  wc_call (v := none) (va_runV (As := [.ref (h + G1)]) (rest := rest) C.1 hM (cwV 1 C.1.2.2.2.2 (lw_V q1508 q1510 qs95 q167 q1511) rfl hrc hrs (by decide +kernel) hR) (wc_preV (q := (RX1, TX1, 46)) C.2 hW hS ht rfl _) rfl rfl hsz rfl (lv_room hro) d hf) hV (fun _ z => z) (fun H1 locs1 a b c0 _ _ => kk H1 locs1 a b c0)
set_option maxHeartbeats 4000000 in
set_option maxRecDepth 100000 in
theorem kX1_asStands {l : Launch} {D : va_G} {dA : Nat → ClassId} {h N : Nat} {F : Nat} {G1 : Nat} {u u_ : CS} (hF : wc_F F) (hG1 : wc_F G1) (hE : fX1_asStands N F G1 u = some u_) : Met l yX1_asStands (ws_ yX1_asStands cX1_asStands 2 none) ({ frames := 1, cells := 0, slots := 0, locals := 64 }) (va_Pc [.ref (h + F), .ref (h + G1)] (wc_St D dA h u)) (wc_Qr D dA h none u_) 0 0 (CA h) := by
  refine wc_met (own := RX1) (lv := [(0, .ref (h + F)), (1, .ref (h + G1))]) (by decide) rfl rfl rfl ?_
  intro p e s m args below meth c ls C hr hlocks hW hS hV hl
  have hx := C.1.1
  have hb := C.1.2.1
  unfold fX1_asStands at hE
  refine lv_aload_n hx hb dX1_asStands_0 rfl (lv_at hl 0 rfl) ?_
  refine lv_aload_n hx hb dX1_asStands_1 rfl (lv_at hl 1 rfl) ?_
  refine cg_X1_168_1 C hW (st_F hS hG1) dX1_asStands_2 ?_
  refine cp_X1_168_1 (J := wc_S) C hW hV (st_F hS hF) hS.uI hE dX1_asStands_5 (fun u4 H locs hE hW hS hV => ?_)
  refine lv_aload_n hx hb dX1_asStands_8 rfl (lv_at hl 1 rfl) ?_
  refine cgs_X1_9_1 C hW (st_F hS hG1) (sp_F_blocks hS hG1) dX1_asStands_9 ?_
  refine lv_iconst (v := (0 : Int32)) hx hb dX1_asStands_12 rfl ?_
  refine lv_aload_n hx hb dX1_asStands_13 rfl (lv_at hl 0 rfl) ?_
  refine cgs_X1_9_1 C hW (st_F hS hF) (sp_F_blocks hS hF) dX1_asStands_14 ?_
  refine lv_iconst (v := (0 : Int32)) hx hb dX1_asStands_17 rfl ?_
  refine lv_bipush (v := (24 : Int32)) hx hb dX1_asStands_18 rfl ?_
  refine wc_copyI (J := wc_S) C hl.1 q1377 q1379 q1378 q190 hW hV (st_F_blocks hS hG1) (st_F_blocks hS hF) hS.aA hE (Nat.le_of_ble_eq_true rfl) (by first | exact Nat.le_of_ble_eq_true rfl | (simp [wc_cat, Value.category]; decide)) dX1_asStands_20 (fun u5 H locs hE hW hS hV => ?_)
  refine lv_aload_n hx hb dX1_asStands_23 rfl (lv_at hl 1 rfl) ?_
  refine cgs_X1_15_1 C hW (st_F hS hG1) (sp_F_sites hS hG1) dX1_asStands_24 ?_
  refine lv_iconst (v := (0 : Int32)) hx hb dX1_asStands_27 rfl ?_
  refine lv_aload_n hx hb dX1_asStands_28 rfl (lv_at hl 0 rfl) ?_
  refine cgs_X1_15_1 C hW (st_F hS hF) (sp_F_sites hS hF) dX1_asStands_29 ?_
  refine lv_iconst (v := (0 : Int32)) hx hb dX1_asStands_32 rfl ?_
  refine lv_bipush (v := (24 : Int32)) hx hb dX1_asStands_33 rfl ?_
  refine wc_copyI (J := wc_S) C hl.1 q1377 q1379 q1378 q190 hW hV (st_F_sites hS hG1) (st_F_sites hS hF) hS.aA hE (Nat.le_of_ble_eq_true rfl) (by first | exact Nat.le_of_ble_eq_true rfl | (simp [wc_cat, Value.category]; decide)) dX1_asStands_35 (fun u6 H locs hE hW hS hV => ?_)
  refine lv_aload_n hx hb dX1_asStands_38 rfl (lv_at hl 1 rfl) ?_
  refine cgs_X1_18_1 C hW (st_F hS hG1) (sp_F_kinds hS hG1) dX1_asStands_39 ?_
  refine lv_iconst (v := (0 : Int32)) hx hb dX1_asStands_42 rfl ?_
  refine lv_aload_n hx hb dX1_asStands_43 rfl (lv_at hl 0 rfl) ?_
  refine cgs_X1_18_1 C hW (st_F hS hF) (sp_F_kinds hS hF) dX1_asStands_44 ?_
  refine lv_iconst (v := (0 : Int32)) hx hb dX1_asStands_47 rfl ?_
  refine lv_bipush (v := (24 : Int32)) hx hb dX1_asStands_48 rfl ?_
  refine wc_copyI (J := wc_S) C hl.1 q1377 q1379 q1378 q190 hW hV (st_F_kinds hS hG1) (st_F_kinds hS hF) hS.aA hE (Nat.le_of_ble_eq_true rfl) (by first | exact Nat.le_of_ble_eq_true rfl | (simp [wc_cat, Value.category]; decide)) dX1_asStands_50 (fun u7 H locs hE hW hS hV => ?_)
  refine lv_aload_n hx hb dX1_asStands_53 rfl (lv_at hl 1 rfl) ?_
  refine cgs_X1_21_1 C hW (st_F hS hG1) (sp_F_steeps hS hG1) dX1_asStands_54 ?_
  refine lv_iconst (v := (0 : Int32)) hx hb dX1_asStands_57 rfl ?_
  refine lv_aload_n hx hb dX1_asStands_58 rfl (lv_at hl 0 rfl) ?_
  refine cgs_X1_21_1 C hW (st_F hS hF) (sp_F_steeps hS hF) dX1_asStands_59 ?_
  refine lv_iconst (v := (0 : Int32)) hx hb dX1_asStands_62 rfl ?_
  refine lv_bipush (v := (24 : Int32)) hx hb dX1_asStands_63 rfl ?_
  refine wc_copyI (J := wc_S) C hl.1 q1377 q1379 q1378 q190 hW hV (st_F_steeps hS hG1) (st_F_steeps hS hF) hS.aA hE (Nat.le_of_ble_eq_true rfl) (by first | exact Nat.le_of_ble_eq_true rfl | (simp [wc_cat, Value.category]; decide)) dX1_asStands_65 (fun u8 H locs hE hW hS hV => ?_)
  refine lv_aload_n hx hb dX1_asStands_68 rfl (lv_at hl 1 rfl) ?_
  refine cgs_X1_24_1 C hW (st_F hS hG1) (sp_F_acres hS hG1) dX1_asStands_69 ?_
  refine lv_iconst (v := (0 : Int32)) hx hb dX1_asStands_72 rfl ?_
  refine lv_aload_n hx hb dX1_asStands_73 rfl (lv_at hl 0 rfl) ?_
  refine cgs_X1_24_1 C hW (st_F hS hF) (sp_F_acres hS hF) dX1_asStands_74 ?_
  refine lv_iconst (v := (0 : Int32)) hx hb dX1_asStands_77 rfl ?_
  refine lv_bipush (v := (24 : Int32)) hx hb dX1_asStands_78 rfl ?_
  refine wc_copyI (J := wc_S) C hl.1 q1377 q1379 q1378 q190 hW hV (st_F_acres hS hG1) (st_F_acres hS hF) hS.aA hE (Nat.le_of_ble_eq_true rfl) (by first | exact Nat.le_of_ble_eq_true rfl | (simp [wc_cat, Value.category]; decide)) dX1_asStands_80 (fun u9 H locs hE hW hS hV => ?_)
  refine lv_aload_n hx hb dX1_asStands_83 rfl (lv_at hl 1 rfl) ?_
  refine cgs_X1_27_1 C hW (st_F hS hG1) (sp_F_ages hS hG1) dX1_asStands_84 ?_
  refine lv_iconst (v := (0 : Int32)) hx hb dX1_asStands_87 rfl ?_
  refine lv_aload_n hx hb dX1_asStands_88 rfl (lv_at hl 0 rfl) ?_
  refine cgs_X1_27_1 C hW (st_F hS hF) (sp_F_ages hS hF) dX1_asStands_89 ?_
  refine lv_iconst (v := (0 : Int32)) hx hb dX1_asStands_92 rfl ?_
  refine lv_bipush (v := (24 : Int32)) hx hb dX1_asStands_93 rfl ?_
  refine wc_copyI (J := wc_S) C hl.1 q1377 q1379 q1378 q190 hW hV (st_F_ages hS hG1) (st_F_ages hS hF) hS.aA hE (Nat.le_of_ble_eq_true rfl) (by first | exact Nat.le_of_ble_eq_true rfl | (simp [wc_cat, Value.category]; decide)) dX1_asStands_95 (fun u10 H locs hE hW hS hV => ?_)
  refine lv_aload_n hx hb dX1_asStands_98 rfl (lv_at hl 1 rfl) ?_
  refine cgs_X1_30_1 C hW (st_F hS hG1) (sp_F_fulls hS hG1) dX1_asStands_99 ?_
  refine lv_iconst (v := (0 : Int32)) hx hb dX1_asStands_102 rfl ?_
  refine lv_aload_n hx hb dX1_asStands_103 rfl (lv_at hl 0 rfl) ?_
  refine cgs_X1_30_1 C hW (st_F hS hF) (sp_F_fulls hS hF) dX1_asStands_104 ?_
  refine lv_iconst (v := (0 : Int32)) hx hb dX1_asStands_107 rfl ?_
  refine lv_bipush (v := (24 : Int32)) hx hb dX1_asStands_108 rfl ?_
  refine wc_copyI (J := wc_S) C hl.1 q1377 q1379 q1378 q190 hW hV (st_F_fulls hS hG1) (st_F_fulls hS hF) hS.aA hE (Nat.le_of_ble_eq_true rfl) (by first | exact Nat.le_of_ble_eq_true rfl | (simp [wc_cat, Value.category]; decide)) dX1_asStands_110 (fun u11 H locs hE hW hS hV => ?_)
  refine lv_aload_n hx hb dX1_asStands_113 rfl (lv_at hl 1 rfl) ?_
  refine cgs_X1_33_1 C hW (st_F hS hG1) (sp_F_lying hS hG1) dX1_asStands_114 ?_
  refine lv_iconst (v := (0 : Int32)) hx hb dX1_asStands_117 rfl ?_
  refine lv_aload_n hx hb dX1_asStands_118 rfl (lv_at hl 0 rfl) ?_
  refine cgs_X1_33_1 C hW (st_F hS hF) (sp_F_lying hS hF) dX1_asStands_119 ?_
  refine lv_iconst (v := (0 : Int32)) hx hb dX1_asStands_122 rfl ?_
  refine lv_bipush (v := (24 : Int32)) hx hb dX1_asStands_123 rfl ?_
  refine wc_copyI (J := wc_S) C hl.1 q1377 q1379 q1378 q190 hW hV (st_F_lying hS hG1) (st_F_lying hS hF) hS.aA hE (Nat.le_of_ble_eq_true rfl) (by first | exact Nat.le_of_ble_eq_true rfl | (simp [wc_cat, Value.category]; decide)) dX1_asStands_125 (fun u12 H locs hE hW hS hV => ?_)
  refine lv_aload_n hx hb dX1_asStands_128 rfl (lv_at hl 1 rfl) ?_
  refine cgs_X1_36_1 C hW (st_F hS hG1) (sp_F_bugs hS hG1) dX1_asStands_129 ?_
  refine lv_iconst (v := (0 : Int32)) hx hb dX1_asStands_132 rfl ?_
  refine lv_aload_n hx hb dX1_asStands_133 rfl (lv_at hl 0 rfl) ?_
  refine cgs_X1_36_1 C hW (st_F hS hF) (sp_F_bugs hS hF) dX1_asStands_134 ?_
  refine lv_iconst (v := (0 : Int32)) hx hb dX1_asStands_137 rfl ?_
  refine lv_bipush (v := (24 : Int32)) hx hb dX1_asStands_138 rfl ?_
  refine wc_copyI (J := wc_S) C hl.1 q1377 q1379 q1378 q190 hW hV (st_F_bugs hS hG1) (st_F_bugs hS hF) hS.aA hE (Nat.le_of_ble_eq_true rfl) (by first | exact Nat.le_of_ble_eq_true rfl | (simp [wc_cat, Value.category]; decide)) dX1_asStands_140 (fun u13 H locs hE hW hS hV => ?_)
  refine lv_aload_n hx hb dX1_asStands_143 rfl (lv_at hl 1 rfl) ?_
  refine cgs_X1_39_1 C hW (st_F hS hG1) (sp_F_cutIn hS hG1) dX1_asStands_144 ?_
  refine lv_iconst (v := (0 : Int32)) hx hb dX1_asStands_147 rfl ?_
  refine lv_aload_n hx hb dX1_asStands_148 rfl (lv_at hl 0 rfl) ?_
  refine cgs_X1_39_1 C hW (st_F hS hF) (sp_F_cutIn hS hF) dX1_asStands_149 ?_
  refine lv_iconst (v := (0 : Int32)) hx hb dX1_asStands_152 rfl ?_
  refine lv_bipush (v := (24 : Int32)) hx hb dX1_asStands_153 rfl ?_
  refine wc_copyI (J := wc_S) C hl.1 q1377 q1379 q1378 q190 hW hV (st_F_cutIn hS hG1) (st_F_cutIn hS hF) hS.aA hE (Nat.le_of_ble_eq_true rfl) (by first | exact Nat.le_of_ble_eq_true rfl | (simp [wc_cat, Value.category]; decide)) dX1_asStands_155 (fun u14 H locs hE hW hS hV => ?_)
  refine lv_aload_n hx hb dX1_asStands_158 rfl (lv_at hl 1 rfl) ?_
  refine cgs_X1_42_1 C hW (st_F hS hG1) (sp_F_plantedIn hS hG1) dX1_asStands_159 ?_
  refine lv_iconst (v := (0 : Int32)) hx hb dX1_asStands_162 rfl ?_
  refine lv_aload_n hx hb dX1_asStands_163 rfl (lv_at hl 0 rfl) ?_
  refine cgs_X1_42_1 C hW (st_F hS hF) (sp_F_plantedIn hS hF) dX1_asStands_164 ?_
  refine lv_iconst (v := (0 : Int32)) hx hb dX1_asStands_167 rfl ?_
  refine lv_bipush (v := (24 : Int32)) hx hb dX1_asStands_168 rfl ?_
  refine wc_copyI (J := wc_S) C hl.1 q1377 q1379 q1378 q190 hW hV (st_F_plantedIn hS hG1) (st_F_plantedIn hS hF) hS.aA hE (Nat.le_of_ble_eq_true rfl) (by first | exact Nat.le_of_ble_eq_true rfl | (simp [wc_cat, Value.category]; decide)) dX1_asStands_170 (fun u15 H locs hE hW hS hV => ?_)
  refine lv_aload_n hx hb dX1_asStands_173 rfl (lv_at hl 0 rfl) ?_
  refine lv_aload_n hx hb dX1_asStands_174 rfl (lv_at hl 1 rfl) ?_
  refine cg_X1_171_1 C hW (st_F hS hG1) dX1_asStands_175 ?_
  refine cp_X1_171_1 (J := wc_S) C hW hV (st_F hS hF) hS.uI hE dX1_asStands_178 (fun u16 H locs hE hW hS hV => ?_)
  refine lv_aload_n hx hb dX1_asStands_181 rfl (lv_at hl 1 rfl) ?_
  refine cgs_X1_45_1 C hW (st_F hS hG1) (sp_F_pairA hS hG1) dX1_asStands_182 ?_
  refine lv_iconst (v := (0 : Int32)) hx hb dX1_asStands_185 rfl ?_
  refine lv_aload_n hx hb dX1_asStands_186 rfl (lv_at hl 0 rfl) ?_
  refine cgs_X1_45_1 C hW (st_F hS hF) (sp_F_pairA hS hF) dX1_asStands_187 ?_
  refine lv_iconst (v := (0 : Int32)) hx hb dX1_asStands_190 rfl ?_
  refine lv_bipush (v := (60 : Int32)) hx hb dX1_asStands_191 rfl ?_
  refine wc_copyI (J := wc_S) C hl.1 q1377 q1379 q1378 q190 hW hV (st_F_pairA hS hG1) (st_F_pairA hS hF) hS.aA hE (Nat.le_of_ble_eq_true rfl) (by first | exact Nat.le_of_ble_eq_true rfl | (simp [wc_cat, Value.category]; decide)) dX1_asStands_193 (fun u17 H locs hE hW hS hV => ?_)
  refine lv_aload_n hx hb dX1_asStands_196 rfl (lv_at hl 1 rfl) ?_
  refine cgs_X1_48_1 C hW (st_F hS hG1) (sp_F_pairB hS hG1) dX1_asStands_197 ?_
  refine lv_iconst (v := (0 : Int32)) hx hb dX1_asStands_200 rfl ?_
  refine lv_aload_n hx hb dX1_asStands_201 rfl (lv_at hl 0 rfl) ?_
  refine cgs_X1_48_1 C hW (st_F hS hF) (sp_F_pairB hS hF) dX1_asStands_202 ?_
  refine lv_iconst (v := (0 : Int32)) hx hb dX1_asStands_205 rfl ?_
  refine lv_bipush (v := (60 : Int32)) hx hb dX1_asStands_206 rfl ?_
  refine wc_copyI (J := wc_S) C hl.1 q1377 q1379 q1378 q190 hW hV (st_F_pairB hS hG1) (st_F_pairB hS hF) hS.aA hE (Nat.le_of_ble_eq_true rfl) (by first | exact Nat.le_of_ble_eq_true rfl | (simp [wc_cat, Value.category]; decide)) dX1_asStands_208 (fun u18 H locs hE hW hS hV => ?_)
  refine lv_aload_n hx hb dX1_asStands_211 rfl (lv_at hl 0 rfl) ?_
  refine lv_aload_n hx hb dX1_asStands_212 rfl (lv_at hl 1 rfl) ?_
  refine cg_X1_51_1 C hW (st_F hS hG1) dX1_asStands_213 ?_
  refine cp_X1_51_1 (J := wc_S) C hW hV (st_F hS hF) hS.uI hE dX1_asStands_216 (fun u19 H locs hE hW hS hV => ?_)
  exact wc_vret C hr hlocks hW hS hV hE dX1_asStands_219
theorem cc_X1_149 {F : Nat} {G1 : Nat} {u u1 : CS} {rm : Room} (C : CC p m c cc nL s args D dA RX1) (hW : wc_W D dA h u H) (hS : wc_S u) (hV : va_S (CA h) H0 H locs) (ht : wc_T u F = some (.inl 1)) (hM : Met l yX1_asLands (ws_ yX1_asLands cX1_asLands 2 none) rm (va_Pc [.ref (h + F), .ref (h + G1)] (wc_St D dA h u)) (wc_Qr D dA h none u1) 0 0 (CA h)) (hrc : rm.cells = 0) (hrs : rm.slots = 0) (hR : rm.frames + 1 ≤ R.frames ∧ 8 + (2 + 11) + rm.locals ≤ R.locals) (hf : cells + 0 ≤ R.cells ∧ slots + 0 ≤ R.slots) (d : decode cc pc = .ok (.invokevirtual 149, 3)) (hsz : ls.size = nL) (hro : (rest.map fun v => v.category).sum ≤ 8) (kk : ∀ (H1 : Heap) (locs1 : List Loc), wc_W D dA h u1 H1 → wc_S u1 → va_S (CA h) H0 H1 locs1 → W p l e R s m args below meth c H1 locs1 cells slots Q (F0 m (pc + 3) ls (rest))) : W p l e R s m args below meth c H locs cells slots Q (F0 m pc ls (.ref (h + G1) :: .ref (h + F) :: rest)) :=
  wc_call (v := none) (va_runV (As := [.ref (h + G1)]) (rest := rest) C.1 hM (cwV 1 C.1.2.2.2.2 (lw_V q1512 q1514 qs96 q167 q1515) rfl hrc hrs (by decide +kernel) hR) (wc_preV (q := (RX1, TX1, 46)) C.2 hW hS ht rfl _) rfl rfl hsz rfl (lv_room hro) d hf) hV (fun _ z => z) (fun H1 locs1 a b c0 _ _ => kk H1 locs1 a b c0)
set_option maxHeartbeats 4000000 in
set_option maxRecDepth 100000 in
theorem kX1_asLands {l : Launch} {D : va_G} {dA : Nat → ClassId} {h N : Nat} {F : Nat} {G1 : Nat} {u u_ : CS} (hF : wc_F F) (hG1 : wc_F G1) (hE : fX1_asLands N F G1 u = some u_) : Met l yX1_asLands (ws_ yX1_asLands cX1_asLands 2 none) ({ frames := 1, cells := 0, slots := 0, locals := 64 }) (va_Pc [.ref (h + F), .ref (h + G1)] (wc_St D dA h u)) (wc_Qr D dA h none u_) 0 0 (CA h) := by
  refine wc_met (own := RX1) (lv := [(0, .ref (h + F)), (1, .ref (h + G1))]) (by decide) rfl rfl rfl ?_
  intro p e s m args below meth c ls C hr hlocks hW hS hV hl
  have hx := C.1.1
  have hb := C.1.2.1
  unfold fX1_asLands at hE
  refine lv_aload_n hx hb dX1_asLands_0 rfl (lv_at hl 0 rfl) ?_
  refine lv_aload_n hx hb dX1_asLands_1 rfl (lv_at hl 1 rfl) ?_
  refine cg_X1_174_1 C hW (st_F hS hG1) dX1_asLands_2 ?_
  refine cp_X1_174_1 (J := wc_S) C hW hV (st_F hS hF) hS.uI hE dX1_asLands_5 (fun u3 H locs hE hW hS hV => ?_)
  refine lv_aload_n hx hb dX1_asLands_8 rfl (lv_at hl 1 rfl) ?_
  refine cgs_X1_55_1 C hW (st_F hS hG1) (sp_F_roadA hS hG1) dX1_asLands_9 ?_
  refine lv_iconst (v := (0 : Int32)) hx hb dX1_asLands_12 rfl ?_
  refine lv_aload_n hx hb dX1_asLands_13 rfl (lv_at hl 0 rfl) ?_
  refine cgs_X1_55_1 C hW (st_F hS hF) (sp_F_roadA hS hF) dX1_asLands_14 ?_
  refine lv_iconst (v := (0 : Int32)) hx hb dX1_asLands_17 rfl ?_
  refine lv_bipush (v := (12 : Int32)) hx hb dX1_asLands_18 rfl ?_
  refine wc_copyI (J := wc_S) C hl.1 q1377 q1379 q1378 q190 hW hV (st_F_roadA hS hG1) (st_F_roadA hS hF) hS.aA hE (Nat.le_of_ble_eq_true rfl) (by first | exact Nat.le_of_ble_eq_true rfl | (simp [wc_cat, Value.category]; decide)) dX1_asLands_20 (fun u4 H locs hE hW hS hV => ?_)
  refine lv_aload_n hx hb dX1_asLands_23 rfl (lv_at hl 1 rfl) ?_
  refine cgs_X1_58_1 C hW (st_F hS hG1) (sp_F_roadB hS hG1) dX1_asLands_24 ?_
  refine lv_iconst (v := (0 : Int32)) hx hb dX1_asLands_27 rfl ?_
  refine lv_aload_n hx hb dX1_asLands_28 rfl (lv_at hl 0 rfl) ?_
  refine cgs_X1_58_1 C hW (st_F hS hF) (sp_F_roadB hS hF) dX1_asLands_29 ?_
  refine lv_iconst (v := (0 : Int32)) hx hb dX1_asLands_32 rfl ?_
  refine lv_bipush (v := (12 : Int32)) hx hb dX1_asLands_33 rfl ?_
  refine wc_copyI (J := wc_S) C hl.1 q1377 q1379 q1378 q190 hW hV (st_F_roadB hS hG1) (st_F_roadB hS hF) hS.aA hE (Nat.le_of_ble_eq_true rfl) (by first | exact Nat.le_of_ble_eq_true rfl | (simp [wc_cat, Value.category]; decide)) dX1_asLands_35 (fun u5 H locs hE hW hS hV => ?_)
  refine lv_aload_n hx hb dX1_asLands_38 rfl (lv_at hl 1 rfl) ?_
  refine cgs_X1_61_1 C hW (st_F hS hG1) (sp_F_lengths hS hG1) dX1_asLands_39 ?_
  refine lv_iconst (v := (0 : Int32)) hx hb dX1_asLands_42 rfl ?_
  refine lv_aload_n hx hb dX1_asLands_43 rfl (lv_at hl 0 rfl) ?_
  refine cgs_X1_61_1 C hW (st_F hS hF) (sp_F_lengths hS hF) dX1_asLands_44 ?_
  refine lv_iconst (v := (0 : Int32)) hx hb dX1_asLands_47 rfl ?_
  refine lv_bipush (v := (12 : Int32)) hx hb dX1_asLands_48 rfl ?_
  refine wc_copyI (J := wc_S) C hl.1 q1377 q1379 q1378 q190 hW hV (st_F_lengths hS hG1) (st_F_lengths hS hF) hS.aA hE (Nat.le_of_ble_eq_true rfl) (by first | exact Nat.le_of_ble_eq_true rfl | (simp [wc_cat, Value.category]; decide)) dX1_asLands_50 (fun u6 H locs hE hW hS hV => ?_)
  refine lv_aload_n hx hb dX1_asLands_53 rfl (lv_at hl 1 rfl) ?_
  refine cgs_X1_64_1 C hW (st_F hS hG1) (sp_F_hauls hS hG1) dX1_asLands_54 ?_
  refine lv_iconst (v := (0 : Int32)) hx hb dX1_asLands_57 rfl ?_
  refine lv_aload_n hx hb dX1_asLands_58 rfl (lv_at hl 0 rfl) ?_
  refine cgs_X1_64_1 C hW (st_F hS hF) (sp_F_hauls hS hF) dX1_asLands_59 ?_
  refine lv_iconst (v := (0 : Int32)) hx hb dX1_asLands_62 rfl ?_
  refine lv_bipush (v := (6 : Int32)) hx hb dX1_asLands_63 rfl ?_
  refine wc_copyI (J := wc_S) C hl.1 q1377 q1379 q1378 q190 hW hV (st_F_hauls hS hG1) (st_F_hauls hS hF) hS.aA hE (Nat.le_of_ble_eq_true rfl) (by first | exact Nat.le_of_ble_eq_true rfl | (simp [wc_cat, Value.category]; decide)) dX1_asLands_65 (fun u7 H locs hE hW hS hV => ?_)
  refine lv_aload_n hx hb dX1_asLands_68 rfl (lv_at hl 0 rfl) ?_
  refine lv_aload_n hx hb dX1_asLands_69 rfl (lv_at hl 1 rfl) ?_
  refine cg_X1_177_1 C hW (st_F hS hG1) dX1_asLands_70 ?_
  refine cp_X1_177_1 (J := wc_S) C hW hV (st_F hS hF) hS.uI hE dX1_asLands_73 (fun u8 H locs hE hW hS hV => ?_)
  refine lv_aload_n hx hb dX1_asLands_76 rfl (lv_at hl 1 rfl) ?_
  refine cgs_X1_67_1 C hW (st_F hS hG1) (sp_F_homes hS hG1) dX1_asLands_77 ?_
  refine lv_iconst (v := (0 : Int32)) hx hb dX1_asLands_80 rfl ?_
  refine lv_aload_n hx hb dX1_asLands_81 rfl (lv_at hl 0 rfl) ?_
  refine cgs_X1_67_1 C hW (st_F hS hF) (sp_F_homes hS hF) dX1_asLands_82 ?_
  refine lv_iconst (v := (0 : Int32)) hx hb dX1_asLands_85 rfl ?_
  refine lv_bipush (v := (8 : Int32)) hx hb dX1_asLands_86 rfl ?_
  refine wc_copyI (J := wc_S) C hl.1 q1377 q1379 q1378 q190 hW hV (st_F_homes hS hG1) (st_F_homes hS hF) hS.aA hE (Nat.le_of_ble_eq_true rfl) (by first | exact Nat.le_of_ble_eq_true rfl | (simp [wc_cat, Value.category]; decide)) dX1_asLands_88 (fun u9 H locs hE hW hS hV => ?_)
  refine lv_aload_n hx hb dX1_asLands_91 rfl (lv_at hl 1 rfl) ?_
  refine cgs_X1_70_1 C hW (st_F hS hG1) (sp_F_hearths hS hG1) dX1_asLands_92 ?_
  refine lv_iconst (v := (0 : Int32)) hx hb dX1_asLands_95 rfl ?_
  refine lv_aload_n hx hb dX1_asLands_96 rfl (lv_at hl 0 rfl) ?_
  refine cgs_X1_70_1 C hW (st_F hS hF) (sp_F_hearths hS hF) dX1_asLands_97 ?_
  refine lv_iconst (v := (0 : Int32)) hx hb dX1_asLands_100 rfl ?_
  refine lv_bipush (v := (8 : Int32)) hx hb dX1_asLands_101 rfl ?_
  refine wc_copyI (J := wc_S) C hl.1 q1377 q1379 q1378 q190 hW hV (st_F_hearths hS hG1) (st_F_hearths hS hF) hS.aA hE (Nat.le_of_ble_eq_true rfl) (by first | exact Nat.le_of_ble_eq_true rfl | (simp [wc_cat, Value.category]; decide)) dX1_asLands_103 (fun u10 H locs hE hW hS hV => ?_)
  refine lv_aload_n hx hb dX1_asLands_106 rfl (lv_at hl 1 rfl) ?_
  refine cgs_X1_73_1 C hW (st_F hS hG1) (sp_F_heads hS hG1) dX1_asLands_107 ?_
  refine lv_iconst (v := (0 : Int32)) hx hb dX1_asLands_110 rfl ?_
  refine lv_aload_n hx hb dX1_asLands_111 rfl (lv_at hl 0 rfl) ?_
  refine cgs_X1_73_1 C hW (st_F hS hF) (sp_F_heads hS hF) dX1_asLands_112 ?_
  refine lv_iconst (v := (0 : Int32)) hx hb dX1_asLands_115 rfl ?_
  refine lv_bipush (v := (8 : Int32)) hx hb dX1_asLands_116 rfl ?_
  refine wc_copyI (J := wc_S) C hl.1 q1377 q1379 q1378 q190 hW hV (st_F_heads hS hG1) (st_F_heads hS hF) hS.aA hE (Nat.le_of_ble_eq_true rfl) (by first | exact Nat.le_of_ble_eq_true rfl | (simp [wc_cat, Value.category]; decide)) dX1_asLands_118 (fun u11 H locs hE hW hS hV => ?_)
  refine lv_aload_n hx hb dX1_asLands_121 rfl (lv_at hl 1 rfl) ?_
  refine cgs_X1_76_1 C hW (st_F hS hG1) (sp_F_owed hS hG1) dX1_asLands_122 ?_
  refine lv_iconst (v := (0 : Int32)) hx hb dX1_asLands_125 rfl ?_
  refine lv_aload_n hx hb dX1_asLands_126 rfl (lv_at hl 0 rfl) ?_
  refine cgs_X1_76_1 C hW (st_F hS hF) (sp_F_owed hS hF) dX1_asLands_127 ?_
  refine lv_iconst (v := (0 : Int32)) hx hb dX1_asLands_130 rfl ?_
  refine lv_bipush (v := (8 : Int32)) hx hb dX1_asLands_131 rfl ?_
  refine wc_copyI (J := wc_S) C hl.1 q1377 q1379 q1378 q190 hW hV (st_F_owed hS hG1) (st_F_owed hS hF) hS.aA hE (Nat.le_of_ble_eq_true rfl) (by first | exact Nat.le_of_ble_eq_true rfl | (simp [wc_cat, Value.category]; decide)) dX1_asLands_133 (fun u12 H locs hE hW hS hV => ?_)
  exact wc_vret C hr hlocks hW hS hV hE dX1_asLands_136
theorem cc_X0_563 {G1 : Nat} {r : Int64} {u u1 : CS} {rm : Room} (C : CC p m c cc nL s args D dA RX0) (hW : wc_W D dA h u H) (hS : wc_S u) (hV : va_S (CA h) H0 H locs) (hM : Met l yX0_allWood (ws_ yX0_allWood cX0_allWood 4 (some .long)) rm (va_Pc [.ref (h + G1)] (wc_St D dA h u)) (wc_Qr D dA h (some (.long r)) u1) 0 0 (CA h)) (hrc : rm.cells = 0) (hrs : rm.slots = 0) (hR : rm.frames + 1 ≤ R.frames ∧ 8 + (4 + 11) + rm.locals ≤ R.locals) (hf : cells + 0 ≤ R.cells ∧ slots + 0 ≤ R.slots) (d : decode cc pc = .ok (.invokestatic 563, 3)) (hsz : ls.size = nL) (hro : (rest.map fun v => v.category).sum ≤ 8) (kk : ∀ (H1 : Heap) (locs1 : List Loc), wc_W D dA h u1 H1 → wc_S u1 → va_S (CA h) H0 H1 locs1 → W p l e R s m args below meth c H1 locs1 cells slots Q (F0 m (pc + 3) ls (.long r :: rest))) : W p l e R s m args below meth c H locs cells slots Q (F0 m pc ls (.ref (h + G1) :: rest)) :=
  wc_call (v := (some (.long r))) (va_runS (As := [.ref (h + G1)]) (rest := rest) C.1 hM (va_cwS 1 C.1.2.2.2.2 (lw_S q1553 q1554 q166 q1555) rfl hrc hrs (by decide +kernel) hR) (wc_preS C.2 hW hS _) rfl rfl hsz rfl (lv_room hro) d hf) hV (fun _ z => z) (fun H1 locs1 a b c0 _ _ => kk H1 locs1 a b c0)
set_option maxHeartbeats 4000000 in
set_option maxRecDepth 100000 in
theorem kX0_allWood {l : Launch} {D : va_G} {dA : Nat → ClassId} {h N : Nat} {G1 : Nat} {u u1 : CS} {r : Int64} (hG1 : wc_F G1) (hE : fX0_allWood N G1 u = some (r, u1)) : Met l yX0_allWood (ws_ yX0_allWood cX0_allWood 4 (some .long)) ({ frames := 4, cells := 0, slots := 0, locals := 88 }) (va_Pc [.ref (h + G1)] (wc_St D dA h u)) (wc_Qr D dA h (some (.long r)) u1) 0 0 (CA h) := by
  refine wc_met (own := RX0) (lv := [(0, .ref (h + G1))]) (by decide) rfl rfl rfl ?_
  intro p e s m args below meth c ls C hr hlocks hW hS hV hl
  have hx := C.1.1
  have hb := C.1.2.1
  have w_4 : ∀ (n : Nat) (u : CS) (x1 : Int64) (x3 : Int32) (H : Heap) (locs : List Loc) (ls : Array Slot), fX0_allWood_4 N G1 n u x1 x3 = some (r, u1) → wc_W D dA h u H → wc_S u → va_S (CA h) s.heap H locs → lv_has ls 4 [(0, .ref (h + G1)), (1, .long x1), (3, .int x3)] → W p l e ({ frames := 4, cells := 0, slots := 0, locals := 88 }) s m args below meth c H locs 0 0 (MQ below (wc_Qr D dA h (some (.long r)) u1) args s 0 0 (CA h)) (F0 m 4 ls []) := by
    intro n
    induction n with
    | zero =>
      intro u x1 x3 H locs ls hE hW hS hV hl
      cases (show (none : Option (Int64 × CS)) = some (r, u1) from hE)
    | succ n ih =>
      intro u x1 x3 H locs ls hE hW hS hV hl
      rw [fX0_allWood_4] at hE
      refine lv_iload_n hx hb dX0_allWood_4 rfl (lv_at hl 2 rfl) ?_
      refine lv_aload_n hx hb dX0_allWood_5 rfl (lv_at hl 0 rfl) ?_
      refine cg_X0_23_1 C hW (st_F hS hG1) dX0_allWood_6 ?_
      refine lv_icmp_ge (tgt := 27) hx hb dX0_allWood_9 (by decide) (fun c4 => ?_) (fun c4 => ?_)
      · have hE := z_t c4 hE
        refine lv_lload_n hx hb dX0_allWood_27 rfl (lv_at hl 1 rfl) ?_
        exact wc_lret C hr hlocks hW hS hV hE dX0_allWood_28
      · have hE := z_f c4 hE
        refine lv_lload_n hx hb dX0_allWood_12 rfl (lv_at hl 1 rfl) ?_
        refine lv_aload_n hx hb dX0_allWood_13 rfl (lv_at hl 0 rfl) ?_
        refine lv_iload_n hx hb dX0_allWood_14 rfl (lv_at hl 2 rfl) ?_
        obtain ⟨r5, u6, hc, hE⟩ := o_bd2_some hE
        refine cc_X0_164 C hW hS hV (st_F hS hG1) (kX1_wood hG1 hc) rfl rfl ⟨Nat.le_of_ble_eq_true rfl, Nat.le_of_ble_eq_true rfl⟩ ⟨Nat.le_refl 0, Nat.le_refl 0⟩ dX0_allWood_15 hl.1 (Nat.le_of_ble_eq_true rfl) (fun H locs hW hS hV => ?_)
        refine lv_i2l hx hb dX0_allWood_18 rfl ?_
        refine lv_ladd hx hb dX0_allWood_19 ?_
        refine z_nml hE (fun z7 hE => ?_)
        refine lv_lstore_n (lv' := [(1, .long z7), (0, .ref (h + G1)), (3, .int x3)]) hx hb dX0_allWood_20 rfl hl (by decide) rfl (fun ls hl => ?_)
        refine z_iinc (v := (x3 + (1 : Int32))) (lw := (fun y_ => [(3, .int y_), (1, .long z7), (0, .ref (h + G1))])) hx hb dX0_allWood_21 hl hE (k := 2) rfl rfl (by decide) (fun _ => rfl) (fun z8 ls hE hl => ?_)
        refine lv_goto (tgt := 4) hx hb dX0_allWood_24 (by decide) ?_
        exact ih _ _ _ _ _ _ hE hW hS hV (lv_sub hl [2, 1, 0] rfl)
  unfold fX0_allWood at hE
  refine lv_lconst (v := (0 : Int64)) hx hb dX0_allWood_0 rfl ?_
  refine lv_lstore_n (lv' := [(1, .long (0 : Int64)), (0, .ref (h + G1))]) hx hb dX0_allWood_1 rfl hl (by decide) rfl (fun ls hl => ?_)
  refine lv_iconst (v := (0 : Int32)) hx hb dX0_allWood_2 rfl ?_
  refine lv_istore_n (lv' := [(3, .int (0 : Int32)), (1, .long (0 : Int64)), (0, .ref (h + G1))]) hx hb dX0_allWood_3 rfl hl (by decide) rfl (fun ls hl => ?_)
  exact w_4 N _ _ _ _ _ _ hE hW hS hV (lv_sub hl [2, 1, 0] rfl)
theorem cc_X0_567 {a1 : Nat} {a2 : Int32} {r : Int64} {u u1 : CS} {rm : Room} (C : CC p m c cc nL s args D dA RX0) (hW : wc_W D dA h u H) (hS : wc_S u) (hV : va_S (CA h) H0 H locs) (hM : Met l yX0_sumOf (ws_ yX0_sumOf cX0_sumOf 5 (some .long)) rm (va_Pc [.ref (h + a1), .int a2] (wc_St D dA h u)) (wc_Qr D dA h (some (.long r)) u1) 0 0 (CA h)) (hrc : rm.cells = 0) (hrs : rm.slots = 0) (hR : rm.frames + 1 ≤ R.frames ∧ 8 + (5 + 11) + rm.locals ≤ R.locals) (hf : cells + 0 ≤ R.cells ∧ slots + 0 ≤ R.slots) (d : decode cc pc = .ok (.invokestatic 567, 3)) (hsz : ls.size = nL) (hro : (rest.map fun v => v.category).sum ≤ 8) (kk : ∀ (H1 : Heap) (locs1 : List Loc), wc_W D dA h u1 H1 → wc_S u1 → va_S (CA h) H0 H1 locs1 → W p l e R s m args below meth c H1 locs1 cells slots Q (F0 m (pc + 3) ls (.long r :: rest))) : W p l e R s m args below meth c H locs cells slots Q (F0 m pc ls (.int a2 :: .ref (h + a1) :: rest)) :=
  wc_call (v := (some (.long r))) (va_runS (As := [.ref (h + a1), .int a2]) (rest := rest) C.1 hM (va_cwS 2 C.1.2.2.2.2 (lw_S q1556 q1557 q166 q1558) rfl hrc hrs (by decide +kernel) hR) (wc_preS C.2 hW hS _) rfl rfl hsz rfl (lv_room hro) d hf) hV (fun _ z => z) (fun H1 locs1 a b c0 _ _ => kk H1 locs1 a b c0)
set_option maxHeartbeats 4000000 in
set_option maxRecDepth 100000 in
theorem kX0_sumOf {l : Launch} {D : va_G} {dA : Nat → ClassId} {h N : Nat} {a1 : Nat} {a2 : Int32} {u u1 : CS} {r : Int64} (hE : fX0_sumOf N u a1 a2 = some (r, u1)) : Met l yX0_sumOf (ws_ yX0_sumOf cX0_sumOf 5 (some .long)) ({ frames := 0, cells := 0, slots := 0, locals := 0 }) (va_Pc [.ref (h + a1), .int a2] (wc_St D dA h u)) (wc_Qr D dA h (some (.long r)) u1) 0 0 (CA h) := by
  refine wc_met (own := RX0) (lv := [(0, .ref (h + a1)), (1, .int a2)]) (by decide) rfl rfl rfl ?_
  intro p e s m args below meth c ls C hr hlocks hW hS hV hl
  have hx := C.1.1
  have hb := C.1.2.1
  have w_5 : ∀ (n : Nat) (u : CS) (x0 : Nat) (x1 : Int32) (x2 : Int64) (x4 : Int32) (H : Heap) (locs : List Loc) (ls : Array Slot), fX0_sumOf_5 N n u x0 x1 x2 x4 = some (r, u1) → wc_W D dA h u H → wc_S u → va_S (CA h) s.heap H locs → lv_has ls 5 [(0, .ref (h + x0)), (1, .int x1), (2, .long x2), (4, .int x4)] → W p l e ({ frames := 0, cells := 0, slots := 0, locals := 0 }) s m args below meth c H locs 0 0 (MQ below (wc_Qr D dA h (some (.long r)) u1) args s 0 0 (CA h)) (F0 m 5 ls []) := by
    intro n
    induction n with
    | zero =>
      intro u x0 x1 x2 x4 H locs ls hE hW hS hV hl
      cases (show (none : Option (Int64 × CS)) = some (r, u1) from hE)
    | succ n ih =>
      intro u x0 x1 x2 x4 H locs ls hE hW hS hV hl
      rw [fX0_sumOf_5] at hE
      refine lv_iload hx hb dX0_sumOf_5 (lv_at hl 3 rfl) ?_
      refine lv_iload_n hx hb dX0_sumOf_7 rfl (lv_at hl 1 rfl) ?_
      refine lv_icmp_ge (tgt := 25) hx hb dX0_sumOf_8 (by decide) (fun c4 => ?_) (fun c4 => ?_)
      · have hE := z_t c4 hE
        refine lv_lload_n hx hb dX0_sumOf_25 rfl (lv_at hl 2 rfl) ?_
        exact wc_lret C hr hlocks hW hS hV hE dX0_sumOf_26
      · have hE := z_f c4 hE
        refine lv_lload_n hx hb dX0_sumOf_11 rfl (lv_at hl 2 rfl) ?_
        refine lv_aload_n hx hb dX0_sumOf_12 rfl (lv_at hl 0 rfl) ?_
        refine lv_iload hx hb dX0_sumOf_13 (lv_at hl 3 rfl) ?_
        obtain ⟨k6, ht, hE⟩ := o_ln_some hE
        refine wc_ldi C hW ht hE dX0_sumOf_15 (fun hE => ?_)
        refine z_nmi hE (fun v5 hE => ?_)
        refine lv_i2l hx hb dX0_sumOf_16 rfl ?_
        refine lv_ladd hx hb dX0_sumOf_17 ?_
        refine z_nml hE (fun z7 hE => ?_)
        refine lv_lstore_n (lv' := [(2, .long z7), (0, .ref (h + x0)), (1, .int x1), (4, .int x4)]) hx hb dX0_sumOf_18 rfl hl (by decide) rfl (fun ls hl => ?_)
        refine z_iinc (v := (x4 + (1 : Int32))) (lw := (fun y_ => [(4, .int y_), (2, .long z7), (0, .ref (h + x0)), (1, .int x1)])) hx hb dX0_sumOf_19 hl hE (k := 3) rfl rfl (by decide) (fun _ => rfl) (fun z8 ls hE hl => ?_)
        refine lv_goto (tgt := 5) hx hb dX0_sumOf_22 (by decide) ?_
        exact ih _ _ _ _ _ _ _ _ hE hW hS hV (lv_sub hl [2, 3, 1, 0] rfl)
  unfold fX0_sumOf at hE
  refine lv_lconst (v := (0 : Int64)) hx hb dX0_sumOf_0 rfl ?_
  refine lv_lstore_n (lv' := [(2, .long (0 : Int64)), (0, .ref (h + a1)), (1, .int a2)]) hx hb dX0_sumOf_1 rfl hl (by decide) rfl (fun ls hl => ?_)
  refine lv_iconst (v := (0 : Int32)) hx hb dX0_sumOf_2 rfl ?_
  refine lv_istore (lv' := [(4, .int (0 : Int32)), (2, .long (0 : Int64)), (0, .ref (h + a1)), (1, .int a2)]) hx hb dX0_sumOf_3 hl (by decide) rfl (fun ls hl => ?_)
  exact w_5 N _ _ _ _ _ _ _ _ hE hW hS hV (lv_sub hl [2, 3, 1, 0] rfl)
theorem cc_X0_579 {a1 : Int32} {r : Int64} {u u1 : CS} {rm : Room} (C : CC p m c cc nL s args D dA RX0) (hW : wc_W D dA h u H) (hS : wc_S u) (hV : va_S (CA h) H0 H locs) (ht : wc_T u 0 = some (.inl 0)) (hM : Met l yX0_outcome (ws_ yX0_outcome cX0_outcome 2 (some .long)) rm (va_Pc [.ref (h + 0), .int a1] (wc_St D dA h u)) (wc_Qr D dA h (some (.long r)) u1) 0 0 (CA h)) (hrc : rm.cells = 0) (hrs : rm.slots = 0) (hR : rm.frames + 1 ≤ R.frames ∧ 8 + (2 + 11) + rm.locals ≤ R.locals) (hf : cells + 0 ≤ R.cells ∧ slots + 0 ≤ R.slots) (d : decode cc pc = .ok (.invokevirtual 579, 3)) (hsz : ls.size = nL) (hro : (rest.map fun v => v.category).sum ≤ 8) (kk : ∀ (H1 : Heap) (locs1 : List Loc), wc_W D dA h u1 H1 → wc_S u1 → va_S (CA h) H0 H1 locs1 → W p l e R s m args below meth c H1 locs1 cells slots Q (F0 m (pc + 3) ls (.long r :: rest))) : W p l e R s m args below meth c H locs cells slots Q (F0 m pc ls (.int a1 :: .ref (h + 0) :: rest)) :=
  wc_call (v := (some (.long r))) (va_runV (As := [.int a1]) (rest := rest) C.1 hM (cwV 1 C.1.2.2.2.2 (lw_V q1549 q1551 qs97 q166 q1552) rfl hrc hrs (by decide +kernel) hR) (wc_preV (q := (RX0, TX0, 27)) C.2 hW hS ht rfl _) rfl rfl hsz rfl (lv_room hro) d hf) hV (fun _ z => z) (fun H1 locs1 a b c0 _ _ => kk H1 locs1 a b c0)
set_option maxHeartbeats 4000000 in
set_option maxRecDepth 100000 in
theorem kX0_outcome {l : Launch} {D : va_G} {dA : Nat → ClassId} {h N : Nat} {a1 : Int32} {u u1 : CS} {r : Int64} (hE : fX0_outcome N u a1 = some (r, u1)) : Met l yX0_outcome (ws_ yX0_outcome cX0_outcome 2 (some .long)) ({ frames := 5, cells := 0, slots := 0, locals := 111 }) (va_Pc [.ref (h + 0), .int a1] (wc_St D dA h u)) (wc_Qr D dA h (some (.long r)) u1) 0 0 (CA h) := by
  refine wc_met (own := RX0) (lv := [(0, .ref (h + 0)), (1, .int a1)]) (by decide) rfl rfl rfl ?_
  intro p e s m args below meth c ls C hr hlocks hW hS hV hl
  have hx := C.1.1
  have hb := C.1.2.1
  unfold fX0_outcome at hE
  refine lv_iload_n hx hb dX0_outcome_0 rfl (lv_at hl 1 rfl) ?_
  by_cases c15 : a1 = (0 : Int32)
  · have hE := z_t c15 hE
    refine lv_tableIn (tgt := 40) hx hb dX0_outcome_1 (by rw [c15]; decide) (by rw [c15]; decide) (by rw [c15]; rfl) (by decide) ?_
    refine lv_aload_n hx hb dX0_outcome_40 rfl (lv_at hl 0 rfl) ?_
    refine cgs_X0_59_0 C hW (st_0 hS) (sp_0_trial hS) dX0_outcome_41 ?_
    obtain ⟨r16, u17, hc, hE⟩ := o_bd2_some hE
    refine cc_X0_563 C hW hS hV (kX0_allWood wc_F101 hc) rfl rfl ⟨Nat.le_of_ble_eq_true rfl, Nat.le_of_ble_eq_true rfl⟩ ⟨Nat.le_refl 0, Nat.le_refl 0⟩ dX0_outcome_44 hl.1 (Nat.le_of_ble_eq_true rfl) (fun H locs hW hS hV => ?_)
    exact wc_lret C hr hlocks hW hS hV hE dX0_outcome_47
  have hE := z_f c15 hE
  by_cases c18 : a1 = (1 : Int32)
  · have hE := z_t c18 hE
    refine lv_tableIn (tgt := 48) hx hb dX0_outcome_1 (by rw [c18]; decide) (by rw [c18]; decide) (by rw [c18]; rfl) (by decide) ?_
    refine lv_aload_n hx hb dX0_outcome_48 rfl (lv_at hl 0 rfl) ?_
    refine cgs_X0_59_0 C hW (st_0 hS) (sp_0_trial hS) dX0_outcome_49 ?_
    refine cgs_X0_167_1 C hW (st_F hS wc_F101) (sp_F_lying hS wc_F101) dX0_outcome_52 ?_
    refine lv_aload_n hx hb dX0_outcome_55 rfl (lv_at hl 0 rfl) ?_
    refine cgs_X0_59_0 C hW (st_0 hS) (sp_0_trial hS) dX0_outcome_56 ?_
    refine cg_X0_23_1 C hW (st_F hS wc_F101) dX0_outcome_59 ?_
    obtain ⟨r19, u20, hc, hE⟩ := o_bd2_some hE
    refine cc_X0_567 C hW hS hV (kX0_sumOf hc) rfl rfl ⟨Nat.le_of_ble_eq_true rfl, Nat.le_of_ble_eq_true rfl⟩ ⟨Nat.le_refl 0, Nat.le_refl 0⟩ dX0_outcome_62 hl.1 (Nat.le_of_ble_eq_true rfl) (fun H locs hW hS hV => ?_)
    exact wc_lret C hr hlocks hW hS hV hE dX0_outcome_65
  have hE := z_f c18 hE
  by_cases c21 : a1 = (2 : Int32)
  · have hE := z_t c21 hE
    refine lv_tableIn (tgt := 66) hx hb dX0_outcome_1 (by rw [c21]; decide) (by rw [c21]; decide) (by rw [c21]; rfl) (by decide) ?_
    refine lv_aload_n hx hb dX0_outcome_66 rfl (lv_at hl 0 rfl) ?_
    refine cgs_X0_59_0 C hW (st_0 hS) (sp_0_trial hS) dX0_outcome_67 ?_
    refine cgs_X0_272_1 C hW (st_F hS wc_F101) (sp_F_books hS wc_F101) dX0_outcome_70 ?_
    refine lv_iconst (v := (3 : Int32)) hx hb dX0_outcome_73 rfl ?_
    refine wc_ldl C hW (st_F_books hS wc_F101) hE dX0_outcome_74 (fun hE => ?_)
    refine z_nml hE (fun v22 hE => ?_)
    refine lv_aload_n hx hb dX0_outcome_75 rfl (lv_at hl 0 rfl) ?_
    refine cgs_X0_19_0 C hW (st_0 hS) (sp_0_now hS) dX0_outcome_76 ?_
    refine cgs_X0_272_1 C hW (st_F hS wc_F3) (sp_F_books hS wc_F3) dX0_outcome_79 ?_
    refine lv_iconst (v := (3 : Int32)) hx hb dX0_outcome_82 rfl ?_
    refine wc_ldl C hW (st_F_books hS wc_F3) hE dX0_outcome_83 (fun hE => ?_)
    refine z_nml hE (fun v23 hE => ?_)
    refine lv_lsub hx hb dX0_outcome_84 ?_
    exact wc_lret C hr hlocks hW hS hV hE dX0_outcome_85
  have hE := z_f c21 hE
  by_cases c24 : a1 = (3 : Int32)
  · have hE := z_t c24 hE
    refine lv_tableIn (tgt := 86) hx hb dX0_outcome_1 (by rw [c24]; decide) (by rw [c24]; decide) (by rw [c24]; rfl) (by decide) ?_
    refine lv_aload_n hx hb dX0_outcome_86 rfl (lv_at hl 0 rfl) ?_
    refine cgs_X0_59_0 C hW (st_0 hS) (sp_0_trial hS) dX0_outcome_87 ?_
    refine cgs_X0_272_1 C hW (st_F hS wc_F101) (sp_F_books hS wc_F101) dX0_outcome_90 ?_
    refine lv_iconst (v := (5 : Int32)) hx hb dX0_outcome_93 rfl ?_
    refine wc_ldl C hW (st_F_books hS wc_F101) hE dX0_outcome_94 (fun hE => ?_)
    refine z_nml hE (fun v25 hE => ?_)
    refine lv_aload_n hx hb dX0_outcome_95 rfl (lv_at hl 0 rfl) ?_
    refine cgs_X0_19_0 C hW (st_0 hS) (sp_0_now hS) dX0_outcome_96 ?_
    refine cgs_X0_272_1 C hW (st_F hS wc_F3) (sp_F_books hS wc_F3) dX0_outcome_99 ?_
    refine lv_iconst (v := (5 : Int32)) hx hb dX0_outcome_102 rfl ?_
    refine wc_ldl C hW (st_F_books hS wc_F3) hE dX0_outcome_103 (fun hE => ?_)
    refine z_nml hE (fun v26 hE => ?_)
    refine lv_lsub hx hb dX0_outcome_104 ?_
    exact wc_lret C hr hlocks hW hS hV hE dX0_outcome_105
  have hE := z_f c24 hE
  by_cases c27 : a1 = (4 : Int32)
  · have hE := z_t c27 hE
    refine lv_tableIn (tgt := 106) hx hb dX0_outcome_1 (by rw [c27]; decide) (by rw [c27]; decide) (by rw [c27]; rfl) (by decide) ?_
    refine lv_aload_n hx hb dX0_outcome_106 rfl (lv_at hl 0 rfl) ?_
    refine cgs_X0_59_0 C hW (st_0 hS) (sp_0_trial hS) dX0_outcome_107 ?_
    refine cgs_X0_272_1 C hW (st_F hS wc_F101) (sp_F_books hS wc_F101) dX0_outcome_110 ?_
    refine lv_bipush (v := (6 : Int32)) hx hb dX0_outcome_113 rfl ?_
    refine wc_ldl C hW (st_F_books hS wc_F101) hE dX0_outcome_115 (fun hE => ?_)
    refine z_nml hE (fun v28 hE => ?_)
    refine lv_aload_n hx hb dX0_outcome_116 rfl (lv_at hl 0 rfl) ?_
    refine cgs_X0_19_0 C hW (st_0 hS) (sp_0_now hS) dX0_outcome_117 ?_
    refine cgs_X0_272_1 C hW (st_F hS wc_F3) (sp_F_books hS wc_F3) dX0_outcome_120 ?_
    refine lv_bipush (v := (6 : Int32)) hx hb dX0_outcome_123 rfl ?_
    refine wc_ldl C hW (st_F_books hS wc_F3) hE dX0_outcome_125 (fun hE => ?_)
    refine z_nml hE (fun v29 hE => ?_)
    refine lv_lsub hx hb dX0_outcome_126 ?_
    exact wc_lret C hr hlocks hW hS hV hE dX0_outcome_127
  have hE := z_f c27 hE
  by_cases c30 : a1 = (5 : Int32)
  · have hE := z_t c30 hE
    refine lv_tableIn (tgt := 128) hx hb dX0_outcome_1 (by rw [c30]; decide) (by rw [c30]; decide) (by rw [c30]; rfl) (by decide) ?_
    refine lv_aload_n hx hb dX0_outcome_128 rfl (lv_at hl 0 rfl) ?_
    refine cgs_X0_59_0 C hW (st_0 hS) (sp_0_trial hS) dX0_outcome_129 ?_
    obtain ⟨r31, u32, hc, hE⟩ := o_bd2_some hE
    refine cc_X0_430 C hW hS hV (kX0_bareOf wc_F101 hc) rfl rfl ⟨Nat.le_of_ble_eq_true rfl, Nat.le_of_ble_eq_true rfl⟩ ⟨Nat.le_refl 0, Nat.le_refl 0⟩ dX0_outcome_132 hl.1 (Nat.le_of_ble_eq_true rfl) (fun H locs hW hS hV => ?_)
    refine lv_i2l hx hb dX0_outcome_135 rfl ?_
    exact wc_lret C hr hlocks hW hS hV hE dX0_outcome_136
  have hE := z_f c30 hE
  refine lv_tableOut (tgt := 137) hx hb dX0_outcome_1 (z_swOut (fun k_ h1_ h2_ => ?_)) (by decide) ?_
  · rcases (show k_ = 0 ∨ k_ = 1 ∨ k_ = 2 ∨ k_ = 3 ∨ k_ = 4 ∨ k_ = 5 by omega) with rfl | rfl | rfl | rfl | rfl | rfl
    · exact c15
    · exact c18
    · exact c21
    · exact c24
    · exact c27
    · exact c30
  refine lv_aload_n hx hb dX0_outcome_137 rfl (lv_at hl 0 rfl) ?_
  refine cgs_X0_59_0 C hW (st_0 hS) (sp_0_trial hS) dX0_outcome_138 ?_
  refine cgs_X0_238_1 C hW (st_F hS wc_F101) (sp_F_owed hS wc_F101) dX0_outcome_141 ?_
  refine lv_aload_n hx hb dX0_outcome_144 rfl (lv_at hl 0 rfl) ?_
  refine cgs_X0_59_0 C hW (st_0 hS) (sp_0_trial hS) dX0_outcome_145 ?_
  refine cg_X0_35_1 C hW (st_F hS wc_F101) dX0_outcome_148 ?_
  obtain ⟨r33, u34, hc, hE⟩ := o_bd2_some hE
  refine cc_X0_567 C hW hS hV (kX0_sumOf hc) rfl rfl ⟨Nat.le_of_ble_eq_true rfl, Nat.le_of_ble_eq_true rfl⟩ ⟨Nat.le_refl 0, Nat.le_refl 0⟩ dX0_outcome_151 hl.1 (Nat.le_of_ble_eq_true rfl) (fun H locs hW hS hV => ?_)
  exact wc_lret C hr hlocks hW hS hV hE dX0_outcome_154
theorem cc_X0_588 {r : Int32} {u u1 : CS} {rm : Room} (C : CC p m c cc nL s args D dA RX0) (hW : wc_W D dA h u H) (hS : wc_S u) (hV : va_S (CA h) H0 H locs) (ht : wc_T u 0 = some (.inl 0)) (hM : Met l yX0_countParcels (ws_ yX0_countParcels cX0_countParcels 3 (some .int)) rm (va_Pc [.ref (h + 0)] (wc_St D dA h u)) (wc_Qr D dA h (some (.int r)) u1) 0 0 (CA h)) (hrc : rm.cells = 0) (hrs : rm.slots = 0) (hR : rm.frames + 1 ≤ R.frames ∧ 8 + (3 + 11) + rm.locals ≤ R.locals) (hf : cells + 0 ≤ R.cells ∧ slots + 0 ≤ R.slots) (d : decode cc pc = .ok (.invokevirtual 588, 3)) (hsz : ls.size = nL) (hro : (rest.map fun v => v.category).sum ≤ 8) (kk : ∀ (H1 : Heap) (locs1 : List Loc), wc_W D dA h u1 H1 → wc_S u1 → va_S (CA h) H0 H1 locs1 → W p l e R s m args below meth c H1 locs1 cells slots Q (F0 m (pc + 3) ls (.int r :: rest))) : W p l e R s m args below meth c H locs cells slots Q (F0 m pc ls (.ref (h + 0) :: rest)) :=
  wc_call (v := (some (.int r))) (va_runV (As := []) (rest := rest) C.1 hM (cwV 0 C.1.2.2.2.2 (lw_V q1571 q1573 qs98 q166 q1574) rfl hrc hrs (by decide +kernel) hR) (wc_preV (q := (RX0, TX0, 27)) C.2 hW hS ht rfl _) rfl rfl hsz rfl (lv_room hro) d hf) hV (fun _ z => z) (fun H1 locs1 a b c0 _ _ => kk H1 locs1 a b c0)
set_option maxHeartbeats 4000000 in
set_option maxRecDepth 100000 in
theorem kX0_countParcels {l : Launch} {D : va_G} {dA : Nat → ClassId} {h N : Nat} {u u1 : CS} {r : Int32} (hE : fX0_countParcels N u = some (r, u1)) : Met l yX0_countParcels (ws_ yX0_countParcels cX0_countParcels 3 (some .int)) ({ frames := 0, cells := 0, slots := 0, locals := 0 }) (va_Pc [.ref (h + 0)] (wc_St D dA h u)) (wc_Qr D dA h (some (.int r)) u1) 0 0 (CA h) := by
  refine wc_met (own := RX0) (lv := [(0, .ref (h + 0))]) (by decide) rfl rfl rfl ?_
  intro p e s m args below meth c ls C hr hlocks hW hS hV hl
  have hx := C.1.1
  have hb := C.1.2.1
  have w_31 : ∀ (ag4 : CS → Int32 → Int32 → Option (Int32 × CS)) (hag4 : (∀ (u : CS) (x1 : Int32) (x2 : Int32) (H : Heap) (locs : List Loc) (ls : Array Slot), ag4 u x1 x2 = some (r, u1) → wc_W D dA h u H → wc_S u → va_S (CA h) s.heap H locs → lv_has ls 3 [(0, .ref (h + 0)), (1, .int x1), (2, .int x2)] → W p l e ({ frames := 0, cells := 0, slots := 0, locals := 0 }) s m args below meth c H locs 0 0 (MQ below (wc_Qr D dA h (some (.int r)) u1) args s 0 0 (CA h)) (F0 m 4 ls []))) (u : CS) (x2 : Int32) (y0 : Int32) (y1 : Int32) (H : Heap) (locs : List Loc) (ls : Array Slot), fX0_countParcels_31 N ag4 u x2 y0 y1 = some (r, u1) → wc_W D dA h u H → wc_S u → va_S (CA h) s.heap H locs → lv_has ls 3 [(0, .ref (h + 0)), (2, .int x2)] → W p l e ({ frames := 0, cells := 0, slots := 0, locals := 0 }) s m args below meth c H locs 0 0 (MQ below (wc_Qr D dA h (some (.int r)) u1) args s 0 0 (CA h)) (F0 m 31 ls [.int y1, .int y0]) := by
    intro ag4 hag4 u x2 y0 y1 H locs ls hE hW hS hV hl
    unfold fX0_countParcels_31 at hE
    refine lv_iadd hx hb dX0_countParcels_31 ?_
    refine z_nmi hE (fun z4 hE => ?_)
    refine lv_istore_n (lv' := [(1, .int z4), (0, .ref (h + 0)), (2, .int x2)]) hx hb dX0_countParcels_32 rfl hl (by decide) rfl (fun ls hl => ?_)
    refine z_iinc (v := (x2 + (1 : Int32))) (lw := (fun y_ => [(2, .int y_), (1, .int z4), (0, .ref (h + 0))])) hx hb dX0_countParcels_33 hl hE (k := 2) rfl rfl (by decide) (fun _ => rfl) (fun z5 ls hE hl => ?_)
    refine lv_goto (tgt := 4) hx hb dX0_countParcels_36 (by decide) ?_
    exact hag4 _ _ _ _ _ _ hE hW hS hV (lv_sub hl [2, 1, 0] rfl)
  have w_4 : ∀ (n : Nat) (u : CS) (x1 : Int32) (x2 : Int32) (H : Heap) (locs : List Loc) (ls : Array Slot), fX0_countParcels_4 N n u x1 x2 = some (r, u1) → wc_W D dA h u H → wc_S u → va_S (CA h) s.heap H locs → lv_has ls 3 [(0, .ref (h + 0)), (1, .int x1), (2, .int x2)] → W p l e ({ frames := 0, cells := 0, slots := 0, locals := 0 }) s m args below meth c H locs 0 0 (MQ below (wc_Qr D dA h (some (.int r)) u1) args s 0 0 (CA h)) (F0 m 4 ls []) := by
    intro n
    induction n with
    | zero =>
      intro u x1 x2 H locs ls hE hW hS hV hl
      cases (show (none : Option (Int32 × CS)) = some (r, u1) from hE)
    | succ n ih =>
      intro u x1 x2 H locs ls hE hW hS hV hl
      rw [fX0_countParcels_4] at hE
      refine lv_iload_n hx hb dX0_countParcels_4 rfl (lv_at hl 2 rfl) ?_
      refine lv_bipush (v := (60 : Int32)) hx hb dX0_countParcels_5 rfl ?_
      refine lv_icmp_ge (tgt := 39) hx hb dX0_countParcels_7 (by decide) (fun c6 => ?_) (fun c6 => ?_)
      · have hE := z_t c6 hE
        refine lv_iload_n hx hb dX0_countParcels_39 rfl (lv_at hl 1 rfl) ?_
        exact wc_iret C hr hlocks hW hS hV hE dX0_countParcels_40
      · have hE := z_f c6 hE
        refine lv_iload_n hx hb dX0_countParcels_10 rfl (lv_at hl 1 rfl) ?_
        refine lv_aload_n hx hb dX0_countParcels_11 rfl (lv_at hl 0 rfl) ?_
        refine cgs_X0_19_0 C hW (st_0 hS) (sp_0_now hS) dX0_countParcels_12 ?_
        refine cgs_X0_40_1 C hW (st_F hS wc_F3) (sp_F_slots hS wc_F3) dX0_countParcels_15 ?_
        refine lv_iload_n hx hb dX0_countParcels_18 rfl (lv_at hl 2 rfl) ?_
        refine wc_ldq6 C hW (st_F_slots hS wc_F3) hE dX0_countParcels_19 (fun hE => ?_)
        refine z_nmp hE (fun p7 hE => ?_)
        obtain ⟨n8, hp_, hE_⟩ := o_nn_some hE
        clear hE
        subst hp_
        have hE := hE_
        obtain ⟨ht, hE⟩ := o_sh_some hE
        refine cg_X0_44_2 C hW ht dX0_countParcels_20 ?_
        refine z_nmp hE (fun p9 hE => ?_)
        rcases p9 with _ | n10
        · have hE := o_nu_none hE
          refine lv_ifnullN (tgt := 30) hx hb dX0_countParcels_23 (by decide) ?_
          refine lv_iconst (v := (0 : Int32)) hx hb dX0_countParcels_30 rfl ?_
          exact w_31 (fX0_countParcels_4 N n) ih _ _ _ _ _ _ _ hE hW hS hV (lv_sub hl [0, 2] rfl)
        · have hE := o_nu_nn hE
          refine lv_ifnull hx hb dX0_countParcels_23 ?_
          refine lv_iconst (v := (1 : Int32)) hx hb dX0_countParcels_26 rfl ?_
          refine lv_goto (tgt := 31) hx hb dX0_countParcels_27 (by decide) ?_
          exact w_31 (fX0_countParcels_4 N n) ih _ _ _ _ _ _ _ hE hW hS hV (lv_sub hl [0, 2] rfl)
  unfold fX0_countParcels at hE
  refine lv_iconst (v := (0 : Int32)) hx hb dX0_countParcels_0 rfl ?_
  refine lv_istore_n (lv' := [(1, .int (0 : Int32)), (0, .ref (h + 0))]) hx hb dX0_countParcels_1 rfl hl (by decide) rfl (fun ls hl => ?_)
  refine lv_iconst (v := (0 : Int32)) hx hb dX0_countParcels_2 rfl ?_
  refine lv_istore_n (lv' := [(2, .int (0 : Int32)), (1, .int (0 : Int32)), (0, .ref (h + 0))]) hx hb dX0_countParcels_3 rfl hl (by decide) rfl (fun ls hl => ?_)
  exact w_4 N _ _ _ _ _ _ hE hW hS hV (lv_sub hl [2, 1, 0] rfl)
theorem cc_X0_591 {r : Int32} {u u1 : CS} {rm : Room} (C : CC p m c cc nL s args D dA RX0) (hW : wc_W D dA h u H) (hS : wc_S u) (hV : va_S (CA h) H0 H locs) (ht : wc_T u 0 = some (.inl 0)) (hM : Met l yX0_countLate (ws_ yX0_countLate cX0_countLate 3 (some .int)) rm (va_Pc [.ref (h + 0)] (wc_St D dA h u)) (wc_Qr D dA h (some (.int r)) u1) 0 0 (CA h)) (hrc : rm.cells = 0) (hrs : rm.slots = 0) (hR : rm.frames + 1 ≤ R.frames ∧ 8 + (3 + 11) + rm.locals ≤ R.locals) (hf : cells + 0 ≤ R.cells ∧ slots + 0 ≤ R.slots) (d : decode cc pc = .ok (.invokevirtual 591, 3)) (hsz : ls.size = nL) (hro : (rest.map fun v => v.category).sum ≤ 8) (kk : ∀ (H1 : Heap) (locs1 : List Loc), wc_W D dA h u1 H1 → wc_S u1 → va_S (CA h) H0 H1 locs1 → W p l e R s m args below meth c H1 locs1 cells slots Q (F0 m (pc + 3) ls (.int r :: rest))) : W p l e R s m args below meth c H locs cells slots Q (F0 m pc ls (.ref (h + 0) :: rest)) :=
  wc_call (v := (some (.int r))) (va_runV (As := []) (rest := rest) C.1 hM (cwV 0 C.1.2.2.2.2 (lw_V q1575 q1577 qs99 q166 q1578) rfl hrc hrs (by decide +kernel) hR) (wc_preV (q := (RX0, TX0, 27)) C.2 hW hS ht rfl _) rfl rfl hsz rfl (lv_room hro) d hf) hV (fun _ z => z) (fun H1 locs1 a b c0 _ _ => kk H1 locs1 a b c0)
set_option maxHeartbeats 4000000 in
set_option maxRecDepth 100000 in
theorem kX0_countLate {l : Launch} {D : va_G} {dA : Nat → ClassId} {h N : Nat} {u u1 : CS} {r : Int32} (hE : fX0_countLate N u = some (r, u1)) : Met l yX0_countLate (ws_ yX0_countLate cX0_countLate 3 (some .int)) ({ frames := 206, cells := 0, slots := 0, locals := 6543 }) (va_Pc [.ref (h + 0)] (wc_St D dA h u)) (wc_Qr D dA h (some (.int r)) u1) 0 0 (CA h) := by
  refine wc_met (own := RX0) (lv := [(0, .ref (h + 0))]) (by decide) rfl rfl rfl ?_
  intro p e s m args below meth c ls C hr hlocks hW hS hV hl
  have hx := C.1.1
  have hb := C.1.2.1
  have w_32 : ∀ (ag4 : CS → Int32 → Int32 → Option (Int32 × CS)) (hag4 : (∀ (u : CS) (x1 : Int32) (x2 : Int32) (H : Heap) (locs : List Loc) (ls : Array Slot), ag4 u x1 x2 = some (r, u1) → wc_W D dA h u H → wc_S u → va_S (CA h) s.heap H locs → lv_has ls 3 [(0, .ref (h + 0)), (1, .int x1), (2, .int x2)] → W p l e ({ frames := 206, cells := 0, slots := 0, locals := 6543 }) s m args below meth c H locs 0 0 (MQ below (wc_Qr D dA h (some (.int r)) u1) args s 0 0 (CA h)) (F0 m 4 ls []))) (u : CS) (x2 : Int32) (y0 : Int32) (y1 : Int32) (H : Heap) (locs : List Loc) (ls : Array Slot), fX0_countLate_32 N ag4 u x2 y0 y1 = some (r, u1) → wc_W D dA h u H → wc_S u → va_S (CA h) s.heap H locs → lv_has ls 3 [(0, .ref (h + 0)), (2, .int x2)] → W p l e ({ frames := 206, cells := 0, slots := 0, locals := 6543 }) s m args below meth c H locs 0 0 (MQ below (wc_Qr D dA h (some (.int r)) u1) args s 0 0 (CA h)) (F0 m 32 ls [.int y1, .int y0]) := by
    intro ag4 hag4 u x2 y0 y1 H locs ls hE hW hS hV hl
    unfold fX0_countLate_32 at hE
    refine lv_iadd hx hb dX0_countLate_32 ?_
    refine z_nmi hE (fun z4 hE => ?_)
    refine lv_istore_n (lv' := [(1, .int z4), (0, .ref (h + 0)), (2, .int x2)]) hx hb dX0_countLate_33 rfl hl (by decide) rfl (fun ls hl => ?_)
    refine z_iinc (v := (x2 + (1 : Int32))) (lw := (fun y_ => [(2, .int y_), (1, .int z4), (0, .ref (h + 0))])) hx hb dX0_countLate_34 hl hE (k := 2) rfl rfl (by decide) (fun _ => rfl) (fun z5 ls hE hl => ?_)
    refine lv_goto (tgt := 4) hx hb dX0_countLate_37 (by decide) ?_
    exact hag4 _ _ _ _ _ _ hE hW hS hV (lv_sub hl [2, 1, 0] rfl)
  have w_4 : ∀ (n : Nat) (u : CS) (x1 : Int32) (x2 : Int32) (H : Heap) (locs : List Loc) (ls : Array Slot), fX0_countLate_4 N n u x1 x2 = some (r, u1) → wc_W D dA h u H → wc_S u → va_S (CA h) s.heap H locs → lv_has ls 3 [(0, .ref (h + 0)), (1, .int x1), (2, .int x2)] → W p l e ({ frames := 206, cells := 0, slots := 0, locals := 6543 }) s m args below meth c H locs 0 0 (MQ below (wc_Qr D dA h (some (.int r)) u1) args s 0 0 (CA h)) (F0 m 4 ls []) := by
    intro n
    induction n with
    | zero =>
      intro u x1 x2 H locs ls hE hW hS hV hl
      cases (show (none : Option (Int32 × CS)) = some (r, u1) from hE)
    | succ n ih =>
      intro u x1 x2 H locs ls hE hW hS hV hl
      rw [fX0_countLate_4] at hE
      refine lv_iload_n hx hb dX0_countLate_4 rfl (lv_at hl 2 rfl) ?_
      refine lv_aload_n hx hb dX0_countLate_5 rfl (lv_at hl 0 rfl) ?_
      refine cgs_X0_19_0 C hW (st_0 hS) (sp_0_now hS) dX0_countLate_6 ?_
      refine cg_X0_23_1 C hW (st_F hS wc_F3) dX0_countLate_9 ?_
      refine lv_icmp_ge (tgt := 40) hx hb dX0_countLate_12 (by decide) (fun c6 => ?_) (fun c6 => ?_)
      · have hE := z_t c6 hE
        refine lv_iload_n hx hb dX0_countLate_40 rfl (lv_at hl 1 rfl) ?_
        exact wc_iret C hr hlocks hW hS hV hE dX0_countLate_41
      · have hE := z_f c6 hE
        refine lv_iload_n hx hb dX0_countLate_15 rfl (lv_at hl 1 rfl) ?_
        refine lv_aload_n hx hb dX0_countLate_16 rfl (lv_at hl 0 rfl) ?_
        refine cgs_X0_19_0 C hW (st_0 hS) (sp_0_now hS) dX0_countLate_17 ?_
        refine lv_iload_n hx hb dX0_countLate_20 rfl (lv_at hl 2 rfl) ?_
        obtain ⟨r7, u8, hc, hE⟩ := o_bd2_some hE
        refine cc_X0_176 C hW hS hV (st_F hS wc_F3) (kX1_isLate wc_F3 hc) rfl rfl ⟨Nat.le_of_ble_eq_true rfl, Nat.le_of_ble_eq_true rfl⟩ ⟨Nat.le_refl 0, Nat.le_refl 0⟩ dX0_countLate_21 hl.1 (Nat.le_of_ble_eq_true rfl) (fun H locs hW hS hV => ?_)
        refine lv_if_eq (tgt := 31) hx hb dX0_countLate_24 (by decide) (fun c9 => ?_) (fun c9 => ?_)
        · have hE := z_t c9 hE
          refine lv_iconst (v := (0 : Int32)) hx hb dX0_countLate_31 rfl ?_
          exact w_32 (fX0_countLate_4 N n) ih _ _ _ _ _ _ _ hE hW hS hV (lv_sub hl [0, 2] rfl)
        · have hE := z_f c9 hE
          refine lv_iconst (v := (1 : Int32)) hx hb dX0_countLate_27 rfl ?_
          refine lv_goto (tgt := 32) hx hb dX0_countLate_28 (by decide) ?_
          exact w_32 (fX0_countLate_4 N n) ih _ _ _ _ _ _ _ hE hW hS hV (lv_sub hl [0, 2] rfl)
  unfold fX0_countLate at hE
  refine lv_iconst (v := (0 : Int32)) hx hb dX0_countLate_0 rfl ?_
  refine lv_istore_n (lv' := [(1, .int (0 : Int32)), (0, .ref (h + 0))]) hx hb dX0_countLate_1 rfl hl (by decide) rfl (fun ls hl => ?_)
  refine lv_iconst (v := (0 : Int32)) hx hb dX0_countLate_2 rfl ?_
  refine lv_istore_n (lv' := [(2, .int (0 : Int32)), (1, .int (0 : Int32)), (0, .ref (h + 0))]) hx hb dX0_countLate_3 rfl hl (by decide) rfl (fun ls hl => ?_)
  exact w_4 N _ _ _ _ _ _ hE hW hS hV (lv_sub hl [2, 1, 0] rfl)
set_option maxHeartbeats 4000000 in
set_option maxRecDepth 100000 in
theorem kX0_tally {l : Launch} {D : va_G} {dA : Nat → ClassId} {h N : Nat} {a1 : Int32} {u u1 : CS} {r : Int32} (hE : fX0_tally N u a1 = some (r, u1)) : Met l yX0_tally (ws_ yX0_tally cX0_tally 2 (some .int)) ({ frames := 207, cells := 0, slots := 0, locals := 6565 }) (va_Pc [.ref (h + 0), .int a1] (wc_St D dA h u)) (wc_Qr D dA h (some (.int r)) u1) 0 0 (CA h) := by
  refine wc_met (own := RX0) (lv := [(0, .ref (h + 0)), (1, .int a1)]) (by decide) rfl rfl rfl ?_
  intro p e s m args below meth c ls C hr hlocks hW hS hV hl
  have hx := C.1.1
  have hb := C.1.2.1
  unfold fX0_tally at hE
  refine lv_iload_n hx hb dX0_tally_0 rfl (lv_at hl 1 rfl) ?_
  by_cases c9 : a1 = (0 : Int32)
  · have hE := z_t c9 hE
    refine lv_tableIn (tgt := 60) hx hb dX0_tally_1 (by rw [c9]; decide) (by rw [c9]; decide) (by rw [c9]; rfl) (by decide) ?_
    refine lv_aload_n hx hb dX0_tally_60 rfl (lv_at hl 0 rfl) ?_
    refine cgs_X0_19_0 C hW (st_0 hS) (sp_0_now hS) dX0_tally_61 ?_
    refine cg_X0_344_1 C hW (st_F hS wc_F3) dX0_tally_64 ?_
    exact wc_iret C hr hlocks hW hS hV hE dX0_tally_67
  have hE := z_f c9 hE
  by_cases c10 : a1 = (1 : Int32)
  · have hE := z_t c10 hE
    refine lv_tableIn (tgt := 68) hx hb dX0_tally_1 (by rw [c10]; decide) (by rw [c10]; decide) (by rw [c10]; rfl) (by decide) ?_
    refine lv_aload_n hx hb dX0_tally_68 rfl (lv_at hl 0 rfl) ?_
    refine cgs_X0_19_0 C hW (st_0 hS) (sp_0_now hS) dX0_tally_69 ?_
    refine cg_X0_23_1 C hW (st_F hS wc_F3) dX0_tally_72 ?_
    exact wc_iret C hr hlocks hW hS hV hE dX0_tally_75
  have hE := z_f c10 hE
  by_cases c11 : a1 = (2 : Int32)
  · have hE := z_t c11 hE
    refine lv_tableIn (tgt := 76) hx hb dX0_tally_1 (by rw [c11]; decide) (by rw [c11]; decide) (by rw [c11]; rfl) (by decide) ?_
    refine lv_aload_n hx hb dX0_tally_76 rfl (lv_at hl 0 rfl) ?_
    refine cgs_X0_19_0 C hW (st_0 hS) (sp_0_now hS) dX0_tally_77 ?_
    refine cg_X0_155_1 C hW (st_F hS wc_F3) dX0_tally_80 ?_
    exact wc_iret C hr hlocks hW hS hV hE dX0_tally_83
  have hE := z_f c11 hE
  by_cases c12 : a1 = (3 : Int32)
  · have hE := z_t c12 hE
    refine lv_tableIn (tgt := 84) hx hb dX0_tally_1 (by rw [c12]; decide) (by rw [c12]; decide) (by rw [c12]; rfl) (by decide) ?_
    refine lv_aload_n hx hb dX0_tally_84 rfl (lv_at hl 0 rfl) ?_
    refine cgs_X0_19_0 C hW (st_0 hS) (sp_0_now hS) dX0_tally_85 ?_
    refine cg_X0_35_1 C hW (st_F hS wc_F3) dX0_tally_88 ?_
    exact wc_iret C hr hlocks hW hS hV hE dX0_tally_91
  have hE := z_f c12 hE
  by_cases c13 : a1 = (4 : Int32)
  · have hE := z_t c13 hE
    refine lv_tableIn (tgt := 92) hx hb dX0_tally_1 (by rw [c13]; decide) (by rw [c13]; decide) (by rw [c13]; rfl) (by decide) ?_
    refine lv_aload_n hx hb dX0_tally_92 rfl (lv_at hl 0 rfl) ?_
    obtain ⟨r14, u15, hc, hE⟩ := o_bd2_some hE
    refine cc_X0_588 C hW hS hV (st_0 hS) (kX0_countParcels hc) rfl rfl ⟨Nat.le_of_ble_eq_true rfl, Nat.le_of_ble_eq_true rfl⟩ ⟨Nat.le_refl 0, Nat.le_refl 0⟩ dX0_tally_93 hl.1 (Nat.le_of_ble_eq_true rfl) (fun H locs hW hS hV => ?_)
    exact wc_iret C hr hlocks hW hS hV hE dX0_tally_96
  have hE := z_f c13 hE
  by_cases c16 : a1 = (5 : Int32)
  · have hE := z_t c16 hE
    refine lv_tableIn (tgt := 97) hx hb dX0_tally_1 (by rw [c16]; decide) (by rw [c16]; decide) (by rw [c16]; rfl) (by decide) ?_
    refine lv_aload_n hx hb dX0_tally_97 rfl (lv_at hl 0 rfl) ?_
    refine cgs_X0_19_0 C hW (st_0 hS) (sp_0_now hS) dX0_tally_98 ?_
    refine cg_X0_322_1 C hW (st_F hS wc_F3) dX0_tally_101 ?_
    exact wc_iret C hr hlocks hW hS hV hE dX0_tally_104
  have hE := z_f c16 hE
  by_cases c17 : a1 = (6 : Int32)
  · have hE := z_t c17 hE
    refine lv_tableIn (tgt := 105) hx hb dX0_tally_1 (by rw [c17]; decide) (by rw [c17]; decide) (by rw [c17]; rfl) (by decide) ?_
    refine lv_aload_n hx hb dX0_tally_105 rfl (lv_at hl 0 rfl) ?_
    refine cgs_X0_68_0 C hW (st_0 hS) (sp_0_reader hS) dX0_tally_106 ?_
    refine cg_X0_315_3 C hW (st_297 hS) dX0_tally_109 ?_
    exact wc_iret C hr hlocks hW hS hV hE dX0_tally_112
  have hE := z_f c17 hE
  by_cases c18 : a1 = (7 : Int32)
  · have hE := z_t c18 hE
    refine lv_tableIn (tgt := 113) hx hb dX0_tally_1 (by rw [c18]; decide) (by rw [c18]; decide) (by rw [c18]; rfl) (by decide) ?_
    refine lv_aload_n hx hb dX0_tally_113 rfl (lv_at hl 0 rfl) ?_
    refine cgs_X0_19_0 C hW (st_0 hS) (sp_0_now hS) dX0_tally_114 ?_
    refine cg_X0_385_1 C hW (st_F hS wc_F3) dX0_tally_117 ?_
    exact wc_iret C hr hlocks hW hS hV hE dX0_tally_120
  have hE := z_f c18 hE
  by_cases c19 : a1 = (8 : Int32)
  · have hE := z_t c19 hE
    refine lv_tableIn (tgt := 121) hx hb dX0_tally_1 (by rw [c19]; decide) (by rw [c19]; decide) (by rw [c19]; rfl) (by decide) ?_
    refine lv_aload_n hx hb dX0_tally_121 rfl (lv_at hl 0 rfl) ?_
    refine cgs_X0_19_0 C hW (st_0 hS) (sp_0_now hS) dX0_tally_122 ?_
    refine cg_X0_195_1 C hW (st_F hS wc_F3) dX0_tally_125 ?_
    exact wc_iret C hr hlocks hW hS hV hE dX0_tally_128
  have hE := z_f c19 hE
  by_cases c20 : a1 = (9 : Int32)
  · have hE := z_t c20 hE
    refine lv_tableIn (tgt := 129) hx hb dX0_tally_1 (by rw [c20]; decide) (by rw [c20]; decide) (by rw [c20]; rfl) (by decide) ?_
    refine lv_aload_n hx hb dX0_tally_129 rfl (lv_at hl 0 rfl) ?_
    refine cgs_X0_19_0 C hW (st_0 hS) (sp_0_now hS) dX0_tally_130 ?_
    obtain ⟨r21, u22, hc, hE⟩ := o_bd2_some hE
    refine cc_X0_430 C hW hS hV (kX0_bareOf wc_F3 hc) rfl rfl ⟨Nat.le_of_ble_eq_true rfl, Nat.le_of_ble_eq_true rfl⟩ ⟨Nat.le_refl 0, Nat.le_refl 0⟩ dX0_tally_133 hl.1 (Nat.le_of_ble_eq_true rfl) (fun H locs hW hS hV => ?_)
    exact wc_iret C hr hlocks hW hS hV hE dX0_tally_136
  have hE := z_f c20 hE
  by_cases c23 : a1 = (10 : Int32)
  · have hE := z_t c23 hE
    refine lv_tableIn (tgt := 137) hx hb dX0_tally_1 (by rw [c23]; decide) (by rw [c23]; decide) (by rw [c23]; rfl) (by decide) ?_
    refine lv_aload_n hx hb dX0_tally_137 rfl (lv_at hl 0 rfl) ?_
    obtain ⟨r24, u25, hc, hE⟩ := o_bd2_some hE
    refine cc_X0_591 C hW hS hV (st_0 hS) (kX0_countLate hc) rfl rfl ⟨Nat.le_of_ble_eq_true rfl, Nat.le_of_ble_eq_true rfl⟩ ⟨Nat.le_refl 0, Nat.le_refl 0⟩ dX0_tally_138 hl.1 (Nat.le_of_ble_eq_true rfl) (fun H locs hW hS hV => ?_)
    exact wc_iret C hr hlocks hW hS hV hE dX0_tally_141
  have hE := z_f c23 hE
  refine lv_tableOut (tgt := 142) hx hb dX0_tally_1 (z_swOut (fun k_ h1_ h2_ => ?_)) (by decide) ?_
  · rcases (show k_ = 0 ∨ k_ = 1 ∨ k_ = 2 ∨ k_ = 3 ∨ k_ = 4 ∨ k_ = 5 ∨ k_ = 6 ∨ k_ = 7 ∨ k_ = 8 ∨ k_ = 9 ∨ k_ = 10 by omega) with rfl | rfl | rfl | rfl | rfl | rfl | rfl | rfl | rfl | rfl | rfl
    · exact c9
    · exact c10
    · exact c11
    · exact c12
    · exact c13
    · exact c16
    · exact c17
    · exact c18
    · exact c19
    · exact c20
    · exact c23
  refine lv_aload_n hx hb dX0_tally_142 rfl (lv_at hl 0 rfl) ?_
  refine lv_bipush (v := (-7 : Int32)) hx hb dX0_tally_143 rfl ?_
  obtain ⟨r26, u27, hc, hE⟩ := o_bd2_some hE
  refine cc_X0_118 C hW hS hV (st_0 hS) (kX0_refuse hc) rfl rfl ⟨Nat.le_of_ble_eq_true rfl, Nat.le_of_ble_eq_true rfl⟩ ⟨Nat.le_refl 0, Nat.le_refl 0⟩ dX0_tally_145 hl.1 (Nat.le_of_ble_eq_true rfl) (fun H locs hW hS hV => ?_)
  exact wc_iret C hr hlocks hW hS hV hE dX0_tally_148
set_option maxHeartbeats 4000000 in
set_option maxRecDepth 100000 in
theorem kX0_set {l : Launch} {D : va_G} {dA : Nat → ClassId} {h N : Nat} {a1 : Int32} {a2 : Int32} {u u1 : CS} {r : Int32} (hE : fX0_set N u a1 a2 = some (r, u1)) : Met l yX0_set (ws_ yX0_set cX0_set 4 (some .int)) ({ frames := 1, cells := 0, slots := 0, locals := 21 }) (va_Pc [.ref (h + 0), .int a1, .int a2] (wc_St D dA h u)) (wc_Qr D dA h (some (.int r)) u1) 0 0 (CA h) := by
  refine wc_met (own := RX0) (lv := [(0, .ref (h + 0)), (1, .int a1), (2, .int a2)]) (by decide) rfl rfl rfl ?_
  intro p e s m args below meth c ls C hr hlocks hW hS hV hl
  have hx := C.1.1
  have hb := C.1.2.1
  have w_27 : ∀ (u : CS) (H : Heap) (locs : List Loc) (ls : Array Slot), fX0_set_27 N u = some (r, u1) → wc_W D dA h u H → wc_S u → va_S (CA h) s.heap H locs → lv_has ls 4 [(0, .ref (h + 0))] → W p l e ({ frames := 1, cells := 0, slots := 0, locals := 21 }) s m args below meth c H locs 0 0 (MQ below (wc_Qr D dA h (some (.int r)) u1) args s 0 0 (CA h)) (F0 m 27 ls []) := by
    intro u H locs ls hE hW hS hV hl
    unfold fX0_set_27 at hE
    refine lv_aload_n hx hb dX0_set_27 rfl (lv_at hl 0 rfl) ?_
    refine lv_bipush (v := (-3 : Int32)) hx hb dX0_set_28 rfl ?_
    obtain ⟨r16, u17, hc, hE⟩ := o_bd2_some hE
    refine cc_X0_312 C hW hS hV (st_0 hS) (kX0_refuseAsNought hc) rfl rfl ⟨Nat.le_of_ble_eq_true rfl, Nat.le_of_ble_eq_true rfl⟩ ⟨Nat.le_refl 0, Nat.le_refl 0⟩ dX0_set_30 hl.1 (Nat.le_of_ble_eq_true rfl) (fun H locs hW hS hV => ?_)
    exact wc_iret C hr hlocks hW hS hV hE dX0_set_33
  unfold fX0_set at hE
  refine lv_aload_n hx hb dX0_set_0 rfl (lv_at hl 0 rfl) ?_
  refine cg_X0_413_0 C hW (st_0 hS) dX0_set_1 ?_
  refine z_nmp hE (fun p18 hE => ?_)
  rcases p18 with _ | n19
  · have hE := o_nu_none hE
    refine lv_ifnonnullN hx hb dX0_set_4 ?_
    refine lv_aload_n hx hb dX0_set_7 rfl (lv_at hl 0 rfl) ?_
    refine lv_bipush (v := (-2 : Int32)) hx hb dX0_set_8 rfl ?_
    obtain ⟨r20, u21, hc, hE⟩ := o_bd2_some hE
    refine cc_X0_312 C hW hS hV (st_0 hS) (kX0_refuseAsNought hc) rfl rfl ⟨Nat.le_of_ble_eq_true rfl, Nat.le_of_ble_eq_true rfl⟩ ⟨Nat.le_refl 0, Nat.le_refl 0⟩ dX0_set_10 hl.1 (Nat.le_of_ble_eq_true rfl) (fun H locs hW hS hV => ?_)
    exact wc_iret C hr hlocks hW hS hV hE dX0_set_13
  · have hE := o_nu_nn hE
    refine lv_ifnonnull (tgt := 14) hx hb dX0_set_4 (by decide) ?_
    refine lv_iload_n hx hb dX0_set_14 rfl (lv_at hl 1 rfl) ?_
    refine lv_if_lt (tgt := 27) hx hb dX0_set_15 (by decide) (fun c22 => ?_) (fun c22 => ?_)
    · have hE := z_t c22 hE
      exact w_27 _ _ _ _ hE hW hS hV (lv_sub hl [0] rfl)
    · have hE := z_f c22 hE
      refine lv_iload_n hx hb dX0_set_18 rfl (lv_at hl 1 rfl) ?_
      refine lv_aload_n hx hb dX0_set_19 rfl (lv_at hl 0 rfl) ?_
      refine cg_X0_413_0 C hW (st_0 hS) dX0_set_20 ?_
      refine z_nmp hE (fun p23 hE => ?_)
      obtain ⟨n24, hp_, hE_⟩ := o_nn_some hE
      clear hE
      subst hp_
      have hE := hE_
      obtain ⟨k25, ht, hE⟩ := o_ln_some hE
      refine wc_alen (v := Int32.ofNat k25) C hW ht rfl rfl dX0_set_23 ?_
      refine lv_icmp_lt (tgt := 34) hx hb dX0_set_24 (by decide) (fun c26 => ?_) (fun c26 => ?_)
      · have hE := z_t c26 hE
        refine lv_aload_n hx hb dX0_set_34 rfl (lv_at hl 0 rfl) ?_
        refine cg_X0_413_0 C hW (st_0 hS) dX0_set_35 ?_
        refine z_nmp hE (fun p27 hE => ?_)
        refine lv_iload_n hx hb dX0_set_38 rfl (lv_at hl 1 rfl) ?_
        obtain ⟨n28, hp_, hE_⟩ := o_nn_some hE
        clear hE
        subst hp_
        have hE := hE_
        obtain ⟨k30, ht, hE⟩ := o_ln_some hE
        refine wc_ldi C hW ht hE dX0_set_39 (fun hE => ?_)
        refine z_nmi hE (fun v29 hE => ?_)
        refine lv_istore_n (lv' := [(3, .int v29), (0, .ref (h + 0)), (1, .int a1), (2, .int a2)]) hx hb dX0_set_40 rfl hl (by decide) rfl (fun ls hl => ?_)
        refine lv_aload_n hx hb dX0_set_41 rfl (lv_at hl 1 rfl) ?_
        refine cg_X0_413_0 C hW (st_0 hS) dX0_set_42 ?_
        refine z_nmp hE (fun p31 hE => ?_)
        refine lv_iload_n hx hb dX0_set_45 rfl (lv_at hl 2 rfl) ?_
        refine lv_iload_n hx hb dX0_set_46 rfl (lv_at hl 3 rfl) ?_
        obtain ⟨n32, hp_, hE_⟩ := o_nn_some hE
        clear hE
        subst hp_
        have hE := hE_
        obtain ⟨k33, ht, hE⟩ := o_ln_some hE
        refine wc_sti (J := wc_S) C hW hV ht hS.uA hE dX0_set_47 (fun u34 H locs hE hW hS hV => ?_)
        refine lv_iload_n hx hb dX0_set_48 rfl (lv_at hl 0 rfl) ?_
        exact wc_iret C hr hlocks hW hS hV hE dX0_set_49
      · have hE := z_f c26 hE
        exact w_27 _ _ _ _ hE hW hS hV (lv_sub hl [0] rfl)
set_option maxHeartbeats 4000000 in
set_option maxRecDepth 100000 in
theorem kX0_tear {l : Launch} {D : va_G} {dA : Nat → ClassId} {h N : Nat} {u u1 : CS} {r : Int32} (hE : fX0_tear N u = some (r, u1)) : Met l yX0_tear (ws_ yX0_tear cX0_tear 2 (some .int)) ({ frames := 0, cells := 0, slots := 0, locals := 0 }) (va_Pc [.ref (h + 0)] (wc_St D dA h u)) (wc_Qr D dA h (some (.int r)) u1) 0 0 (CA h) := by
  refine wc_met (own := RX0) (lv := [(0, .ref (h + 0))]) (by decide) rfl rfl rfl ?_
  intro p e s m args below meth c ls C hr hlocks hW hS hV hl
  have hx := C.1.1
  have hb := C.1.2.1
  have w_27 : ∀ (u : CS) (y0 : Int32) (H : Heap) (locs : List Loc) (ls : Array Slot), fX0_tear_27 N u y0 = some (r, u1) → wc_W D dA h u H → wc_S u → va_S (CA h) s.heap H locs → lv_has ls 2 [] → W p l e ({ frames := 0, cells := 0, slots := 0, locals := 0 }) s m args below meth c H locs 0 0 (MQ below (wc_Qr D dA h (some (.int r)) u1) args s 0 0 (CA h)) (F0 m 27 ls [.int y0]) := by
    intro u y0 H locs ls hE hW hS hV hl
    unfold fX0_tear_27 at hE
    exact wc_iret C hr hlocks hW hS hV hE dX0_tear_27
  have w_12 : ∀ (u : CS) (y0 : Int32) (H : Heap) (locs : List Loc) (ls : Array Slot), fX0_tear_12 N u y0 = some (r, u1) → wc_W D dA h u H → wc_S u → va_S (CA h) s.heap H locs → lv_has ls 2 [(0, .ref (h + 0))] → W p l e ({ frames := 0, cells := 0, slots := 0, locals := 0 }) s m args below meth c H locs 0 0 (MQ below (wc_Qr D dA h (some (.int r)) u1) args s 0 0 (CA h)) (F0 m 12 ls [.int y0]) := by
    intro u y0 H locs ls hE hW hS hV hl
    unfold fX0_tear_12 at hE
    refine lv_istore_n (lv' := [(1, .int y0), (0, .ref (h + 0))]) hx hb dX0_tear_12 rfl hl (by decide) rfl (fun ls hl => ?_)
    refine lv_aload_n hx hb dX0_tear_13 rfl (lv_at hl 1 rfl) ?_
    refine lv_null hx hb dX0_tear_14 ?_
    refine cp_X0_413_0 (x := none) (J := wc_S) C hW hV (st_0 hS) (hS.uP rfl) hE dX0_tear_15 (fun u3 H locs hE hW hS hV => ?_)
    refine lv_iload_n hx hb dX0_tear_18 rfl (lv_at hl 0 rfl) ?_
    refine lv_if_eq (tgt := 26) hx hb dX0_tear_19 (by decide) (fun c4 => ?_) (fun c4 => ?_)
    · have hE := z_t c4 hE
      refine lv_iconst (v := (0 : Int32)) hx hb dX0_tear_26 rfl ?_
      exact w_27 _ _ _ _ _ hE hW hS hV (lv_sub hl [] rfl)
    · have hE := z_f c4 hE
      refine lv_iconst (v := (1 : Int32)) hx hb dX0_tear_22 rfl ?_
      refine lv_goto (tgt := 27) hx hb dX0_tear_23 (by decide) ?_
      exact w_27 _ _ _ _ _ hE hW hS hV (lv_sub hl [] rfl)
  unfold fX0_tear at hE
  refine lv_aload_n hx hb dX0_tear_0 rfl (lv_at hl 0 rfl) ?_
  refine cg_X0_413_0 C hW (st_0 hS) dX0_tear_1 ?_
  refine z_nmp hE (fun p5 hE => ?_)
  rcases p5 with _ | n6
  · have hE := o_nu_none hE
    refine lv_ifnullN (tgt := 11) hx hb dX0_tear_4 (by decide) ?_
    refine lv_iconst (v := (0 : Int32)) hx hb dX0_tear_11 rfl ?_
    exact w_12 _ _ _ _ _ hE hW hS hV (lv_sub hl [0] rfl)
  · have hE := o_nu_nn hE
    refine lv_ifnull hx hb dX0_tear_4 ?_
    refine lv_iconst (v := (1 : Int32)) hx hb dX0_tear_7 rfl ?_
    refine lv_goto (tgt := 12) hx hb dX0_tear_8 (by decide) ?_
    exact w_12 _ _ _ _ _ hE hW hS hV (lv_sub hl [0] rfl)
set_option maxHeartbeats 4000000 in
set_option maxRecDepth 100000 in
theorem kX0_row {l : Launch} {D : va_G} {dA : Nat → ClassId} {h N : Nat} {a1 : Int32} {u u1 : CS} {r : Int32} (hE : fX0_row N u a1 = some (r, u1)) : Met l yX0_row (ws_ yX0_row cX0_row 2 (some .int)) ({ frames := 1, cells := 0, slots := 0, locals := 21 }) (va_Pc [.ref (h + 0), .int a1] (wc_St D dA h u)) (wc_Qr D dA h (some (.int r)) u1) 0 0 (CA h) := by
  refine wc_met (own := RX0) (lv := [(0, .ref (h + 0)), (1, .int a1)]) (by decide) rfl rfl rfl ?_
  intro p e s m args below meth c ls C hr hlocks hW hS hV hl
  have hx := C.1.1
  have hb := C.1.2.1
  have w_42 : ∀ (u : CS) (y0 : Int32) (H : Heap) (locs : List Loc) (ls : Array Slot), fX0_row_42 N u y0 = some (r, u1) → wc_W D dA h u H → wc_S u → va_S (CA h) s.heap H locs → lv_has ls 2 [] → W p l e ({ frames := 1, cells := 0, slots := 0, locals := 21 }) s m args below meth c H locs 0 0 (MQ below (wc_Qr D dA h (some (.int r)) u1) args s 0 0 (CA h)) (F0 m 42 ls [.int y0]) := by
    intro u y0 H locs ls hE hW hS hV hl
    unfold fX0_row_42 at hE
    exact wc_iret C hr hlocks hW hS hV hE dX0_row_42
  have w_36 : ∀ (u : CS) (H : Heap) (locs : List Loc) (ls : Array Slot), fX0_row_36 N u = some (r, u1) → wc_W D dA h u H → wc_S u → va_S (CA h) s.heap H locs → lv_has ls 2 [(0, .ref (h + 0))] → W p l e ({ frames := 1, cells := 0, slots := 0, locals := 21 }) s m args below meth c H locs 0 0 (MQ below (wc_Qr D dA h (some (.int r)) u1) args s 0 0 (CA h)) (F0 m 36 ls []) := by
    intro u H locs ls hE hW hS hV hl
    unfold fX0_row_36 at hE
    refine lv_aload_n hx hb dX0_row_36 rfl (lv_at hl 0 rfl) ?_
    refine lv_bipush (v := (-3 : Int32)) hx hb dX0_row_37 rfl ?_
    obtain ⟨r13, u14, hc, hE⟩ := o_bd2_some hE
    refine cc_X0_312 C hW hS hV (st_0 hS) (kX0_refuseAsNought hc) rfl rfl ⟨Nat.le_of_ble_eq_true rfl, Nat.le_of_ble_eq_true rfl⟩ ⟨Nat.le_refl 0, Nat.le_refl 0⟩ dX0_row_39 hl.1 (Nat.le_of_ble_eq_true rfl) (fun H locs hW hS hV => ?_)
    exact w_42 _ _ _ _ _ hE hW hS hV (lv_sub hl [] rfl)
  unfold fX0_row at hE
  refine lv_aload_n hx hb dX0_row_0 rfl (lv_at hl 0 rfl) ?_
  refine cg_X0_413_0 C hW (st_0 hS) dX0_row_1 ?_
  refine z_nmp hE (fun p15 hE => ?_)
  rcases p15 with _ | n16
  · have hE := o_nu_none hE
    refine lv_ifnonnullN hx hb dX0_row_4 ?_
    refine lv_aload_n hx hb dX0_row_7 rfl (lv_at hl 0 rfl) ?_
    refine lv_bipush (v := (-2 : Int32)) hx hb dX0_row_8 rfl ?_
    obtain ⟨r17, u18, hc, hE⟩ := o_bd2_some hE
    refine cc_X0_312 C hW hS hV (st_0 hS) (kX0_refuseAsNought hc) rfl rfl ⟨Nat.le_of_ble_eq_true rfl, Nat.le_of_ble_eq_true rfl⟩ ⟨Nat.le_refl 0, Nat.le_refl 0⟩ dX0_row_10 hl.1 (Nat.le_of_ble_eq_true rfl) (fun H locs hW hS hV => ?_)
    exact wc_iret C hr hlocks hW hS hV hE dX0_row_13
  · have hE := o_nu_nn hE
    refine lv_ifnonnull (tgt := 14) hx hb dX0_row_4 (by decide) ?_
    refine lv_iload_n hx hb dX0_row_14 rfl (lv_at hl 1 rfl) ?_
    refine lv_if_lt (tgt := 36) hx hb dX0_row_15 (by decide) (fun c19 => ?_) (fun c19 => ?_)
    · have hE := z_t c19 hE
      exact w_36 _ _ _ _ hE hW hS hV (lv_sub hl [0] rfl)
    · have hE := z_f c19 hE
      refine lv_iload_n hx hb dX0_row_18 rfl (lv_at hl 1 rfl) ?_
      refine lv_aload_n hx hb dX0_row_19 rfl (lv_at hl 0 rfl) ?_
      refine cg_X0_413_0 C hW (st_0 hS) dX0_row_20 ?_
      refine z_nmp hE (fun p20 hE => ?_)
      obtain ⟨n21, hp_, hE_⟩ := o_nn_some hE
      clear hE
      subst hp_
      have hE := hE_
      obtain ⟨k22, ht, hE⟩ := o_ln_some hE
      refine wc_alen (v := Int32.ofNat k22) C hW ht rfl rfl dX0_row_23 ?_
      refine lv_icmp_ge (tgt := 36) hx hb dX0_row_24 (by decide) (fun c23 => ?_) (fun c23 => ?_)
      · have hE := z_t c23 hE
        exact w_36 _ _ _ _ hE hW hS hV (lv_sub hl [0] rfl)
      · have hE := z_f c23 hE
        refine lv_aload_n hx hb dX0_row_27 rfl (lv_at hl 0 rfl) ?_
        refine cg_X0_413_0 C hW (st_0 hS) dX0_row_28 ?_
        refine z_nmp hE (fun p24 hE => ?_)
        refine lv_iload_n hx hb dX0_row_31 rfl (lv_at hl 1 rfl) ?_
        obtain ⟨n25, hp_, hE_⟩ := o_nn_some hE
        clear hE
        subst hp_
        have hE := hE_
        obtain ⟨k27, ht, hE⟩ := o_ln_some hE
        refine wc_ldi C hW ht hE dX0_row_32 (fun hE => ?_)
        refine z_nmi hE (fun v26 hE => ?_)
        refine lv_goto (tgt := 42) hx hb dX0_row_33 (by decide) ?_
        exact w_42 _ _ _ _ _ hE hW hS hV (lv_sub hl [] rfl)
set_option maxHeartbeats 4000000 in
set_option maxRecDepth 100000 in
theorem kX0_status {l : Launch} {D : va_G} {dA : Nat → ClassId} {h N : Nat} {a1 : Int32} {u u1 : CS} {r : Int32} (hE : fX0_status N u a1 = some (r, u1)) : Met l yX0_status (ws_ yX0_status cX0_status 2 (some .int)) ({ frames := 1, cells := 0, slots := 0, locals := 25 }) (va_Pc [.ref (h + 0), .int a1] (wc_St D dA h u)) (wc_Qr D dA h (some (.int r)) u1) 0 0 (CA h) := by
  refine wc_met (own := RX0) (lv := [(0, .ref (h + 0)), (1, .int a1)]) (by decide) rfl rfl rfl ?_
  intro p e s m args below meth c ls C hr hlocks hW hS hV hl
  have hx := C.1.1
  have hb := C.1.2.1
  have w_30 : ∀ (u : CS) (y0 : Int32) (H : Heap) (locs : List Loc) (ls : Array Slot), fX0_status_30 N u y0 = some (r, u1) → wc_W D dA h u H → wc_S u → va_S (CA h) s.heap H locs → lv_has ls 2 [] → W p l e ({ frames := 1, cells := 0, slots := 0, locals := 25 }) s m args below meth c H locs 0 0 (MQ below (wc_Qr D dA h (some (.int r)) u1) args s 0 0 (CA h)) (F0 m 30 ls [.int y0]) := by
    intro u y0 H locs ls hE hW hS hV hl
    unfold fX0_status_30 at hE
    exact wc_iret C hr hlocks hW hS hV hE dX0_status_30
  unfold fX0_status at hE
  refine lv_iload_n hx hb dX0_status_0 rfl (lv_at hl 1 rfl) ?_
  refine lv_i2l hx hb dX0_status_1 rfl ?_
  refine lv_ldc2 (v := (-8 : Int64)) hx hb C.1.2.2.2.1 (C.1.2.2.2.2 _ q1617) dX0_status_2 ?_
  refine lv_ldc2 (v := (-2 : Int64)) hx hb C.1.2.2.2.1 (C.1.2.2.2.2 _ q1618) dX0_status_5 ?_
  obtain ⟨r5, hc, hE⟩ := o_bd_some hE
  refine sc_X0_31 C.1 (kX0_isIn hc) rfl rfl ⟨Nat.le_of_ble_eq_true rfl, Nat.le_of_ble_eq_true rfl⟩ ⟨Nat.le_refl 0, Nat.le_refl 0⟩ dX0_status_8 hl.1 (Nat.le_of_ble_eq_true rfl) ?_
  refine lv_if_eq (tgt := 24) hx hb dX0_status_11 (by decide) (fun c6 => ?_) (fun c6 => ?_)
  · have hE := z_t c6 hE
    refine lv_aload_n hx hb dX0_status_24 rfl (lv_at hl 0 rfl) ?_
    refine lv_bipush (v := (-7 : Int32)) hx hb dX0_status_25 rfl ?_
    obtain ⟨r7, u8, hc, hE⟩ := o_bd2_some hE
    refine cc_X0_118 C hW hS hV (st_0 hS) (kX0_refuse hc) rfl rfl ⟨Nat.le_of_ble_eq_true rfl, Nat.le_of_ble_eq_true rfl⟩ ⟨Nat.le_refl 0, Nat.le_refl 0⟩ dX0_status_27 hl.1 (Nat.le_of_ble_eq_true rfl) (fun H locs hW hS hV => ?_)
    exact w_30 _ _ _ _ _ hE hW hS hV (lv_sub hl [] rfl)
  · have hE := z_f c6 hE
    refine lv_aload_n hx hb dX0_status_14 rfl (lv_at hl 0 rfl) ?_
    refine cgs_X0_1_0 C hW (st_0 hS) (sp_0_refused hS) dX0_status_15 ?_
    refine lv_iload_n hx hb dX0_status_18 rfl (lv_at hl 1 rfl) ?_
    refine lv_ineg hx hb dX0_status_19 ?_
    refine wc_ldi C hW (st_0_refused hS) hE dX0_status_20 (fun hE => ?_)
    refine z_nmi hE (fun v9 hE => ?_)
    refine lv_goto (tgt := 30) hx hb dX0_status_21 (by decide) ?_
    exact w_30 _ _ _ _ _ hE hW hS hV (lv_sub hl [] rfl)
end CG6
