section CG1
variable {p : Program} {l : Launch} {e : Env} {R : Room} {s : State} {m : MethodId} {args : Array Value} {below : List Frame} {meth : Method} {c : Code} {H : Heap} {locs : List Loc} {cells slots : Nat} {Q : State → Prop} {cc : ByteArray} {nL pc : Nat} {ls : Array Slot} {rest : List Value} {D : va_G} {dA : Nat → ClassId} {h : Nat} {H0 : Heap}
theorem cc_X0_148 {a1 : Int32} {r : Int32} {u u1 : CS} {rm : Room} (C : CC p m c cc nL s args D dA RX0) (hW : wc_W D dA h u H) (hS : wc_S u) (hV : va_S (CA h) H0 H locs) (ht : wc_T u 0 = some (.inl 0)) (hM : Met l yX0_isStand (ws_ yX0_isStand cX0_isStand 2 (some .boolean)) rm (va_Pc [.ref (h + 0), .int a1] (wc_St D dA h u)) (wc_Qr D dA h (some (.int r)) u1) 0 0 (CA h)) (hrc : rm.cells = 0) (hrs : rm.slots = 0) (hR : rm.frames + 1 ≤ R.frames ∧ 8 + (2 + 11) + rm.locals ≤ R.locals) (hf : cells + 0 ≤ R.cells ∧ slots + 0 ≤ R.slots) (d : decode cc pc = .ok (.invokevirtual 148, 3)) (hsz : ls.size = nL) (hro : (rest.map fun v => v.category).sum ≤ 8) (kk : ∀ (H1 : Heap) (locs1 : List Loc), wc_W D dA h u1 H1 → wc_S u1 → va_S (CA h) H0 H1 locs1 → W p l e R s m args below meth c H1 locs1 cells slots Q (F0 m (pc + 3) ls (.int r :: rest))) : W p l e R s m args below meth c H locs cells slots Q (F0 m pc ls (.int a1 :: .ref (h + 0) :: rest)) :=
  wc_call (v := (some (.int r))) (va_runV (As := [.int a1]) (rest := rest) C.1 hM (cwV 1 C.1.2.2.2.2 (lw_V q698 q700 qs4 q166 q701) rfl hrc hrs (by decide +kernel) hR) (wc_preV (q := (RX0, TX0, 27)) C.2 hW hS ht rfl _) rfl rfl hsz rfl (lv_room hro) d hf) hV (fun _ z => z) (fun H1 locs1 a b c0 _ _ => kk H1 locs1 a b c0)
set_option maxHeartbeats 4000000 in
set_option maxRecDepth 100000 in
theorem kX0_isStand {l : Launch} {D : va_G} {dA : Nat → ClassId} {h N : Nat} {a1 : Int32} {u u1 : CS} {r : Int32} (hE : fX0_isStand N u a1 = some (r, u1)) : Met l yX0_isStand (ws_ yX0_isStand cX0_isStand 2 (some .boolean)) ({ frames := 0, cells := 0, slots := 0, locals := 0 }) (va_Pc [.ref (h + 0), .int a1] (wc_St D dA h u)) (wc_Qr D dA h (some (.int r)) u1) 0 0 (CA h) := by
  refine wc_met (own := RX0) (lv := [(0, .ref (h + 0)), (1, .int a1)]) (by decide) rfl rfl rfl ?_
  intro p e s m args below meth c ls C hr hlocks hW hS hV hl
  have hx := C.1.1
  have hb := C.1.2.1
  have w_20 : ∀ (u : CS) (y0 : Int32) (H : Heap) (locs : List Loc) (ls : Array Slot), fX0_isStand_20 N u y0 = some (r, u1) → wc_W D dA h u H → wc_S u → va_S (CA h) s.heap H locs → lv_has ls 2 [] → W p l e ({ frames := 0, cells := 0, slots := 0, locals := 0 }) s m args below meth c H locs 0 0 (MQ below (wc_Qr D dA h (some (.int r)) u1) args s 0 0 (CA h)) (F0 m 20 ls [.int y0]) := by
    intro u y0 H locs ls hE hW hS hV hl
    unfold fX0_isStand_20 at hE
    obtain ⟨hb1, hE⟩ := o_bl_some hE
    exact wc_zret C hr hlocks hW hS hV hb1 hE dX0_isStand_20
  have w_19 : ∀ (u : CS) (H : Heap) (locs : List Loc) (ls : Array Slot), fX0_isStand_19 N u = some (r, u1) → wc_W D dA h u H → wc_S u → va_S (CA h) s.heap H locs → lv_has ls 2 [] → W p l e ({ frames := 0, cells := 0, slots := 0, locals := 0 }) s m args below meth c H locs 0 0 (MQ below (wc_Qr D dA h (some (.int r)) u1) args s 0 0 (CA h)) (F0 m 19 ls []) := by
    intro u H locs ls hE hW hS hV hl
    unfold fX0_isStand_19 at hE
    refine lv_iconst (v := (0 : Int32)) hx hb dX0_isStand_19 rfl ?_
    exact w_20 _ _ _ _ _ hE hW hS hV (lv_sub hl [] rfl)
  unfold fX0_isStand at hE
  refine lv_iload_n hx hb dX0_isStand_0 rfl (lv_at hl 1 rfl) ?_
  refine lv_if_lt (tgt := 19) hx hb dX0_isStand_1 (by decide) (fun c1 => ?_) (fun c1 => ?_)
  · have hE := z_t c1 hE
    exact w_19 _ _ _ _ hE hW hS hV (lv_sub hl [] rfl)
  · have hE := z_f c1 hE
    refine lv_iload_n hx hb dX0_isStand_4 rfl (lv_at hl 1 rfl) ?_
    refine lv_aload_n hx hb dX0_isStand_5 rfl (lv_at hl 0 rfl) ?_
    refine cgs_X0_19_0 C hW (st_0 hS) (sp_0_now hS) dX0_isStand_6 ?_
    refine cg_X0_23_1 C hW (st_F hS wc_F3) dX0_isStand_9 ?_
    refine lv_icmp_ge (tgt := 19) hx hb dX0_isStand_12 (by decide) (fun c2 => ?_) (fun c2 => ?_)
    · have hE := z_t c2 hE
      exact w_19 _ _ _ _ hE hW hS hV (lv_sub hl [] rfl)
    · have hE := z_f c2 hE
      refine lv_iconst (v := (1 : Int32)) hx hb dX0_isStand_15 rfl ?_
      refine lv_goto (tgt := 20) hx hb dX0_isStand_16 (by decide) ?_
      exact w_20 _ _ _ _ _ hE hW hS hV (lv_sub hl [] rfl)
theorem cc_X0_151 {F : Nat} {a1 : Int32} {a2 : Int32} {r : Int32} {u u1 : CS} {rm : Room} (C : CC p m c cc nL s args D dA RX0) (hW : wc_W D dA h u H) (hS : wc_S u) (hV : va_S (CA h) H0 H locs) (ht : wc_T u F = some (.inl 1)) (hM : Met l yX1_areNeighbours (ws_ yX1_areNeighbours cX1_areNeighbours 4 (some .boolean)) rm (va_Pc [.ref (h + F), .int a1, .int a2] (wc_St D dA h u)) (wc_Qr D dA h (some (.int r)) u1) 0 0 (CA h)) (hrc : rm.cells = 0) (hrs : rm.slots = 0) (hR : rm.frames + 1 ≤ R.frames ∧ 8 + (4 + 11) + rm.locals ≤ R.locals) (hf : cells + 0 ≤ R.cells ∧ slots + 0 ≤ R.slots) (d : decode cc pc = .ok (.invokevirtual 151, 3)) (hsz : ls.size = nL) (hro : (rest.map fun v => v.category).sum ≤ 8) (kk : ∀ (H1 : Heap) (locs1 : List Loc), wc_W D dA h u1 H1 → wc_S u1 → va_S (CA h) H0 H1 locs1 → W p l e R s m args below meth c H1 locs1 cells slots Q (F0 m (pc + 3) ls (.int r :: rest))) : W p l e R s m args below meth c H locs cells slots Q (F0 m pc ls (.int a2 :: .int a1 :: .ref (h + F) :: rest)) :=
  wc_call (v := (some (.int r))) (va_runVN (As := [.int a1, .int a2]) (rest := rest) C.1 hM ⟨va_cnB 2 C.1.2.2.2.2 (lw_meth q705) rfl hrc hrs (C.2.2.at q702 rfl) (C.1.2.2.2.2 _ q167) (by decide +kernel) hR, C.1.2.2.2.2 _ q704, C.1.2.2.2.2 _ qs5⟩ (wc_preV (q := (RX1, TX1, 46)) C.2 hW hS ht rfl _) rfl rfl hsz rfl (lv_room hro) d hf) hV (fun _ z => z) (fun H1 locs1 a b c0 _ _ => kk H1 locs1 a b c0)
set_option maxHeartbeats 4000000 in
set_option maxRecDepth 100000 in
theorem kX1_areNeighbours {l : Launch} {D : va_G} {dA : Nat → ClassId} {h N : Nat} {F : Nat} {a1 : Int32} {a2 : Int32} {u u1 : CS} {r : Int32} (hF : wc_F F) (hE : fX1_areNeighbours N F u a1 a2 = some (r, u1)) : Met l yX1_areNeighbours (ws_ yX1_areNeighbours cX1_areNeighbours 4 (some .boolean)) ({ frames := 0, cells := 0, slots := 0, locals := 0 }) (va_Pc [.ref (h + F), .int a1, .int a2] (wc_St D dA h u)) (wc_Qr D dA h (some (.int r)) u1) 0 0 (CA h) := by
  refine wc_met (own := RX1) (lv := [(0, .ref (h + F)), (1, .int a1), (2, .int a2)]) (by decide) rfl rfl rfl ?_
  intro p e s m args below meth c ls C hr hlocks hW hS hV hl
  have hx := C.1.1
  have hb := C.1.2.1
  have w_52 : ∀ (ag2 : CS → Int32 → Int32 → Int32 → Option (Int32 × CS)) (hag2 : (∀ (u : CS) (x1 : Int32) (x2 : Int32) (x3 : Int32) (H : Heap) (locs : List Loc) (ls : Array Slot), ag2 u x1 x2 x3 = some (r, u1) → wc_W D dA h u H → wc_S u → va_S (CA h) s.heap H locs → lv_has ls 4 [(0, .ref (h + F)), (1, .int x1), (2, .int x2), (3, .int x3)] → W p l e ({ frames := 0, cells := 0, slots := 0, locals := 0 }) s m args below meth c H locs 0 0 (MQ below (wc_Qr D dA h (some (.int r)) u1) args s 0 0 (CA h)) (F0 m 2 ls []))) (u : CS) (x1 : Int32) (x2 : Int32) (x3 : Int32) (H : Heap) (locs : List Loc) (ls : Array Slot), fX1_areNeighbours_52 N F ag2 u x1 x2 x3 = some (r, u1) → wc_W D dA h u H → wc_S u → va_S (CA h) s.heap H locs → lv_has ls 4 [(0, .ref (h + F)), (1, .int x1), (2, .int x2), (3, .int x3)] → W p l e ({ frames := 0, cells := 0, slots := 0, locals := 0 }) s m args below meth c H locs 0 0 (MQ below (wc_Qr D dA h (some (.int r)) u1) args s 0 0 (CA h)) (F0 m 52 ls []) := by
    intro ag2 hag2 u x1 x2 x3 H locs ls hE hW hS hV hl
    unfold fX1_areNeighbours_52 at hE
    refine z_iinc (v := (x3 + (1 : Int32))) (lw := (fun y_ => [(3, .int y_), (0, .ref (h + F)), (1, .int x1), (2, .int x2)])) hx hb dX1_areNeighbours_52 hl hE (k := 3) rfl rfl (by decide) (fun _ => rfl) (fun z6 ls hE hl => ?_)
    refine lv_goto (tgt := 2) hx hb dX1_areNeighbours_55 (by decide) ?_
    exact hag2 _ _ _ _ _ _ _ hE hW hS hV (lv_sub hl [1, 2, 3, 0] rfl)
  have w_50 : ∀ (u : CS) (H : Heap) (locs : List Loc) (ls : Array Slot), fX1_areNeighbours_50 N F u = some (r, u1) → wc_W D dA h u H → wc_S u → va_S (CA h) s.heap H locs → lv_has ls 4 [] → W p l e ({ frames := 0, cells := 0, slots := 0, locals := 0 }) s m args below meth c H locs 0 0 (MQ below (wc_Qr D dA h (some (.int r)) u1) args s 0 0 (CA h)) (F0 m 50 ls []) := by
    intro u H locs ls hE hW hS hV hl
    unfold fX1_areNeighbours_50 at hE
    refine lv_iconst (v := (1 : Int32)) hx hb dX1_areNeighbours_50 rfl ?_
    exact wc_zret C hr hlocks hW hS hV (Or.inr rfl) hE dX1_areNeighbours_51
  have w_30 : ∀ (ag2 : CS → Int32 → Int32 → Int32 → Option (Int32 × CS)) (hag2 : (∀ (u : CS) (x1 : Int32) (x2 : Int32) (x3 : Int32) (H : Heap) (locs : List Loc) (ls : Array Slot), ag2 u x1 x2 x3 = some (r, u1) → wc_W D dA h u H → wc_S u → va_S (CA h) s.heap H locs → lv_has ls 4 [(0, .ref (h + F)), (1, .int x1), (2, .int x2), (3, .int x3)] → W p l e ({ frames := 0, cells := 0, slots := 0, locals := 0 }) s m args below meth c H locs 0 0 (MQ below (wc_Qr D dA h (some (.int r)) u1) args s 0 0 (CA h)) (F0 m 2 ls []))) (u : CS) (x1 : Int32) (x2 : Int32) (x3 : Int32) (H : Heap) (locs : List Loc) (ls : Array Slot), fX1_areNeighbours_30 N F ag2 u x1 x2 x3 = some (r, u1) → wc_W D dA h u H → wc_S u → va_S (CA h) s.heap H locs → lv_has ls 4 [(0, .ref (h + F)), (1, .int x1), (2, .int x2), (3, .int x3)] → W p l e ({ frames := 0, cells := 0, slots := 0, locals := 0 }) s m args below meth c H locs 0 0 (MQ below (wc_Qr D dA h (some (.int r)) u1) args s 0 0 (CA h)) (F0 m 30 ls []) := by
    intro ag2 hag2 u x1 x2 x3 H locs ls hE hW hS hV hl
    unfold fX1_areNeighbours_30 at hE
    refine lv_aload_n hx hb dX1_areNeighbours_30 rfl (lv_at hl 0 rfl) ?_
    refine cgs_X1_45_1 C hW (st_F hS hF) (sp_F_pairA hS hF) dX1_areNeighbours_31 ?_
    refine lv_iload_n hx hb dX1_areNeighbours_34 rfl (lv_at hl 3 rfl) ?_
    refine wc_ldi C hW (st_F_pairA hS hF) hE dX1_areNeighbours_35 (fun hE => ?_)
    refine z_nmi hE (fun v7 hE => ?_)
    refine lv_iload_n hx hb dX1_areNeighbours_36 rfl (lv_at hl 2 rfl) ?_
    refine lv_icmp_ne (tgt := 52) hx hb dX1_areNeighbours_37 (by decide) (fun c8 => ?_) (fun c8 => ?_)
    · have hE := z_f c8 hE
      exact w_52 ag2 hag2 _ _ _ _ _ _ _ hE hW hS hV (lv_sub hl [0, 1, 2, 3] rfl)
    · have hE := z_t c8 hE
      refine lv_aload_n hx hb dX1_areNeighbours_40 rfl (lv_at hl 0 rfl) ?_
      refine cgs_X1_48_1 C hW (st_F hS hF) (sp_F_pairB hS hF) dX1_areNeighbours_41 ?_
      refine lv_iload_n hx hb dX1_areNeighbours_44 rfl (lv_at hl 3 rfl) ?_
      refine wc_ldi C hW (st_F_pairB hS hF) hE dX1_areNeighbours_45 (fun hE => ?_)
      refine z_nmi hE (fun v9 hE => ?_)
      refine lv_iload_n hx hb dX1_areNeighbours_46 rfl (lv_at hl 1 rfl) ?_
      refine lv_icmp_ne (tgt := 52) hx hb dX1_areNeighbours_47 (by decide) (fun c10 => ?_) (fun c10 => ?_)
      · have hE := z_f c10 hE
        exact w_52 ag2 hag2 _ _ _ _ _ _ _ hE hW hS hV (lv_sub hl [0, 1, 2, 3] rfl)
      · have hE := z_t c10 hE
        exact w_50 _ _ _ _ hE hW hS hV (lv_sub hl [] rfl)
  have w_2 : ∀ (n : Nat) (u : CS) (x1 : Int32) (x2 : Int32) (x3 : Int32) (H : Heap) (locs : List Loc) (ls : Array Slot), fX1_areNeighbours_2 N F n u x1 x2 x3 = some (r, u1) → wc_W D dA h u H → wc_S u → va_S (CA h) s.heap H locs → lv_has ls 4 [(0, .ref (h + F)), (1, .int x1), (2, .int x2), (3, .int x3)] → W p l e ({ frames := 0, cells := 0, slots := 0, locals := 0 }) s m args below meth c H locs 0 0 (MQ below (wc_Qr D dA h (some (.int r)) u1) args s 0 0 (CA h)) (F0 m 2 ls []) := by
    intro n
    induction n with
    | zero =>
      intro u x1 x2 x3 H locs ls hE hW hS hV hl
      cases (show (none : Option (Int32 × CS)) = some (r, u1) from hE)
    | succ n ih =>
      intro u x1 x2 x3 H locs ls hE hW hS hV hl
      rw [fX1_areNeighbours_2] at hE
      refine lv_iload_n hx hb dX1_areNeighbours_2 rfl (lv_at hl 3 rfl) ?_
      refine lv_aload_n hx hb dX1_areNeighbours_3 rfl (lv_at hl 0 rfl) ?_
      refine cg_X1_171_1 C hW (st_F hS hF) dX1_areNeighbours_4 ?_
      refine lv_icmp_ge (tgt := 58) hx hb dX1_areNeighbours_7 (by decide) (fun c11 => ?_) (fun c11 => ?_)
      · have hE := z_t c11 hE
        refine lv_iconst (v := (0 : Int32)) hx hb dX1_areNeighbours_58 rfl ?_
        exact wc_zret C hr hlocks hW hS hV (Or.inl rfl) hE dX1_areNeighbours_59
      · have hE := z_f c11 hE
        refine lv_aload_n hx hb dX1_areNeighbours_10 rfl (lv_at hl 0 rfl) ?_
        refine cgs_X1_45_1 C hW (st_F hS hF) (sp_F_pairA hS hF) dX1_areNeighbours_11 ?_
        refine lv_iload_n hx hb dX1_areNeighbours_14 rfl (lv_at hl 3 rfl) ?_
        refine wc_ldi C hW (st_F_pairA hS hF) hE dX1_areNeighbours_15 (fun hE => ?_)
        refine z_nmi hE (fun v12 hE => ?_)
        refine lv_iload_n hx hb dX1_areNeighbours_16 rfl (lv_at hl 1 rfl) ?_
        refine lv_icmp_ne (tgt := 30) hx hb dX1_areNeighbours_17 (by decide) (fun c13 => ?_) (fun c13 => ?_)
        · have hE := z_f c13 hE
          exact w_30 (fX1_areNeighbours_2 N F n) ih _ _ _ _ _ _ _ hE hW hS hV (lv_sub hl [0, 1, 2, 3] rfl)
        · have hE := z_t c13 hE
          refine lv_aload_n hx hb dX1_areNeighbours_20 rfl (lv_at hl 0 rfl) ?_
          refine cgs_X1_48_1 C hW (st_F hS hF) (sp_F_pairB hS hF) dX1_areNeighbours_21 ?_
          refine lv_iload_n hx hb dX1_areNeighbours_24 rfl (lv_at hl 3 rfl) ?_
          refine wc_ldi C hW (st_F_pairB hS hF) hE dX1_areNeighbours_25 (fun hE => ?_)
          refine z_nmi hE (fun v14 hE => ?_)
          refine lv_iload_n hx hb dX1_areNeighbours_26 rfl (lv_at hl 2 rfl) ?_
          refine lv_icmp_eq (tgt := 50) hx hb dX1_areNeighbours_27 (by decide) (fun c15 => ?_) (fun c15 => ?_)
          · have hE := z_t c15 hE
            exact w_50 _ _ _ _ hE hW hS hV (lv_sub hl [] rfl)
          · have hE := z_f c15 hE
            exact w_30 (fX1_areNeighbours_2 N F n) ih _ _ _ _ _ _ _ hE hW hS hV (lv_sub hl [0, 1, 2, 3] rfl)
  unfold fX1_areNeighbours at hE
  refine lv_iconst (v := (0 : Int32)) hx hb dX1_areNeighbours_0 rfl ?_
  refine lv_istore_n (lv' := [(3, .int (0 : Int32)), (0, .ref (h + F)), (1, .int a1), (2, .int a2)]) hx hb dX1_areNeighbours_1 rfl hl (by decide) rfl (fun ls hl => ?_)
  exact w_2 N _ _ _ _ _ _ _ hE hW hS hV (lv_sub hl [1, 2, 3, 0] rfl)
set_option maxHeartbeats 4000000 in
set_option maxRecDepth 100000 in
theorem kX0_neighbours {l : Launch} {D : va_G} {dA : Nat → ClassId} {h N : Nat} {a1 : Int32} {a2 : Int32} {u u1 : CS} {r : Int32} (hE : fX0_neighbours N u a1 a2 = some (r, u1)) : Met l yX0_neighbours (ws_ yX0_neighbours cX0_neighbours 3 (some .int)) ({ frames := 1, cells := 0, slots := 0, locals := 23 }) (va_Pc [.ref (h + 0), .int a1, .int a2] (wc_St D dA h u)) (wc_Qr D dA h (some (.int r)) u1) 0 0 (CA h) := by
  refine wc_met (own := RX0) (lv := [(0, .ref (h + 0)), (1, .int a1), (2, .int a2)]) (by decide) rfl rfl rfl ?_
  intro p e s m args below meth c ls C hr hlocks hW hS hV hl
  have hx := C.1.1
  have hb := C.1.2.1
  have w_16 : ∀ (u : CS) (H : Heap) (locs : List Loc) (ls : Array Slot), fX0_neighbours_16 N u = some (r, u1) → wc_W D dA h u H → wc_S u → va_S (CA h) s.heap H locs → lv_has ls 3 [(0, .ref (h + 0))] → W p l e ({ frames := 1, cells := 0, slots := 0, locals := 23 }) s m args below meth c H locs 0 0 (MQ below (wc_Qr D dA h (some (.int r)) u1) args s 0 0 (CA h)) (F0 m 16 ls []) := by
    intro u H locs ls hE hW hS hV hl
    unfold fX0_neighbours_16 at hE
    refine lv_aload_n hx hb dX0_neighbours_16 rfl (lv_at hl 0 rfl) ?_
    refine lv_bipush (v := (-3 : Int32)) hx hb dX0_neighbours_17 rfl ?_
    obtain ⟨r14, u15, hc, hE⟩ := o_bd2_some hE
    refine cc_X0_118 C hW hS hV (st_0 hS) (kX0_refuse hc) rfl rfl ⟨Nat.le_of_ble_eq_true rfl, Nat.le_of_ble_eq_true rfl⟩ ⟨Nat.le_refl 0, Nat.le_refl 0⟩ dX0_neighbours_19 hl.1 (Nat.le_of_ble_eq_true rfl) (fun H locs hW hS hV => ?_)
    exact wc_iret C hr hlocks hW hS hV hE dX0_neighbours_22
  have w_40 : ∀ (u : CS) (H : Heap) (locs : List Loc) (ls : Array Slot), fX0_neighbours_40 N u = some (r, u1) → wc_W D dA h u H → wc_S u → va_S (CA h) s.heap H locs → lv_has ls 3 [(0, .ref (h + 0))] → W p l e ({ frames := 1, cells := 0, slots := 0, locals := 23 }) s m args below meth c H locs 0 0 (MQ below (wc_Qr D dA h (some (.int r)) u1) args s 0 0 (CA h)) (F0 m 40 ls []) := by
    intro u H locs ls hE hW hS hV hl
    unfold fX0_neighbours_40 at hE
    refine lv_aload_n hx hb dX0_neighbours_40 rfl (lv_at hl 0 rfl) ?_
    refine lv_bipush (v := (-7 : Int32)) hx hb dX0_neighbours_41 rfl ?_
    obtain ⟨r16, u17, hc, hE⟩ := o_bd2_some hE
    refine cc_X0_118 C hW hS hV (st_0 hS) (kX0_refuse hc) rfl rfl ⟨Nat.le_of_ble_eq_true rfl, Nat.le_of_ble_eq_true rfl⟩ ⟨Nat.le_refl 0, Nat.le_refl 0⟩ dX0_neighbours_43 hl.1 (Nat.le_of_ble_eq_true rfl) (fun H locs hW hS hV => ?_)
    exact wc_iret C hr hlocks hW hS hV hE dX0_neighbours_46
  unfold fX0_neighbours at hE
  refine lv_aload_n hx hb dX0_neighbours_0 rfl (lv_at hl 0 rfl) ?_
  refine lv_iload_n hx hb dX0_neighbours_1 rfl (lv_at hl 1 rfl) ?_
  obtain ⟨r18, u19, hc, hE⟩ := o_bd2_some hE
  refine cc_X0_148 C hW hS hV (st_0 hS) (kX0_isStand hc) rfl rfl ⟨Nat.le_of_ble_eq_true rfl, Nat.le_of_ble_eq_true rfl⟩ ⟨Nat.le_refl 0, Nat.le_refl 0⟩ dX0_neighbours_2 hl.1 (Nat.le_of_ble_eq_true rfl) (fun H locs hW hS hV => ?_)
  refine lv_if_eq (tgt := 16) hx hb dX0_neighbours_5 (by decide) (fun c20 => ?_) (fun c20 => ?_)
  · have hE := z_t c20 hE
    exact w_16 _ _ _ _ hE hW hS hV (lv_sub hl [0] rfl)
  · have hE := z_f c20 hE
    refine lv_aload_n hx hb dX0_neighbours_8 rfl (lv_at hl 0 rfl) ?_
    refine lv_iload_n hx hb dX0_neighbours_9 rfl (lv_at hl 2 rfl) ?_
    obtain ⟨r21, u22, hc, hE⟩ := o_bd2_some hE
    refine cc_X0_148 C hW hS hV (st_0 hS) (kX0_isStand hc) rfl rfl ⟨Nat.le_of_ble_eq_true rfl, Nat.le_of_ble_eq_true rfl⟩ ⟨Nat.le_refl 0, Nat.le_refl 0⟩ dX0_neighbours_10 hl.1 (Nat.le_of_ble_eq_true rfl) (fun H locs hW hS hV => ?_)
    refine lv_if_ne (tgt := 23) hx hb dX0_neighbours_13 (by decide) (fun c23 => ?_) (fun c23 => ?_)
    · have hE := z_f c23 hE
      refine lv_iload_n hx hb dX0_neighbours_23 rfl (lv_at hl 1 rfl) ?_
      refine lv_iload_n hx hb dX0_neighbours_24 rfl (lv_at hl 2 rfl) ?_
      refine lv_icmp_eq (tgt := 40) hx hb dX0_neighbours_25 (by decide) (fun c24 => ?_) (fun c24 => ?_)
      · have hE := z_t c24 hE
        exact w_40 _ _ _ _ hE hW hS hV (lv_sub hl [0] rfl)
      · have hE := z_f c24 hE
        refine lv_aload_n hx hb dX0_neighbours_28 rfl (lv_at hl 0 rfl) ?_
        refine cgs_X0_19_0 C hW (st_0 hS) (sp_0_now hS) dX0_neighbours_29 ?_
        refine lv_iload_n hx hb dX0_neighbours_32 rfl (lv_at hl 1 rfl) ?_
        refine lv_iload_n hx hb dX0_neighbours_33 rfl (lv_at hl 2 rfl) ?_
        obtain ⟨r25, u26, hc, hE⟩ := o_bd2_some hE
        refine cc_X0_151 C hW hS hV (st_F hS wc_F3) (kX1_areNeighbours wc_F3 hc) rfl rfl ⟨Nat.le_of_ble_eq_true rfl, Nat.le_of_ble_eq_true rfl⟩ ⟨Nat.le_refl 0, Nat.le_refl 0⟩ dX0_neighbours_34 hl.1 (Nat.le_of_ble_eq_true rfl) (fun H locs hW hS hV => ?_)
        refine lv_if_eq (tgt := 47) hx hb dX0_neighbours_37 (by decide) (fun c27 => ?_) (fun c27 => ?_)
        · have hE := z_t c27 hE
          refine lv_aload_n hx hb dX0_neighbours_47 rfl (lv_at hl 0 rfl) ?_
          refine cgs_X0_19_0 C hW (st_0 hS) (sp_0_now hS) dX0_neighbours_48 ?_
          refine cg_X0_155_1 C hW (st_F hS wc_F3) dX0_neighbours_51 ?_
          refine lv_bipush (v := (60 : Int32)) hx hb dX0_neighbours_54 rfl ?_
          refine lv_icmp_ne (tgt := 66) hx hb dX0_neighbours_56 (by decide) (fun c28 => ?_) (fun c28 => ?_)
          · have hE := z_f c28 hE
            refine lv_aload_n hx hb dX0_neighbours_66 rfl (lv_at hl 0 rfl) ?_
            refine cgs_X0_19_0 C hW (st_0 hS) (sp_0_now hS) dX0_neighbours_67 ?_
            refine cgs_X0_158_1 C hW (st_F hS wc_F3) (sp_F_pairA hS wc_F3) dX0_neighbours_70 ?_
            refine lv_aload_n hx hb dX0_neighbours_73 rfl (lv_at hl 0 rfl) ?_
            refine cgs_X0_19_0 C hW (st_0 hS) (sp_0_now hS) dX0_neighbours_74 ?_
            refine cg_X0_155_1 C hW (st_F hS wc_F3) dX0_neighbours_77 ?_
            refine lv_iload_n hx hb dX0_neighbours_80 rfl (lv_at hl 1 rfl) ?_
            refine wc_sti (J := wc_S) C hW hV (st_F_pairA hS wc_F3) hS.uA hE dX0_neighbours_81 (fun u29 H locs hE hW hS hV => ?_)
            refine lv_aload_n hx hb dX0_neighbours_82 rfl (lv_at hl 0 rfl) ?_
            refine cgs_X0_19_0 C hW (st_0 hS) (sp_0_now hS) dX0_neighbours_83 ?_
            refine cgs_X0_161_1 C hW (st_F hS wc_F3) (sp_F_pairB hS wc_F3) dX0_neighbours_86 ?_
            refine lv_aload_n hx hb dX0_neighbours_89 rfl (lv_at hl 0 rfl) ?_
            refine cgs_X0_19_0 C hW (st_0 hS) (sp_0_now hS) dX0_neighbours_90 ?_
            refine cg_X0_155_1 C hW (st_F hS wc_F3) dX0_neighbours_93 ?_
            refine lv_iload_n hx hb dX0_neighbours_96 rfl (lv_at hl 2 rfl) ?_
            refine wc_sti (J := wc_S) C hW hV (st_F_pairB hS wc_F3) hS.uA hE dX0_neighbours_97 (fun u30 H locs hE hW hS hV => ?_)
            refine lv_aload_n hx hb dX0_neighbours_98 rfl (lv_at hl 0 rfl) ?_
            refine cgs_X0_19_0 C hW (st_0 hS) (sp_0_now hS) dX0_neighbours_99 ?_
            refine lv_dup hx hb dX0_neighbours_102 rfl ?_
            refine cg_X0_155_1 C hW (st_F hS wc_F3) dX0_neighbours_103 ?_
            refine lv_iconst (v := (1 : Int32)) hx hb dX0_neighbours_106 rfl ?_
            refine lv_iadd hx hb dX0_neighbours_107 ?_
            refine cp_X0_155_1 (J := wc_S) C hW hV (st_F hS wc_F3) hS.uI hE dX0_neighbours_108 (fun u31 H locs hE hW hS hV => ?_)
            refine lv_aload_n hx hb dX0_neighbours_111 rfl (lv_at hl 0 rfl) ?_
            refine cgs_X0_19_0 C hW (st_0 hS) (sp_0_now hS) dX0_neighbours_112 ?_
            refine cg_X0_155_1 C hW (st_F hS wc_F3) dX0_neighbours_115 ?_
            exact wc_iret C hr hlocks hW hS hV hE dX0_neighbours_118
          · have hE := z_t c28 hE
            refine lv_aload_n hx hb dX0_neighbours_59 rfl (lv_at hl 0 rfl) ?_
            refine lv_bipush (v := (-8 : Int32)) hx hb dX0_neighbours_60 rfl ?_
            obtain ⟨r32, u33, hc, hE⟩ := o_bd2_some hE
            refine cc_X0_118 C hW hS hV (st_0 hS) (kX0_refuse hc) rfl rfl ⟨Nat.le_of_ble_eq_true rfl, Nat.le_of_ble_eq_true rfl⟩ ⟨Nat.le_refl 0, Nat.le_refl 0⟩ dX0_neighbours_62 hl.1 (Nat.le_of_ble_eq_true rfl) (fun H locs hW hS hV => ?_)
            exact wc_iret C hr hlocks hW hS hV hE dX0_neighbours_65
        · have hE := z_f c27 hE
          exact w_40 _ _ _ _ hE hW hS hV (lv_sub hl [0] rfl)
    · have hE := z_t c23 hE
      exact w_16 _ _ _ _ hE hW hS hV (lv_sub hl [0] rfl)
theorem sc_X0_11 {a1 : Int32} {r : Int32} {rm : Room} (C : CallFix p m c cc nL s args lw_all RX0) (hM : Met l yX0_half (ws_ yX0_half cX0_half 1 (some .int)) rm (va_Pc [.int a1] (fun _ => True)) (s_Q (some (.int r))) 0 0 (fun _ => False)) (hrc : rm.cells = 0) (hrs : rm.slots = 0) (hR : rm.frames + 1 ≤ R.frames ∧ 8 + (1 + 11) + rm.locals ≤ R.locals) (hf : cells + 0 ≤ R.cells ∧ slots + 0 ≤ R.slots) (d : decode cc pc = .ok (.invokestatic 11, 3)) (hsz : ls.size = nL) (hro : (rest.map fun v => v.category).sum ≤ 8) (kk : W p l e R s m args below meth c H locs cells slots Q (F0 m (pc + 3) ls (.int r :: rest))) : W p l e R s m args below meth c H locs cells slots Q (F0 m pc ls (.int a1 :: rest)) :=
  s_call (v := (some (.int r))) (va_runS (As := [.int a1]) (rest := rest) C hM (va_cwS 1 C.2.2.2.2 (lw_S q725 q726 q166 q727) rfl hrc hrs (by decide +kernel) hR) (s_pre _) rfl rfl hsz rfl (lv_room hro) d hf) kk
set_option maxHeartbeats 4000000 in
set_option maxRecDepth 100000 in
theorem kX0_half {l : Launch} {a1 : Int32} {r : Int32} (hE : fX0_half a1 = some r) : Met l yX0_half (ws_ yX0_half cX0_half 1 (some .int)) ({ frames := 0, cells := 0, slots := 0, locals := 0 }) (va_Pc [.int a1] (fun _ => True)) (s_Q (some (.int r))) 0 0 (fun _ => False) := by
  refine s_met (own := RX0) (by decide) rfl rfl rfl ?_
  intro p e s m args below meth c ls C hr hlocks hl
  have hx := C.1
  have hb := C.2.1
  have w_31 : ∀ (y0 : Int32) (ls : Array Slot), fX0_half_31 y0 = some r → lv_has ls 1 [] → W p l e ({ frames := 0, cells := 0, slots := 0, locals := 0 }) s m args below meth c s.heap [] 0 0 (MQ below (s_Q (some (.int r))) args s 0 0 (fun _ => False)) (F0 m 31 ls [.int y0]) := by
    intro y0 ls hE hl
    unfold fX0_half_31 at hE
    exact s_iret C hr hlocks hE dX0_half_31
  unfold fX0_half at hE
  refine lv_iload_n hx hb dX0_half_0 rfl (lv_at hl 0 rfl) ?_
  refine lv_if_ne (tgt := 9) hx hb dX0_half_1 (by decide) (fun c1 => ?_) (fun c1 => ?_)
  · have hE := z_f c1 hE
    refine lv_iload_n hx hb dX0_half_9 rfl (lv_at hl 0 rfl) ?_
    refine lv_iconst (v := (1 : Int32)) hx hb dX0_half_10 rfl ?_
    refine lv_icmp_ne (tgt := 19) hx hb dX0_half_11 (by decide) (fun c2 => ?_) (fun c2 => ?_)
    · have hE := z_f c2 hE
      refine lv_iload_n hx hb dX0_half_19 rfl (lv_at hl 0 rfl) ?_
      refine lv_iconst (v := (2 : Int32)) hx hb dX0_half_20 rfl ?_
      refine lv_icmp_ne (tgt := 29) hx hb dX0_half_21 (by decide) (fun c3 => ?_) (fun c3 => ?_)
      · have hE := z_f c3 hE
        refine lv_bipush (v := (90 : Int32)) hx hb dX0_half_29 rfl ?_
        exact w_31 _ _ hE (lv_sub hl [] rfl)
      · have hE := z_t c3 hE
        refine lv_bipush (v := (70 : Int32)) hx hb dX0_half_24 rfl ?_
        refine lv_goto (tgt := 31) hx hb dX0_half_26 (by decide) ?_
        exact w_31 _ _ hE (lv_sub hl [] rfl)
    · have hE := z_t c2 hE
      refine lv_bipush (v := (55 : Int32)) hx hb dX0_half_14 rfl ?_
      refine lv_goto (tgt := 31) hx hb dX0_half_16 (by decide) ?_
      exact w_31 _ _ hE (lv_sub hl [] rfl)
  · have hE := z_t c1 hE
    refine lv_bipush (v := (50 : Int32)) hx hb dX0_half_4 rfl ?_
    refine lv_goto (tgt := 31) hx hb dX0_half_6 (by decide) ?_
    exact w_31 _ _ hE (lv_sub hl [] rfl)
theorem sc_X0_15 {a1 : Int32} {a2 : Int32} {r : Int32} {rm : Room} (C : CallFix p m c cc nL s args lw_all RX0) (hM : Met l yX0_top (ws_ yX0_top cX0_top 2 (some .int)) rm (va_Pc [.int a1, .int a2] (fun _ => True)) (s_Q (some (.int r))) 0 0 (fun _ => False)) (hrc : rm.cells = 0) (hrs : rm.slots = 0) (hR : rm.frames + 1 ≤ R.frames ∧ 8 + (2 + 11) + rm.locals ≤ R.locals) (hf : cells + 0 ≤ R.cells ∧ slots + 0 ≤ R.slots) (d : decode cc pc = .ok (.invokestatic 15, 3)) (hsz : ls.size = nL) (hro : (rest.map fun v => v.category).sum ≤ 8) (kk : W p l e R s m args below meth c H locs cells slots Q (F0 m (pc + 3) ls (.int r :: rest))) : W p l e R s m args below meth c H locs cells slots Q (F0 m pc ls (.int a2 :: .int a1 :: rest)) :=
  s_call (v := (some (.int r))) (va_runS (As := [.int a1, .int a2]) (rest := rest) C hM (va_cwS 2 C.2.2.2.2 (lw_S q728 q729 q166 q730) rfl hrc hrs (by decide +kernel) hR) (s_pre _) rfl rfl hsz rfl (lv_room hro) d hf) kk
set_option maxHeartbeats 4000000 in
set_option maxRecDepth 100000 in
theorem kX0_top {l : Launch} {a1 : Int32} {a2 : Int32} {r : Int32} (hE : fX0_top a1 a2 = some r) : Met l yX0_top (ws_ yX0_top cX0_top 2 (some .int)) ({ frames := 0, cells := 0, slots := 0, locals := 0 }) (va_Pc [.int a1, .int a2] (fun _ => True)) (s_Q (some (.int r))) 0 0 (fun _ => False) := by
  refine s_met (own := RX0) (by decide) rfl rfl rfl ?_
  intro p e s m args below meth c ls C hr hlocks hl
  have hx := C.1
  have hb := C.2.1
  have w_39 : ∀ (y0 : Int32) (y1 : Int32) (y2 : Int32) (ls : Array Slot), fX0_top_39 y0 y1 y2 = some r → lv_has ls 2 [] → W p l e ({ frames := 0, cells := 0, slots := 0, locals := 0 }) s m args below meth c s.heap [] 0 0 (MQ below (s_Q (some (.int r))) args s 0 0 (fun _ => False)) (F0 m 39 ls [.int y2, .int y1, .int y0]) := by
    intro y0 y1 y2 ls hE hl
    unfold fX0_top_39 at hE
    refine lv_isub hx hb dX0_top_39 ?_
    refine lv_imul hx hb dX0_top_40 ?_
    exact s_iret C hr hlocks hE dX0_top_41
  unfold fX0_top at hE
  refine lv_iload_n hx hb dX0_top_0 rfl (lv_at hl 1 rfl) ?_
  refine lv_iconst (v := (2 : Int32)) hx hb dX0_top_1 rfl ?_
  refine lv_iadd hx hb dX0_top_2 ?_
  refine lv_sipush (v := (900 : Int32)) hx hb dX0_top_3 rfl ?_
  refine lv_iload_n hx hb dX0_top_6 rfl (lv_at hl 0 rfl) ?_
  refine lv_if_ne (tgt := 14) hx hb dX0_top_7 (by decide) (fun c1 => ?_) (fun c1 => ?_)
  · have hE := z_f c1 hE
    refine lv_iload_n hx hb dX0_top_14 rfl (lv_at hl 0 rfl) ?_
    refine lv_iconst (v := (1 : Int32)) hx hb dX0_top_15 rfl ?_
    refine lv_icmp_ne (tgt := 25) hx hb dX0_top_16 (by decide) (fun c2 => ?_) (fun c2 => ?_)
    · have hE := z_f c2 hE
      refine lv_iload_n hx hb dX0_top_25 rfl (lv_at hl 0 rfl) ?_
      refine lv_iconst (v := (2 : Int32)) hx hb dX0_top_26 rfl ?_
      refine lv_icmp_ne (tgt := 36) hx hb dX0_top_27 (by decide) (fun c3 => ?_) (fun c3 => ?_)
      · have hE := z_f c3 hE
        refine lv_sipush (v := (400 : Int32)) hx hb dX0_top_36 rfl ?_
        exact w_39 _ _ _ _ hE (lv_sub hl [] rfl)
      · have hE := z_t c3 hE
        refine lv_sipush (v := (300 : Int32)) hx hb dX0_top_30 rfl ?_
        refine lv_goto (tgt := 39) hx hb dX0_top_33 (by decide) ?_
        exact w_39 _ _ _ _ hE (lv_sub hl [] rfl)
    · have hE := z_t c2 hE
      refine lv_sipush (v := (200 : Int32)) hx hb dX0_top_19 rfl ?_
      refine lv_goto (tgt := 39) hx hb dX0_top_22 (by decide) ?_
      exact w_39 _ _ _ _ hE (lv_sub hl [] rfl)
  · have hE := z_t c1 hE
    refine lv_iconst (v := (0 : Int32)) hx hb dX0_top_10 rfl ?_
    refine lv_goto (tgt := 39) hx hb dX0_top_11 (by decide) ?_
    exact w_39 _ _ _ _ hE (lv_sub hl [] rfl)
theorem sc_X0_188 {a1 : Int32} {a2 : Int32} {a3 : Int32} {r : Int32} {rm : Room} (C : CallFix p m c cc nL s args lw_all RX0) (hM : Met l yX0_feetOf (ws_ yX0_feetOf cX0_feetOf 4 (some .int)) rm (va_Pc [.int a1, .int a2, .int a3] (fun _ => True)) (s_Q (some (.int r))) 0 0 (fun _ => False)) (hrc : rm.cells = 0) (hrs : rm.slots = 0) (hR : rm.frames + 1 ≤ R.frames ∧ 8 + (4 + 11) + rm.locals ≤ R.locals) (hf : cells + 0 ≤ R.cells ∧ slots + 0 ≤ R.slots) (d : decode cc pc = .ok (.invokestatic 188, 3)) (hsz : ls.size = nL) (hro : (rest.map fun v => v.category).sum ≤ 8) (kk : W p l e R s m args below meth c H locs cells slots Q (F0 m (pc + 3) ls (.int r :: rest))) : W p l e R s m args below meth c H locs cells slots Q (F0 m pc ls (.int a3 :: .int a2 :: .int a1 :: rest)) :=
  s_call (v := (some (.int r))) (va_runS (As := [.int a1, .int a2, .int a3]) (rest := rest) C hM (va_cwS 3 C.2.2.2.2 (lw_S q787 q723 q166 q724) rfl hrc hrs (by decide +kernel) hR) (s_pre _) rfl rfl hsz rfl (lv_room hro) d hf) kk
theorem sc_X1_180 {a1 : Int32} {a2 : Int32} {a3 : Int32} {r : Int32} {rm : Room} (C : CallFix p m c cc nL s args lw_all RX1) {b0 : Nat} (hN : wc_N b0 s) (hM : Met l yX0_feetOf (ws_ yX0_feetOf cX0_feetOf 4 (some .int)) rm (va_Pc [.int a1, .int a2, .int a3] (fun _ => True)) (s_Q (some (.int r))) 0 0 (fun _ => False)) (hrc : rm.cells = 0) (hrs : rm.slots = 0) (hR : rm.frames + 1 ≤ R.frames ∧ 8 + (4 + 11) + rm.locals ≤ R.locals) (hf : cells + 0 ≤ R.cells ∧ slots + 0 ≤ R.slots) (d : decode cc pc = .ok (.invokestatic 180, 3)) (hsz : ls.size = nL) (hro : (rest.map fun v => v.category).sum ≤ 8) (kk : W p l e R s m args below meth c H locs cells slots Q (F0 m (pc + 3) ls (.int r :: rest))) : W p l e R s m args below meth c H locs cells slots Q (F0 m pc ls (.int a3 :: .int a2 :: .int a1 :: rest)) :=
  s_call (v := (some (.int r))) (va_runSN (As := [.int a1, .int a2, .int a3]) (rest := rest) C hM ⟨va_cnB 3 C.2.2.2.2 (lw_meth q724) rfl hrc hrs (hN.at q722 rfl) (C.2.2.2.2 _ q166) (by decide +kernel) hR, C.2.2.2.2 _ q723, trivial⟩ (s_pre _) rfl rfl hsz rfl (lv_room hro) d hf) kk
set_option maxHeartbeats 4000000 in
set_option maxRecDepth 100000 in
theorem kX0_feetOf {l : Launch} {a1 : Int32} {a2 : Int32} {a3 : Int32} {r : Int32} (hE : fX0_feetOf a1 a2 a3 = some r) : Met l yX0_feetOf (ws_ yX0_feetOf cX0_feetOf 4 (some .int)) ({ frames := 1, cells := 0, slots := 0, locals := 21 }) (va_Pc [.int a1, .int a2, .int a3] (fun _ => True)) (s_Q (some (.int r))) 0 0 (fun _ => False) := by
  refine s_met (own := RX0) (by decide) rfl rfl rfl ?_
  intro p e s m args below meth c ls C hr hlocks hl
  have hx := C.1
  have hb := C.2.1
  unfold fX0_feetOf at hE
  refine lv_iload_n hx hb dX0_feetOf_0 rfl (lv_at hl 0 rfl) ?_
  obtain ⟨r3, hc, hE⟩ := o_bd_some hE
  refine sc_X0_11 C (kX0_half hc) rfl rfl ⟨Nat.le_of_ble_eq_true rfl, Nat.le_of_ble_eq_true rfl⟩ ⟨Nat.le_refl 0, Nat.le_refl 0⟩ dX0_feetOf_1 hl.1 (Nat.le_of_ble_eq_true rfl) ?_
  refine lv_istore_n (lv' := [(3, .int r3), (0, .int a1), (1, .int a2), (2, .int a3)]) hx hb dX0_feetOf_4 rfl hl (by decide) rfl (fun ls hl => ?_)
  refine lv_iload_n hx hb dX0_feetOf_5 rfl (lv_at hl 1 rfl) ?_
  refine lv_iload_n hx hb dX0_feetOf_6 rfl (lv_at hl 2 rfl) ?_
  obtain ⟨r4, hc, hE⟩ := o_bd_some hE
  refine sc_X0_15 C (kX0_top hc) rfl rfl ⟨Nat.le_of_ble_eq_true rfl, Nat.le_of_ble_eq_true rfl⟩ ⟨Nat.le_refl 0, Nat.le_refl 0⟩ dX0_feetOf_7 hl.1 (Nat.le_of_ble_eq_true rfl) ?_
  refine lv_iload_n hx hb dX0_feetOf_10 rfl (lv_at hl 3 rfl) ?_
  refine lv_imul hx hb dX0_feetOf_11 ?_
  refine lv_iload_n hx hb dX0_feetOf_12 rfl (lv_at hl 3 rfl) ?_
  refine lv_imul hx hb dX0_feetOf_13 ?_
  refine lv_iload_n hx hb dX0_feetOf_14 rfl (lv_at hl 3 rfl) ?_
  refine lv_iload_n hx hb dX0_feetOf_15 rfl (lv_at hl 3 rfl) ?_
  refine lv_imul hx hb dX0_feetOf_16 ?_
  refine lv_iload_n hx hb dX0_feetOf_17 rfl (lv_at hl 0 rfl) ?_
  refine lv_iload_n hx hb dX0_feetOf_18 rfl (lv_at hl 0 rfl) ?_
  refine lv_imul hx hb dX0_feetOf_19 ?_
  refine lv_iadd hx hb dX0_feetOf_20 ?_
  obtain ⟨hz, hE⟩ := o_nz_some hE
  refine lv_idiv hx hb dX0_feetOf_21 hz ?_
  exact s_iret C hr hlocks hE dX0_feetOf_22
theorem cc_X1_184 {F : Nat} {a1 : Int32} {a2 : Int32} {a3 : Int32} {r : Int32} {u u1 : CS} {rm : Room} (C : CC p m c cc nL s args D dA RX1) (hW : wc_W D dA h u H) (hS : wc_S u) (hV : va_S (CA h) H0 H locs) (ht : wc_T u F = some (.inl 1)) (hM : Met l yX1_woodAt (ws_ yX1_woodAt cX1_woodAt 4 (some .int)) rm (va_Pc [.ref (h + F), .int a1, .int a2, .int a3] (wc_St D dA h u)) (wc_Qr D dA h (some (.int r)) u1) 0 0 (CA h)) (hrc : rm.cells = 0) (hrs : rm.slots = 0) (hR : rm.frames + 1 ≤ R.frames ∧ 8 + (4 + 11) + rm.locals ≤ R.locals) (hf : cells + 0 ≤ R.cells ∧ slots + 0 ≤ R.slots) (d : decode cc pc = .ok (.invokevirtual 184, 3)) (hsz : ls.size = nL) (hro : (rest.map fun v => v.category).sum ≤ 8) (kk : ∀ (H1 : Heap) (locs1 : List Loc), wc_W D dA h u1 H1 → wc_S u1 → va_S (CA h) H0 H1 locs1 → W p l e R s m args below meth c H1 locs1 cells slots Q (F0 m (pc + 3) ls (.int r :: rest))) : W p l e R s m args below meth c H locs cells slots Q (F0 m pc ls (.int a3 :: .int a2 :: .int a1 :: .ref (h + F) :: rest)) :=
  wc_call (v := (some (.int r))) (va_runV (As := [.int a1, .int a2, .int a3]) (rest := rest) C.1 hM (cwV 3 C.1.2.2.2.2 (lw_V q718 q720 qs8 q167 q721) rfl hrc hrs (by decide +kernel) hR) (wc_preV (q := (RX1, TX1, 46)) C.2 hW hS ht rfl _) rfl rfl hsz rfl (lv_room hro) d hf) hV (fun _ z => z) (fun H1 locs1 a b c0 _ _ => kk H1 locs1 a b c0)
theorem cc_X0_464 {F : Nat} {a1 : Int32} {a2 : Int32} {a3 : Int32} {r : Int32} {u u1 : CS} {rm : Room} (C : CC p m c cc nL s args D dA RX0) (hW : wc_W D dA h u H) (hS : wc_S u) (hV : va_S (CA h) H0 H locs) (ht : wc_T u F = some (.inl 1)) (hM : Met l yX1_woodAt (ws_ yX1_woodAt cX1_woodAt 4 (some .int)) rm (va_Pc [.ref (h + F), .int a1, .int a2, .int a3] (wc_St D dA h u)) (wc_Qr D dA h (some (.int r)) u1) 0 0 (CA h)) (hrc : rm.cells = 0) (hrs : rm.slots = 0) (hR : rm.frames + 1 ≤ R.frames ∧ 8 + (4 + 11) + rm.locals ≤ R.locals) (hf : cells + 0 ≤ R.cells ∧ slots + 0 ≤ R.slots) (d : decode cc pc = .ok (.invokevirtual 464, 3)) (hsz : ls.size = nL) (hro : (rest.map fun v => v.category).sum ≤ 8) (kk : ∀ (H1 : Heap) (locs1 : List Loc), wc_W D dA h u1 H1 → wc_S u1 → va_S (CA h) H0 H1 locs1 → W p l e R s m args below meth c H1 locs1 cells slots Q (F0 m (pc + 3) ls (.int r :: rest))) : W p l e R s m args below meth c H locs cells slots Q (F0 m pc ls (.int a3 :: .int a2 :: .int a1 :: .ref (h + F) :: rest)) :=
  wc_call (v := (some (.int r))) (va_runVN (As := [.int a1, .int a2, .int a3]) (rest := rest) C.1 hM ⟨va_cnB 3 C.1.2.2.2.2 (lw_meth q721) rfl hrc hrs (C.2.2.at q1421 rfl) (C.1.2.2.2.2 _ q167) (by decide +kernel) hR, C.1.2.2.2.2 _ q720, C.1.2.2.2.2 _ qs8⟩ (wc_preV (q := (RX1, TX1, 46)) C.2 hW hS ht rfl _) rfl rfl hsz rfl (lv_room hro) d hf) hV (fun _ z => z) (fun H1 locs1 a b c0 _ _ => kk H1 locs1 a b c0)
set_option maxHeartbeats 4000000 in
set_option maxRecDepth 100000 in
theorem kX1_woodAt {l : Launch} {D : va_G} {dA : Nat → ClassId} {h N : Nat} {F : Nat} {a1 : Int32} {a2 : Int32} {a3 : Int32} {u u1 : CS} {r : Int32} (hF : wc_F F) (hE : fX1_woodAt N F u a1 a2 a3 = some (r, u1)) : Met l yX1_woodAt (ws_ yX1_woodAt cX1_woodAt 4 (some .int)) ({ frames := 2, cells := 0, slots := 0, locals := 44 }) (va_Pc [.ref (h + F), .int a1, .int a2, .int a3] (wc_St D dA h u)) (wc_Qr D dA h (some (.int r)) u1) 0 0 (CA h) := by
  refine wc_met (own := RX1) (lv := [(0, .ref (h + F)), (1, .int a1), (2, .int a2), (3, .int a3)]) (by decide) rfl rfl rfl ?_
  intro p e s m args below meth c ls C hr hlocks hW hS hV hl
  have hx := C.1.1
  have hb := C.1.2.1
  unfold fX1_woodAt at hE
  refine lv_aload_n hx hb dX1_woodAt_0 rfl (lv_at hl 0 rfl) ?_
  refine cgs_X1_24_1 C hW (st_F hS hF) (sp_F_acres hS hF) dX1_woodAt_1 ?_
  refine lv_iload_n hx hb dX1_woodAt_4 rfl (lv_at hl 1 rfl) ?_
  refine wc_ldi C hW (st_F_acres hS hF) hE dX1_woodAt_5 (fun hE => ?_)
  refine z_nmi hE (fun v5 hE => ?_)
  refine lv_aload_n hx hb dX1_woodAt_6 rfl (lv_at hl 0 rfl) ?_
  refine cgs_X1_18_1 C hW (st_F hS hF) (sp_F_kinds hS hF) dX1_woodAt_7 ?_
  refine lv_iload_n hx hb dX1_woodAt_10 rfl (lv_at hl 1 rfl) ?_
  refine wc_ldi C hW (st_F_kinds hS hF) hE dX1_woodAt_11 (fun hE => ?_)
  refine z_nmi hE (fun v6 hE => ?_)
  refine lv_aload_n hx hb dX1_woodAt_12 rfl (lv_at hl 0 rfl) ?_
  refine cgs_X1_15_1 C hW (st_F hS hF) (sp_F_sites hS hF) dX1_woodAt_13 ?_
  refine lv_iload_n hx hb dX1_woodAt_16 rfl (lv_at hl 1 rfl) ?_
  refine wc_ldi C hW (st_F_sites hS hF) hE dX1_woodAt_17 (fun hE => ?_)
  refine z_nmi hE (fun v7 hE => ?_)
  refine lv_iload_n hx hb dX1_woodAt_18 rfl (lv_at hl 2 rfl) ?_
  obtain ⟨r8, hc, hE⟩ := o_bd_some hE
  refine sc_X1_180 C.1 C.2.2 (kX0_feetOf hc) rfl rfl ⟨Nat.le_of_ble_eq_true rfl, Nat.le_of_ble_eq_true rfl⟩ ⟨Nat.le_refl 0, Nat.le_refl 0⟩ dX1_woodAt_19 hl.1 (Nat.le_of_ble_eq_true rfl) ?_
  refine lv_imul hx hb dX1_woodAt_22 ?_
  refine lv_iload_n hx hb dX1_woodAt_23 rfl (lv_at hl 3 rfl) ?_
  refine lv_imul hx hb dX1_woodAt_24 ?_
  refine lv_bipush (v := (100 : Int32)) hx hb dX1_woodAt_25 rfl ?_
  refine lv_idiv hx hb dX1_woodAt_27 (by decide) ?_
  exact wc_iret C hr hlocks hW hS hV hE dX1_woodAt_28
theorem cc_X1_283 {F : Nat} {a1 : Int32} {r : Int32} {u u1 : CS} {rm : Room} (C : CC p m c cc nL s args D dA RX1) (hW : wc_W D dA h u H) (hS : wc_S u) (hV : va_S (CA h) H0 H locs) (ht : wc_T u F = some (.inl 1)) (hM : Met l yX1_wood (ws_ yX1_wood cX1_wood 2 (some .int)) rm (va_Pc [.ref (h + F), .int a1] (wc_St D dA h u)) (wc_Qr D dA h (some (.int r)) u1) 0 0 (CA h)) (hrc : rm.cells = 0) (hrs : rm.slots = 0) (hR : rm.frames + 1 ≤ R.frames ∧ 8 + (2 + 11) + rm.locals ≤ R.locals) (hf : cells + 0 ≤ R.cells ∧ slots + 0 ≤ R.slots) (d : decode cc pc = .ok (.invokevirtual 283, 3)) (hsz : ls.size = nL) (hro : (rest.map fun v => v.category).sum ≤ 8) (kk : ∀ (H1 : Heap) (locs1 : List Loc), wc_W D dA h u1 H1 → wc_S u1 → va_S (CA h) H0 H1 locs1 → W p l e R s m args below meth c H1 locs1 cells slots Q (F0 m (pc + 3) ls (.int r :: rest))) : W p l e R s m args below meth c H locs cells slots Q (F0 m pc ls (.int a1 :: .ref (h + F) :: rest)) :=
  wc_call (v := (some (.int r))) (va_runV (As := [.int a1]) (rest := rest) C.1 hM (cwV 1 C.1.2.2.2.2 (lw_V q1323 q716 qs7 q167 q717) rfl hrc hrs (by decide +kernel) hR) (wc_preV (q := (RX1, TX1, 46)) C.2 hW hS ht rfl _) rfl rfl hsz rfl (lv_room hro) d hf) hV (fun _ z => z) (fun H1 locs1 a b c0 _ _ => kk H1 locs1 a b c0)
theorem cc_X0_164 {F : Nat} {a1 : Int32} {r : Int32} {u u1 : CS} {rm : Room} (C : CC p m c cc nL s args D dA RX0) (hW : wc_W D dA h u H) (hS : wc_S u) (hV : va_S (CA h) H0 H locs) (ht : wc_T u F = some (.inl 1)) (hM : Met l yX1_wood (ws_ yX1_wood cX1_wood 2 (some .int)) rm (va_Pc [.ref (h + F), .int a1] (wc_St D dA h u)) (wc_Qr D dA h (some (.int r)) u1) 0 0 (CA h)) (hrc : rm.cells = 0) (hrs : rm.slots = 0) (hR : rm.frames + 1 ≤ R.frames ∧ 8 + (2 + 11) + rm.locals ≤ R.locals) (hf : cells + 0 ≤ R.cells ∧ slots + 0 ≤ R.slots) (d : decode cc pc = .ok (.invokevirtual 164, 3)) (hsz : ls.size = nL) (hro : (rest.map fun v => v.category).sum ≤ 8) (kk : ∀ (H1 : Heap) (locs1 : List Loc), wc_W D dA h u1 H1 → wc_S u1 → va_S (CA h) H0 H1 locs1 → W p l e R s m args below meth c H1 locs1 cells slots Q (F0 m (pc + 3) ls (.int r :: rest))) : W p l e R s m args below meth c H locs cells slots Q (F0 m pc ls (.int a1 :: .ref (h + F) :: rest)) :=
  wc_call (v := (some (.int r))) (va_runVN (As := [.int a1]) (rest := rest) C.1 hM ⟨va_cnB 1 C.1.2.2.2.2 (lw_meth q717) rfl hrc hrs (C.2.2.at q714 rfl) (C.1.2.2.2.2 _ q167) (by decide +kernel) hR, C.1.2.2.2.2 _ q716, C.1.2.2.2.2 _ qs7⟩ (wc_preV (q := (RX1, TX1, 46)) C.2 hW hS ht rfl _) rfl rfl hsz rfl (lv_room hro) d hf) hV (fun _ z => z) (fun H1 locs1 a b c0 _ _ => kk H1 locs1 a b c0)
set_option maxHeartbeats 4000000 in
set_option maxRecDepth 100000 in
theorem kX1_wood {l : Launch} {D : va_G} {dA : Nat → ClassId} {h N : Nat} {F : Nat} {a1 : Int32} {u u1 : CS} {r : Int32} (hF : wc_F F) (hE : fX1_wood N F u a1 = some (r, u1)) : Met l yX1_wood (ws_ yX1_wood cX1_wood 2 (some .int)) ({ frames := 3, cells := 0, slots := 0, locals := 67 }) (va_Pc [.ref (h + F), .int a1] (wc_St D dA h u)) (wc_Qr D dA h (some (.int r)) u1) 0 0 (CA h) := by
  refine wc_met (own := RX1) (lv := [(0, .ref (h + F)), (1, .int a1)]) (by decide) rfl rfl rfl ?_
  intro p e s m args below meth c ls C hr hlocks hW hS hV hl
  have hx := C.1.1
  have hb := C.1.2.1
  unfold fX1_wood at hE
  refine lv_aload_n hx hb dX1_wood_0 rfl (lv_at hl 0 rfl) ?_
  refine lv_iload_n hx hb dX1_wood_1 rfl (lv_at hl 1 rfl) ?_
  refine lv_aload_n hx hb dX1_wood_2 rfl (lv_at hl 0 rfl) ?_
  refine cgs_X1_27_1 C hW (st_F hS hF) (sp_F_ages hS hF) dX1_wood_3 ?_
  refine lv_iload_n hx hb dX1_wood_6 rfl (lv_at hl 1 rfl) ?_
  refine wc_ldi C hW (st_F_ages hS hF) hE dX1_wood_7 (fun hE => ?_)
  refine z_nmi hE (fun v5 hE => ?_)
  refine lv_aload_n hx hb dX1_wood_8 rfl (lv_at hl 0 rfl) ?_
  refine cgs_X1_30_1 C hW (st_F hS hF) (sp_F_fulls hS hF) dX1_wood_9 ?_
  refine lv_iload_n hx hb dX1_wood_12 rfl (lv_at hl 1 rfl) ?_
  refine wc_ldi C hW (st_F_fulls hS hF) hE dX1_wood_13 (fun hE => ?_)
  refine z_nmi hE (fun v6 hE => ?_)
  obtain ⟨r7, u8, hc, hE⟩ := o_bd2_some hE
  refine cc_X1_184 C hW hS hV (st_F hS hF) (kX1_woodAt hF hc) rfl rfl ⟨Nat.le_of_ble_eq_true rfl, Nat.le_of_ble_eq_true rfl⟩ ⟨Nat.le_refl 0, Nat.le_refl 0⟩ dX1_wood_14 hl.1 (Nat.le_of_ble_eq_true rfl) (fun H locs hW hS hV => ?_)
  exact wc_iret C hr hlocks hW hS hV hE dX1_wood_17
theorem cc_X1_232 {F : Nat} {a1 : Int32} {r : Int32} {u u1 : CS} {rm : Room} (C : CC p m c cc nL s args D dA RX1) (hW : wc_W D dA h u H) (hS : wc_S u) (hV : va_S (CA h) H0 H locs) (ht : wc_T u F = some (.inl 1)) (hM : Met l yX1_isBare (ws_ yX1_isBare cX1_isBare 2 (some .boolean)) rm (va_Pc [.ref (h + F), .int a1] (wc_St D dA h u)) (wc_Qr D dA h (some (.int r)) u1) 0 0 (CA h)) (hrc : rm.cells = 0) (hrs : rm.slots = 0) (hR : rm.frames + 1 ≤ R.frames ∧ 8 + (2 + 11) + rm.locals ≤ R.locals) (hf : cells + 0 ≤ R.cells ∧ slots + 0 ≤ R.slots) (d : decode cc pc = .ok (.invokevirtual 232, 3)) (hsz : ls.size = nL) (hro : (rest.map fun v => v.category).sum ≤ 8) (kk : ∀ (H1 : Heap) (locs1 : List Loc), wc_W D dA h u1 H1 → wc_S u1 → va_S (CA h) H0 H1 locs1 → W p l e R s m args below meth c H1 locs1 cells slots Q (F0 m (pc + 3) ls (.int r :: rest))) : W p l e R s m args below meth c H locs cells slots Q (F0 m pc ls (.int a1 :: .ref (h + F) :: rest)) :=
  wc_call (v := (some (.int r))) (va_runV (As := [.int a1]) (rest := rest) C.1 hM (cwV 1 C.1.2.2.2.2 (lw_V q735 q737 qs10 q167 q738) rfl hrc hrs (by decide +kernel) hR) (wc_preV (q := (RX1, TX1, 46)) C.2 hW hS ht rfl _) rfl rfl hsz rfl (lv_room hro) d hf) hV (fun _ z => z) (fun H1 locs1 a b c0 _ _ => kk H1 locs1 a b c0)
theorem cc_X0_424 {F : Nat} {a1 : Int32} {r : Int32} {u u1 : CS} {rm : Room} (C : CC p m c cc nL s args D dA RX0) (hW : wc_W D dA h u H) (hS : wc_S u) (hV : va_S (CA h) H0 H locs) (ht : wc_T u F = some (.inl 1)) (hM : Met l yX1_isBare (ws_ yX1_isBare cX1_isBare 2 (some .boolean)) rm (va_Pc [.ref (h + F), .int a1] (wc_St D dA h u)) (wc_Qr D dA h (some (.int r)) u1) 0 0 (CA h)) (hrc : rm.cells = 0) (hrs : rm.slots = 0) (hR : rm.frames + 1 ≤ R.frames ∧ 8 + (2 + 11) + rm.locals ≤ R.locals) (hf : cells + 0 ≤ R.cells ∧ slots + 0 ≤ R.slots) (d : decode cc pc = .ok (.invokevirtual 424, 3)) (hsz : ls.size = nL) (hro : (rest.map fun v => v.category).sum ≤ 8) (kk : ∀ (H1 : Heap) (locs1 : List Loc), wc_W D dA h u1 H1 → wc_S u1 → va_S (CA h) H0 H1 locs1 → W p l e R s m args below meth c H1 locs1 cells slots Q (F0 m (pc + 3) ls (.int r :: rest))) : W p l e R s m args below meth c H locs cells slots Q (F0 m pc ls (.int a1 :: .ref (h + F) :: rest)) :=
  wc_call (v := (some (.int r))) (va_runVN (As := [.int a1]) (rest := rest) C.1 hM ⟨va_cnB 1 C.1.2.2.2.2 (lw_meth q738) rfl hrc hrs (C.2.2.at q1361 rfl) (C.1.2.2.2.2 _ q167) (by decide +kernel) hR, C.1.2.2.2.2 _ q737, C.1.2.2.2.2 _ qs10⟩ (wc_preV (q := (RX1, TX1, 46)) C.2 hW hS ht rfl _) rfl rfl hsz rfl (lv_room hro) d hf) hV (fun _ z => z) (fun H1 locs1 a b c0 _ _ => kk H1 locs1 a b c0)
set_option maxHeartbeats 4000000 in
set_option maxRecDepth 100000 in
theorem kX1_isBare {l : Launch} {D : va_G} {dA : Nat → ClassId} {h N : Nat} {F : Nat} {a1 : Int32} {u u1 : CS} {r : Int32} (hF : wc_F F) (hE : fX1_isBare N F u a1 = some (r, u1)) : Met l yX1_isBare (ws_ yX1_isBare cX1_isBare 2 (some .boolean)) ({ frames := 0, cells := 0, slots := 0, locals := 0 }) (va_Pc [.ref (h + F), .int a1] (wc_St D dA h u)) (wc_Qr D dA h (some (.int r)) u1) 0 0 (CA h) := by
  refine wc_met (own := RX1) (lv := [(0, .ref (h + F)), (1, .int a1)]) (by decide) rfl rfl rfl ?_
  intro p e s m args below meth c ls C hr hlocks hW hS hV hl
  have hx := C.1.1
  have hb := C.1.2.1
  have w_14 : ∀ (u : CS) (y0 : Int32) (H : Heap) (locs : List Loc) (ls : Array Slot), fX1_isBare_14 N F u y0 = some (r, u1) → wc_W D dA h u H → wc_S u → va_S (CA h) s.heap H locs → lv_has ls 2 [] → W p l e ({ frames := 0, cells := 0, slots := 0, locals := 0 }) s m args below meth c H locs 0 0 (MQ below (wc_Qr D dA h (some (.int r)) u1) args s 0 0 (CA h)) (F0 m 14 ls [.int y0]) := by
    intro u y0 H locs ls hE hW hS hV hl
    unfold fX1_isBare_14 at hE
    obtain ⟨hb1, hE⟩ := o_bl_some hE
    exact wc_zret C hr hlocks hW hS hV hb1 hE dX1_isBare_14
  unfold fX1_isBare at hE
  refine lv_aload_n hx hb dX1_isBare_0 rfl (lv_at hl 0 rfl) ?_
  refine cgs_X1_30_1 C hW (st_F hS hF) (sp_F_fulls hS hF) dX1_isBare_1 ?_
  refine lv_iload_n hx hb dX1_isBare_4 rfl (lv_at hl 1 rfl) ?_
  refine wc_ldi C hW (st_F_fulls hS hF) hE dX1_isBare_5 (fun hE => ?_)
  refine z_nmi hE (fun v2 hE => ?_)
  refine lv_if_ne (tgt := 13) hx hb dX1_isBare_6 (by decide) (fun c3 => ?_) (fun c3 => ?_)
  · have hE := z_f c3 hE
    refine lv_iconst (v := (0 : Int32)) hx hb dX1_isBare_13 rfl ?_
    exact w_14 _ _ _ _ _ hE hW hS hV (lv_sub hl [] rfl)
  · have hE := z_t c3 hE
    refine lv_iconst (v := (1 : Int32)) hx hb dX1_isBare_9 rfl ?_
    refine lv_goto (tgt := 14) hx hb dX1_isBare_10 (by decide) ?_
    exact w_14 _ _ _ _ _ hE hW hS hV (lv_sub hl [] rfl)
theorem cc_X1_198 {F : Nat} {a1 : Int32} {a2 : Int32} {r : Int32} {u u1 : CS} {rm : Room} (C : CC p m c cc nL s args D dA RX1) (hW : wc_W D dA h u H) (hS : wc_S u) (hV : va_S (CA h) H0 H locs) (ht : wc_T u F = some (.inl 1)) (hM : Met l yX1_isInForce (ws_ yX1_isInForce cX1_isInForce 3 (some .boolean)) rm (va_Pc [.ref (h + F), .int a1, .int a2] (wc_St D dA h u)) (wc_Qr D dA h (some (.int r)) u1) 0 0 (CA h)) (hrc : rm.cells = 0) (hrs : rm.slots = 0) (hR : rm.frames + 1 ≤ R.frames ∧ 8 + (3 + 11) + rm.locals ≤ R.locals) (hf : cells + 0 ≤ R.cells ∧ slots + 0 ≤ R.slots) (d : decode cc pc = .ok (.invokevirtual 198, 3)) (hsz : ls.size = nL) (hro : (rest.map fun v => v.category).sum ≤ 8) (kk : ∀ (H1 : Heap) (locs1 : List Loc), wc_W D dA h u1 H1 → wc_S u1 → va_S (CA h) H0 H1 locs1 → W p l e R s m args below meth c H1 locs1 cells slots Q (F0 m (pc + 3) ls (.int r :: rest))) : W p l e R s m args below meth c H locs cells slots Q (F0 m pc ls (.int a2 :: .int a1 :: .ref (h + F) :: rest)) :=
  wc_call (v := (some (.int r))) (va_runV (As := [.int a1, .int a2]) (rest := rest) C.1 hM (cwV 2 C.1.2.2.2.2 (lw_V q751 q753 qs14 q167 q754) rfl hrc hrs (by decide +kernel) hR) (wc_preV (q := (RX1, TX1, 46)) C.2 hW hS ht rfl _) rfl rfl hsz rfl (lv_room hro) d hf) hV (fun _ z => z) (fun H1 locs1 a b c0 _ _ => kk H1 locs1 a b c0)
set_option maxHeartbeats 4000000 in
set_option maxRecDepth 100000 in
theorem kX1_isInForce {l : Launch} {D : va_G} {dA : Nat → ClassId} {h N : Nat} {F : Nat} {a1 : Int32} {a2 : Int32} {u u1 : CS} {r : Int32} (hF : wc_F F) (hE : fX1_isInForce N F u a1 a2 = some (r, u1)) : Met l yX1_isInForce (ws_ yX1_isInForce cX1_isInForce 3 (some .boolean)) ({ frames := 0, cells := 0, slots := 0, locals := 0 }) (va_Pc [.ref (h + F), .int a1, .int a2] (wc_St D dA h u)) (wc_Qr D dA h (some (.int r)) u1) 0 0 (CA h) := by
  refine wc_met (own := RX1) (lv := [(0, .ref (h + F)), (1, .int a1), (2, .int a2)]) (by decide) rfl rfl rfl ?_
  intro p e s m args below meth c ls C hr hlocks hW hS hV hl
  have hx := C.1.1
  have hb := C.1.2.1
  have w_35 : ∀ (u : CS) (y0 : Int32) (H : Heap) (locs : List Loc) (ls : Array Slot), fX1_isInForce_35 N F u y0 = some (r, u1) → wc_W D dA h u H → wc_S u → va_S (CA h) s.heap H locs → lv_has ls 3 [] → W p l e ({ frames := 0, cells := 0, slots := 0, locals := 0 }) s m args below meth c H locs 0 0 (MQ below (wc_Qr D dA h (some (.int r)) u1) args s 0 0 (CA h)) (F0 m 35 ls [.int y0]) := by
    intro u y0 H locs ls hE hW hS hV hl
    unfold fX1_isInForce_35 at hE
    obtain ⟨hb1, hE⟩ := o_bl_some hE
    exact wc_zret C hr hlocks hW hS hV hb1 hE dX1_isInForce_35
  have w_34 : ∀ (u : CS) (H : Heap) (locs : List Loc) (ls : Array Slot), fX1_isInForce_34 N F u = some (r, u1) → wc_W D dA h u H → wc_S u → va_S (CA h) s.heap H locs → lv_has ls 3 [] → W p l e ({ frames := 0, cells := 0, slots := 0, locals := 0 }) s m args below meth c H locs 0 0 (MQ below (wc_Qr D dA h (some (.int r)) u1) args s 0 0 (CA h)) (F0 m 34 ls []) := by
    intro u H locs ls hE hW hS hV hl
    unfold fX1_isInForce_34 at hE
    refine lv_iconst (v := (0 : Int32)) hx hb dX1_isInForce_34 rfl ?_
    exact w_35 _ _ _ _ _ hE hW hS hV (lv_sub hl [] rfl)
  have w_30 : ∀ (u : CS) (H : Heap) (locs : List Loc) (ls : Array Slot), fX1_isInForce_30 N F u = some (r, u1) → wc_W D dA h u H → wc_S u → va_S (CA h) s.heap H locs → lv_has ls 3 [] → W p l e ({ frames := 0, cells := 0, slots := 0, locals := 0 }) s m args below meth c H locs 0 0 (MQ below (wc_Qr D dA h (some (.int r)) u1) args s 0 0 (CA h)) (F0 m 30 ls []) := by
    intro u H locs ls hE hW hS hV hl
    unfold fX1_isInForce_30 at hE
    refine lv_iconst (v := (1 : Int32)) hx hb dX1_isInForce_30 rfl ?_
    refine lv_goto (tgt := 35) hx hb dX1_isInForce_31 (by decide) ?_
    exact w_35 _ _ _ _ _ hE hW hS hV (lv_sub hl [] rfl)
  unfold fX1_isInForce at hE
  refine lv_aload_n hx hb dX1_isInForce_0 rfl (lv_at hl 0 rfl) ?_
  refine cgs_X1_95_1 C hW (st_F hS hF) (sp_F_cameIn hS hF) dX1_isInForce_1 ?_
  refine lv_iload_n hx hb dX1_isInForce_4 rfl (lv_at hl 1 rfl) ?_
  refine wc_ldi C hW (st_F_cameIn hS hF) hE dX1_isInForce_5 (fun hE => ?_)
  refine z_nmi hE (fun v4 hE => ?_)
  refine lv_iload_n hx hb dX1_isInForce_6 rfl (lv_at hl 2 rfl) ?_
  refine lv_icmp_gt (tgt := 34) hx hb dX1_isInForce_7 (by decide) (fun c5 => ?_) (fun c5 => ?_)
  · have hE := z_t c5 hE
    exact w_34 _ _ _ _ hE hW hS hV (lv_sub hl [] rfl)
  · have hE := z_f c5 hE
    refine lv_aload_n hx hb dX1_isInForce_10 rfl (lv_at hl 0 rfl) ?_
    refine cgs_X1_98_1 C hW (st_F hS hF) (sp_F_struckIn hS hF) dX1_isInForce_11 ?_
    refine lv_iload_n hx hb dX1_isInForce_14 rfl (lv_at hl 1 rfl) ?_
    refine wc_ldi C hW (st_F_struckIn hS hF) hE dX1_isInForce_15 (fun hE => ?_)
    refine z_nmi hE (fun v6 hE => ?_)
    refine lv_iconst (v := (-1 : Int32)) hx hb dX1_isInForce_16 rfl ?_
    refine lv_icmp_eq (tgt := 30) hx hb dX1_isInForce_17 (by decide) (fun c7 => ?_) (fun c7 => ?_)
    · have hE := z_t c7 hE
      exact w_30 _ _ _ _ hE hW hS hV (lv_sub hl [] rfl)
    · have hE := z_f c7 hE
      refine lv_iload_n hx hb dX1_isInForce_20 rfl (lv_at hl 2 rfl) ?_
      refine lv_aload_n hx hb dX1_isInForce_21 rfl (lv_at hl 0 rfl) ?_
      refine cgs_X1_98_1 C hW (st_F hS hF) (sp_F_struckIn hS hF) dX1_isInForce_22 ?_
      refine lv_iload_n hx hb dX1_isInForce_25 rfl (lv_at hl 1 rfl) ?_
      refine wc_ldi C hW (st_F_struckIn hS hF) hE dX1_isInForce_26 (fun hE => ?_)
      refine z_nmi hE (fun v8 hE => ?_)
      refine lv_icmp_ge (tgt := 34) hx hb dX1_isInForce_27 (by decide) (fun c9 => ?_) (fun c9 => ?_)
      · have hE := z_t c9 hE
        exact w_34 _ _ _ _ hE hW hS hV (lv_sub hl [] rfl)
      · have hE := z_f c9 hE
        exact w_30 _ _ _ _ hE hW hS hV (lv_sub hl [] rfl)
theorem cc_X1_212 {F : Nat} {a1 : Int32} {a2 : Int32} {a3 : Int32} {r : Int32} {u u1 : CS} {rm : Room} (C : CC p m c cc nL s args D dA RX1) (hW : wc_W D dA h u H) (hS : wc_S u) (hV : va_S (CA h) H0 H locs) (ht : wc_T u F = some (.inl 1)) (hM : Met l yX1_lineFor (ws_ yX1_lineFor cX1_lineFor 7 (some .int)) rm (va_Pc [.ref (h + F), .int a1, .int a2, .int a3] (wc_St D dA h u)) (wc_Qr D dA h (some (.int r)) u1) 0 0 (CA h)) (hrc : rm.cells = 0) (hrs : rm.slots = 0) (hR : rm.frames + 1 ≤ R.frames ∧ 8 + (7 + 11) + rm.locals ≤ R.locals) (hf : cells + 0 ≤ R.cells ∧ slots + 0 ≤ R.slots) (d : decode cc pc = .ok (.invokevirtual 212, 3)) (hsz : ls.size = nL) (hro : (rest.map fun v => v.category).sum ≤ 8) (kk : ∀ (H1 : Heap) (locs1 : List Loc), wc_W D dA h u1 H1 → wc_S u1 → va_S (CA h) H0 H1 locs1 → W p l e R s m args below meth c H1 locs1 cells slots Q (F0 m (pc + 3) ls (.int r :: rest))) : W p l e R s m args below meth c H locs cells slots Q (F0 m pc ls (.int a3 :: .int a2 :: .int a1 :: .ref (h + F) :: rest)) :=
  wc_call (v := (some (.int r))) (va_runV (As := [.int a1, .int a2, .int a3]) (rest := rest) C.1 hM (cwV 3 C.1.2.2.2.2 (lw_V q747 q749 qs13 q167 q750) rfl hrc hrs (by decide +kernel) hR) (wc_preV (q := (RX1, TX1, 46)) C.2 hW hS ht rfl _) rfl rfl hsz rfl (lv_room hro) d hf) hV (fun _ z => z) (fun H1 locs1 a b c0 _ _ => kk H1 locs1 a b c0)
theorem cc_X0_367 {F : Nat} {a1 : Int32} {a2 : Int32} {a3 : Int32} {r : Int32} {u u1 : CS} {rm : Room} (C : CC p m c cc nL s args D dA RX0) (hW : wc_W D dA h u H) (hS : wc_S u) (hV : va_S (CA h) H0 H locs) (ht : wc_T u F = some (.inl 1)) (hM : Met l yX1_lineFor (ws_ yX1_lineFor cX1_lineFor 7 (some .int)) rm (va_Pc [.ref (h + F), .int a1, .int a2, .int a3] (wc_St D dA h u)) (wc_Qr D dA h (some (.int r)) u1) 0 0 (CA h)) (hrc : rm.cells = 0) (hrs : rm.slots = 0) (hR : rm.frames + 1 ≤ R.frames ∧ 8 + (7 + 11) + rm.locals ≤ R.locals) (hf : cells + 0 ≤ R.cells ∧ slots + 0 ≤ R.slots) (d : decode cc pc = .ok (.invokevirtual 367, 3)) (hsz : ls.size = nL) (hro : (rest.map fun v => v.category).sum ≤ 8) (kk : ∀ (H1 : Heap) (locs1 : List Loc), wc_W D dA h u1 H1 → wc_S u1 → va_S (CA h) H0 H1 locs1 → W p l e R s m args below meth c H1 locs1 cells slots Q (F0 m (pc + 3) ls (.int r :: rest))) : W p l e R s m args below meth c H locs cells slots Q (F0 m pc ls (.int a3 :: .int a2 :: .int a1 :: .ref (h + F) :: rest)) :=
  wc_call (v := (some (.int r))) (va_runVN (As := [.int a1, .int a2, .int a3]) (rest := rest) C.1 hM ⟨va_cnB 3 C.1.2.2.2.2 (lw_meth q750) rfl hrc hrs (C.2.2.at q1176 rfl) (C.1.2.2.2.2 _ q167) (by decide +kernel) hR, C.1.2.2.2.2 _ q749, C.1.2.2.2.2 _ qs13⟩ (wc_preV (q := (RX1, TX1, 46)) C.2 hW hS ht rfl _) rfl rfl hsz rfl (lv_room hro) d hf) hV (fun _ z => z) (fun H1 locs1 a b c0 _ _ => kk H1 locs1 a b c0)
set_option maxHeartbeats 4000000 in
set_option maxRecDepth 100000 in
theorem kX1_lineFor {l : Launch} {D : va_G} {dA : Nat → ClassId} {h N : Nat} {F : Nat} {a1 : Int32} {a2 : Int32} {a3 : Int32} {u u1 : CS} {r : Int32} (hF : wc_F F) (hE : fX1_lineFor N F u a1 a2 a3 = some (r, u1)) : Met l yX1_lineFor (ws_ yX1_lineFor cX1_lineFor 7 (some .int)) ({ frames := 202, cells := 0, slots := 0, locals := 6450 }) (va_Pc [.ref (h + F), .int a1, .int a2, .int a3] (wc_St D dA h u)) (wc_Qr D dA h (some (.int r)) u1) 0 0 (CA h) := by
  refine wc_met (own := RX1) (lv := [(0, .ref (h + F)), (1, .int a1), (2, .int a2), (3, .int a3)]) (by decide) rfl rfl rfl ?_
  intro p e s m args below meth c ls C hr hlocks hW hS hV hl
  have hx := C.1.1
  have hb := C.1.2.1
  have w_78 : ∀ (ag8 : CS → Int32 → Int32 → Int32 → Int32 → Option (Int32 × CS)) (hag8 : (∀ (u : CS) (x1 : Int32) (x2 : Int32) (x3 : Int32) (x4 : Int32) (H : Heap) (locs : List Loc) (ls : Array Slot), ag8 u x1 x2 x3 x4 = some (r, u1) → wc_W D dA h u H → wc_S u → va_S (CA h) s.heap H locs → lv_has ls 7 [(0, .ref (h + F)), (1, .int x1), (2, .int x2), (3, .int x3), (4, .int x4)] → W p l e ({ frames := 202, cells := 0, slots := 0, locals := 6450 }) s m args below meth c H locs 0 0 (MQ below (wc_Qr D dA h (some (.int r)) u1) args s 0 0 (CA h)) (F0 m 8 ls []))) (u : CS) (x1 : Int32) (x2 : Int32) (x3 : Int32) (x4 : Int32) (H : Heap) (locs : List Loc) (ls : Array Slot), fX1_lineFor_78 N F ag8 u x1 x2 x3 x4 = some (r, u1) → wc_W D dA h u H → wc_S u → va_S (CA h) s.heap H locs → lv_has ls 7 [(0, .ref (h + F)), (1, .int x1), (2, .int x2), (3, .int x3), (4, .int x4)] → W p l e ({ frames := 202, cells := 0, slots := 0, locals := 6450 }) s m args below meth c H locs 0 0 (MQ below (wc_Qr D dA h (some (.int r)) u1) args s 0 0 (CA h)) (F0 m 78 ls []) := by
    intro ag8 hag8 u x1 x2 x3 x4 H locs ls hE hW hS hV hl
    unfold fX1_lineFor_78 at hE
    refine z_iinc (v := (x4 + (-1 : Int32))) (lw := (fun y_ => [(4, .int y_), (0, .ref (h + F)), (1, .int x1), (2, .int x2), (3, .int x3)])) hx hb dX1_lineFor_78 hl hE (k := 4) rfl rfl (by decide) (fun _ => rfl) (fun z10 ls hE hl => ?_)
    refine lv_goto (tgt := 8) hx hb dX1_lineFor_81 (by decide) ?_
    exact hag8 _ _ _ _ _ _ _ _ hE hW hS hV (lv_sub hl [1, 2, 3, 4, 0] rfl)
  have w_75 : ∀ (u : CS) (x4 : Int32) (H : Heap) (locs : List Loc) (ls : Array Slot), fX1_lineFor_75 N F u x4 = some (r, u1) → wc_W D dA h u H → wc_S u → va_S (CA h) s.heap H locs → lv_has ls 7 [(4, .int x4)] → W p l e ({ frames := 202, cells := 0, slots := 0, locals := 6450 }) s m args below meth c H locs 0 0 (MQ below (wc_Qr D dA h (some (.int r)) u1) args s 0 0 (CA h)) (F0 m 75 ls []) := by
    intro u x4 H locs ls hE hW hS hV hl
    unfold fX1_lineFor_75 at hE
    refine lv_iload hx hb dX1_lineFor_75 (lv_at hl 0 rfl) ?_
    exact wc_iret C hr hlocks hW hS hV hE dX1_lineFor_77
  have w_46 : ∀ (ag8 : CS → Int32 → Int32 → Int32 → Int32 → Option (Int32 × CS)) (hag8 : (∀ (u : CS) (x1 : Int32) (x2 : Int32) (x3 : Int32) (x4 : Int32) (H : Heap) (locs : List Loc) (ls : Array Slot), ag8 u x1 x2 x3 x4 = some (r, u1) → wc_W D dA h u H → wc_S u → va_S (CA h) s.heap H locs → lv_has ls 7 [(0, .ref (h + F)), (1, .int x1), (2, .int x2), (3, .int x3), (4, .int x4)] → W p l e ({ frames := 202, cells := 0, slots := 0, locals := 6450 }) s m args below meth c H locs 0 0 (MQ below (wc_Qr D dA h (some (.int r)) u1) args s 0 0 (CA h)) (F0 m 8 ls []))) (u : CS) (x1 : Int32) (x2 : Int32) (x3 : Int32) (x4 : Int32) (x5 : Nat) (y0 : Int32) (H : Heap) (locs : List Loc) (ls : Array Slot), fX1_lineFor_46 N F ag8 u x1 x2 x3 x4 x5 y0 = some (r, u1) → wc_W D dA h u H → wc_S u → va_S (CA h) s.heap H locs → lv_has ls 7 [(0, .ref (h + F)), (1, .int x1), (2, .int x2), (3, .int x3), (4, .int x4), (5, .ref (h + x5))] → W p l e ({ frames := 202, cells := 0, slots := 0, locals := 6450 }) s m args below meth c H locs 0 0 (MQ below (wc_Qr D dA h (some (.int r)) u1) args s 0 0 (CA h)) (F0 m 46 ls [.int y0]) := by
    intro ag8 hag8 u x1 x2 x3 x4 x5 y0 H locs ls hE hW hS hV hl
    unfold fX1_lineFor_46 at hE
    refine lv_istore (lv' := [(6, .int y0), (0, .ref (h + F)), (1, .int x1), (2, .int x2), (3, .int x3), (4, .int x4), (5, .ref (h + x5))]) hx hb dX1_lineFor_46 hl (by decide) rfl (fun ls hl => ?_)
    refine lv_iload hx hb dX1_lineFor_48 (lv_at hl 0 rfl) ?_
    refine lv_if_eq (tgt := 78) hx hb dX1_lineFor_50 (by decide) (fun c11 => ?_) (fun c11 => ?_)
    · have hE := z_t c11 hE
      exact w_78 ag8 hag8 _ _ _ _ _ _ _ _ hE hW hS hV (lv_sub hl [1, 2, 3, 4, 5] rfl)
    · have hE := z_f c11 hE
      refine lv_aload hx hb dX1_lineFor_53 (lv_at hl 6 rfl) ?_
      obtain ⟨ht, hE⟩ := o_sh_some hE
      refine cg_X1_202_5 C hW ht dX1_lineFor_55 ?_
      refine z_nmp hE (fun p12 hE => ?_)
      rcases p12 with _ | n13
      · have hE := o_nu_none hE
        refine lv_ifnullN (tgt := 75) hx hb dX1_lineFor_58 (by decide) ?_
        exact w_75 _ _ _ _ _ hE hW hS hV (lv_sub hl [5] rfl)
      · have hE := o_nu_nn hE
        refine lv_ifnull hx hb dX1_lineFor_58 ?_
        refine lv_aload hx hb dX1_lineFor_61 (lv_at hl 6 rfl) ?_
        obtain ⟨ht, hE⟩ := o_sh_some hE
        refine cg_X1_202_5 C hW ht dX1_lineFor_63 ?_
        refine z_nmp hE (fun p14 hE => ?_)
        refine lv_aload_n hx hb dX1_lineFor_66 rfl (lv_at hl 1 rfl) ?_
        refine lv_iload_n hx hb dX1_lineFor_67 rfl (lv_at hl 3 rfl) ?_
        refine lv_iload_n hx hb dX1_lineFor_68 rfl (lv_at hl 4 rfl) ?_
        obtain ⟨n15, hp_, hE_⟩ := o_nn_some hE
        clear hE
        subst hp_
        have hE := hE_
        obtain ⟨r16, u17, hc, hE⟩ := o_bd2_some hE
        refine cv_X1_206 C hW hS hV (pw_all 200 _ _ _ _ _ _ _ hF hc) rfl rfl ⟨Nat.le_of_ble_eq_true rfl, Nat.le_of_ble_eq_true rfl⟩ ⟨Nat.le_refl 0, Nat.le_refl 0⟩ dX1_lineFor_69 hl.1 (Nat.le_of_ble_eq_true rfl) (fun H locs hW hS hV => ?_)
        refine lv_if_eq (tgt := 78) hx hb dX1_lineFor_72 (by decide) (fun c18 => ?_) (fun c18 => ?_)
        · have hE := z_t c18 hE
          exact w_78 ag8 hag8 _ _ _ _ _ _ _ _ hE hW hS hV (lv_sub hl [1, 2, 3, 4, 5] rfl)
        · have hE := z_f c18 hE
          exact w_75 _ _ _ _ _ hE hW hS hV (lv_sub hl [5] rfl)
  have w_45 : ∀ (ag8 : CS → Int32 → Int32 → Int32 → Int32 → Option (Int32 × CS)) (hag8 : (∀ (u : CS) (x1 : Int32) (x2 : Int32) (x3 : Int32) (x4 : Int32) (H : Heap) (locs : List Loc) (ls : Array Slot), ag8 u x1 x2 x3 x4 = some (r, u1) → wc_W D dA h u H → wc_S u → va_S (CA h) s.heap H locs → lv_has ls 7 [(0, .ref (h + F)), (1, .int x1), (2, .int x2), (3, .int x3), (4, .int x4)] → W p l e ({ frames := 202, cells := 0, slots := 0, locals := 6450 }) s m args below meth c H locs 0 0 (MQ below (wc_Qr D dA h (some (.int r)) u1) args s 0 0 (CA h)) (F0 m 8 ls []))) (u : CS) (x1 : Int32) (x2 : Int32) (x3 : Int32) (x4 : Int32) (x5 : Nat) (H : Heap) (locs : List Loc) (ls : Array Slot), fX1_lineFor_45 N F ag8 u x1 x2 x3 x4 x5 = some (r, u1) → wc_W D dA h u H → wc_S u → va_S (CA h) s.heap H locs → lv_has ls 7 [(0, .ref (h + F)), (1, .int x1), (2, .int x2), (3, .int x3), (4, .int x4), (5, .ref (h + x5))] → W p l e ({ frames := 202, cells := 0, slots := 0, locals := 6450 }) s m args below meth c H locs 0 0 (MQ below (wc_Qr D dA h (some (.int r)) u1) args s 0 0 (CA h)) (F0 m 45 ls []) := by
    intro ag8 hag8 u x1 x2 x3 x4 x5 H locs ls hE hW hS hV hl
    unfold fX1_lineFor_45 at hE
    refine lv_iconst (v := (0 : Int32)) hx hb dX1_lineFor_45 rfl ?_
    exact w_46 ag8 hag8 _ _ _ _ _ _ _ _ _ _ hE hW hS hV (lv_sub hl [0, 1, 2, 3, 4, 5] rfl)
  have w_8 : ∀ (n : Nat) (u : CS) (x1 : Int32) (x2 : Int32) (x3 : Int32) (x4 : Int32) (H : Heap) (locs : List Loc) (ls : Array Slot), fX1_lineFor_8 N F n u x1 x2 x3 x4 = some (r, u1) → wc_W D dA h u H → wc_S u → va_S (CA h) s.heap H locs → lv_has ls 7 [(0, .ref (h + F)), (1, .int x1), (2, .int x2), (3, .int x3), (4, .int x4)] → W p l e ({ frames := 202, cells := 0, slots := 0, locals := 6450 }) s m args below meth c H locs 0 0 (MQ below (wc_Qr D dA h (some (.int r)) u1) args s 0 0 (CA h)) (F0 m 8 ls []) := by
    intro n
    induction n with
    | zero =>
      intro u x1 x2 x3 x4 H locs ls hE hW hS hV hl
      cases (show (none : Option (Int32 × CS)) = some (r, u1) from hE)
    | succ n ih =>
      intro u x1 x2 x3 x4 H locs ls hE hW hS hV hl
      rw [fX1_lineFor_8] at hE
      refine lv_iload hx hb dX1_lineFor_8 (lv_at hl 4 rfl) ?_
      refine lv_if_lt (tgt := 84) hx hb dX1_lineFor_10 (by decide) (fun c19 => ?_) (fun c19 => ?_)
      · have hE := z_t c19 hE
        refine lv_iconst (v := (-1 : Int32)) hx hb dX1_lineFor_84 rfl ?_
        exact wc_iret C hr hlocks hW hS hV hE dX1_lineFor_85
      · have hE := z_f c19 hE
        refine lv_aload_n hx hb dX1_lineFor_13 rfl (lv_at hl 0 rfl) ?_
        refine cgs_X1_91_1 C hW (st_F hS hF) (sp_F_line hS hF) dX1_lineFor_14 ?_
        refine lv_iload hx hb dX1_lineFor_17 (lv_at hl 4 rfl) ?_
        refine wc_ldq7 C hW (st_F_line hS hF) hE dX1_lineFor_19 (fun hE => ?_)
        refine z_nmp hE (fun p20 hE => ?_)
        refine z_astore (lv' := [(5, wc_rf h p20), (0, .ref (h + F)), (1, .int x1), (2, .int x2), (3, .int x3), (4, .int x4)]) hx hb dX1_lineFor_20 hl (by decide) rfl (fun ls hl => ?_)
        refine z_aload hx hb dX1_lineFor_22 (lv_at hl 0 rfl) ?_
        obtain ⟨n21, hp_, hE_⟩ := o_nn_some hE
        clear hE
        subst hp_
        have hE := hE_
        obtain ⟨ht, hE⟩ := o_sh_some hE
        refine cg_X1_195_5 C hW ht dX1_lineFor_24 ?_
        refine lv_iload_n hx hb dX1_lineFor_27 rfl (lv_at hl 2 rfl) ?_
        refine lv_icmp_ne (tgt := 45) hx hb dX1_lineFor_28 (by decide) (fun c22 => ?_) (fun c22 => ?_)
        · have hE := z_f c22 hE
          exact w_45 (fX1_lineFor_8 N F n) ih _ _ _ _ _ _ _ _ _ hE hW hS hV (lv_sub hl [1, 2, 3, 4, 5, 0] rfl)
        · have hE := z_t c22 hE
          refine lv_aload_n hx hb dX1_lineFor_31 rfl (lv_at hl 1 rfl) ?_
          refine lv_iload hx hb dX1_lineFor_32 (lv_at hl 5 rfl) ?_
          refine lv_iload_n hx hb dX1_lineFor_34 rfl (lv_at hl 4 rfl) ?_
          obtain ⟨r23, u24, hc, hE⟩ := o_bd2_some hE
          refine cc_X1_198 C hW hS hV (st_F hS hF) (kX1_isInForce hF hc) rfl rfl ⟨Nat.le_of_ble_eq_true rfl, Nat.le_of_ble_eq_true rfl⟩ ⟨Nat.le_refl 0, Nat.le_refl 0⟩ dX1_lineFor_35 hl.1 (Nat.le_of_ble_eq_true rfl) (fun H locs hW hS hV => ?_)
          refine lv_if_eq (tgt := 45) hx hb dX1_lineFor_38 (by decide) (fun c25 => ?_) (fun c25 => ?_)
          · have hE := z_t c25 hE
            exact w_45 (fX1_lineFor_8 N F n) ih _ _ _ _ _ _ _ _ _ hE hW hS hV (lv_sub hl [1, 2, 3, 4, 5, 0] rfl)
          · have hE := z_f c25 hE
            refine lv_iconst (v := (1 : Int32)) hx hb dX1_lineFor_41 rfl ?_
            refine lv_goto (tgt := 46) hx hb dX1_lineFor_42 (by decide) ?_
            exact w_46 (fX1_lineFor_8 N F n) ih _ _ _ _ _ _ _ _ _ _ hE hW hS hV (lv_sub hl [1, 2, 3, 4, 5, 0] rfl)
  unfold fX1_lineFor at hE
  refine lv_aload_n hx hb dX1_lineFor_0 rfl (lv_at hl 0 rfl) ?_
  refine cg_X1_162_1 C hW (st_F hS hF) dX1_lineFor_1 ?_
  refine lv_iconst (v := (1 : Int32)) hx hb dX1_lineFor_4 rfl ?_
  refine lv_isub hx hb dX1_lineFor_5 ?_
  refine z_nmi hE (fun z26 hE => ?_)
  refine lv_istore (lv' := [(4, .int z26), (0, .ref (h + F)), (1, .int a1), (2, .int a2), (3, .int a3)]) hx hb dX1_lineFor_6 hl (by decide) rfl (fun ls hl => ?_)
  exact w_8 N _ _ _ _ _ _ _ _ hE hW hS hV (lv_sub hl [1, 2, 3, 4, 0] rfl)
theorem cc_X1_218 {F : Nat} {a1 : Int32} {a2 : Int32} {a3 : Int32} {r : Int32} {u u1 : CS} {rm : Room} (C : CC p m c cc nL s args D dA RX1) (hW : wc_W D dA h u H) (hS : wc_S u) (hV : va_S (CA h) H0 H locs) (ht : wc_T u F = some (.inl 1)) (hM : Met l yX1_says (ws_ yX1_says cX1_says 5 (some .int)) rm (va_Pc [.ref (h + F), .int a1, .int a2, .int a3] (wc_St D dA h u)) (wc_Qr D dA h (some (.int r)) u1) 0 0 (CA h)) (hrc : rm.cells = 0) (hrs : rm.slots = 0) (hR : rm.frames + 1 ≤ R.frames ∧ 8 + (5 + 11) + rm.locals ≤ R.locals) (hf : cells + 0 ≤ R.cells ∧ slots + 0 ≤ R.slots) (d : decode cc pc = .ok (.invokevirtual 218, 3)) (hsz : ls.size = nL) (hro : (rest.map fun v => v.category).sum ≤ 8) (kk : ∀ (H1 : Heap) (locs1 : List Loc), wc_W D dA h u1 H1 → wc_S u1 → va_S (CA h) H0 H1 locs1 → W p l e R s m args below meth c H1 locs1 cells slots Q (F0 m (pc + 3) ls (.int r :: rest))) : W p l e R s m args below meth c H locs cells slots Q (F0 m pc ls (.int a3 :: .int a2 :: .int a1 :: .ref (h + F) :: rest)) :=
  wc_call (v := (some (.int r))) (va_runV (As := [.int a1, .int a2, .int a3]) (rest := rest) C.1 hM (cwV 3 C.1.2.2.2.2 (lw_V q743 q745 qs12 q167 q746) rfl hrc hrs (by decide +kernel) hR) (wc_preV (q := (RX1, TX1, 46)) C.2 hW hS ht rfl _) rfl rfl hsz rfl (lv_room hro) d hf) hV (fun _ z => z) (fun H1 locs1 a b c0 _ _ => kk H1 locs1 a b c0)
theorem cc_X0_364 {F : Nat} {a1 : Int32} {a2 : Int32} {a3 : Int32} {r : Int32} {u u1 : CS} {rm : Room} (C : CC p m c cc nL s args D dA RX0) (hW : wc_W D dA h u H) (hS : wc_S u) (hV : va_S (CA h) H0 H locs) (ht : wc_T u F = some (.inl 1)) (hM : Met l yX1_says (ws_ yX1_says cX1_says 5 (some .int)) rm (va_Pc [.ref (h + F), .int a1, .int a2, .int a3] (wc_St D dA h u)) (wc_Qr D dA h (some (.int r)) u1) 0 0 (CA h)) (hrc : rm.cells = 0) (hrs : rm.slots = 0) (hR : rm.frames + 1 ≤ R.frames ∧ 8 + (5 + 11) + rm.locals ≤ R.locals) (hf : cells + 0 ≤ R.cells ∧ slots + 0 ≤ R.slots) (d : decode cc pc = .ok (.invokevirtual 364, 3)) (hsz : ls.size = nL) (hro : (rest.map fun v => v.category).sum ≤ 8) (kk : ∀ (H1 : Heap) (locs1 : List Loc), wc_W D dA h u1 H1 → wc_S u1 → va_S (CA h) H0 H1 locs1 → W p l e R s m args below meth c H1 locs1 cells slots Q (F0 m (pc + 3) ls (.int r :: rest))) : W p l e R s m args below meth c H locs cells slots Q (F0 m pc ls (.int a3 :: .int a2 :: .int a1 :: .ref (h + F) :: rest)) :=
  wc_call (v := (some (.int r))) (va_runVN (As := [.int a1, .int a2, .int a3]) (rest := rest) C.1 hM ⟨va_cnB 3 C.1.2.2.2.2 (lw_meth q746) rfl hrc hrs (C.2.2.at q1171 rfl) (C.1.2.2.2.2 _ q167) (by decide +kernel) hR, C.1.2.2.2.2 _ q745, C.1.2.2.2.2 _ qs12⟩ (wc_preV (q := (RX1, TX1, 46)) C.2 hW hS ht rfl _) rfl rfl hsz rfl (lv_room hro) d hf) hV (fun _ z => z) (fun H1 locs1 a b c0 _ _ => kk H1 locs1 a b c0)
set_option maxHeartbeats 4000000 in
set_option maxRecDepth 100000 in
theorem kX1_says {l : Launch} {D : va_G} {dA : Nat → ClassId} {h N : Nat} {F : Nat} {a1 : Int32} {a2 : Int32} {a3 : Int32} {u u1 : CS} {r : Int32} (hF : wc_F F) (hE : fX1_says N F u a1 a2 a3 = some (r, u1)) : Met l yX1_says (ws_ yX1_says cX1_says 5 (some .int)) ({ frames := 203, cells := 0, slots := 0, locals := 6476 }) (va_Pc [.ref (h + F), .int a1, .int a2, .int a3] (wc_St D dA h u)) (wc_Qr D dA h (some (.int r)) u1) 0 0 (CA h) := by
  refine wc_met (own := RX1) (lv := [(0, .ref (h + F)), (1, .int a1), (2, .int a2), (3, .int a3)]) (by decide) rfl rfl rfl ?_
  intro p e s m args below meth c ls C hr hlocks hW hS hV hl
  have hx := C.1.1
  have hb := C.1.2.1
  have w_55 : ∀ (u : CS) (y0 : Int32) (H : Heap) (locs : List Loc) (ls : Array Slot), fX1_says_55 N F u y0 = some (r, u1) → wc_W D dA h u H → wc_S u → va_S (CA h) s.heap H locs → lv_has ls 5 [] → W p l e ({ frames := 203, cells := 0, slots := 0, locals := 6476 }) s m args below meth c H locs 0 0 (MQ below (wc_Qr D dA h (some (.int r)) u1) args s 0 0 (CA h)) (F0 m 55 ls [.int y0]) := by
    intro u y0 H locs ls hE hW hS hV hl
    unfold fX1_says_55 at hE
    exact wc_iret C hr hlocks hW hS hV hE dX1_says_55
  unfold fX1_says at hE
  refine lv_aload_n hx hb dX1_says_0 rfl (lv_at hl 0 rfl) ?_
  refine lv_iload_n hx hb dX1_says_1 rfl (lv_at hl 1 rfl) ?_
  refine lv_iload_n hx hb dX1_says_2 rfl (lv_at hl 2 rfl) ?_
  refine lv_iload_n hx hb dX1_says_3 rfl (lv_at hl 3 rfl) ?_
  obtain ⟨r8, u9, hc, hE⟩ := o_bd2_some hE
  refine cc_X1_212 C hW hS hV (st_F hS hF) (kX1_lineFor hF hc) rfl rfl ⟨Nat.le_of_ble_eq_true rfl, Nat.le_of_ble_eq_true rfl⟩ ⟨Nat.le_refl 0, Nat.le_refl 0⟩ dX1_says_4 hl.1 (Nat.le_of_ble_eq_true rfl) (fun H locs hW hS hV => ?_)
  refine lv_istore (lv' := [(4, .int r8), (0, .ref (h + F)), (1, .int a1), (2, .int a2), (3, .int a3)]) hx hb dX1_says_7 hl (by decide) rfl (fun ls hl => ?_)
  refine lv_iload hx hb dX1_says_9 (lv_at hl 0 rfl) ?_
  refine lv_iconst (v := (-1 : Int32)) hx hb dX1_says_11 rfl ?_
  refine lv_icmp_eq (tgt := 32) hx hb dX1_says_12 (by decide) (fun c10 => ?_) (fun c10 => ?_)
  · have hE := z_t c10 hE
    refine lv_iload_n hx hb dX1_says_32 rfl (lv_at hl 2 rfl) ?_
    refine lv_iconst (v := (1 : Int32)) hx hb dX1_says_33 rfl ?_
    refine lv_icmp_ne (tgt := 43) hx hb dX1_says_34 (by decide) (fun c11 => ?_) (fun c11 => ?_)
    · have hE := z_f c11 hE
      refine lv_iload_n hx hb dX1_says_43 rfl (lv_at hl 2 rfl) ?_
      refine lv_bipush (v := (7 : Int32)) hx hb dX1_says_44 rfl ?_
      refine lv_icmp_ne (tgt := 54) hx hb dX1_says_46 (by decide) (fun c12 => ?_) (fun c12 => ?_)
      · have hE := z_f c12 hE
        refine lv_iconst (v := (0 : Int32)) hx hb dX1_says_54 rfl ?_
        exact w_55 _ _ _ _ _ hE hW hS hV (lv_sub hl [] rfl)
      · have hE := z_t c12 hE
        refine lv_bipush (v := (99 : Int32)) hx hb dX1_says_49 rfl ?_
        refine lv_goto (tgt := 55) hx hb dX1_says_51 (by decide) ?_
        exact w_55 _ _ _ _ _ hE hW hS hV (lv_sub hl [] rfl)
    · have hE := z_t c11 hE
      refine lv_sipush (v := (9999 : Int32)) hx hb dX1_says_37 rfl ?_
      refine lv_goto (tgt := 55) hx hb dX1_says_40 (by decide) ?_
      exact w_55 _ _ _ _ _ hE hW hS hV (lv_sub hl [] rfl)
  · have hE := z_f c10 hE
    refine lv_aload_n hx hb dX1_says_15 rfl (lv_at hl 1 rfl) ?_
    refine cgs_X1_91_1 C hW (st_F hS hF) (sp_F_line hS hF) dX1_says_16 ?_
    refine lv_iload hx hb dX1_says_19 (lv_at hl 0 rfl) ?_
    refine wc_ldq7 C hW (st_F_line hS hF) hE dX1_says_21 (fun hE => ?_)
    refine z_nmp hE (fun p13 hE => ?_)
    obtain ⟨n14, hp_, hE_⟩ := o_nn_some hE
    clear hE
    subst hp_
    have hE := hE_
    obtain ⟨ht, hE⟩ := o_sh_some hE
    refine cg_X1_215_5 C hW ht dX1_says_22 ?_
    refine z_nmp hE (fun p15 hE => ?_)
    refine lv_aload_n hx hb dX1_says_25 rfl (lv_at hl 1 rfl) ?_
    refine lv_iload_n hx hb dX1_says_26 rfl (lv_at hl 3 rfl) ?_
    refine lv_iload_n hx hb dX1_says_27 rfl (lv_at hl 4 rfl) ?_
    obtain ⟨n16, hp_, hE_⟩ := o_nn_some hE
    clear hE
    subst hp_
    have hE := hE_
    obtain ⟨r17, u18, hc, hE⟩ := o_bd2_some hE
    refine cv_X1_206 C hW hS hV (pw_all 200 _ _ _ _ _ _ _ hF hc) rfl rfl ⟨Nat.le_of_ble_eq_true rfl, Nat.le_of_ble_eq_true rfl⟩ ⟨Nat.le_refl 0, Nat.le_refl 0⟩ dX1_says_28 hl.1 (Nat.le_of_ble_eq_true rfl) (fun H locs hW hS hV => ?_)
    exact wc_iret C hr hlocks hW hS hV hE dX1_says_31
theorem cc_X1_223 {F : Nat} {a1 : Int32} {a2 : Int32} {r : Int32} {u u1 : CS} {rm : Room} (C : CC p m c cc nL s args D dA RX1) (hW : wc_W D dA h u H) (hS : wc_S u) (hV : va_S (CA h) H0 H locs) (ht : wc_T u F = some (.inl 1)) (hM : Met l yX1_saysNow (ws_ yX1_saysNow cX1_saysNow 3 (some .int)) rm (va_Pc [.ref (h + F), .int a1, .int a2] (wc_St D dA h u)) (wc_Qr D dA h (some (.int r)) u1) 0 0 (CA h)) (hrc : rm.cells = 0) (hrs : rm.slots = 0) (hR : rm.frames + 1 ≤ R.frames ∧ 8 + (3 + 11) + rm.locals ≤ R.locals) (hf : cells + 0 ≤ R.cells ∧ slots + 0 ≤ R.slots) (d : decode cc pc = .ok (.invokevirtual 223, 3)) (hsz : ls.size = nL) (hro : (rest.map fun v => v.category).sum ≤ 8) (kk : ∀ (H1 : Heap) (locs1 : List Loc), wc_W D dA h u1 H1 → wc_S u1 → va_S (CA h) H0 H1 locs1 → W p l e R s m args below meth c H1 locs1 cells slots Q (F0 m (pc + 3) ls (.int r :: rest))) : W p l e R s m args below meth c H locs cells slots Q (F0 m pc ls (.int a2 :: .int a1 :: .ref (h + F) :: rest)) :=
  wc_call (v := (some (.int r))) (va_runV (As := [.int a1, .int a2]) (rest := rest) C.1 hM (cwV 2 C.1.2.2.2.2 (lw_V q739 q741 qs11 q167 q742) rfl hrc hrs (by decide +kernel) hR) (wc_preV (q := (RX1, TX1, 46)) C.2 hW hS ht rfl _) rfl rfl hsz rfl (lv_room hro) d hf) hV (fun _ z => z) (fun H1 locs1 a b c0 _ _ => kk H1 locs1 a b c0)
theorem cc_X0_226 {F : Nat} {a1 : Int32} {a2 : Int32} {r : Int32} {u u1 : CS} {rm : Room} (C : CC p m c cc nL s args D dA RX0) (hW : wc_W D dA h u H) (hS : wc_S u) (hV : va_S (CA h) H0 H locs) (ht : wc_T u F = some (.inl 1)) (hM : Met l yX1_saysNow (ws_ yX1_saysNow cX1_saysNow 3 (some .int)) rm (va_Pc [.ref (h + F), .int a1, .int a2] (wc_St D dA h u)) (wc_Qr D dA h (some (.int r)) u1) 0 0 (CA h)) (hrc : rm.cells = 0) (hrs : rm.slots = 0) (hR : rm.frames + 1 ≤ R.frames ∧ 8 + (3 + 11) + rm.locals ≤ R.locals) (hf : cells + 0 ≤ R.cells ∧ slots + 0 ≤ R.slots) (d : decode cc pc = .ok (.invokevirtual 226, 3)) (hsz : ls.size = nL) (hro : (rest.map fun v => v.category).sum ≤ 8) (kk : ∀ (H1 : Heap) (locs1 : List Loc), wc_W D dA h u1 H1 → wc_S u1 → va_S (CA h) H0 H1 locs1 → W p l e R s m args below meth c H1 locs1 cells slots Q (F0 m (pc + 3) ls (.int r :: rest))) : W p l e R s m args below meth c H locs cells slots Q (F0 m pc ls (.int a2 :: .int a1 :: .ref (h + F) :: rest)) :=
  wc_call (v := (some (.int r))) (va_runVN (As := [.int a1, .int a2]) (rest := rest) C.1 hM ⟨va_cnB 2 C.1.2.2.2.2 (lw_meth q742) rfl hrc hrs (C.2.2.at q822 rfl) (C.1.2.2.2.2 _ q167) (by decide +kernel) hR, C.1.2.2.2.2 _ q741, C.1.2.2.2.2 _ qs11⟩ (wc_preV (q := (RX1, TX1, 46)) C.2 hW hS ht rfl _) rfl rfl hsz rfl (lv_room hro) d hf) hV (fun _ z => z) (fun H1 locs1 a b c0 _ _ => kk H1 locs1 a b c0)
set_option maxHeartbeats 4000000 in
set_option maxRecDepth 100000 in
theorem kX1_saysNow {l : Launch} {D : va_G} {dA : Nat → ClassId} {h N : Nat} {F : Nat} {a1 : Int32} {a2 : Int32} {u u1 : CS} {r : Int32} (hF : wc_F F) (hE : fX1_saysNow N F u a1 a2 = some (r, u1)) : Met l yX1_saysNow (ws_ yX1_saysNow cX1_saysNow 3 (some .int)) ({ frames := 204, cells := 0, slots := 0, locals := 6500 }) (va_Pc [.ref (h + F), .int a1, .int a2] (wc_St D dA h u)) (wc_Qr D dA h (some (.int r)) u1) 0 0 (CA h) := by
  refine wc_met (own := RX1) (lv := [(0, .ref (h + F)), (1, .int a1), (2, .int a2)]) (by decide) rfl rfl rfl ?_
  intro p e s m args below meth c ls C hr hlocks hW hS hV hl
  have hx := C.1.1
  have hb := C.1.2.1
  unfold fX1_saysNow at hE
  refine lv_aload_n hx hb dX1_saysNow_0 rfl (lv_at hl 0 rfl) ?_
  refine lv_iload_n hx hb dX1_saysNow_1 rfl (lv_at hl 1 rfl) ?_
  refine lv_iload_n hx hb dX1_saysNow_2 rfl (lv_at hl 2 rfl) ?_
  refine lv_aload_n hx hb dX1_saysNow_3 rfl (lv_at hl 0 rfl) ?_
  refine cg_X1_142_1 C hW (st_F hS hF) dX1_saysNow_4 ?_
  obtain ⟨r3, u4, hc, hE⟩ := o_bd2_some hE
  refine cc_X1_218 C hW hS hV (st_F hS hF) (kX1_says hF hc) rfl rfl ⟨Nat.le_of_ble_eq_true rfl, Nat.le_of_ble_eq_true rfl⟩ ⟨Nat.le_refl 0, Nat.le_refl 0⟩ dX1_saysNow_7 hl.1 (Nat.le_of_ble_eq_true rfl) (fun H locs hW hS hV => ?_)
  exact wc_iret C hr hlocks hW hS hV hE dX1_saysNow_10
theorem cc_X0_176 {F : Nat} {a1 : Int32} {r : Int32} {u u1 : CS} {rm : Room} (C : CC p m c cc nL s args D dA RX0) (hW : wc_W D dA h u H) (hS : wc_S u) (hV : va_S (CA h) H0 H locs) (ht : wc_T u F = some (.inl 1)) (hM : Met l yX1_isLate (ws_ yX1_isLate cX1_isLate 2 (some .boolean)) rm (va_Pc [.ref (h + F), .int a1] (wc_St D dA h u)) (wc_Qr D dA h (some (.int r)) u1) 0 0 (CA h)) (hrc : rm.cells = 0) (hrs : rm.slots = 0) (hR : rm.frames + 1 ≤ R.frames ∧ 8 + (2 + 11) + rm.locals ≤ R.locals) (hf : cells + 0 ≤ R.cells ∧ slots + 0 ≤ R.slots) (d : decode cc pc = .ok (.invokevirtual 176, 3)) (hsz : ls.size = nL) (hro : (rest.map fun v => v.category).sum ≤ 8) (kk : ∀ (H1 : Heap) (locs1 : List Loc), wc_W D dA h u1 H1 → wc_S u1 → va_S (CA h) H0 H1 locs1 → W p l e R s m args below meth c H1 locs1 cells slots Q (F0 m (pc + 3) ls (.int r :: rest))) : W p l e R s m args below meth c H locs cells slots Q (F0 m pc ls (.int a1 :: .ref (h + F) :: rest)) :=
  wc_call (v := (some (.int r))) (va_runVN (As := [.int a1]) (rest := rest) C.1 hM ⟨va_cnB 1 C.1.2.2.2.2 (lw_meth q734) rfl hrc hrs (C.2.2.at q731 rfl) (C.1.2.2.2.2 _ q167) (by decide +kernel) hR, C.1.2.2.2.2 _ q733, C.1.2.2.2.2 _ qs9⟩ (wc_preV (q := (RX1, TX1, 46)) C.2 hW hS ht rfl _) rfl rfl hsz rfl (lv_room hro) d hf) hV (fun _ z => z) (fun H1 locs1 a b c0 _ _ => kk H1 locs1 a b c0)
set_option maxHeartbeats 4000000 in
set_option maxRecDepth 100000 in
theorem kX1_isLate {l : Launch} {D : va_G} {dA : Nat → ClassId} {h N : Nat} {F : Nat} {a1 : Int32} {u u1 : CS} {r : Int32} (hF : wc_F F) (hE : fX1_isLate N F u a1 = some (r, u1)) : Met l yX1_isLate (ws_ yX1_isLate cX1_isLate 2 (some .boolean)) ({ frames := 205, cells := 0, slots := 0, locals := 6522 }) (va_Pc [.ref (h + F), .int a1] (wc_St D dA h u)) (wc_Qr D dA h (some (.int r)) u1) 0 0 (CA h) := by
  refine wc_met (own := RX1) (lv := [(0, .ref (h + F)), (1, .int a1)]) (by decide) rfl rfl rfl ?_
  intro p e s m args below meth c ls C hr hlocks hW hS hV hl
  have hx := C.1.1
  have hb := C.1.2.1
  have w_44 : ∀ (u : CS) (y0 : Int32) (H : Heap) (locs : List Loc) (ls : Array Slot), fX1_isLate_44 N F u y0 = some (r, u1) → wc_W D dA h u H → wc_S u → va_S (CA h) s.heap H locs → lv_has ls 2 [] → W p l e ({ frames := 205, cells := 0, slots := 0, locals := 6522 }) s m args below meth c H locs 0 0 (MQ below (wc_Qr D dA h (some (.int r)) u1) args s 0 0 (CA h)) (F0 m 44 ls [.int y0]) := by
    intro u y0 H locs ls hE hW hS hV hl
    unfold fX1_isLate_44 at hE
    obtain ⟨hb1, hE⟩ := o_bl_some hE
    exact wc_zret C hr hlocks hW hS hV hb1 hE dX1_isLate_44
  have w_43 : ∀ (u : CS) (H : Heap) (locs : List Loc) (ls : Array Slot), fX1_isLate_43 N F u = some (r, u1) → wc_W D dA h u H → wc_S u → va_S (CA h) s.heap H locs → lv_has ls 2 [] → W p l e ({ frames := 205, cells := 0, slots := 0, locals := 6522 }) s m args below meth c H locs 0 0 (MQ below (wc_Qr D dA h (some (.int r)) u1) args s 0 0 (CA h)) (F0 m 43 ls []) := by
    intro u H locs ls hE hW hS hV hl
    unfold fX1_isLate_43 at hE
    refine lv_iconst (v := (0 : Int32)) hx hb dX1_isLate_43 rfl ?_
    exact w_44 _ _ _ _ _ hE hW hS hV (lv_sub hl [] rfl)
  unfold fX1_isLate at hE
  refine lv_aload_n hx hb dX1_isLate_0 rfl (lv_at hl 0 rfl) ?_
  refine lv_iload_n hx hb dX1_isLate_1 rfl (lv_at hl 1 rfl) ?_
  obtain ⟨r7, u8, hc, hE⟩ := o_bd2_some hE
  refine cc_X1_232 C hW hS hV (st_F hS hF) (kX1_isBare hF hc) rfl rfl ⟨Nat.le_of_ble_eq_true rfl, Nat.le_of_ble_eq_true rfl⟩ ⟨Nat.le_refl 0, Nat.le_refl 0⟩ dX1_isLate_2 hl.1 (Nat.le_of_ble_eq_true rfl) (fun H locs hW hS hV => ?_)
  refine lv_if_eq (tgt := 43) hx hb dX1_isLate_5 (by decide) (fun c9 => ?_) (fun c9 => ?_)
  · have hE := z_t c9 hE
    exact w_43 _ _ _ _ hE hW hS hV (lv_sub hl [] rfl)
  · have hE := z_f c9 hE
    refine lv_aload_n hx hb dX1_isLate_8 rfl (lv_at hl 0 rfl) ?_
    refine cgs_X1_39_1 C hW (st_F hS hF) (sp_F_cutIn hS hF) dX1_isLate_9 ?_
    refine lv_iload_n hx hb dX1_isLate_12 rfl (lv_at hl 1 rfl) ?_
    refine wc_ldi C hW (st_F_cutIn hS hF) hE dX1_isLate_13 (fun hE => ?_)
    refine z_nmi hE (fun v10 hE => ?_)
    refine lv_iconst (v := (-1 : Int32)) hx hb dX1_isLate_14 rfl ?_
    refine lv_icmp_eq (tgt := 43) hx hb dX1_isLate_15 (by decide) (fun c11 => ?_) (fun c11 => ?_)
    · have hE := z_t c11 hE
      exact w_43 _ _ _ _ hE hW hS hV (lv_sub hl [] rfl)
    · have hE := z_f c11 hE
      refine lv_aload_n hx hb dX1_isLate_18 rfl (lv_at hl 0 rfl) ?_
      refine cg_X1_142_1 C hW (st_F hS hF) dX1_isLate_19 ?_
      refine lv_aload_n hx hb dX1_isLate_22 rfl (lv_at hl 0 rfl) ?_
      refine cgs_X1_39_1 C hW (st_F hS hF) (sp_F_cutIn hS hF) dX1_isLate_23 ?_
      refine lv_iload_n hx hb dX1_isLate_26 rfl (lv_at hl 1 rfl) ?_
      refine wc_ldi C hW (st_F_cutIn hS hF) hE dX1_isLate_27 (fun hE => ?_)
      refine z_nmi hE (fun v12 hE => ?_)
      refine lv_isub hx hb dX1_isLate_28 ?_
      refine lv_aload_n hx hb dX1_isLate_29 rfl (lv_at hl 0 rfl) ?_
      refine lv_bipush (v := (7 : Int32)) hx hb dX1_isLate_30 rfl ?_
      refine lv_iload_n hx hb dX1_isLate_32 rfl (lv_at hl 1 rfl) ?_
      obtain ⟨r13, u14, hc, hE⟩ := o_bd2_some hE
      refine cc_X1_223 C hW hS hV (st_F hS hF) (kX1_saysNow hF hc) rfl rfl ⟨Nat.le_of_ble_eq_true rfl, Nat.le_of_ble_eq_true rfl⟩ ⟨Nat.le_refl 0, Nat.le_refl 0⟩ dX1_isLate_33 hl.1 (Nat.le_of_ble_eq_true rfl) (fun H locs hW hS hV => ?_)
      refine lv_icmp_lt (tgt := 43) hx hb dX1_isLate_36 (by decide) (fun c15 => ?_) (fun c15 => ?_)
      · have hE := z_t c15 hE
        exact w_43 _ _ _ _ hE hW hS hV (lv_sub hl [] rfl)
      · have hE := z_f c15 hE
        refine lv_iconst (v := (1 : Int32)) hx hb dX1_isLate_39 rfl ?_
        refine lv_goto (tgt := 44) hx hb dX1_isLate_40 (by decide) ?_
        exact w_44 _ _ _ _ _ hE hW hS hV (lv_sub hl [] rfl)
theorem cc_X0_179 {a1 : Int32} {a2 : Int32} {r : Int32} {u u1 : CS} {rm : Room} (C : CC p m c cc nL s args D dA RX0) (hW : wc_W D dA h u H) (hS : wc_S u) (hV : va_S (CA h) H0 H locs) (ht : wc_T u 0 = some (.inl 0)) (hM : Met l yX0_lookMore (ws_ yX0_lookMore cX0_lookMore 3 (some .int)) rm (va_Pc [.ref (h + 0), .int a1, .int a2] (wc_St D dA h u)) (wc_Qr D dA h (some (.int r)) u1) 0 0 (CA h)) (hrc : rm.cells = 0) (hrs : rm.slots = 0) (hR : rm.frames + 1 ≤ R.frames ∧ 8 + (3 + 11) + rm.locals ≤ R.locals) (hf : cells + 0 ≤ R.cells ∧ slots + 0 ≤ R.slots) (d : decode cc pc = .ok (.invokevirtual 179, 3)) (hsz : ls.size = nL) (hro : (rest.map fun v => v.category).sum ≤ 8) (kk : ∀ (H1 : Heap) (locs1 : List Loc), wc_W D dA h u1 H1 → wc_S u1 → va_S (CA h) H0 H1 locs1 → W p l e R s m args below meth c H1 locs1 cells slots Q (F0 m (pc + 3) ls (.int r :: rest))) : W p l e R s m args below meth c H locs cells slots Q (F0 m pc ls (.int a2 :: .int a1 :: .ref (h + 0) :: rest)) :=
  wc_call (v := (some (.int r))) (va_runV (As := [.int a1, .int a2]) (rest := rest) C.1 hM (cwV 2 C.1.2.2.2.2 (lw_V q710 q712 qs6 q166 q713) rfl hrc hrs (by decide +kernel) hR) (wc_preV (q := (RX0, TX0, 27)) C.2 hW hS ht rfl _) rfl rfl hsz rfl (lv_room hro) d hf) hV (fun _ z => z) (fun H1 locs1 a b c0 _ _ => kk H1 locs1 a b c0)
set_option maxHeartbeats 4000000 in
set_option maxRecDepth 100000 in
theorem kX0_lookMore {l : Launch} {D : va_G} {dA : Nat → ClassId} {h N : Nat} {a1 : Int32} {a2 : Int32} {u u1 : CS} {r : Int32} (hE : fX0_lookMore N u a1 a2 = some (r, u1)) : Met l yX0_lookMore (ws_ yX0_lookMore cX0_lookMore 3 (some .int)) ({ frames := 206, cells := 0, slots := 0, locals := 6543 }) (va_Pc [.ref (h + 0), .int a1, .int a2] (wc_St D dA h u)) (wc_Qr D dA h (some (.int r)) u1) 0 0 (CA h) := by
  refine wc_met (own := RX0) (lv := [(0, .ref (h + 0)), (1, .int a1), (2, .int a2)]) (by decide) rfl rfl rfl ?_
  intro p e s m args below meth c ls C hr hlocks hW hS hV hl
  have hx := C.1.1
  have hb := C.1.2.1
  have w_119 : ∀ (u : CS) (y0 : Int32) (H : Heap) (locs : List Loc) (ls : Array Slot), fX0_lookMore_119 N u y0 = some (r, u1) → wc_W D dA h u H → wc_S u → va_S (CA h) s.heap H locs → lv_has ls 3 [] → W p l e ({ frames := 206, cells := 0, slots := 0, locals := 6543 }) s m args below meth c H locs 0 0 (MQ below (wc_Qr D dA h (some (.int r)) u1) args s 0 0 (CA h)) (F0 m 119 ls [.int y0]) := by
    intro u y0 H locs ls hE hW hS hV hl
    unfold fX0_lookMore_119 at hE
    exact wc_iret C hr hlocks hW hS hV hE dX0_lookMore_119
  unfold fX0_lookMore at hE
  refine lv_iload_n hx hb dX0_lookMore_0 rfl (lv_at hl 2 rfl) ?_
  by_cases c12 : a2 = (7 : Int32)
  · have hE := z_t c12 hE
    refine lv_tableIn (tgt := 44) hx hb dX0_lookMore_1 (by rw [c12]; decide) (by rw [c12]; decide) (by rw [c12]; rfl) (by decide) ?_
    refine lv_aload_n hx hb dX0_lookMore_44 rfl (lv_at hl 0 rfl) ?_
    refine cgs_X0_19_0 C hW (st_0 hS) (sp_0_now hS) dX0_lookMore_45 ?_
    refine lv_iload_n hx hb dX0_lookMore_48 rfl (lv_at hl 1 rfl) ?_
    obtain ⟨r13, u14, hc, hE⟩ := o_bd2_some hE
    refine cc_X0_164 C hW hS hV (st_F hS wc_F3) (kX1_wood wc_F3 hc) rfl rfl ⟨Nat.le_of_ble_eq_true rfl, Nat.le_of_ble_eq_true rfl⟩ ⟨Nat.le_refl 0, Nat.le_refl 0⟩ dX0_lookMore_49 hl.1 (Nat.le_of_ble_eq_true rfl) (fun H locs hW hS hV => ?_)
    exact wc_iret C hr hlocks hW hS hV hE dX0_lookMore_52
  have hE := z_f c12 hE
  by_cases c15 : a2 = (8 : Int32)
  · have hE := z_t c15 hE
    refine lv_tableIn (tgt := 53) hx hb dX0_lookMore_1 (by rw [c15]; decide) (by rw [c15]; decide) (by rw [c15]; rfl) (by decide) ?_
    refine lv_aload_n hx hb dX0_lookMore_53 rfl (lv_at hl 0 rfl) ?_
    refine cgs_X0_19_0 C hW (st_0 hS) (sp_0_now hS) dX0_lookMore_54 ?_
    refine cgs_X0_167_1 C hW (st_F hS wc_F3) (sp_F_lying hS wc_F3) dX0_lookMore_57 ?_
    refine lv_iload_n hx hb dX0_lookMore_60 rfl (lv_at hl 1 rfl) ?_
    refine wc_ldi C hW (st_F_lying hS wc_F3) hE dX0_lookMore_61 (fun hE => ?_)
    refine z_nmi hE (fun v16 hE => ?_)
    exact wc_iret C hr hlocks hW hS hV hE dX0_lookMore_62
  have hE := z_f c15 hE
  by_cases c17 : a2 = (9 : Int32)
  · have hE := z_t c17 hE
    refine lv_tableIn (tgt := 63) hx hb dX0_lookMore_1 (by rw [c17]; decide) (by rw [c17]; decide) (by rw [c17]; rfl) (by decide) ?_
    refine lv_aload_n hx hb dX0_lookMore_63 rfl (lv_at hl 0 rfl) ?_
    refine cgs_X0_19_0 C hW (st_0 hS) (sp_0_now hS) dX0_lookMore_64 ?_
    refine cgs_X0_170_1 C hW (st_F hS wc_F3) (sp_F_bugs hS wc_F3) dX0_lookMore_67 ?_
    refine lv_iload_n hx hb dX0_lookMore_70 rfl (lv_at hl 1 rfl) ?_
    refine wc_ldi C hW (st_F_bugs hS wc_F3) hE dX0_lookMore_71 (fun hE => ?_)
    refine z_nmi hE (fun v18 hE => ?_)
    exact wc_iret C hr hlocks hW hS hV hE dX0_lookMore_72
  have hE := z_f c17 hE
  by_cases c19 : a2 = (10 : Int32)
  · have hE := z_t c19 hE
    refine lv_tableIn (tgt := 73) hx hb dX0_lookMore_1 (by rw [c19]; decide) (by rw [c19]; decide) (by rw [c19]; rfl) (by decide) ?_
    refine lv_aload_n hx hb dX0_lookMore_73 rfl (lv_at hl 0 rfl) ?_
    refine cgs_X0_19_0 C hW (st_0 hS) (sp_0_now hS) dX0_lookMore_74 ?_
    refine cgs_X0_142_1 C hW (st_F hS wc_F3) (sp_F_cutIn hS wc_F3) dX0_lookMore_77 ?_
    refine lv_iload_n hx hb dX0_lookMore_80 rfl (lv_at hl 1 rfl) ?_
    refine wc_ldi C hW (st_F_cutIn hS wc_F3) hE dX0_lookMore_81 (fun hE => ?_)
    refine z_nmi hE (fun v20 hE => ?_)
    exact wc_iret C hr hlocks hW hS hV hE dX0_lookMore_82
  have hE := z_f c19 hE
  by_cases c21 : a2 = (11 : Int32)
  · have hE := z_t c21 hE
    refine lv_tableIn (tgt := 83) hx hb dX0_lookMore_1 (by rw [c21]; decide) (by rw [c21]; decide) (by rw [c21]; rfl) (by decide) ?_
    refine lv_aload_n hx hb dX0_lookMore_83 rfl (lv_at hl 0 rfl) ?_
    refine cgs_X0_19_0 C hW (st_0 hS) (sp_0_now hS) dX0_lookMore_84 ?_
    refine cgs_X0_145_1 C hW (st_F hS wc_F3) (sp_F_plantedIn hS wc_F3) dX0_lookMore_87 ?_
    refine lv_iload_n hx hb dX0_lookMore_90 rfl (lv_at hl 1 rfl) ?_
    refine wc_ldi C hW (st_F_plantedIn hS wc_F3) hE dX0_lookMore_91 (fun hE => ?_)
    refine z_nmi hE (fun v22 hE => ?_)
    exact wc_iret C hr hlocks hW hS hV hE dX0_lookMore_92
  have hE := z_f c21 hE
  by_cases c23 : a2 = (12 : Int32)
  · have hE := z_t c23 hE
    refine lv_tableIn (tgt := 93) hx hb dX0_lookMore_1 (by rw [c23]; decide) (by rw [c23]; decide) (by rw [c23]; rfl) (by decide) ?_
    refine lv_aload_n hx hb dX0_lookMore_93 rfl (lv_at hl 0 rfl) ?_
    refine cgs_X0_19_0 C hW (st_0 hS) (sp_0_now hS) dX0_lookMore_94 ?_
    refine cgs_X0_173_1 C hW (st_F hS wc_F3) (sp_F_countMany hS wc_F3) dX0_lookMore_97 ?_
    refine lv_iload_n hx hb dX0_lookMore_100 rfl (lv_at hl 1 rfl) ?_
    refine wc_ldi C hW (st_F_countMany hS wc_F3) hE dX0_lookMore_101 (fun hE => ?_)
    refine z_nmi hE (fun v24 hE => ?_)
    exact wc_iret C hr hlocks hW hS hV hE dX0_lookMore_102
  have hE := z_f c23 hE
  by_cases c25 : a2 = (13 : Int32)
  · have hE := z_t c25 hE
    refine lv_tableIn (tgt := 103) hx hb dX0_lookMore_1 (by rw [c25]; decide) (by rw [c25]; decide) (by rw [c25]; rfl) (by decide) ?_
    refine lv_aload_n hx hb dX0_lookMore_103 rfl (lv_at hl 0 rfl) ?_
    refine cgs_X0_19_0 C hW (st_0 hS) (sp_0_now hS) dX0_lookMore_104 ?_
    refine lv_iload_n hx hb dX0_lookMore_107 rfl (lv_at hl 1 rfl) ?_
    obtain ⟨r26, u27, hc, hE⟩ := o_bd2_some hE
    refine cc_X0_176 C hW hS hV (st_F hS wc_F3) (kX1_isLate wc_F3 hc) rfl rfl ⟨Nat.le_of_ble_eq_true rfl, Nat.le_of_ble_eq_true rfl⟩ ⟨Nat.le_refl 0, Nat.le_refl 0⟩ dX0_lookMore_108 hl.1 (Nat.le_of_ble_eq_true rfl) (fun H locs hW hS hV => ?_)
    refine lv_if_eq (tgt := 118) hx hb dX0_lookMore_111 (by decide) (fun c28 => ?_) (fun c28 => ?_)
    · have hE := z_t c28 hE
      refine lv_iconst (v := (0 : Int32)) hx hb dX0_lookMore_118 rfl ?_
      exact w_119 _ _ _ _ _ hE hW hS hV (lv_sub hl [] rfl)
    · have hE := z_f c28 hE
      refine lv_iconst (v := (1 : Int32)) hx hb dX0_lookMore_114 rfl ?_
      refine lv_goto (tgt := 119) hx hb dX0_lookMore_115 (by decide) ?_
      exact w_119 _ _ _ _ _ hE hW hS hV (lv_sub hl [] rfl)
  have hE := z_f c25 hE
  refine lv_tableOut (tgt := 120) hx hb dX0_lookMore_1 (z_swOut (fun k_ h1_ h2_ => ?_)) (by decide) ?_
  · rcases (show k_ = 7 ∨ k_ = 8 ∨ k_ = 9 ∨ k_ = 10 ∨ k_ = 11 ∨ k_ = 12 ∨ k_ = 13 by omega) with rfl | rfl | rfl | rfl | rfl | rfl | rfl
    · exact c12
    · exact c15
    · exact c17
    · exact c19
    · exact c21
    · exact c23
    · exact c25
  refine lv_aload_n hx hb dX0_lookMore_120 rfl (lv_at hl 0 rfl) ?_
  refine lv_bipush (v := (-7 : Int32)) hx hb dX0_lookMore_121 rfl ?_
  obtain ⟨r29, u30, hc, hE⟩ := o_bd2_some hE
  refine cc_X0_118 C hW hS hV (st_0 hS) (kX0_refuse hc) rfl rfl ⟨Nat.le_of_ble_eq_true rfl, Nat.le_of_ble_eq_true rfl⟩ ⟨Nat.le_refl 0, Nat.le_refl 0⟩ dX0_lookMore_123 hl.1 (Nat.le_of_ble_eq_true rfl) (fun H locs hW hS hV => ?_)
  exact wc_iret C hr hlocks hW hS hV hE dX0_lookMore_126
set_option maxHeartbeats 4000000 in
set_option maxRecDepth 100000 in
theorem kX0_look {l : Launch} {D : va_G} {dA : Nat → ClassId} {h N : Nat} {a1 : Int32} {a2 : Int32} {u u1 : CS} {r : Int32} (hE : fX0_look N u a1 a2 = some (r, u1)) : Met l yX0_look (ws_ yX0_look cX0_look 3 (some .int)) ({ frames := 207, cells := 0, slots := 0, locals := 6565 }) (va_Pc [.ref (h + 0), .int a1, .int a2] (wc_St D dA h u)) (wc_Qr D dA h (some (.int r)) u1) 0 0 (CA h) := by
  refine wc_met (own := RX0) (lv := [(0, .ref (h + 0)), (1, .int a1), (2, .int a2)]) (by decide) rfl rfl rfl ?_
  intro p e s m args below meth c ls C hr hlocks hW hS hV hl
  have hx := C.1.1
  have hb := C.1.2.1
  unfold fX0_look at hE
  refine lv_aload_n hx hb dX0_look_0 rfl (lv_at hl 0 rfl) ?_
  refine lv_iload_n hx hb dX0_look_1 rfl (lv_at hl 1 rfl) ?_
  obtain ⟨r14, u15, hc, hE⟩ := o_bd2_some hE
  refine cc_X0_148 C hW hS hV (st_0 hS) (kX0_isStand hc) rfl rfl ⟨Nat.le_of_ble_eq_true rfl, Nat.le_of_ble_eq_true rfl⟩ ⟨Nat.le_refl 0, Nat.le_refl 0⟩ dX0_look_2 hl.1 (Nat.le_of_ble_eq_true rfl) (fun H locs hW hS hV => ?_)
  refine lv_if_ne (tgt := 15) hx hb dX0_look_5 (by decide) (fun c16 => ?_) (fun c16 => ?_)
  · have hE := z_f c16 hE
    refine lv_iload_n hx hb dX0_look_15 rfl (lv_at hl 2 rfl) ?_
    by_cases c17 : a2 = (0 : Int32)
    · have hE := z_t c17 hE
      refine lv_tableIn (tgt := 60) hx hb dX0_look_16 (by rw [c17]; decide) (by rw [c17]; decide) (by rw [c17]; rfl) (by decide) ?_
      refine lv_aload_n hx hb dX0_look_60 rfl (lv_at hl 0 rfl) ?_
      refine cgs_X0_19_0 C hW (st_0 hS) (sp_0_now hS) dX0_look_61 ?_
      refine cgs_X0_124_1 C hW (st_F hS wc_F3) (sp_F_blocks hS wc_F3) dX0_look_64 ?_
      refine lv_iload_n hx hb dX0_look_67 rfl (lv_at hl 1 rfl) ?_
      refine wc_ldi C hW (st_F_blocks hS wc_F3) hE dX0_look_68 (fun hE => ?_)
      refine z_nmi hE (fun v18 hE => ?_)
      exact wc_iret C hr hlocks hW hS hV hE dX0_look_69
    have hE := z_f c17 hE
    by_cases c19 : a2 = (1 : Int32)
    · have hE := z_t c19 hE
      refine lv_tableIn (tgt := 70) hx hb dX0_look_16 (by rw [c19]; decide) (by rw [c19]; decide) (by rw [c19]; rfl) (by decide) ?_
      refine lv_aload_n hx hb dX0_look_70 rfl (lv_at hl 0 rfl) ?_
      refine cgs_X0_19_0 C hW (st_0 hS) (sp_0_now hS) dX0_look_71 ?_
      refine cgs_X0_127_1 C hW (st_F hS wc_F3) (sp_F_sites hS wc_F3) dX0_look_74 ?_
      refine lv_iload_n hx hb dX0_look_77 rfl (lv_at hl 1 rfl) ?_
      refine wc_ldi C hW (st_F_sites hS wc_F3) hE dX0_look_78 (fun hE => ?_)
      refine z_nmi hE (fun v20 hE => ?_)
      exact wc_iret C hr hlocks hW hS hV hE dX0_look_79
    have hE := z_f c19 hE
    by_cases c21 : a2 = (2 : Int32)
    · have hE := z_t c21 hE
      refine lv_tableIn (tgt := 80) hx hb dX0_look_16 (by rw [c21]; decide) (by rw [c21]; decide) (by rw [c21]; rfl) (by decide) ?_
      refine lv_aload_n hx hb dX0_look_80 rfl (lv_at hl 0 rfl) ?_
      refine cgs_X0_19_0 C hW (st_0 hS) (sp_0_now hS) dX0_look_81 ?_
      refine cgs_X0_130_1 C hW (st_F hS wc_F3) (sp_F_kinds hS wc_F3) dX0_look_84 ?_
      refine lv_iload_n hx hb dX0_look_87 rfl (lv_at hl 1 rfl) ?_
      refine wc_ldi C hW (st_F_kinds hS wc_F3) hE dX0_look_88 (fun hE => ?_)
      refine z_nmi hE (fun v22 hE => ?_)
      exact wc_iret C hr hlocks hW hS hV hE dX0_look_89
    have hE := z_f c21 hE
    by_cases c23 : a2 = (3 : Int32)
    · have hE := z_t c23 hE
      refine lv_tableIn (tgt := 90) hx hb dX0_look_16 (by rw [c23]; decide) (by rw [c23]; decide) (by rw [c23]; rfl) (by decide) ?_
      refine lv_aload_n hx hb dX0_look_90 rfl (lv_at hl 0 rfl) ?_
      refine cgs_X0_19_0 C hW (st_0 hS) (sp_0_now hS) dX0_look_91 ?_
      refine cgs_X0_121_1 C hW (st_F hS wc_F3) (sp_F_steeps hS wc_F3) dX0_look_94 ?_
      refine lv_iload_n hx hb dX0_look_97 rfl (lv_at hl 1 rfl) ?_
      refine wc_ldi C hW (st_F_steeps hS wc_F3) hE dX0_look_98 (fun hE => ?_)
      refine z_nmi hE (fun v24 hE => ?_)
      exact wc_iret C hr hlocks hW hS hV hE dX0_look_99
    have hE := z_f c23 hE
    by_cases c25 : a2 = (4 : Int32)
    · have hE := z_t c25 hE
      refine lv_tableIn (tgt := 100) hx hb dX0_look_16 (by rw [c25]; decide) (by rw [c25]; decide) (by rw [c25]; rfl) (by decide) ?_
      refine lv_aload_n hx hb dX0_look_100 rfl (lv_at hl 0 rfl) ?_
      refine cgs_X0_19_0 C hW (st_0 hS) (sp_0_now hS) dX0_look_101 ?_
      refine cgs_X0_133_1 C hW (st_F hS wc_F3) (sp_F_acres hS wc_F3) dX0_look_104 ?_
      refine lv_iload_n hx hb dX0_look_107 rfl (lv_at hl 1 rfl) ?_
      refine wc_ldi C hW (st_F_acres hS wc_F3) hE dX0_look_108 (fun hE => ?_)
      refine z_nmi hE (fun v26 hE => ?_)
      exact wc_iret C hr hlocks hW hS hV hE dX0_look_109
    have hE := z_f c25 hE
    by_cases c27 : a2 = (5 : Int32)
    · have hE := z_t c27 hE
      refine lv_tableIn (tgt := 110) hx hb dX0_look_16 (by rw [c27]; decide) (by rw [c27]; decide) (by rw [c27]; rfl) (by decide) ?_
      refine lv_aload_n hx hb dX0_look_110 rfl (lv_at hl 0 rfl) ?_
      refine cgs_X0_19_0 C hW (st_0 hS) (sp_0_now hS) dX0_look_111 ?_
      refine cgs_X0_136_1 C hW (st_F hS wc_F3) (sp_F_ages hS wc_F3) dX0_look_114 ?_
      refine lv_iload_n hx hb dX0_look_117 rfl (lv_at hl 1 rfl) ?_
      refine wc_ldi C hW (st_F_ages hS wc_F3) hE dX0_look_118 (fun hE => ?_)
      refine z_nmi hE (fun v28 hE => ?_)
      exact wc_iret C hr hlocks hW hS hV hE dX0_look_119
    have hE := z_f c27 hE
    by_cases c29 : a2 = (6 : Int32)
    · have hE := z_t c29 hE
      refine lv_tableIn (tgt := 120) hx hb dX0_look_16 (by rw [c29]; decide) (by rw [c29]; decide) (by rw [c29]; rfl) (by decide) ?_
      refine lv_aload_n hx hb dX0_look_120 rfl (lv_at hl 0 rfl) ?_
      refine cgs_X0_19_0 C hW (st_0 hS) (sp_0_now hS) dX0_look_121 ?_
      refine cgs_X0_139_1 C hW (st_F hS wc_F3) (sp_F_fulls hS wc_F3) dX0_look_124 ?_
      refine lv_iload_n hx hb dX0_look_127 rfl (lv_at hl 1 rfl) ?_
      refine wc_ldi C hW (st_F_fulls hS wc_F3) hE dX0_look_128 (fun hE => ?_)
      refine z_nmi hE (fun v30 hE => ?_)
      exact wc_iret C hr hlocks hW hS hV hE dX0_look_129
    have hE := z_f c29 hE
    refine lv_tableOut (tgt := 130) hx hb dX0_look_16 (z_swOut (fun k_ h1_ h2_ => ?_)) (by decide) ?_
    · rcases (show k_ = 0 ∨ k_ = 1 ∨ k_ = 2 ∨ k_ = 3 ∨ k_ = 4 ∨ k_ = 5 ∨ k_ = 6 by omega) with rfl | rfl | rfl | rfl | rfl | rfl | rfl
      · exact c17
      · exact c19
      · exact c21
      · exact c23
      · exact c25
      · exact c27
      · exact c29
    refine lv_aload_n hx hb dX0_look_130 rfl (lv_at hl 0 rfl) ?_
    refine lv_iload_n hx hb dX0_look_131 rfl (lv_at hl 1 rfl) ?_
    refine lv_iload_n hx hb dX0_look_132 rfl (lv_at hl 2 rfl) ?_
    obtain ⟨r31, u32, hc, hE⟩ := o_bd2_some hE
    refine cc_X0_179 C hW hS hV (st_0 hS) (kX0_lookMore hc) rfl rfl ⟨Nat.le_of_ble_eq_true rfl, Nat.le_of_ble_eq_true rfl⟩ ⟨Nat.le_refl 0, Nat.le_refl 0⟩ dX0_look_133 hl.1 (Nat.le_of_ble_eq_true rfl) (fun H locs hW hS hV => ?_)
    exact wc_iret C hr hlocks hW hS hV hE dX0_look_136
  · have hE := z_t c16 hE
    refine lv_aload_n hx hb dX0_look_8 rfl (lv_at hl 0 rfl) ?_
    refine lv_bipush (v := (-3 : Int32)) hx hb dX0_look_9 rfl ?_
    obtain ⟨r33, u34, hc, hE⟩ := o_bd2_some hE
    refine cc_X0_118 C hW hS hV (st_0 hS) (kX0_refuse hc) rfl rfl ⟨Nat.le_of_ble_eq_true rfl, Nat.le_of_ble_eq_true rfl⟩ ⟨Nat.le_refl 0, Nat.le_refl 0⟩ dX0_look_11 hl.1 (Nat.le_of_ble_eq_true rfl) (fun H locs hW hS hV => ?_)
    exact wc_iret C hr hlocks hW hS hV hE dX0_look_14
set_option maxHeartbeats 4000000 in
set_option maxRecDepth 100000 in
theorem kX0_feet {l : Launch} {D : va_G} {dA : Nat → ClassId} {h N : Nat} {a1 : Int32} {a2 : Int32} {a3 : Int32} {u u1 : CS} {r : Int32} (hE : fX0_feet N u a1 a2 a3 = some (r, u1)) : Met l yX0_feet (ws_ yX0_feet cX0_feet 4 (some .int)) ({ frames := 2, cells := 0, slots := 0, locals := 44 }) (va_Pc [.ref (h + 0), .int a1, .int a2, .int a3] (wc_St D dA h u)) (wc_Qr D dA h (some (.int r)) u1) 0 0 (CA h) := by
  refine wc_met (own := RX0) (lv := [(0, .ref (h + 0)), (1, .int a1), (2, .int a2), (3, .int a3)]) (by decide) rfl rfl rfl ?_
  intro p e s m args below meth c ls C hr hlocks hW hS hV hl
  have hx := C.1.1
  have hb := C.1.2.1
  have w_24 : ∀ (u : CS) (H : Heap) (locs : List Loc) (ls : Array Slot), fX0_feet_24 N u = some (r, u1) → wc_W D dA h u H → wc_S u → va_S (CA h) s.heap H locs → lv_has ls 4 [(0, .ref (h + 0))] → W p l e ({ frames := 2, cells := 0, slots := 0, locals := 44 }) s m args below meth c H locs 0 0 (MQ below (wc_Qr D dA h (some (.int r)) u1) args s 0 0 (CA h)) (F0 m 24 ls []) := by
    intro u H locs ls hE hW hS hV hl
    unfold fX0_feet_24 at hE
    refine lv_aload_n hx hb dX0_feet_24 rfl (lv_at hl 0 rfl) ?_
    refine lv_bipush (v := (-5 : Int32)) hx hb dX0_feet_25 rfl ?_
    obtain ⟨r9, u10, hc, hE⟩ := o_bd2_some hE
    refine cc_X0_118 C hW hS hV (st_0 hS) (kX0_refuse hc) rfl rfl ⟨Nat.le_of_ble_eq_true rfl, Nat.le_of_ble_eq_true rfl⟩ ⟨Nat.le_refl 0, Nat.le_refl 0⟩ dX0_feet_27 hl.1 (Nat.le_of_ble_eq_true rfl) (fun H locs hW hS hV => ?_)
    exact wc_iret C hr hlocks hW hS hV hE dX0_feet_30
  have w_58 : ∀ (u : CS) (y0 : Int32) (H : Heap) (locs : List Loc) (ls : Array Slot), fX0_feet_58 N u y0 = some (r, u1) → wc_W D dA h u H → wc_S u → va_S (CA h) s.heap H locs → lv_has ls 4 [] → W p l e ({ frames := 2, cells := 0, slots := 0, locals := 44 }) s m args below meth c H locs 0 0 (MQ below (wc_Qr D dA h (some (.int r)) u1) args s 0 0 (CA h)) (F0 m 58 ls [.int y0]) := by
    intro u y0 H locs ls hE hW hS hV hl
    unfold fX0_feet_58 at hE
    exact wc_iret C hr hlocks hW hS hV hE dX0_feet_58
  unfold fX0_feet at hE
  refine lv_iload_n hx hb dX0_feet_0 rfl (lv_at hl 1 rfl) ?_
  refine lv_i2l hx hb dX0_feet_1 rfl ?_
  refine lv_lconst (v := (0 : Int64)) hx hb dX0_feet_2 rfl ?_
  refine lv_ldc2 (v := (3 : Int64)) hx hb C.1.2.2.2.1 (C.1.2.2.2.2 _ q784) dX0_feet_3 ?_
  obtain ⟨r11, hc, hE⟩ := o_bd_some hE
  refine sc_X0_31 C.1 (kX0_isIn hc) rfl rfl ⟨Nat.le_of_ble_eq_true rfl, Nat.le_of_ble_eq_true rfl⟩ ⟨Nat.le_refl 0, Nat.le_refl 0⟩ dX0_feet_6 hl.1 (Nat.le_of_ble_eq_true rfl) ?_
  refine lv_if_eq (tgt := 24) hx hb dX0_feet_9 (by decide) (fun c12 => ?_) (fun c12 => ?_)
  · have hE := z_t c12 hE
    exact w_24 _ _ _ _ hE hW hS hV (lv_sub hl [0] rfl)
  · have hE := z_f c12 hE
    refine lv_iload_n hx hb dX0_feet_12 rfl (lv_at hl 2 rfl) ?_
    refine lv_i2l hx hb dX0_feet_13 rfl ?_
    refine lv_lconst (v := (0 : Int64)) hx hb dX0_feet_14 rfl ?_
    refine lv_ldc2 (v := (4 : Int64)) hx hb C.1.2.2.2.1 (C.1.2.2.2.2 _ q785) dX0_feet_15 ?_
    obtain ⟨r13, hc, hE⟩ := o_bd_some hE
    refine sc_X0_31 C.1 (kX0_isIn hc) rfl rfl ⟨Nat.le_of_ble_eq_true rfl, Nat.le_of_ble_eq_true rfl⟩ ⟨Nat.le_refl 0, Nat.le_refl 0⟩ dX0_feet_18 hl.1 (Nat.le_of_ble_eq_true rfl) ?_
    refine lv_if_ne (tgt := 31) hx hb dX0_feet_21 (by decide) (fun c14 => ?_) (fun c14 => ?_)
    · have hE := z_f c14 hE
      refine lv_iload_n hx hb dX0_feet_31 rfl (lv_at hl 3 rfl) ?_
      refine lv_i2l hx hb dX0_feet_32 rfl ?_
      refine lv_lconst (v := (0 : Int64)) hx hb dX0_feet_33 rfl ?_
      refine lv_ldc2 (v := (500 : Int64)) hx hb C.1.2.2.2.1 (C.1.2.2.2.2 _ q786) dX0_feet_34 ?_
      obtain ⟨r15, hc, hE⟩ := o_bd_some hE
      refine sc_X0_31 C.1 (kX0_isIn hc) rfl rfl ⟨Nat.le_of_ble_eq_true rfl, Nat.le_of_ble_eq_true rfl⟩ ⟨Nat.le_refl 0, Nat.le_refl 0⟩ dX0_feet_37 hl.1 (Nat.le_of_ble_eq_true rfl) ?_
      refine lv_if_eq (tgt := 52) hx hb dX0_feet_40 (by decide) (fun c16 => ?_) (fun c16 => ?_)
      · have hE := z_t c16 hE
        refine lv_aload_n hx hb dX0_feet_52 rfl (lv_at hl 0 rfl) ?_
        refine lv_bipush (v := (-7 : Int32)) hx hb dX0_feet_53 rfl ?_
        obtain ⟨r17, u18, hc, hE⟩ := o_bd2_some hE
        refine cc_X0_118 C hW hS hV (st_0 hS) (kX0_refuse hc) rfl rfl ⟨Nat.le_of_ble_eq_true rfl, Nat.le_of_ble_eq_true rfl⟩ ⟨Nat.le_refl 0, Nat.le_refl 0⟩ dX0_feet_55 hl.1 (Nat.le_of_ble_eq_true rfl) (fun H locs hW hS hV => ?_)
        exact w_58 _ _ _ _ _ hE hW hS hV (lv_sub hl [] rfl)
      · have hE := z_f c16 hE
        refine lv_iload_n hx hb dX0_feet_43 rfl (lv_at hl 1 rfl) ?_
        refine lv_iload_n hx hb dX0_feet_44 rfl (lv_at hl 2 rfl) ?_
        refine lv_iload_n hx hb dX0_feet_45 rfl (lv_at hl 3 rfl) ?_
        obtain ⟨r19, hc, hE⟩ := o_bd_some hE
        refine sc_X0_188 C.1 (kX0_feetOf hc) rfl rfl ⟨Nat.le_of_ble_eq_true rfl, Nat.le_of_ble_eq_true rfl⟩ ⟨Nat.le_refl 0, Nat.le_refl 0⟩ dX0_feet_46 hl.1 (Nat.le_of_ble_eq_true rfl) ?_
        refine lv_goto (tgt := 58) hx hb dX0_feet_49 (by decide) ?_
        exact w_58 _ _ _ _ _ hE hW hS hV (lv_sub hl [] rfl)
    · have hE := z_t c14 hE
      exact w_24 _ _ _ _ hE hW hS hV (lv_sub hl [0] rfl)
theorem sc_X0_192 {a1 : Int32} {r : Int32} {rm : Room} (C : CallFix p m c cc nL s args lw_all RX0) (hM : Met l yX0_isBlock (ws_ yX0_isBlock cX0_isBlock 1 (some .boolean)) rm (va_Pc [.int a1] (fun _ => True)) (s_Q (some (.int r))) 0 0 (fun _ => False)) (hrc : rm.cells = 0) (hrs : rm.slots = 0) (hR : rm.frames + 1 ≤ R.frames ∧ 8 + (1 + 11) + rm.locals ≤ R.locals) (hf : cells + 0 ≤ R.cells ∧ slots + 0 ≤ R.slots) (d : decode cc pc = .ok (.invokestatic 192, 3)) (hsz : ls.size = nL) (hro : (rest.map fun v => v.category).sum ≤ 8) (kk : W p l e R s m args below meth c H locs cells slots Q (F0 m (pc + 3) ls (.int r :: rest))) : W p l e R s m args below meth c H locs cells slots Q (F0 m pc ls (.int a1 :: rest)) :=
  s_call (v := (some (.int r))) (va_runS (As := [.int a1]) (rest := rest) C hM (va_cwS 1 C.2.2.2.2 (lw_S q792 q793 q166 q794) rfl hrc hrs (by decide +kernel) hR) (s_pre _) rfl rfl hsz rfl (lv_room hro) d hf) kk
set_option maxHeartbeats 4000000 in
set_option maxRecDepth 100000 in
theorem kX0_isBlock {l : Launch} {a1 : Int32} {r : Int32} (hE : fX0_isBlock a1 = some r) : Met l yX0_isBlock (ws_ yX0_isBlock cX0_isBlock 1 (some .boolean)) ({ frames := 1, cells := 0, slots := 0, locals := 25 }) (va_Pc [.int a1] (fun _ => True)) (s_Q (some (.int r))) 0 0 (fun _ => False) := by
  refine s_met (own := RX0) (by decide) rfl rfl rfl ?_
  intro p e s m args below meth c ls C hr hlocks hl
  have hx := C.1
  have hb := C.2.1
  unfold fX0_isBlock at hE
  refine lv_iload_n hx hb dX0_isBlock_0 rfl (lv_at hl 0 rfl) ?_
  refine lv_i2l hx hb dX0_isBlock_1 rfl ?_
  refine lv_lconst (v := (0 : Int64)) hx hb dX0_isBlock_2 rfl ?_
  refine lv_ldc2 (v := (5 : Int64)) hx hb C.2.2.2.1 (C.2.2.2.2 _ q795) dX0_isBlock_3 ?_
  obtain ⟨r2, hc, hE⟩ := o_bd_some hE
  refine sc_X0_31 C (kX0_isIn hc) rfl rfl ⟨Nat.le_of_ble_eq_true rfl, Nat.le_of_ble_eq_true rfl⟩ ⟨Nat.le_refl 0, Nat.le_refl 0⟩ dX0_isBlock_6 hl.1 (Nat.le_of_ble_eq_true rfl) ?_
  obtain ⟨hb1, hE⟩ := o_bl_some hE
  exact s_zret C hr hlocks hb1 hE dX0_isBlock_9
set_option maxHeartbeats 4000000 in
set_option maxRecDepth 100000 in
theorem kX0_road {l : Launch} {D : va_G} {dA : Nat → ClassId} {h N : Nat} {a1 : Int32} {a2 : Int32} {a3 : Int32} {u u1 : CS} {r : Int32} (hE : fX0_road N u a1 a2 a3 = some (r, u1)) : Met l yX0_road (ws_ yX0_road cX0_road 4 (some .int)) ({ frames := 2, cells := 0, slots := 0, locals := 48 }) (va_Pc [.ref (h + 0), .int a1, .int a2, .int a3] (wc_St D dA h u)) (wc_Qr D dA h (some (.int r)) u1) 0 0 (CA h) := by
  refine wc_met (own := RX0) (lv := [(0, .ref (h + 0)), (1, .int a1), (2, .int a2), (3, .int a3)]) (by decide) rfl rfl rfl ?_
  intro p e s m args below meth c ls C hr hlocks hW hS hV hl
  have hx := C.1.1
  have hb := C.1.2.1
  have w_14 : ∀ (u : CS) (H : Heap) (locs : List Loc) (ls : Array Slot), fX0_road_14 N u = some (r, u1) → wc_W D dA h u H → wc_S u → va_S (CA h) s.heap H locs → lv_has ls 4 [(0, .ref (h + 0))] → W p l e ({ frames := 2, cells := 0, slots := 0, locals := 48 }) s m args below meth c H locs 0 0 (MQ below (wc_Qr D dA h (some (.int r)) u1) args s 0 0 (CA h)) (F0 m 14 ls []) := by
    intro u H locs ls hE hW hS hV hl
    unfold fX0_road_14 at hE
    refine lv_aload_n hx hb dX0_road_14 rfl (lv_at hl 0 rfl) ?_
    refine lv_bipush (v := (-3 : Int32)) hx hb dX0_road_15 rfl ?_
    obtain ⟨r12, u13, hc, hE⟩ := o_bd2_some hE
    refine cc_X0_118 C hW hS hV (st_0 hS) (kX0_refuse hc) rfl rfl ⟨Nat.le_of_ble_eq_true rfl, Nat.le_of_ble_eq_true rfl⟩ ⟨Nat.le_refl 0, Nat.le_refl 0⟩ dX0_road_17 hl.1 (Nat.le_of_ble_eq_true rfl) (fun H locs hW hS hV => ?_)
    exact wc_iret C hr hlocks hW hS hV hE dX0_road_20
  have w_38 : ∀ (u : CS) (H : Heap) (locs : List Loc) (ls : Array Slot), fX0_road_38 N u = some (r, u1) → wc_W D dA h u H → wc_S u → va_S (CA h) s.heap H locs → lv_has ls 4 [(0, .ref (h + 0))] → W p l e ({ frames := 2, cells := 0, slots := 0, locals := 48 }) s m args below meth c H locs 0 0 (MQ below (wc_Qr D dA h (some (.int r)) u1) args s 0 0 (CA h)) (F0 m 38 ls []) := by
    intro u H locs ls hE hW hS hV hl
    unfold fX0_road_38 at hE
    refine lv_aload_n hx hb dX0_road_38 rfl (lv_at hl 0 rfl) ?_
    refine lv_bipush (v := (-7 : Int32)) hx hb dX0_road_39 rfl ?_
    obtain ⟨r14, u15, hc, hE⟩ := o_bd2_some hE
    refine cc_X0_118 C hW hS hV (st_0 hS) (kX0_refuse hc) rfl rfl ⟨Nat.le_of_ble_eq_true rfl, Nat.le_of_ble_eq_true rfl⟩ ⟨Nat.le_refl 0, Nat.le_refl 0⟩ dX0_road_41 hl.1 (Nat.le_of_ble_eq_true rfl) (fun H locs hW hS hV => ?_)
    exact wc_iret C hr hlocks hW hS hV hE dX0_road_44
  unfold fX0_road at hE
  refine lv_iload_n hx hb dX0_road_0 rfl (lv_at hl 1 rfl) ?_
  obtain ⟨r16, hc, hE⟩ := o_bd_some hE
  refine sc_X0_192 C.1 (kX0_isBlock hc) rfl rfl ⟨Nat.le_of_ble_eq_true rfl, Nat.le_of_ble_eq_true rfl⟩ ⟨Nat.le_refl 0, Nat.le_refl 0⟩ dX0_road_1 hl.1 (Nat.le_of_ble_eq_true rfl) ?_
  refine lv_if_eq (tgt := 14) hx hb dX0_road_4 (by decide) (fun c17 => ?_) (fun c17 => ?_)
  · have hE := z_t c17 hE
    exact w_14 _ _ _ _ hE hW hS hV (lv_sub hl [0] rfl)
  · have hE := z_f c17 hE
    refine lv_iload_n hx hb dX0_road_7 rfl (lv_at hl 2 rfl) ?_
    obtain ⟨r18, hc, hE⟩ := o_bd_some hE
    refine sc_X0_192 C.1 (kX0_isBlock hc) rfl rfl ⟨Nat.le_of_ble_eq_true rfl, Nat.le_of_ble_eq_true rfl⟩ ⟨Nat.le_refl 0, Nat.le_refl 0⟩ dX0_road_8 hl.1 (Nat.le_of_ble_eq_true rfl) ?_
    refine lv_if_ne (tgt := 21) hx hb dX0_road_11 (by decide) (fun c19 => ?_) (fun c19 => ?_)
    · have hE := z_f c19 hE
      refine lv_iload_n hx hb dX0_road_21 rfl (lv_at hl 1 rfl) ?_
      refine lv_iload_n hx hb dX0_road_22 rfl (lv_at hl 2 rfl) ?_
      refine lv_icmp_eq (tgt := 38) hx hb dX0_road_23 (by decide) (fun c20 => ?_) (fun c20 => ?_)
      · have hE := z_t c20 hE
        exact w_38 _ _ _ _ hE hW hS hV (lv_sub hl [0] rfl)
      · have hE := z_f c20 hE
        refine lv_iload_n hx hb dX0_road_26 rfl (lv_at hl 3 rfl) ?_
        refine lv_i2l hx hb dX0_road_27 rfl ?_
        refine lv_lconst (v := (1 : Int64)) hx hb dX0_road_28 rfl ?_
        refine lv_ldc2 (v := (999 : Int64)) hx hb C.1.2.2.2.1 (C.1.2.2.2.2 _ q684) dX0_road_29 ?_
        obtain ⟨r21, hc, hE⟩ := o_bd_some hE
        refine sc_X0_31 C.1 (kX0_isIn hc) rfl rfl ⟨Nat.le_of_ble_eq_true rfl, Nat.le_of_ble_eq_true rfl⟩ ⟨Nat.le_refl 0, Nat.le_refl 0⟩ dX0_road_32 hl.1 (Nat.le_of_ble_eq_true rfl) ?_
        refine lv_if_ne (tgt := 45) hx hb dX0_road_35 (by decide) (fun c22 => ?_) (fun c22 => ?_)
        · have hE := z_f c22 hE
          refine lv_aload_n hx hb dX0_road_45 rfl (lv_at hl 0 rfl) ?_
          refine cgs_X0_19_0 C hW (st_0 hS) (sp_0_now hS) dX0_road_46 ?_
          refine cg_X0_195_1 C hW (st_F hS wc_F3) dX0_road_49 ?_
          refine lv_bipush (v := (12 : Int32)) hx hb dX0_road_52 rfl ?_
          refine lv_icmp_ne (tgt := 64) hx hb dX0_road_54 (by decide) (fun c23 => ?_) (fun c23 => ?_)
          · have hE := z_f c23 hE
            refine lv_aload_n hx hb dX0_road_64 rfl (lv_at hl 0 rfl) ?_
            refine cgs_X0_19_0 C hW (st_0 hS) (sp_0_now hS) dX0_road_65 ?_
            refine cgs_X0_198_1 C hW (st_F hS wc_F3) (sp_F_roadA hS wc_F3) dX0_road_68 ?_
            refine lv_aload_n hx hb dX0_road_71 rfl (lv_at hl 0 rfl) ?_
            refine cgs_X0_19_0 C hW (st_0 hS) (sp_0_now hS) dX0_road_72 ?_
            refine cg_X0_195_1 C hW (st_F hS wc_F3) dX0_road_75 ?_
            refine lv_iload_n hx hb dX0_road_78 rfl (lv_at hl 1 rfl) ?_
            refine wc_sti (J := wc_S) C hW hV (st_F_roadA hS wc_F3) hS.uA hE dX0_road_79 (fun u24 H locs hE hW hS hV => ?_)
            refine lv_aload_n hx hb dX0_road_80 rfl (lv_at hl 0 rfl) ?_
            refine cgs_X0_19_0 C hW (st_0 hS) (sp_0_now hS) dX0_road_81 ?_
            refine cgs_X0_201_1 C hW (st_F hS wc_F3) (sp_F_roadB hS wc_F3) dX0_road_84 ?_
            refine lv_aload_n hx hb dX0_road_87 rfl (lv_at hl 0 rfl) ?_
            refine cgs_X0_19_0 C hW (st_0 hS) (sp_0_now hS) dX0_road_88 ?_
            refine cg_X0_195_1 C hW (st_F hS wc_F3) dX0_road_91 ?_
            refine lv_iload_n hx hb dX0_road_94 rfl (lv_at hl 2 rfl) ?_
            refine wc_sti (J := wc_S) C hW hV (st_F_roadB hS wc_F3) hS.uA hE dX0_road_95 (fun u25 H locs hE hW hS hV => ?_)
            refine lv_aload_n hx hb dX0_road_96 rfl (lv_at hl 0 rfl) ?_
            refine cgs_X0_19_0 C hW (st_0 hS) (sp_0_now hS) dX0_road_97 ?_
            refine cgs_X0_204_1 C hW (st_F hS wc_F3) (sp_F_lengths hS wc_F3) dX0_road_100 ?_
            refine lv_aload_n hx hb dX0_road_103 rfl (lv_at hl 0 rfl) ?_
            refine cgs_X0_19_0 C hW (st_0 hS) (sp_0_now hS) dX0_road_104 ?_
            refine cg_X0_195_1 C hW (st_F hS wc_F3) dX0_road_107 ?_
            refine lv_iload_n hx hb dX0_road_110 rfl (lv_at hl 3 rfl) ?_
            refine wc_sti (J := wc_S) C hW hV (st_F_lengths hS wc_F3) hS.uA hE dX0_road_111 (fun u26 H locs hE hW hS hV => ?_)
            refine lv_aload_n hx hb dX0_road_112 rfl (lv_at hl 0 rfl) ?_
            refine cgs_X0_19_0 C hW (st_0 hS) (sp_0_now hS) dX0_road_113 ?_
            refine lv_dup hx hb dX0_road_116 rfl ?_
            refine cg_X0_195_1 C hW (st_F hS wc_F3) dX0_road_117 ?_
            refine lv_iconst (v := (1 : Int32)) hx hb dX0_road_120 rfl ?_
            refine lv_iadd hx hb dX0_road_121 ?_
            refine cp_X0_195_1 (J := wc_S) C hW hV (st_F hS wc_F3) hS.uI hE dX0_road_122 (fun u27 H locs hE hW hS hV => ?_)
            refine lv_aload_n hx hb dX0_road_125 rfl (lv_at hl 0 rfl) ?_
            refine cgs_X0_19_0 C hW (st_0 hS) (sp_0_now hS) dX0_road_126 ?_
            obtain ⟨u28, hc, hE⟩ := o_bd_some hE
            refine cc_X0_207 C hW hS hV (st_F hS wc_F3) (kX1_measure wc_F3 hc) rfl rfl ⟨Nat.le_of_ble_eq_true rfl, Nat.le_of_ble_eq_true rfl⟩ ⟨Nat.le_refl 0, Nat.le_refl 0⟩ dX0_road_129 hl.1 (Nat.le_of_ble_eq_true rfl) (fun H locs hW hS hV => ?_)
            refine lv_aload_n hx hb dX0_road_132 rfl (lv_at hl 0 rfl) ?_
            refine cgs_X0_19_0 C hW (st_0 hS) (sp_0_now hS) dX0_road_133 ?_
            refine cg_X0_195_1 C hW (st_F hS wc_F3) dX0_road_136 ?_
            exact wc_iret C hr hlocks hW hS hV hE dX0_road_139
          · have hE := z_t c23 hE
            refine lv_aload_n hx hb dX0_road_57 rfl (lv_at hl 0 rfl) ?_
            refine lv_bipush (v := (-8 : Int32)) hx hb dX0_road_58 rfl ?_
            obtain ⟨r29, u30, hc, hE⟩ := o_bd2_some hE
            refine cc_X0_118 C hW hS hV (st_0 hS) (kX0_refuse hc) rfl rfl ⟨Nat.le_of_ble_eq_true rfl, Nat.le_of_ble_eq_true rfl⟩ ⟨Nat.le_refl 0, Nat.le_refl 0⟩ dX0_road_60 hl.1 (Nat.le_of_ble_eq_true rfl) (fun H locs hW hS hV => ?_)
            exact wc_iret C hr hlocks hW hS hV hE dX0_road_63
        · have hE := z_t c22 hE
          exact w_38 _ _ _ _ hE hW hS hV (lv_sub hl [0] rfl)
    · have hE := z_t c19 hE
      exact w_14 _ _ _ _ hE hW hS hV (lv_sub hl [0] rfl)
set_option maxHeartbeats 4000000 in
set_option maxRecDepth 100000 in
theorem kX0_haul {l : Launch} {D : va_G} {dA : Nat → ClassId} {h N : Nat} {a1 : Int32} {u u1 : CS} {r : Int32} (hE : fX0_haul N u a1 = some (r, u1)) : Met l yX0_haul (ws_ yX0_haul cX0_haul 2 (some .int)) ({ frames := 2, cells := 0, slots := 0, locals := 45 }) (va_Pc [.ref (h + 0), .int a1] (wc_St D dA h u)) (wc_Qr D dA h (some (.int r)) u1) 0 0 (CA h) := by
  refine wc_met (own := RX0) (lv := [(0, .ref (h + 0)), (1, .int a1)]) (by decide) rfl rfl rfl ?_
  intro p e s m args below meth c ls C hr hlocks hW hS hV hl
  have hx := C.1.1
  have hb := C.1.2.1
  have w_41 : ∀ (u : CS) (y0 : Int32) (H : Heap) (locs : List Loc) (ls : Array Slot), fX0_haul_41 N u y0 = some (r, u1) → wc_W D dA h u H → wc_S u → va_S (CA h) s.heap H locs → lv_has ls 2 [] → W p l e ({ frames := 2, cells := 0, slots := 0, locals := 45 }) s m args below meth c H locs 0 0 (MQ below (wc_Qr D dA h (some (.int r)) u1) args s 0 0 (CA h)) (F0 m 41 ls [.int y0]) := by
    intro u y0 H locs ls hE hW hS hV hl
    unfold fX0_haul_41 at hE
    exact wc_iret C hr hlocks hW hS hV hE dX0_haul_41
  unfold fX0_haul at hE
  refine lv_iload_n hx hb dX0_haul_0 rfl (lv_at hl 1 rfl) ?_
  obtain ⟨r6, hc, hE⟩ := o_bd_some hE
  refine sc_X0_192 C.1 (kX0_isBlock hc) rfl rfl ⟨Nat.le_of_ble_eq_true rfl, Nat.le_of_ble_eq_true rfl⟩ ⟨Nat.le_refl 0, Nat.le_refl 0⟩ dX0_haul_1 hl.1 (Nat.le_of_ble_eq_true rfl) ?_
  refine lv_if_ne (tgt := 14) hx hb dX0_haul_4 (by decide) (fun c7 => ?_) (fun c7 => ?_)
  · have hE := z_f c7 hE
    refine lv_aload_n hx hb dX0_haul_14 rfl (lv_at hl 0 rfl) ?_
    refine cgs_X0_19_0 C hW (st_0 hS) (sp_0_now hS) dX0_haul_15 ?_
    refine cgs_X0_210_1 C hW (st_F hS wc_F3) (sp_F_hauls hS wc_F3) dX0_haul_18 ?_
    refine lv_iload_n hx hb dX0_haul_21 rfl (lv_at hl 1 rfl) ?_
    refine wc_ldi C hW (st_F_hauls hS wc_F3) hE dX0_haul_22 (fun hE => ?_)
    refine z_nmi hE (fun v8 hE => ?_)
    refine lv_ldc (v := (100000000 : Int32)) hx hb C.1.2.2.2.1 (C.1.2.2.2.2 _ q801) dX0_haul_23 ?_
    refine lv_icmp_ge (tgt := 40) hx hb dX0_haul_25 (by decide) (fun c9 => ?_) (fun c9 => ?_)
    · have hE := z_t c9 hE
      refine lv_iconst (v := (-1 : Int32)) hx hb dX0_haul_40 rfl ?_
      exact w_41 _ _ _ _ _ hE hW hS hV (lv_sub hl [] rfl)
    · have hE := z_f c9 hE
      refine lv_aload_n hx hb dX0_haul_28 rfl (lv_at hl 0 rfl) ?_
      refine cgs_X0_19_0 C hW (st_0 hS) (sp_0_now hS) dX0_haul_29 ?_
      refine cgs_X0_210_1 C hW (st_F hS wc_F3) (sp_F_hauls hS wc_F3) dX0_haul_32 ?_
      refine lv_iload_n hx hb dX0_haul_35 rfl (lv_at hl 1 rfl) ?_
      refine wc_ldi C hW (st_F_hauls hS wc_F3) hE dX0_haul_36 (fun hE => ?_)
      refine z_nmi hE (fun v10 hE => ?_)
      refine lv_goto (tgt := 41) hx hb dX0_haul_37 (by decide) ?_
      exact w_41 _ _ _ _ _ hE hW hS hV (lv_sub hl [] rfl)
  · have hE := z_t c7 hE
    refine lv_aload_n hx hb dX0_haul_7 rfl (lv_at hl 0 rfl) ?_
    refine lv_bipush (v := (-3 : Int32)) hx hb dX0_haul_8 rfl ?_
    obtain ⟨r11, u12, hc, hE⟩ := o_bd2_some hE
    refine cc_X0_118 C hW hS hV (st_0 hS) (kX0_refuse hc) rfl rfl ⟨Nat.le_of_ble_eq_true rfl, Nat.le_of_ble_eq_true rfl⟩ ⟨Nat.le_refl 0, Nat.le_refl 0⟩ dX0_haul_10 hl.1 (Nat.le_of_ble_eq_true rfl) (fun H locs hW hS hV => ?_)
    exact wc_iret C hr hlocks hW hS hV hE dX0_haul_13
set_option maxHeartbeats 4000000 in
set_option maxRecDepth 100000 in
theorem kX0_village {l : Launch} {D : va_G} {dA : Nat → ClassId} {h N : Nat} {a1 : Int32} {a2 : Int32} {a3 : Int32} {u u1 : CS} {r : Int32} (hE : fX0_village N u a1 a2 a3 = some (r, u1)) : Met l yX0_village (ws_ yX0_village cX0_village 4 (some .int)) ({ frames := 2, cells := 0, slots := 0, locals := 45 }) (va_Pc [.ref (h + 0), .int a1, .int a2, .int a3] (wc_St D dA h u)) (wc_Qr D dA h (some (.int r)) u1) 0 0 (CA h) := by
  refine wc_met (own := RX0) (lv := [(0, .ref (h + 0)), (1, .int a1), (2, .int a2), (3, .int a3)]) (by decide) rfl rfl rfl ?_
  intro p e s m args below meth c ls C hr hlocks hW hS hV hl
  have hx := C.1.1
  have hb := C.1.2.1
  have w_38 : ∀ (u : CS) (H : Heap) (locs : List Loc) (ls : Array Slot), fX0_village_38 N u = some (r, u1) → wc_W D dA h u H → wc_S u → va_S (CA h) s.heap H locs → lv_has ls 4 [(0, .ref (h + 0))] → W p l e ({ frames := 2, cells := 0, slots := 0, locals := 45 }) s m args below meth c H locs 0 0 (MQ below (wc_Qr D dA h (some (.int r)) u1) args s 0 0 (CA h)) (F0 m 38 ls []) := by
    intro u H locs ls hE hW hS hV hl
    unfold fX0_village_38 at hE
    refine lv_aload_n hx hb dX0_village_38 rfl (lv_at hl 0 rfl) ?_
    refine lv_bipush (v := (-7 : Int32)) hx hb dX0_village_39 rfl ?_
    obtain ⟨r11, u12, hc, hE⟩ := o_bd2_some hE
    refine cc_X0_118 C hW hS hV (st_0 hS) (kX0_refuse hc) rfl rfl ⟨Nat.le_of_ble_eq_true rfl, Nat.le_of_ble_eq_true rfl⟩ ⟨Nat.le_refl 0, Nat.le_refl 0⟩ dX0_village_41 hl.1 (Nat.le_of_ble_eq_true rfl) (fun H locs hW hS hV => ?_)
    exact wc_iret C hr hlocks hW hS hV hE dX0_village_44
  unfold fX0_village at hE
  refine lv_iload_n hx hb dX0_village_0 rfl (lv_at hl 1 rfl) ?_
  obtain ⟨r13, hc, hE⟩ := o_bd_some hE
  refine sc_X0_192 C.1 (kX0_isBlock hc) rfl rfl ⟨Nat.le_of_ble_eq_true rfl, Nat.le_of_ble_eq_true rfl⟩ ⟨Nat.le_refl 0, Nat.le_refl 0⟩ dX0_village_1 hl.1 (Nat.le_of_ble_eq_true rfl) ?_
  refine lv_if_ne (tgt := 14) hx hb dX0_village_4 (by decide) (fun c14 => ?_) (fun c14 => ?_)
  · have hE := z_f c14 hE
    refine lv_iload_n hx hb dX0_village_14 rfl (lv_at hl 2 rfl) ?_
    refine lv_i2l hx hb dX0_village_15 rfl ?_
    refine lv_lconst (v := (0 : Int64)) hx hb dX0_village_16 rfl ?_
    refine lv_ldc2 (v := (999 : Int64)) hx hb C.1.2.2.2.1 (C.1.2.2.2.2 _ q684) dX0_village_17 ?_
    obtain ⟨r15, hc, hE⟩ := o_bd_some hE
    refine sc_X0_31 C.1 (kX0_isIn hc) rfl rfl ⟨Nat.le_of_ble_eq_true rfl, Nat.le_of_ble_eq_true rfl⟩ ⟨Nat.le_refl 0, Nat.le_refl 0⟩ dX0_village_20 hl.1 (Nat.le_of_ble_eq_true rfl) ?_
    refine lv_if_eq (tgt := 38) hx hb dX0_village_23 (by decide) (fun c16 => ?_) (fun c16 => ?_)
    · have hE := z_t c16 hE
      exact w_38 _ _ _ _ hE hW hS hV (lv_sub hl [0] rfl)
    · have hE := z_f c16 hE
      refine lv_iload_n hx hb dX0_village_26 rfl (lv_at hl 3 rfl) ?_
      refine lv_i2l hx hb dX0_village_27 rfl ?_
      refine lv_lconst (v := (0 : Int64)) hx hb dX0_village_28 rfl ?_
      refine lv_ldc2 (v := (999 : Int64)) hx hb C.1.2.2.2.1 (C.1.2.2.2.2 _ q684) dX0_village_29 ?_
      obtain ⟨r17, hc, hE⟩ := o_bd_some hE
      refine sc_X0_31 C.1 (kX0_isIn hc) rfl rfl ⟨Nat.le_of_ble_eq_true rfl, Nat.le_of_ble_eq_true rfl⟩ ⟨Nat.le_refl 0, Nat.le_refl 0⟩ dX0_village_32 hl.1 (Nat.le_of_ble_eq_true rfl) ?_
      refine lv_if_ne (tgt := 45) hx hb dX0_village_35 (by decide) (fun c18 => ?_) (fun c18 => ?_)
      · have hE := z_f c18 hE
        refine lv_aload_n hx hb dX0_village_45 rfl (lv_at hl 0 rfl) ?_
        refine cgs_X0_19_0 C hW (st_0 hS) (sp_0_now hS) dX0_village_46 ?_
        refine cg_X0_35_1 C hW (st_F hS wc_F3) dX0_village_49 ?_
        refine lv_bipush (v := (8 : Int32)) hx hb dX0_village_52 rfl ?_
        refine lv_icmp_ne (tgt := 64) hx hb dX0_village_54 (by decide) (fun c19 => ?_) (fun c19 => ?_)
        · have hE := z_f c19 hE
          refine lv_aload_n hx hb dX0_village_64 rfl (lv_at hl 0 rfl) ?_
          refine cgs_X0_19_0 C hW (st_0 hS) (sp_0_now hS) dX0_village_65 ?_
          refine cgs_X0_214_1 C hW (st_F hS wc_F3) (sp_F_homes hS wc_F3) dX0_village_68 ?_
          refine lv_aload_n hx hb dX0_village_71 rfl (lv_at hl 0 rfl) ?_
          refine cgs_X0_19_0 C hW (st_0 hS) (sp_0_now hS) dX0_village_72 ?_
          refine cg_X0_35_1 C hW (st_F hS wc_F3) dX0_village_75 ?_
          refine lv_iload_n hx hb dX0_village_78 rfl (lv_at hl 1 rfl) ?_
          refine wc_sti (J := wc_S) C hW hV (st_F_homes hS wc_F3) hS.uA hE dX0_village_79 (fun u20 H locs hE hW hS hV => ?_)
          refine lv_aload_n hx hb dX0_village_80 rfl (lv_at hl 0 rfl) ?_
          refine cgs_X0_19_0 C hW (st_0 hS) (sp_0_now hS) dX0_village_81 ?_
          refine cgs_X0_217_1 C hW (st_F hS wc_F3) (sp_F_hearths hS wc_F3) dX0_village_84 ?_
          refine lv_aload_n hx hb dX0_village_87 rfl (lv_at hl 0 rfl) ?_
          refine cgs_X0_19_0 C hW (st_0 hS) (sp_0_now hS) dX0_village_88 ?_
          refine cg_X0_35_1 C hW (st_F hS wc_F3) dX0_village_91 ?_
          refine lv_iload_n hx hb dX0_village_94 rfl (lv_at hl 2 rfl) ?_
          refine wc_sti (J := wc_S) C hW hV (st_F_hearths hS wc_F3) hS.uA hE dX0_village_95 (fun u21 H locs hE hW hS hV => ?_)
          refine lv_aload_n hx hb dX0_village_96 rfl (lv_at hl 0 rfl) ?_
          refine cgs_X0_19_0 C hW (st_0 hS) (sp_0_now hS) dX0_village_97 ?_
          refine cgs_X0_220_1 C hW (st_F hS wc_F3) (sp_F_heads hS wc_F3) dX0_village_100 ?_
          refine lv_aload_n hx hb dX0_village_103 rfl (lv_at hl 0 rfl) ?_
          refine cgs_X0_19_0 C hW (st_0 hS) (sp_0_now hS) dX0_village_104 ?_
          refine cg_X0_35_1 C hW (st_F hS wc_F3) dX0_village_107 ?_
          refine lv_iload_n hx hb dX0_village_110 rfl (lv_at hl 3 rfl) ?_
          refine wc_sti (J := wc_S) C hW hV (st_F_heads hS wc_F3) hS.uA hE dX0_village_111 (fun u22 H locs hE hW hS hV => ?_)
          refine lv_aload_n hx hb dX0_village_112 rfl (lv_at hl 0 rfl) ?_
          refine cgs_X0_19_0 C hW (st_0 hS) (sp_0_now hS) dX0_village_113 ?_
          refine lv_dup hx hb dX0_village_116 rfl ?_
          refine cg_X0_35_1 C hW (st_F hS wc_F3) dX0_village_117 ?_
          refine lv_iconst (v := (1 : Int32)) hx hb dX0_village_120 rfl ?_
          refine lv_iadd hx hb dX0_village_121 ?_
          refine cp_X0_35_1 (J := wc_S) C hW hV (st_F hS wc_F3) hS.uI hE dX0_village_122 (fun u23 H locs hE hW hS hV => ?_)
          refine lv_aload_n hx hb dX0_village_125 rfl (lv_at hl 0 rfl) ?_
          refine cgs_X0_19_0 C hW (st_0 hS) (sp_0_now hS) dX0_village_126 ?_
          refine cg_X0_35_1 C hW (st_F hS wc_F3) dX0_village_129 ?_
          refine lv_iconst (v := (1 : Int32)) hx hb dX0_village_132 rfl ?_
          refine lv_isub hx hb dX0_village_133 ?_
          exact wc_iret C hr hlocks hW hS hV hE dX0_village_134
        · have hE := z_t c19 hE
          refine lv_aload_n hx hb dX0_village_57 rfl (lv_at hl 0 rfl) ?_
          refine lv_bipush (v := (-8 : Int32)) hx hb dX0_village_58 rfl ?_
          obtain ⟨r24, u25, hc, hE⟩ := o_bd2_some hE
          refine cc_X0_118 C hW hS hV (st_0 hS) (kX0_refuse hc) rfl rfl ⟨Nat.le_of_ble_eq_true rfl, Nat.le_of_ble_eq_true rfl⟩ ⟨Nat.le_refl 0, Nat.le_refl 0⟩ dX0_village_60 hl.1 (Nat.le_of_ble_eq_true rfl) (fun H locs hW hS hV => ?_)
          exact wc_iret C hr hlocks hW hS hV hE dX0_village_63
      · have hE := z_t c18 hE
        exact w_38 _ _ _ _ hE hW hS hV (lv_sub hl [0] rfl)
  · have hE := z_t c14 hE
    refine lv_aload_n hx hb dX0_village_7 rfl (lv_at hl 0 rfl) ?_
    refine lv_bipush (v := (-3 : Int32)) hx hb dX0_village_8 rfl ?_
    obtain ⟨r26, u27, hc, hE⟩ := o_bd2_some hE
    refine cc_X0_118 C hW hS hV (st_0 hS) (kX0_refuse hc) rfl rfl ⟨Nat.le_of_ble_eq_true rfl, Nat.le_of_ble_eq_true rfl⟩ ⟨Nat.le_refl 0, Nat.le_refl 0⟩ dX0_village_10 hl.1 (Nat.le_of_ble_eq_true rfl) (fun H locs hW hS hV => ?_)
    exact wc_iret C hr hlocks hW hS hV hE dX0_village_13
end CG1
