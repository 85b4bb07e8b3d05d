section TRG7
variable {p : Program} {l : Launch} {e : Env} {R : Room} {s : State} {m : MethodId} {args : Array Value} {below : List Frame} {meth : Method} {c : Code} {H : Heap} {locs : List Loc} {cells slots : Nat} {Q : State → Prop} {cc : ByteArray} {nL pc : Nat} {ls : Array Slot} {rest : List Value} {D : va_G} {dA : Nat → ClassId} {h : Nat} {H0 : Heap}
theorem tc_X7_layOut {a1 : Int32} {a2 : Int32} {u u1 : TS} {rm : Room} (C : TC p m c cc nL s args D dA) (hT : TW D dA h u H) (hS : va_S (TA h) H0 H locs) (hM : Met l yX7_layOut (ws_ yX7_layOut cX7_layOut 7 none) rm (va_Pc [.ref h, .int a1, .int a2] (mt_B D dA h u)) (mt_Q D dA h none u1) 0 0 (TA h)) (hrc : rm.cells = 0) (hrs : rm.slots = 0) (hR : rm.frames + 1 ≤ R.frames ∧ 8 + (7 + 11) + rm.locals ≤ R.locals) (hf : cells + 0 ≤ R.cells ∧ slots + 0 ≤ R.slots) (d : decode cc pc = .ok (.invokevirtual 415, 3)) (hsz : ls.size = nL) (hro : (rest.map fun v => v.category).sum ≤ 8) (kk : ∀ (H1 : Heap) (locs1 : List Loc), TW D dA h u1 H1 → va_S (TA h) H0 H1 locs1 → W p l e R s m args below meth c H1 locs1 cells slots Q (F0 m (pc + 3) ls (rest))) : W p l e R s m args below meth c H locs cells slots Q (F0 m pc ls (.int a2 :: .int a1 :: .ref h :: rest)) :=
  mt_call (v := none) (va_runV (As := [.int a1, .int a2]) (rest := rest) C.1 hM (cwV 2 C.1.2.2.2.2 (lw_V q2172 q2174 qs155 q177 q2175) rfl hrc hrs (by decide +kernel) hR) (mt_preV C.2 hT _) rfl rfl hsz rfl (lv_room hro) d hf) hS (fun _ z => z) (fun H1 locs1 a b _ _ => kk H1 locs1 a b)
set_option maxHeartbeats 4000000 in
set_option maxRecDepth 100000 in
theorem kX7_layOut {l : Launch} {D : va_G} {dA : Nat → ClassId} {h N : Nat} {u u_ : TS} {a1 : Int32} {a2 : Int32} (hE : fX7_layOut N u a1 a2 = some u_) : Met l yX7_layOut (ws_ yX7_layOut cX7_layOut 7 none) ({ frames := 71, cells := 0, slots := 0, locals := 2206 }) (va_Pc [.ref h, .int a1, .int a2] (mt_B D dA h u)) (mt_Q D dA h none u_) 0 0 (TA h) := by
  refine mt_met (by decide) rfl rfl rfl ?_
  intro p e s m args below meth c ls C hr hlocks hT hS hl
  have hx := C.1.1
  have hb := C.1.2.1
  have w_280 : ∀ (ag61 : TS → Int32 → Int32 → Option (TS)) (hag61 : (∀ (u : TS) (x2 : Int32) (x3 : Int32) (H : Heap) (locs : List Loc) (ls : Array Slot), ag61 u x2 x3 = some u_ → TW D dA h u H → va_S (TA h) s.heap H locs → lv_has ls 7 [(0, .ref h), (2, .int x2), (3, .int x3)] → W p l e { frames := 71, cells := 0, slots := 0, locals := 2206 } s m args below meth c H locs 0 0 (MQ below (mt_Q D dA h none u_) args s 0 0 (TA h)) (F0 m 61 ls []))) (ag234 : TS → Int32 → Int32 → Int32 → Int32 → Int32 → Option (TS)) (hag234 : (∀ (u : TS) (x2 : Int32) (x3 : Int32) (x4 : Int32) (x5 : Int32) (x6 : Int32) (H : Heap) (locs : List Loc) (ls : Array Slot), ag234 u x2 x3 x4 x5 x6 = some u_ → TW D dA h u H → va_S (TA h) s.heap H locs → lv_has ls 7 [(0, .ref h), (2, .int x2), (3, .int x3), (4, .int x4), (5, .int x5), (6, .int x6)] → W p l e { frames := 71, cells := 0, slots := 0, locals := 2206 } s m args below meth c H locs 0 0 (MQ below (mt_Q D dA h none u_) args s 0 0 (TA h)) (F0 m 234 ls []))) (u : TS) (x2 : Int32) (x3 : Int32) (x4 : Int32) (x5 : Int32) (x6 : Int32) (y1 : Int32) (y2 : Int32) (H : Heap) (locs : List Loc) (ls : Array Slot), fX7_layOut_280 N ag61 ag234 u x2 x3 x4 x5 x6 y1 y2 = some u_ → TW D dA h u H → va_S (TA h) s.heap H locs → lv_has ls 7 [(0, .ref h), (2, .int x2), (3, .int x3), (4, .int x4), (5, .int x5), (6, .int x6)] → W p l e { frames := 71, cells := 0, slots := 0, locals := 2206 } s m args below meth c H locs 0 0 (MQ below (mt_Q D dA h none u_) args s 0 0 (TA h)) (F0 m 280 ls [.int y2, .int y1, .ref (h + 12)]) := by
    intro ag61 hag61 ag234 hag234 u x2 x3 x4 x5 x6 y1 y2 H locs ls hE hT hS hl
    unfold fX7_layOut_280 at hE
    obtain ⟨hb1, hE⟩ := o_bl_some hE
    refine ts_mayBeNear C hT hS hb1 hE dX7_layOut_280 (fun u1 H locs hE hT hS => ?_)
    refine z_iinc (v := (x6 + (1 : Int32))) (lw := (fun y_ => [(6, .int y_), (0, .ref h), (2, .int x2), (3, .int x3), (4, .int x4), (5, .int x5)])) hx hb dX7_layOut_281 hl hE (k := 5) rfl rfl (by decide) (fun _ => rfl) (fun z2 ls hE hl => ?_)
    refine lv_goto (tgt := 234) hx hb dX7_layOut_284 (by decide) ?_
    exact hag234 _ _ _ _ _ _ _ _ _ hE hT hS (lv_sub hl [1, 2, 3, 4, 5, 0] rfl)
  have w_275 : ∀ (ag61 : TS → Int32 → Int32 → Option (TS)) (hag61 : (∀ (u : TS) (x2 : Int32) (x3 : Int32) (H : Heap) (locs : List Loc) (ls : Array Slot), ag61 u x2 x3 = some u_ → TW D dA h u H → va_S (TA h) s.heap H locs → lv_has ls 7 [(0, .ref h), (2, .int x2), (3, .int x3)] → W p l e { frames := 71, cells := 0, slots := 0, locals := 2206 } s m args below meth c H locs 0 0 (MQ below (mt_Q D dA h none u_) args s 0 0 (TA h)) (F0 m 61 ls []))) (ag234 : TS → Int32 → Int32 → Int32 → Int32 → Int32 → Option (TS)) (hag234 : (∀ (u : TS) (x2 : Int32) (x3 : Int32) (x4 : Int32) (x5 : Int32) (x6 : Int32) (H : Heap) (locs : List Loc) (ls : Array Slot), ag234 u x2 x3 x4 x5 x6 = some u_ → TW D dA h u H → va_S (TA h) s.heap H locs → lv_has ls 7 [(0, .ref h), (2, .int x2), (3, .int x3), (4, .int x4), (5, .int x5), (6, .int x6)] → W p l e { frames := 71, cells := 0, slots := 0, locals := 2206 } s m args below meth c H locs 0 0 (MQ below (mt_Q D dA h none u_) args s 0 0 (TA h)) (F0 m 234 ls []))) (u : TS) (x2 : Int32) (x3 : Int32) (x4 : Int32) (x5 : Int32) (x6 : Int32) (y1 : Int32) (H : Heap) (locs : List Loc) (ls : Array Slot), fX7_layOut_275 N ag61 ag234 u x2 x3 x4 x5 x6 y1 = some u_ → TW D dA h u H → va_S (TA h) s.heap H locs → lv_has ls 7 [(0, .ref h), (2, .int x2), (3, .int x3), (4, .int x4), (5, .int x5), (6, .int x6)] → W p l e { frames := 71, cells := 0, slots := 0, locals := 2206 } s m args below meth c H locs 0 0 (MQ below (mt_Q D dA h none u_) args s 0 0 (TA h)) (F0 m 275 ls [.int y1, .ref (h + 12)]) := by
    intro ag61 hag61 ag234 hag234 u x2 x3 x4 x5 x6 y1 H locs ls hE hT hS hl
    unfold fX7_layOut_275 at hE
    refine lv_iconst (v := (1 : Int32)) hx hb dX7_layOut_275 rfl ?_
    refine lv_goto (tgt := 280) hx hb dX7_layOut_276 (by decide) ?_
    exact w_280 ag61 hag61 ag234 hag234 _ _ _ _ _ _ _ _ _ _ _ hE hT hS (lv_sub hl [0, 1, 2, 3, 4, 5] rfl)
  have w_234 : ∀ (ag61 : TS → Int32 → Int32 → Option (TS)) (hag61 : (∀ (u : TS) (x2 : Int32) (x3 : Int32) (H : Heap) (locs : List Loc) (ls : Array Slot), ag61 u x2 x3 = some u_ → TW D dA h u H → va_S (TA h) s.heap H locs → lv_has ls 7 [(0, .ref h), (2, .int x2), (3, .int x3)] → W p l e { frames := 71, cells := 0, slots := 0, locals := 2206 } s m args below meth c H locs 0 0 (MQ below (mt_Q D dA h none u_) args s 0 0 (TA h)) (F0 m 61 ls []))) (n : Nat) (u : TS) (x2 : Int32) (x3 : Int32) (x4 : Int32) (x5 : Int32) (x6 : Int32) (H : Heap) (locs : List Loc) (ls : Array Slot), fX7_layOut_234 N ag61 n u x2 x3 x4 x5 x6 = some u_ → TW D dA h u H → va_S (TA h) s.heap H locs → lv_has ls 7 [(0, .ref h), (2, .int x2), (3, .int x3), (4, .int x4), (5, .int x5), (6, .int x6)] → W p l e { frames := 71, cells := 0, slots := 0, locals := 2206 } s m args below meth c H locs 0 0 (MQ below (mt_Q D dA h none u_) args s 0 0 (TA h)) (F0 m 234 ls []) := by
    intro ag61 hag61 n
    induction n with
    | zero =>
      intro u x2 x3 x4 x5 x6 H locs ls hE hT hS hl
      cases (show (none : Option (TS)) = some u_ from hE)
    | succ n ih =>
      intro u x2 x3 x4 x5 x6 H locs ls hE hT hS hl
      rw [fX7_layOut_234] at hE
      refine lv_iload hx hb dX7_layOut_234 (lv_at hl 5 rfl) ?_
      refine lv_aload_n hx hb dX7_layOut_236 rfl (lv_at hl 0 rfl) ?_
      refine tg_many C hT dX7_layOut_237 ?_
      refine lv_icmp_ge (tgt := 287) hx hb dX7_layOut_240 (by decide) (fun c3 => ?_) (fun c3 => ?_)
      · have hE := z_t c3 hE
        refine z_iinc (v := (x3 + (1 : Int32))) (lw := (fun y_ => [(3, .int y_), (0, .ref h), (2, .int x2), (4, .int x4), (5, .int x5), (6, .int x6)])) hx hb dX7_layOut_287 hl hE (k := 2) rfl rfl (by decide) (fun _ => rfl) (fun z4 ls hE hl => ?_)
        refine lv_goto (tgt := 61) hx hb dX7_layOut_290 (by decide) ?_
        exact hag61 _ _ _ _ _ _ hE hT hS (lv_sub hl [1, 2, 0] rfl)
      · have hE := z_f c3 hE
        refine lv_aload_n hx hb dX7_layOut_243 rfl (lv_at hl 0 rfl) ?_
        refine tg_mayBeNear C hT dX7_layOut_244 ?_
        refine lv_bipush (v := (7 : Int32)) hx hb dX7_layOut_247 rfl ?_
        refine lv_iload_n hx hb dX7_layOut_249 rfl (lv_at hl 2 rfl) ?_
        refine lv_imul hx hb dX7_layOut_250 ?_
        refine lv_iload hx hb dX7_layOut_251 (lv_at hl 5 rfl) ?_
        refine lv_iadd hx hb dX7_layOut_253 ?_
        refine lv_aload_n hx hb dX7_layOut_254 rfl (lv_at hl 0 rfl) ?_
        refine lv_iload hx hb dX7_layOut_255 (lv_at hl 3 rfl) ?_
        refine lv_aload_n hx hb dX7_layOut_257 rfl (lv_at hl 0 rfl) ?_
        refine tg_who C hT dX7_layOut_258 ?_
        refine lv_iload hx hb dX7_layOut_261 (lv_at hl 5 rfl) ?_
        refine tl_who C hT hE dX7_layOut_263 (fun hE => ?_)
        refine z_nmi hE (fun v5 hE => ?_)
        obtain ⟨r7, u6, hc, hE⟩ := o_bd2_some hE
        refine tc_X7_areNear C hT hS (kX7_areNear hc) rfl rfl ⟨Nat.le_of_ble_eq_true rfl, Nat.le_of_ble_eq_true rfl⟩ ⟨Nat.le_refl 0, Nat.le_refl 0⟩ dX7_layOut_264 hl.1 (Nat.le_of_ble_eq_true rfl) (fun H locs hT hS => ?_)
        refine lv_if_eq (tgt := 275) hx hb dX7_layOut_267 (by decide) (fun c8 => ?_) (fun c8 => ?_)
        · have hE := z_t c8 hE
          exact w_275 ag61 hag61 (fX7_layOut_234 N ag61 n) ih _ _ _ _ _ _ _ _ _ _ hE hT hS (lv_sub hl [0, 1, 2, 3, 4, 5] rfl)
        · have hE := z_f c8 hE
          refine lv_iload hx hb dX7_layOut_270 (lv_at hl 4 rfl) ?_
          refine lv_if_gt (tgt := 279) hx hb dX7_layOut_272 (by decide) (fun c9 => ?_) (fun c9 => ?_)
          · have hE := z_t c9 hE
            refine lv_iconst (v := (0 : Int32)) hx hb dX7_layOut_279 rfl ?_
            exact w_280 ag61 hag61 (fX7_layOut_234 N ag61 n) ih _ _ _ _ _ _ _ _ _ _ _ hE hT hS (lv_sub hl [0, 1, 2, 3, 4, 5] rfl)
          · have hE := z_f c9 hE
            exact w_275 ag61 hag61 (fX7_layOut_234 N ag61 n) ih _ _ _ _ _ _ _ _ _ _ hE hT hS (lv_sub hl [0, 1, 2, 3, 4, 5] rfl)
  have w_201 : ∀ (ag61 : TS → Int32 → Int32 → Option (TS)) (hag61 : (∀ (u : TS) (x2 : Int32) (x3 : Int32) (H : Heap) (locs : List Loc) (ls : Array Slot), ag61 u x2 x3 = some u_ → TW D dA h u H → va_S (TA h) s.heap H locs → lv_has ls 7 [(0, .ref h), (2, .int x2), (3, .int x3)] → W p l e { frames := 71, cells := 0, slots := 0, locals := 2206 } s m args below meth c H locs 0 0 (MQ below (mt_Q D dA h none u_) args s 0 0 (TA h)) (F0 m 61 ls []))) (ag102 : TS → Int32 → Int32 → Int32 → Int32 → Option (TS)) (hag102 : (∀ (u : TS) (x2 : Int32) (x3 : Int32) (x4 : Int32) (x5 : Int32) (H : Heap) (locs : List Loc) (ls : Array Slot), ag102 u x2 x3 x4 x5 = some u_ → TW D dA h u H → va_S (TA h) s.heap H locs → lv_has ls 7 [(0, .ref h), (2, .int x2), (3, .int x3), (4, .int x4), (5, .int x5)] → W p l e { frames := 71, cells := 0, slots := 0, locals := 2206 } s m args below meth c H locs 0 0 (MQ below (mt_Q D dA h none u_) args s 0 0 (TA h)) (F0 m 102 ls []))) (u : TS) (x2 : Int32) (x3 : Int32) (x4 : Int32) (x5 : Int32) (y1 : Int32) (y2 : Int32) (H : Heap) (locs : List Loc) (ls : Array Slot), fX7_layOut_201 N ag61 ag102 u x2 x3 x4 x5 y1 y2 = some u_ → TW D dA h u H → va_S (TA h) s.heap H locs → lv_has ls 7 [(0, .ref h), (2, .int x2), (3, .int x3), (4, .int x4), (5, .int x5)] → W p l e { frames := 71, cells := 0, slots := 0, locals := 2206 } s m args below meth c H locs 0 0 (MQ below (mt_Q D dA h none u_) args s 0 0 (TA h)) (F0 m 201 ls [.int y2, .int y1, .ref (h + 11)]) := by
    intro ag61 hag61 ag102 hag102 u x2 x3 x4 x5 y1 y2 H locs ls hE hT hS hl
    unfold fX7_layOut_201 at hE
    obtain ⟨hb1, hE⟩ := o_bl_some hE
    refine ts_oldThen C hT hS hb1 hE dX7_layOut_201 (fun u10 H locs hE hT hS => ?_)
    refine lv_aload_n hx hb dX7_layOut_202 rfl (lv_at hl 0 rfl) ?_
    refine lv_iconst (v := (-1 : Int32)) hx hb dX7_layOut_203 rfl ?_
    refine tp_oldAs C hT hS hE dX7_layOut_204 (fun u11 H locs hE hT hS => ?_)
    refine z_iinc (v := (x5 + (1 : Int32))) (lw := (fun y_ => [(5, .int y_), (0, .ref h), (2, .int x2), (3, .int x3), (4, .int x4)])) hx hb dX7_layOut_207 hl hE (k := 4) rfl rfl (by decide) (fun _ => rfl) (fun z12 ls hE hl => ?_)
    refine lv_goto (tgt := 102) hx hb dX7_layOut_210 (by decide) ?_
    exact hag102 _ _ _ _ _ _ _ _ hE hT hS (lv_sub hl [1, 2, 3, 4, 0] rfl)
  have w_200 : ∀ (ag61 : TS → Int32 → Int32 → Option (TS)) (hag61 : (∀ (u : TS) (x2 : Int32) (x3 : Int32) (H : Heap) (locs : List Loc) (ls : Array Slot), ag61 u x2 x3 = some u_ → TW D dA h u H → va_S (TA h) s.heap H locs → lv_has ls 7 [(0, .ref h), (2, .int x2), (3, .int x3)] → W p l e { frames := 71, cells := 0, slots := 0, locals := 2206 } s m args below meth c H locs 0 0 (MQ below (mt_Q D dA h none u_) args s 0 0 (TA h)) (F0 m 61 ls []))) (ag102 : TS → Int32 → Int32 → Int32 → Int32 → Option (TS)) (hag102 : (∀ (u : TS) (x2 : Int32) (x3 : Int32) (x4 : Int32) (x5 : Int32) (H : Heap) (locs : List Loc) (ls : Array Slot), ag102 u x2 x3 x4 x5 = some u_ → TW D dA h u H → va_S (TA h) s.heap H locs → lv_has ls 7 [(0, .ref h), (2, .int x2), (3, .int x3), (4, .int x4), (5, .int x5)] → W p l e { frames := 71, cells := 0, slots := 0, locals := 2206 } s m args below meth c H locs 0 0 (MQ below (mt_Q D dA h none u_) args s 0 0 (TA h)) (F0 m 102 ls []))) (u : TS) (x2 : Int32) (x3 : Int32) (x4 : Int32) (x5 : Int32) (y1 : Int32) (H : Heap) (locs : List Loc) (ls : Array Slot), fX7_layOut_200 N ag61 ag102 u x2 x3 x4 x5 y1 = some u_ → TW D dA h u H → va_S (TA h) s.heap H locs → lv_has ls 7 [(0, .ref h), (2, .int x2), (3, .int x3), (4, .int x4), (5, .int x5)] → W p l e { frames := 71, cells := 0, slots := 0, locals := 2206 } s m args below meth c H locs 0 0 (MQ below (mt_Q D dA h none u_) args s 0 0 (TA h)) (F0 m 200 ls [.int y1, .ref (h + 11)]) := by
    intro ag61 hag61 ag102 hag102 u x2 x3 x4 x5 y1 H locs ls hE hT hS hl
    unfold fX7_layOut_200 at hE
    refine lv_iconst (v := (0 : Int32)) hx hb dX7_layOut_200 rfl ?_
    exact w_201 ag61 hag61 ag102 hag102 _ _ _ _ _ _ _ _ _ _ hE hT hS (lv_sub hl [0, 1, 2, 3, 4] rfl)
  have w_102 : ∀ (ag61 : TS → Int32 → Int32 → Option (TS)) (hag61 : (∀ (u : TS) (x2 : Int32) (x3 : Int32) (H : Heap) (locs : List Loc) (ls : Array Slot), ag61 u x2 x3 = some u_ → TW D dA h u H → va_S (TA h) s.heap H locs → lv_has ls 7 [(0, .ref h), (2, .int x2), (3, .int x3)] → W p l e { frames := 71, cells := 0, slots := 0, locals := 2206 } s m args below meth c H locs 0 0 (MQ below (mt_Q D dA h none u_) args s 0 0 (TA h)) (F0 m 61 ls []))) (n : Nat) (u : TS) (x2 : Int32) (x3 : Int32) (x4 : Int32) (x5 : Int32) (H : Heap) (locs : List Loc) (ls : Array Slot), fX7_layOut_102 N ag61 n u x2 x3 x4 x5 = some u_ → TW D dA h u H → va_S (TA h) s.heap H locs → lv_has ls 7 [(0, .ref h), (2, .int x2), (3, .int x3), (4, .int x4), (5, .int x5)] → W p l e { frames := 71, cells := 0, slots := 0, locals := 2206 } s m args below meth c H locs 0 0 (MQ below (mt_Q D dA h none u_) args s 0 0 (TA h)) (F0 m 102 ls []) := by
    intro ag61 hag61 n
    induction n with
    | zero =>
      intro u x2 x3 x4 x5 H locs ls hE hT hS hl
      cases (show (none : Option (TS)) = some u_ from hE)
    | succ n ih =>
      intro u x2 x3 x4 x5 H locs ls hE hT hS hl
      rw [fX7_layOut_102] at hE
      refine lv_iload hx hb dX7_layOut_102 (lv_at hl 4 rfl) ?_
      refine lv_iload_n hx hb dX7_layOut_104 rfl (lv_at hl 1 rfl) ?_
      refine lv_icmp_ge (tgt := 213) hx hb dX7_layOut_105 (by decide) (fun c13 => ?_) (fun c13 => ?_)
      · have hE := z_t c13 hE
        refine lv_aload_n hx hb dX7_layOut_213 rfl (lv_at hl 0 rfl) ?_
        refine lv_iconst (v := (2 : Int32)) hx hb dX7_layOut_214 rfl ?_
        refine lv_iload hx hb dX7_layOut_215 (lv_at hl 3 rfl) ?_
        refine lv_aload_n hx hb dX7_layOut_217 rfl (lv_at hl 0 rfl) ?_
        refine tg_s C hT dX7_layOut_218 ?_
        refine lv_iconst (v := (0 : Int32)) hx hb dX7_layOut_221 rfl ?_
        refine tl_s C hT hE dX7_layOut_222 (fun hE => ?_)
        refine z_nmi hE (fun v14 hE => ?_)
        refine lv_iconst (v := (0 : Int32)) hx hb dX7_layOut_223 rfl ?_
        obtain ⟨r16, u15, hc, hE⟩ := o_bd2_some hE
        refine tc_X7_ruled C hT hS (kX7_ruled hc) rfl rfl ⟨Nat.le_of_ble_eq_true rfl, Nat.le_of_ble_eq_true rfl⟩ ⟨Nat.le_refl 0, Nat.le_refl 0⟩ dX7_layOut_224 hl.1 (Nat.le_of_ble_eq_true rfl) (fun H locs hT hS => ?_)
        refine lv_istore (lv' := [(5, .int r16), (0, .ref h), (2, .int x2), (3, .int x3), (4, .int x4)]) hx hb dX7_layOut_227 hl (by decide) rfl (fun ls hl => ?_)
        refine lv_iload_n hx hb dX7_layOut_229 rfl (lv_at hl 3 rfl) ?_
        refine lv_iconst (v := (1 : Int32)) hx hb dX7_layOut_230 rfl ?_
        refine lv_iadd hx hb dX7_layOut_231 ?_
        refine z_nmi hE (fun z17 hE => ?_)
        refine lv_istore (lv' := [(6, .int z17), (5, .int r16), (0, .ref h), (2, .int x2), (3, .int x3), (4, .int x4)]) hx hb dX7_layOut_232 hl (by decide) rfl (fun ls hl => ?_)
        exact w_234 ag61 hag61 N _ _ _ _ _ _ _ _ _ hE hT hS (lv_sub hl [2, 3, 4, 5, 1, 0] rfl)
      · have hE := z_f c13 hE
        refine lv_aload_n hx hb dX7_layOut_108 rfl (lv_at hl 0 rfl) ?_
        refine lv_iload hx hb dX7_layOut_109 (lv_at hl 3 rfl) ?_
        refine lv_iconst (v := (5 : Int32)) hx hb dX7_layOut_111 rfl ?_
        obtain ⟨r19, u18, hc, hE⟩ := o_bd2_some hE
        refine tc_X7_st C hT hS (kX7_st hc) rfl rfl ⟨Nat.le_of_ble_eq_true rfl, Nat.le_of_ble_eq_true rfl⟩ ⟨Nat.le_refl 0, Nat.le_refl 0⟩ dX7_layOut_112 hl.1 (Nat.le_of_ble_eq_true rfl) (fun H locs hT hS => ?_)
        refine lv_bipush (v := (10 : Int32)) hx hb dX7_layOut_115 rfl ?_
        refine lv_iload hx hb dX7_layOut_117 (lv_at hl 4 rfl) ?_
        refine lv_imul hx hb dX7_layOut_119 ?_
        refine lv_iadd hx hb dX7_layOut_120 ?_
        refine lv_iconst (v := (5 : Int32)) hx hb dX7_layOut_121 rfl ?_
        refine lv_iadd hx hb dX7_layOut_122 ?_
        refine z_nmi hE (fun z20 hE => ?_)
        refine lv_istore (lv' := [(6, .int z20), (0, .ref h), (2, .int x2), (3, .int x3), (4, .int x4), (5, .int x5)]) hx hb dX7_layOut_123 hl (by decide) rfl (fun ls hl => ?_)
        refine lv_aload_n hx hb dX7_layOut_125 rfl (lv_at hl 1 rfl) ?_
        refine tg_woodThen C hT dX7_layOut_126 ?_
        refine lv_iconst (v := (4 : Int32)) hx hb dX7_layOut_129 rfl ?_
        refine lv_iload_n hx hb dX7_layOut_130 rfl (lv_at hl 3 rfl) ?_
        refine lv_imul hx hb dX7_layOut_131 ?_
        refine lv_iload hx hb dX7_layOut_132 (lv_at hl 5 rfl) ?_
        refine lv_iadd hx hb dX7_layOut_134 ?_
        refine lv_aload_n hx hb dX7_layOut_135 rfl (lv_at hl 1 rfl) ?_
        refine lv_iload hx hb dX7_layOut_136 (lv_at hl 4 rfl) ?_
        refine lv_iload hx hb dX7_layOut_138 (lv_at hl 0 rfl) ?_
        refine lv_aload_n hx hb dX7_layOut_140 rfl (lv_at hl 1 rfl) ?_
        refine lv_iload hx hb dX7_layOut_141 (lv_at hl 4 rfl) ?_
        refine lv_bipush (v := (6 : Int32)) hx hb dX7_layOut_143 rfl ?_
        obtain ⟨r22, u21, hc, hE⟩ := o_bd2_some hE
        refine tc_X7_st C hT hS (kX7_st hc) rfl rfl ⟨Nat.le_of_ble_eq_true rfl, Nat.le_of_ble_eq_true rfl⟩ ⟨Nat.le_refl 0, Nat.le_refl 0⟩ dX7_layOut_145 hl.1 (Nat.le_of_ble_eq_true rfl) (fun H locs hT hS => ?_)
        obtain ⟨r24, u23, hc, hE⟩ := o_bd2_some hE
        refine tc_X7_woodWith C hT hS (kX7_woodWith hc) rfl rfl ⟨Nat.le_of_ble_eq_true rfl, Nat.le_of_ble_eq_true rfl⟩ ⟨Nat.le_refl 0, Nat.le_refl 0⟩ dX7_layOut_148 hl.1 (Nat.le_of_ble_eq_true rfl) (fun H locs hT hS => ?_)
        refine ts_woodThen C hT hS hE dX7_layOut_151 (fun u25 H locs hE hT hS => ?_)
        refine lv_aload_n hx hb dX7_layOut_152 rfl (lv_at hl 1 rfl) ?_
        refine lv_iload hx hb dX7_layOut_153 (lv_at hl 0 rfl) ?_
        refine tp_oldAs C hT hS hE dX7_layOut_155 (fun u26 H locs hE hT hS => ?_)
        refine lv_aload_n hx hb dX7_layOut_158 rfl (lv_at hl 1 rfl) ?_
        refine tg_oldThen C hT dX7_layOut_159 ?_
        refine lv_iconst (v := (4 : Int32)) hx hb dX7_layOut_162 rfl ?_
        refine lv_iload_n hx hb dX7_layOut_163 rfl (lv_at hl 3 rfl) ?_
        refine lv_imul hx hb dX7_layOut_164 ?_
        refine lv_iload hx hb dX7_layOut_165 (lv_at hl 5 rfl) ?_
        refine lv_iadd hx hb dX7_layOut_167 ?_
        refine lv_aload_n hx hb dX7_layOut_168 rfl (lv_at hl 1 rfl) ?_
        refine lv_iload hx hb dX7_layOut_169 (lv_at hl 4 rfl) ?_
        obtain ⟨r28, u27, hc, hE⟩ := o_bd2_some hE
        refine tc_X7_isBare C hT hS (kX7_isBare hc) rfl rfl ⟨Nat.le_of_ble_eq_true rfl, Nat.le_of_ble_eq_true rfl⟩ ⟨Nat.le_refl 0, Nat.le_refl 0⟩ dX7_layOut_171 hl.1 (Nat.le_of_ble_eq_true rfl) (fun H locs hT hS => ?_)
        refine lv_if_ne (tgt := 200) hx hb dX7_layOut_174 (by decide) (fun c29 => ?_) (fun c29 => ?_)
        · have hE := z_f c29 hE
          exact w_200 ag61 hag61 (fX7_layOut_102 N ag61 n) ih _ _ _ _ _ _ _ _ _ hE hT hS (lv_sub hl [1, 2, 3, 4, 5] rfl)
        · have hE := z_t c29 hE
          refine lv_iload hx hb dX7_layOut_177 (lv_at hl 0 rfl) ?_
          refine lv_aload_n hx hb dX7_layOut_179 rfl (lv_at hl 1 rfl) ?_
          refine lv_iconst (v := (0 : Int32)) hx hb dX7_layOut_180 rfl ?_
          refine lv_iload hx hb dX7_layOut_181 (lv_at hl 4 rfl) ?_
          refine lv_aload_n hx hb dX7_layOut_183 rfl (lv_at hl 1 rfl) ?_
          refine tg_s C hT dX7_layOut_184 ?_
          refine lv_iconst (v := (0 : Int32)) hx hb dX7_layOut_187 rfl ?_
          refine tl_s C hT hE dX7_layOut_188 (fun hE => ?_)
          refine z_nmi hE (fun v30 hE => ?_)
          refine lv_iconst (v := (0 : Int32)) hx hb dX7_layOut_189 rfl ?_
          obtain ⟨r32, u31, hc, hE⟩ := o_bd2_some hE
          refine tc_X7_ruled C hT hS (kX7_ruled hc) rfl rfl ⟨Nat.le_of_ble_eq_true rfl, Nat.le_of_ble_eq_true rfl⟩ ⟨Nat.le_refl 0, Nat.le_refl 0⟩ dX7_layOut_190 hl.1 (Nat.le_of_ble_eq_true rfl) (fun H locs hT hS => ?_)
          refine lv_icmp_lt (tgt := 200) hx hb dX7_layOut_193 (by decide) (fun c33 => ?_) (fun c33 => ?_)
          · have hE := z_t c33 hE
            exact w_200 ag61 hag61 (fX7_layOut_102 N ag61 n) ih _ _ _ _ _ _ _ _ _ hE hT hS (lv_sub hl [1, 2, 3, 4, 5] rfl)
          · have hE := z_f c33 hE
            refine lv_iconst (v := (1 : Int32)) hx hb dX7_layOut_196 rfl ?_
            refine lv_goto (tgt := 201) hx hb dX7_layOut_197 (by decide) ?_
            exact w_201 ag61 hag61 (fX7_layOut_102 N ag61 n) ih _ _ _ _ _ _ _ _ _ _ hE hT hS (lv_sub hl [1, 2, 3, 4, 5] rfl)
  have w_61 : ∀ (n : Nat) (u : TS) (x2 : Int32) (x3 : Int32) (H : Heap) (locs : List Loc) (ls : Array Slot), fX7_layOut_61 N n u x2 x3 = some u_ → TW D dA h u H → va_S (TA h) s.heap H locs → lv_has ls 7 [(0, .ref h), (2, .int x2), (3, .int x3)] → W p l e { frames := 71, cells := 0, slots := 0, locals := 2206 } s m args below meth c H locs 0 0 (MQ below (mt_Q D dA h none u_) args s 0 0 (TA h)) (F0 m 61 ls []) := by
    intro n
    induction n with
    | zero =>
      intro u x2 x3 H locs ls hE hT hS hl
      cases (show (none : Option (TS)) = some u_ from hE)
    | succ n ih =>
      intro u x2 x3 H locs ls hE hT hS hl
      rw [fX7_layOut_61] at hE
      refine lv_iload_n hx hb dX7_layOut_61 rfl (lv_at hl 2 rfl) ?_
      refine lv_aload_n hx hb dX7_layOut_62 rfl (lv_at hl 0 rfl) ?_
      refine tg_many C hT dX7_layOut_63 ?_
      refine lv_icmp_ge (tgt := 293) hx hb dX7_layOut_66 (by decide) (fun c34 => ?_) (fun c34 => ?_)
      · have hE := z_t c34 hE
        exact mt_vret C hr hlocks hT hS hE dX7_layOut_293
      · have hE := z_f c34 hE
        refine lv_aload_n hx hb dX7_layOut_69 rfl (lv_at hl 0 rfl) ?_
        refine tg_who C hT dX7_layOut_70 ?_
        refine lv_iload_n hx hb dX7_layOut_73 rfl (lv_at hl 2 rfl) ?_
        refine tl_who C hT hE dX7_layOut_74 (fun hE => ?_)
        refine z_nmi hE (fun v35 hE => ?_)
        refine lv_istore (lv' := [(4, .int v35), (0, .ref h), (2, .int x2), (3, .int x3)]) hx hb dX7_layOut_75 hl (by decide) rfl (fun ls hl => ?_)
        refine lv_aload_n hx hb dX7_layOut_77 rfl (lv_at hl 1 rfl) ?_
        refine tg_areas C hT dX7_layOut_78 ?_
        refine lv_iload_n hx hb dX7_layOut_81 rfl (lv_at hl 3 rfl) ?_
        refine lv_aload_n hx hb dX7_layOut_82 rfl (lv_at hl 1 rfl) ?_
        refine lv_iconst (v := (1 : Int32)) hx hb dX7_layOut_83 rfl ?_
        refine lv_iload hx hb dX7_layOut_84 (lv_at hl 0 rfl) ?_
        refine lv_aload_n hx hb dX7_layOut_86 rfl (lv_at hl 1 rfl) ?_
        refine tg_s C hT dX7_layOut_87 ?_
        refine lv_iconst (v := (0 : Int32)) hx hb dX7_layOut_90 rfl ?_
        refine tl_s C hT hE dX7_layOut_91 (fun hE => ?_)
        refine z_nmi hE (fun v36 hE => ?_)
        refine lv_sipush (v := (9999 : Int32)) hx hb dX7_layOut_92 rfl ?_
        obtain ⟨r38, u37, hc, hE⟩ := o_bd2_some hE
        refine tc_X7_ruled C hT hS (kX7_ruled hc) rfl rfl ⟨Nat.le_of_ble_eq_true rfl, Nat.le_of_ble_eq_true rfl⟩ ⟨Nat.le_refl 0, Nat.le_refl 0⟩ dX7_layOut_95 hl.1 (Nat.le_of_ble_eq_true rfl) (fun H locs hT hS => ?_)
        refine ts_areas C hT hS hE dX7_layOut_98 (fun u39 H locs hE hT hS => ?_)
        refine lv_iconst (v := (0 : Int32)) hx hb dX7_layOut_99 rfl ?_
        refine lv_istore (lv' := [(5, .int (0 : Int32)), (4, .int v35), (0, .ref h), (2, .int x2), (3, .int x3)]) hx hb dX7_layOut_100 hl (by decide) rfl (fun ls hl => ?_)
        exact w_102 (fX7_layOut_61 N n) ih N _ _ _ _ _ _ _ _ hE hT hS (lv_sub hl [2, 3, 4, 1, 0] rfl)
  have w_53 : ∀ (ag12 : TS → Int32 → Int32 → Int32 → Option (TS)) (hag12 : (∀ (u : TS) (x1 : Int32) (x2 : Int32) (x3 : Int32) (H : Heap) (locs : List Loc) (ls : Array Slot), ag12 u x1 x2 x3 = some u_ → TW D dA h u H → va_S (TA h) s.heap H locs → lv_has ls 7 [(0, .ref h), (1, .int x1), (2, .int x2), (3, .int x3)] → W p l e { frames := 71, cells := 0, slots := 0, locals := 2206 } s m args below meth c H locs 0 0 (MQ below (mt_Q D dA h none u_) args s 0 0 (TA h)) (F0 m 12 ls []))) (u : TS) (x1 : Int32) (x2 : Int32) (x3 : Int32) (H : Heap) (locs : List Loc) (ls : Array Slot), fX7_layOut_53 N ag12 u x1 x2 x3 = some u_ → TW D dA h u H → va_S (TA h) s.heap H locs → lv_has ls 7 [(0, .ref h), (1, .int x1), (2, .int x2), (3, .int x3)] → W p l e { frames := 71, cells := 0, slots := 0, locals := 2206 } s m args below meth c H locs 0 0 (MQ below (mt_Q D dA h none u_) args s 0 0 (TA h)) (F0 m 53 ls []) := by
    intro ag12 hag12 u x1 x2 x3 H locs ls hE hT hS hl
    unfold fX7_layOut_53 at hE
    refine z_iinc (v := (x3 + (1 : Int32))) (lw := (fun y_ => [(3, .int y_), (0, .ref h), (1, .int x1), (2, .int x2)])) hx hb dX7_layOut_53 hl hE (k := 3) rfl rfl (by decide) (fun _ => rfl) (fun z40 ls hE hl => ?_)
    refine lv_goto (tgt := 12) hx hb dX7_layOut_56 (by decide) ?_
    exact hag12 _ _ _ _ _ _ _ hE hT hS (lv_sub hl [1, 2, 3, 0] rfl)
  have w_12 : ∀ (n : Nat) (u : TS) (x1 : Int32) (x2 : Int32) (x3 : Int32) (H : Heap) (locs : List Loc) (ls : Array Slot), fX7_layOut_12 N n u x1 x2 x3 = some u_ → TW D dA h u H → va_S (TA h) s.heap H locs → lv_has ls 7 [(0, .ref h), (1, .int x1), (2, .int x2), (3, .int x3)] → W p l e { frames := 71, cells := 0, slots := 0, locals := 2206 } s m args below meth c H locs 0 0 (MQ below (mt_Q D dA h none u_) args s 0 0 (TA h)) (F0 m 12 ls []) := by
    intro n
    induction n with
    | zero =>
      intro u x1 x2 x3 H locs ls hE hT hS hl
      cases (show (none : Option (TS)) = some u_ from hE)
    | succ n ih =>
      intro u x1 x2 x3 H locs ls hE hT hS hl
      rw [fX7_layOut_12] at hE
      refine lv_iload_n hx hb dX7_layOut_12 rfl (lv_at hl 3 rfl) ?_
      refine lv_aload_n hx hb dX7_layOut_13 rfl (lv_at hl 0 rfl) ?_
      refine tg_s C hT dX7_layOut_14 ?_
      refine lv_iconst (v := (1 : Int32)) hx hb dX7_layOut_17 rfl ?_
      refine tl_s C hT hE dX7_layOut_18 (fun hE => ?_)
      refine z_nmi hE (fun v41 hE => ?_)
      refine lv_icmp_ge (tgt := 59) hx hb dX7_layOut_19 (by decide) (fun c42 => ?_) (fun c42 => ?_)
      · have hE := z_t c42 hE
        refine lv_iconst (v := (0 : Int32)) hx hb dX7_layOut_59 rfl ?_
        refine lv_istore_n (lv' := [(3, .int (0 : Int32)), (0, .ref h), (1, .int x1), (2, .int x2)]) hx hb dX7_layOut_60 rfl hl (by decide) rfl (fun ls hl => ?_)
        exact w_61 N _ _ _ _ _ _ hE hT hS (lv_sub hl [1, 3, 0] rfl)
      · have hE := z_f c42 hE
        refine lv_iload_n hx hb dX7_layOut_22 rfl (lv_at hl 1 rfl) ?_
        refine lv_iload_n hx hb dX7_layOut_23 rfl (lv_at hl 3 rfl) ?_
        refine lv_ishr hx hb dX7_layOut_24 ?_
        refine lv_iconst (v := (1 : Int32)) hx hb dX7_layOut_25 rfl ?_
        refine lv_iand hx hb dX7_layOut_26 ?_
        refine lv_if_ne (tgt := 33) hx hb dX7_layOut_27 (by decide) (fun c43 => ?_) (fun c43 => ?_)
        · have hE := z_f c43 hE
          refine lv_aload_n hx hb dX7_layOut_33 rfl (lv_at hl 0 rfl) ?_
          refine tg_who C hT dX7_layOut_34 ?_
          refine lv_aload_n hx hb dX7_layOut_37 rfl (lv_at hl 0 rfl) ?_
          refine tg_many C hT dX7_layOut_38 ?_
          refine lv_iload_n hx hb dX7_layOut_41 rfl (lv_at hl 3 rfl) ?_
          refine ts_who C hT hS hE dX7_layOut_42 (fun u44 H locs hE hT hS => ?_)
          refine lv_aload_n hx hb dX7_layOut_43 rfl (lv_at hl 0 rfl) ?_
          refine lv_dup hx hb dX7_layOut_44 rfl ?_
          refine tg_many C hT dX7_layOut_45 ?_
          refine lv_iconst (v := (1 : Int32)) hx hb dX7_layOut_48 rfl ?_
          refine lv_iadd hx hb dX7_layOut_49 ?_
          refine tp_many C hT hS hE dX7_layOut_50 (fun u45 H locs hE hT hS => ?_)
          exact w_53 (fX7_layOut_12 N n) ih _ _ _ _ _ _ _ hE hT hS (lv_sub hl [0, 1, 2, 3] rfl)
        · have hE := z_t c43 hE
          refine lv_goto (tgt := 53) hx hb dX7_layOut_30 (by decide) ?_
          exact w_53 (fX7_layOut_12 N n) ih _ _ _ _ _ _ _ hE hT hS (lv_sub hl [0, 1, 2, 3] rfl)
  unfold fX7_layOut at hE
  refine lv_aload_n hx hb dX7_layOut_0 rfl (lv_at hl 0 rfl) ?_
  refine lv_iconst (v := (0 : Int32)) hx hb dX7_layOut_1 rfl ?_
  refine tp_many C hT hS hE dX7_layOut_2 (fun u46 H locs hE hT hS => ?_)
  refine lv_aload_n hx hb dX7_layOut_5 rfl (lv_at hl 0 rfl) ?_
  refine lv_iload_n hx hb dX7_layOut_6 rfl (lv_at hl 2 rfl) ?_
  refine tp_tens C hT hS hE dX7_layOut_7 (fun u47 H locs hE hT hS => ?_)
  refine lv_iconst (v := (0 : Int32)) hx hb dX7_layOut_10 rfl ?_
  refine lv_istore_n (lv' := [(3, .int (0 : Int32)), (0, .ref h), (1, .int a1), (2, .int a2)]) hx hb dX7_layOut_11 rfl hl (by decide) rfl (fun ls hl => ?_)
  exact w_12 N _ _ _ _ _ _ _ hE hT hS (lv_sub hl [1, 2, 3, 0] rfl)
theorem tc_X7_isAllowed {r : Int32} {u u1 : TS} {rm : Room} (C : TC p m c cc nL s args D dA) (hT : TW D dA h u H) (hS : va_S (TA h) H0 H locs) (hM : Met l yX7_isAllowed (ws_ yX7_isAllowed cX7_isAllowed 6 (some .boolean)) rm (va_Pc [.ref h] (mt_B D dA h u)) (mt_Q D dA h (some (.int r)) u1) 0 0 (TA h)) (hrc : rm.cells = 0) (hrs : rm.slots = 0) (hR : rm.frames + 1 ≤ R.frames ∧ 8 + (6 + 11) + rm.locals ≤ R.locals) (hf : cells + 0 ≤ R.cells ∧ slots + 0 ≤ R.slots) (d : decode cc pc = .ok (.invokevirtual 418, 3)) (hsz : ls.size = nL) (hro : (rest.map fun v => v.category).sum ≤ 8) (kk : ∀ (H1 : Heap) (locs1 : List Loc), TW D dA h u1 H1 → va_S (TA h) H0 H1 locs1 → W p l e R s m args below meth c H1 locs1 cells slots Q (F0 m (pc + 3) ls (.int r :: rest))) : W p l e R s m args below meth c H locs cells slots Q (F0 m pc ls (.ref h :: rest)) :=
  mt_call (v := (some (.int r))) (va_runV (As := []) (rest := rest) C.1 hM (cwV 0 C.1.2.2.2.2 (lw_V q2176 q2178 qs156 q177 q2179) rfl hrc hrs (by decide +kernel) hR) (mt_preV C.2 hT _) rfl rfl hsz rfl (lv_room hro) d hf) hS (fun _ z => z) (fun H1 locs1 a b _ _ => kk H1 locs1 a b)
set_option maxHeartbeats 4000000 in
set_option maxRecDepth 100000 in
theorem kX7_isAllowed {l : Launch} {D : va_G} {dA : Nat → ClassId} {h N : Nat} {u u1 : TS} {r : Int32} (hE : fX7_isAllowed N u = some (r, u1)) : Met l yX7_isAllowed (ws_ yX7_isAllowed cX7_isAllowed 6 (some .boolean)) ({ frames := 1, cells := 0, slots := 0, locals := 22 }) (va_Pc [.ref h] (mt_B D dA h u)) (mt_Q D dA h (some (.int r)) u1) 0 0 (TA h) := by
  refine mt_met (by decide) rfl rfl rfl ?_
  intro p e s m args below meth c ls C hr hlocks hT hS hl
  have hx := C.1.1
  have hb := C.1.2.1
  have w_220 : ∀ (ag2 : TS → Int32 → Option (Int32 × TS)) (hag2 : (∀ (u : TS) (x1 : Int32) (H : Heap) (locs : List Loc) (ls : Array Slot), ag2 u x1 = some (r, u1) → TW D dA h u H → va_S (TA h) s.heap H locs → lv_has ls 6 [(0, .ref h), (1, .int x1)] → W p l e { frames := 1, cells := 0, slots := 0, locals := 22 } s m args below meth c H locs 0 0 (MQ below (mt_Q D dA h (some (.int r)) u1) args s 0 0 (TA h)) (F0 m 2 ls []))) (u : TS) (x1 : Int32) (H : Heap) (locs : List Loc) (ls : Array Slot), fX7_isAllowed_220 N ag2 u x1 = some (r, u1) → TW D dA h u H → va_S (TA h) s.heap H locs → lv_has ls 6 [(0, .ref h), (1, .int x1)] → W p l e { frames := 1, cells := 0, slots := 0, locals := 22 } s m args below meth c H locs 0 0 (MQ below (mt_Q D dA h (some (.int r)) u1) args s 0 0 (TA h)) (F0 m 220 ls []) := by
    intro ag2 hag2 u x1 H locs ls hE hT hS hl
    unfold fX7_isAllowed_220 at hE
    refine z_iinc (v := (x1 + (1 : Int32))) (lw := (fun y_ => [(1, .int y_), (0, .ref h)])) hx hb dX7_isAllowed_220 hl hE (k := 1) rfl rfl (by decide) (fun _ => rfl) (fun z1 ls hE hl => ?_)
    refine lv_goto (tgt := 2) hx hb dX7_isAllowed_223 (by decide) ?_
    exact hag2 _ _ _ _ _ hE hT hS (lv_sub hl [1, 0] rfl)
  have w_191 : ∀ (ag2 : TS → Int32 → Option (Int32 × TS)) (hag2 : (∀ (u : TS) (x1 : Int32) (H : Heap) (locs : List Loc) (ls : Array Slot), ag2 u x1 = some (r, u1) → TW D dA h u H → va_S (TA h) s.heap H locs → lv_has ls 6 [(0, .ref h), (1, .int x1)] → W p l e { frames := 1, cells := 0, slots := 0, locals := 22 } s m args below meth c H locs 0 0 (MQ below (mt_Q D dA h (some (.int r)) u1) args s 0 0 (TA h)) (F0 m 2 ls []))) (ag103 : TS → Int32 → Int64 → Int32 → Int32 → Option (Int32 × TS)) (hag103 : (∀ (u : TS) (x1 : Int32) (x2 : Int64) (x4 : Int32) (x5 : Int32) (H : Heap) (locs : List Loc) (ls : Array Slot), ag103 u x1 x2 x4 x5 = some (r, u1) → TW D dA h u H → va_S (TA h) s.heap H locs → lv_has ls 6 [(0, .ref h), (1, .int x1), (2, .long x2), (4, .int x4), (5, .int x5)] → W p l e { frames := 1, cells := 0, slots := 0, locals := 22 } s m args below meth c H locs 0 0 (MQ below (mt_Q D dA h (some (.int r)) u1) args s 0 0 (TA h)) (F0 m 103 ls []))) (u : TS) (x1 : Int32) (x2 : Int64) (x4 : Int32) (x5 : Int32) (H : Heap) (locs : List Loc) (ls : Array Slot), fX7_isAllowed_191 N ag2 ag103 u x1 x2 x4 x5 = some (r, u1) → TW D dA h u H → va_S (TA h) s.heap H locs → lv_has ls 6 [(0, .ref h), (1, .int x1), (2, .long x2), (4, .int x4), (5, .int x5)] → W p l e { frames := 1, cells := 0, slots := 0, locals := 22 } s m args below meth c H locs 0 0 (MQ below (mt_Q D dA h (some (.int r)) u1) args s 0 0 (TA h)) (F0 m 191 ls []) := by
    intro ag2 hag2 ag103 hag103 u x1 x2 x4 x5 H locs ls hE hT hS hl
    unfold fX7_isAllowed_191 at hE
    refine z_iinc (v := (x5 + (1 : Int32))) (lw := (fun y_ => [(5, .int y_), (0, .ref h), (1, .int x1), (2, .long x2), (4, .int x4)])) hx hb dX7_isAllowed_191 hl hE (k := 4) rfl rfl (by decide) (fun _ => rfl) (fun z2 ls hE hl => ?_)
    refine lv_goto (tgt := 103) hx hb dX7_isAllowed_194 (by decide) ?_
    exact hag103 _ _ _ _ _ _ _ _ hE hT hS (lv_sub hl [1, 2, 3, 4, 0] rfl)
  have w_189 : ∀ (ag2 : TS → Int32 → Option (Int32 × TS)) (hag2 : (∀ (u : TS) (x1 : Int32) (H : Heap) (locs : List Loc) (ls : Array Slot), ag2 u x1 = some (r, u1) → TW D dA h u H → va_S (TA h) s.heap H locs → lv_has ls 6 [(0, .ref h), (1, .int x1)] → W p l e { frames := 1, cells := 0, slots := 0, locals := 22 } s m args below meth c H locs 0 0 (MQ below (mt_Q D dA h (some (.int r)) u1) args s 0 0 (TA h)) (F0 m 2 ls []))) (ag103 : TS → Int32 → Int64 → Int32 → Int32 → Option (Int32 × TS)) (hag103 : (∀ (u : TS) (x1 : Int32) (x2 : Int64) (x4 : Int32) (x5 : Int32) (H : Heap) (locs : List Loc) (ls : Array Slot), ag103 u x1 x2 x4 x5 = some (r, u1) → TW D dA h u H → va_S (TA h) s.heap H locs → lv_has ls 6 [(0, .ref h), (1, .int x1), (2, .long x2), (4, .int x4), (5, .int x5)] → W p l e { frames := 1, cells := 0, slots := 0, locals := 22 } s m args below meth c H locs 0 0 (MQ below (mt_Q D dA h (some (.int r)) u1) args s 0 0 (TA h)) (F0 m 103 ls []))) (u : TS) (x1 : Int32) (x2 : Int64) (x5 : Int32) (y0 : Int32) (H : Heap) (locs : List Loc) (ls : Array Slot), fX7_isAllowed_189 N ag2 ag103 u x1 x2 x5 y0 = some (r, u1) → TW D dA h u H → va_S (TA h) s.heap H locs → lv_has ls 6 [(0, .ref h), (1, .int x1), (2, .long x2), (5, .int x5)] → W p l e { frames := 1, cells := 0, slots := 0, locals := 22 } s m args below meth c H locs 0 0 (MQ below (mt_Q D dA h (some (.int r)) u1) args s 0 0 (TA h)) (F0 m 189 ls [.int y0]) := by
    intro ag2 hag2 ag103 hag103 u x1 x2 x5 y0 H locs ls hE hT hS hl
    unfold fX7_isAllowed_189 at hE
    refine lv_istore (lv' := [(4, .int y0), (0, .ref h), (1, .int x1), (2, .long x2), (5, .int x5)]) hx hb dX7_isAllowed_189 hl (by decide) rfl (fun ls hl => ?_)
    exact w_191 ag2 hag2 ag103 hag103 _ _ _ _ _ _ _ _ hE hT hS (lv_sub hl [1, 2, 3, 0, 4] rfl)
  have w_188 : ∀ (ag2 : TS → Int32 → Option (Int32 × TS)) (hag2 : (∀ (u : TS) (x1 : Int32) (H : Heap) (locs : List Loc) (ls : Array Slot), ag2 u x1 = some (r, u1) → TW D dA h u H → va_S (TA h) s.heap H locs → lv_has ls 6 [(0, .ref h), (1, .int x1)] → W p l e { frames := 1, cells := 0, slots := 0, locals := 22 } s m args below meth c H locs 0 0 (MQ below (mt_Q D dA h (some (.int r)) u1) args s 0 0 (TA h)) (F0 m 2 ls []))) (ag103 : TS → Int32 → Int64 → Int32 → Int32 → Option (Int32 × TS)) (hag103 : (∀ (u : TS) (x1 : Int32) (x2 : Int64) (x4 : Int32) (x5 : Int32) (H : Heap) (locs : List Loc) (ls : Array Slot), ag103 u x1 x2 x4 x5 = some (r, u1) → TW D dA h u H → va_S (TA h) s.heap H locs → lv_has ls 6 [(0, .ref h), (1, .int x1), (2, .long x2), (4, .int x4), (5, .int x5)] → W p l e { frames := 1, cells := 0, slots := 0, locals := 22 } s m args below meth c H locs 0 0 (MQ below (mt_Q D dA h (some (.int r)) u1) args s 0 0 (TA h)) (F0 m 103 ls []))) (u : TS) (x1 : Int32) (x2 : Int64) (x5 : Int32) (H : Heap) (locs : List Loc) (ls : Array Slot), fX7_isAllowed_188 N ag2 ag103 u x1 x2 x5 = some (r, u1) → TW D dA h u H → va_S (TA h) s.heap H locs → lv_has ls 6 [(0, .ref h), (1, .int x1), (2, .long x2), (5, .int x5)] → W p l e { frames := 1, cells := 0, slots := 0, locals := 22 } s m args below meth c H locs 0 0 (MQ below (mt_Q D dA h (some (.int r)) u1) args s 0 0 (TA h)) (F0 m 188 ls []) := by
    intro ag2 hag2 ag103 hag103 u x1 x2 x5 H locs ls hE hT hS hl
    unfold fX7_isAllowed_188 at hE
    refine lv_iconst (v := (0 : Int32)) hx hb dX7_isAllowed_188 rfl ?_
    exact w_189 ag2 hag2 ag103 hag103 _ _ _ _ _ _ _ _ hE hT hS (lv_sub hl [0, 1, 2, 3] rfl)
  have w_103 : ∀ (ag2 : TS → Int32 → Option (Int32 × TS)) (hag2 : (∀ (u : TS) (x1 : Int32) (H : Heap) (locs : List Loc) (ls : Array Slot), ag2 u x1 = some (r, u1) → TW D dA h u H → va_S (TA h) s.heap H locs → lv_has ls 6 [(0, .ref h), (1, .int x1)] → W p l e { frames := 1, cells := 0, slots := 0, locals := 22 } s m args below meth c H locs 0 0 (MQ below (mt_Q D dA h (some (.int r)) u1) args s 0 0 (TA h)) (F0 m 2 ls []))) (n : Nat) (u : TS) (x1 : Int32) (x2 : Int64) (x4 : Int32) (x5 : Int32) (H : Heap) (locs : List Loc) (ls : Array Slot), fX7_isAllowed_103 N ag2 n u x1 x2 x4 x5 = some (r, u1) → TW D dA h u H → va_S (TA h) s.heap H locs → lv_has ls 6 [(0, .ref h), (1, .int x1), (2, .long x2), (4, .int x4), (5, .int x5)] → W p l e { frames := 1, cells := 0, slots := 0, locals := 22 } s m args below meth c H locs 0 0 (MQ below (mt_Q D dA h (some (.int r)) u1) args s 0 0 (TA h)) (F0 m 103 ls []) := by
    intro ag2 hag2 n
    induction n with
    | zero =>
      intro u x1 x2 x4 x5 H locs ls hE hT hS hl
      cases (show (none : Option (Int32 × TS)) = some (r, u1) from hE)
    | succ n ih =>
      intro u x1 x2 x4 x5 H locs ls hE hT hS hl
      rw [fX7_isAllowed_103] at hE
      refine lv_iload hx hb dX7_isAllowed_103 (lv_at hl 4 rfl) ?_
      refine lv_aload_n hx hb dX7_isAllowed_105 rfl (lv_at hl 0 rfl) ?_
      refine tg_many C hT dX7_isAllowed_106 ?_
      refine lv_icmp_ge (tgt := 197) hx hb dX7_isAllowed_109 (by decide) (fun c3 => ?_) (fun c3 => ?_)
      · have hE := z_t c3 hE
        refine lv_iload hx hb dX7_isAllowed_197 (lv_at hl 3 rfl) ?_
        refine lv_if_eq (tgt := 220) hx hb dX7_isAllowed_199 (by decide) (fun c4 => ?_) (fun c4 => ?_)
        · have hE := z_t c4 hE
          exact w_220 ag2 hag2 _ _ _ _ _ hE hT hS (lv_sub hl [0, 1] rfl)
        · have hE := z_f c4 hE
          refine lv_lload_n hx hb dX7_isAllowed_202 rfl (lv_at hl 2 rfl) ?_
          refine lv_ldc2 (v := (10 : Int64)) hx hb C.1.2.2.2.1 (C.1.2.2.2.2 _ q1840) dX7_isAllowed_203 ?_
          refine lv_aload_n hx hb dX7_isAllowed_206 rfl (lv_at hl 0 rfl) ?_
          refine tg_areas C hT dX7_isAllowed_207 ?_
          refine lv_iload_n hx hb dX7_isAllowed_210 rfl (lv_at hl 1 rfl) ?_
          refine tl_areas C hT hE dX7_isAllowed_211 (fun hE => ?_)
          refine z_nmi hE (fun v5 hE => ?_)
          refine lv_i2l hx hb dX7_isAllowed_212 rfl ?_
          refine lv_lmul hx hb dX7_isAllowed_213 ?_
          refine W.lcmp hx hb dX7_isAllowed_214 ?_
          refine lv_if_le (tgt := 220) hx hb dX7_isAllowed_215 (by decide) (fun c6 => ?_) (fun c6 => ?_)
          · have hE := z_t c6 hE
            exact w_220 ag2 hag2 _ _ _ _ _ hE hT hS (lv_sub hl [0, 1] rfl)
          · have hE := z_f c6 hE
            refine lv_iconst (v := (0 : Int32)) hx hb dX7_isAllowed_218 rfl ?_
            exact mt_zret C hr hlocks hT hS (Or.inl rfl) hE dX7_isAllowed_219
      · have hE := z_f c3 hE
        refine lv_aload_n hx hb dX7_isAllowed_112 rfl (lv_at hl 0 rfl) ?_
        refine tg_ten C hT dX7_isAllowed_113 ?_
        refine lv_iload hx hb dX7_isAllowed_116 (lv_at hl 4 rfl) ?_
        refine tl_ten C hT hE dX7_isAllowed_118 (fun hE => ?_)
        refine z_nmi hE (fun v7 hE => ?_)
        refine lv_aload_n hx hb dX7_isAllowed_119 rfl (lv_at hl 0 rfl) ?_
        refine tg_ten C hT dX7_isAllowed_120 ?_
        refine lv_iload_n hx hb dX7_isAllowed_123 rfl (lv_at hl 1 rfl) ?_
        refine tl_ten C hT hE dX7_isAllowed_124 (fun hE => ?_)
        refine z_nmi hE (fun v8 hE => ?_)
        refine lv_icmp_ne (tgt := 191) hx hb dX7_isAllowed_125 (by decide) (fun c9 => ?_) (fun c9 => ?_)
        · have hE := z_f c9 hE
          exact w_191 ag2 hag2 (fX7_isAllowed_103 N ag2 n) ih _ _ _ _ _ _ _ _ hE hT hS (lv_sub hl [0, 1, 2, 3, 4] rfl)
        · have hE := z_t c9 hE
          refine lv_aload_n hx hb dX7_isAllowed_128 rfl (lv_at hl 0 rfl) ?_
          refine lv_aload_n hx hb dX7_isAllowed_129 rfl (lv_at hl 0 rfl) ?_
          refine tg_who C hT dX7_isAllowed_130 ?_
          refine lv_iload hx hb dX7_isAllowed_133 (lv_at hl 4 rfl) ?_
          refine tl_who C hT hE dX7_isAllowed_135 (fun hE => ?_)
          refine z_nmi hE (fun v10 hE => ?_)
          refine lv_iconst (v := (0 : Int32)) hx hb dX7_isAllowed_136 rfl ?_
          obtain ⟨r12, u11, hc, hE⟩ := o_bd2_some hE
          refine tc_X7_st C hT hS (kX7_st hc) rfl rfl ⟨Nat.le_of_ble_eq_true rfl, Nat.le_of_ble_eq_true rfl⟩ ⟨Nat.le_refl 0, Nat.le_refl 0⟩ dX7_isAllowed_137 hl.1 (Nat.le_of_ble_eq_true rfl) (fun H locs hT hS => ?_)
          refine lv_aload_n hx hb dX7_isAllowed_140 rfl (lv_at hl 0 rfl) ?_
          refine lv_aload_n hx hb dX7_isAllowed_141 rfl (lv_at hl 0 rfl) ?_
          refine tg_who C hT dX7_isAllowed_142 ?_
          refine lv_iload_n hx hb dX7_isAllowed_145 rfl (lv_at hl 1 rfl) ?_
          refine tl_who C hT hE dX7_isAllowed_146 (fun hE => ?_)
          refine z_nmi hE (fun v13 hE => ?_)
          refine lv_iconst (v := (0 : Int32)) hx hb dX7_isAllowed_147 rfl ?_
          obtain ⟨r15, u14, hc, hE⟩ := o_bd2_some hE
          refine tc_X7_st C hT hS (kX7_st hc) rfl rfl ⟨Nat.le_of_ble_eq_true rfl, Nat.le_of_ble_eq_true rfl⟩ ⟨Nat.le_refl 0, Nat.le_refl 0⟩ dX7_isAllowed_148 hl.1 (Nat.le_of_ble_eq_true rfl) (fun H locs hT hS => ?_)
          refine lv_icmp_eq (tgt := 157) hx hb dX7_isAllowed_151 (by decide) (fun c16 => ?_) (fun c16 => ?_)
          · have hE := z_t c16 hE
            refine lv_lload_n hx hb dX7_isAllowed_157 rfl (lv_at hl 2 rfl) ?_
            refine lv_aload_n hx hb dX7_isAllowed_158 rfl (lv_at hl 0 rfl) ?_
            refine lv_aload_n hx hb dX7_isAllowed_159 rfl (lv_at hl 0 rfl) ?_
            refine tg_who C hT dX7_isAllowed_160 ?_
            refine lv_iload hx hb dX7_isAllowed_163 (lv_at hl 4 rfl) ?_
            refine tl_who C hT hE dX7_isAllowed_165 (fun hE => ?_)
            refine z_nmi hE (fun v17 hE => ?_)
            refine lv_iconst (v := (4 : Int32)) hx hb dX7_isAllowed_166 rfl ?_
            obtain ⟨r19, u18, hc, hE⟩ := o_bd2_some hE
            refine tc_X7_st C hT hS (kX7_st hc) rfl rfl ⟨Nat.le_of_ble_eq_true rfl, Nat.le_of_ble_eq_true rfl⟩ ⟨Nat.le_refl 0, Nat.le_refl 0⟩ dX7_isAllowed_167 hl.1 (Nat.le_of_ble_eq_true rfl) (fun H locs hT hS => ?_)
            refine lv_i2l hx hb dX7_isAllowed_170 rfl ?_
            refine lv_ladd hx hb dX7_isAllowed_171 ?_
            refine z_nml hE (fun z20 hE => ?_)
            refine lv_lstore_n (lv' := [(2, .long z20), (0, .ref h), (1, .int x1), (4, .int x4), (5, .int x5)]) hx hb dX7_isAllowed_172 rfl hl (by decide) rfl (fun ls hl => ?_)
            refine lv_iload hx hb dX7_isAllowed_173 (lv_at hl 3 rfl) ?_
            refine lv_if_eq (tgt := 188) hx hb dX7_isAllowed_175 (by decide) (fun c21 => ?_) (fun c21 => ?_)
            · have hE := z_t c21 hE
              exact w_188 ag2 hag2 (fX7_isAllowed_103 N ag2 n) ih _ _ _ _ _ _ _ hE hT hS (lv_sub hl [1, 2, 0, 4] rfl)
            · have hE := z_f c21 hE
              refine lv_iload hx hb dX7_isAllowed_178 (lv_at hl 4 rfl) ?_
              refine lv_iload_n hx hb dX7_isAllowed_180 rfl (lv_at hl 2 rfl) ?_
              refine lv_icmp_gt (tgt := 188) hx hb dX7_isAllowed_181 (by decide) (fun c22 => ?_) (fun c22 => ?_)
              · have hE := z_t c22 hE
                exact w_188 ag2 hag2 (fX7_isAllowed_103 N ag2 n) ih _ _ _ _ _ _ _ hE hT hS (lv_sub hl [1, 2, 0, 4] rfl)
              · have hE := z_f c22 hE
                refine lv_iconst (v := (1 : Int32)) hx hb dX7_isAllowed_184 rfl ?_
                refine lv_goto (tgt := 189) hx hb dX7_isAllowed_185 (by decide) ?_
                exact w_189 ag2 hag2 (fX7_isAllowed_103 N ag2 n) ih _ _ _ _ _ _ _ _ hE hT hS (lv_sub hl [1, 2, 0, 4] rfl)
          · have hE := z_f c16 hE
            refine lv_goto (tgt := 191) hx hb dX7_isAllowed_154 (by decide) ?_
            exact w_191 ag2 hag2 (fX7_isAllowed_103 N ag2 n) ih _ _ _ _ _ _ _ _ hE hT hS (lv_sub hl [0, 1, 2, 3, 4] rfl)
  have w_89 : ∀ (ag2 : TS → Int32 → Option (Int32 × TS)) (hag2 : (∀ (u : TS) (x1 : Int32) (H : Heap) (locs : List Loc) (ls : Array Slot), ag2 u x1 = some (r, u1) → TW D dA h u H → va_S (TA h) s.heap H locs → lv_has ls 6 [(0, .ref h), (1, .int x1)] → W p l e { frames := 1, cells := 0, slots := 0, locals := 22 } s m args below meth c H locs 0 0 (MQ below (mt_Q D dA h (some (.int r)) u1) args s 0 0 (TA h)) (F0 m 2 ls []))) (ag50 : TS → Int32 → Int32 → Option (Int32 × TS)) (hag50 : (∀ (u : TS) (x1 : Int32) (x2 : Int32) (H : Heap) (locs : List Loc) (ls : Array Slot), ag50 u x1 x2 = some (r, u1) → TW D dA h u H → va_S (TA h) s.heap H locs → lv_has ls 6 [(0, .ref h), (1, .int x1), (2, .int x2)] → W p l e { frames := 1, cells := 0, slots := 0, locals := 22 } s m args below meth c H locs 0 0 (MQ below (mt_Q D dA h (some (.int r)) u1) args s 0 0 (TA h)) (F0 m 50 ls []))) (u : TS) (x1 : Int32) (x2 : Int32) (H : Heap) (locs : List Loc) (ls : Array Slot), fX7_isAllowed_89 N ag2 ag50 u x1 x2 = some (r, u1) → TW D dA h u H → va_S (TA h) s.heap H locs → lv_has ls 6 [(0, .ref h), (1, .int x1), (2, .int x2)] → W p l e { frames := 1, cells := 0, slots := 0, locals := 22 } s m args below meth c H locs 0 0 (MQ below (mt_Q D dA h (some (.int r)) u1) args s 0 0 (TA h)) (F0 m 89 ls []) := by
    intro ag2 hag2 ag50 hag50 u x1 x2 H locs ls hE hT hS hl
    unfold fX7_isAllowed_89 at hE
    refine z_iinc (v := (x2 + (1 : Int32))) (lw := (fun y_ => [(2, .int y_), (0, .ref h), (1, .int x1)])) hx hb dX7_isAllowed_89 hl hE (k := 2) rfl rfl (by decide) (fun _ => rfl) (fun z23 ls hE hl => ?_)
    refine lv_goto (tgt := 50) hx hb dX7_isAllowed_92 (by decide) ?_
    exact hag50 _ _ _ _ _ _ hE hT hS (lv_sub hl [1, 2, 0] rfl)
  have w_50 : ∀ (ag2 : TS → Int32 → Option (Int32 × TS)) (hag2 : (∀ (u : TS) (x1 : Int32) (H : Heap) (locs : List Loc) (ls : Array Slot), ag2 u x1 = some (r, u1) → TW D dA h u H → va_S (TA h) s.heap H locs → lv_has ls 6 [(0, .ref h), (1, .int x1)] → W p l e { frames := 1, cells := 0, slots := 0, locals := 22 } s m args below meth c H locs 0 0 (MQ below (mt_Q D dA h (some (.int r)) u1) args s 0 0 (TA h)) (F0 m 2 ls []))) (n : Nat) (u : TS) (x1 : Int32) (x2 : Int32) (H : Heap) (locs : List Loc) (ls : Array Slot), fX7_isAllowed_50 N ag2 n u x1 x2 = some (r, u1) → TW D dA h u H → va_S (TA h) s.heap H locs → lv_has ls 6 [(0, .ref h), (1, .int x1), (2, .int x2)] → W p l e { frames := 1, cells := 0, slots := 0, locals := 22 } s m args below meth c H locs 0 0 (MQ below (mt_Q D dA h (some (.int r)) u1) args s 0 0 (TA h)) (F0 m 50 ls []) := by
    intro ag2 hag2 n
    induction n with
    | zero =>
      intro u x1 x2 H locs ls hE hT hS hl
      cases (show (none : Option (Int32 × TS)) = some (r, u1) from hE)
    | succ n ih =>
      intro u x1 x2 H locs ls hE hT hS hl
      rw [fX7_isAllowed_50] at hE
      refine lv_iload_n hx hb dX7_isAllowed_50 rfl (lv_at hl 2 rfl) ?_
      refine lv_aload_n hx hb dX7_isAllowed_51 rfl (lv_at hl 0 rfl) ?_
      refine tg_many C hT dX7_isAllowed_52 ?_
      refine lv_icmp_ge (tgt := 95) hx hb dX7_isAllowed_55 (by decide) (fun c24 => ?_) (fun c24 => ?_)
      · have hE := z_t c24 hE
        refine lv_lconst (v := (0 : Int64)) hx hb dX7_isAllowed_95 rfl ?_
        refine lv_lstore_n (lv' := [(2, .long (0 : Int64)), (0, .ref h), (1, .int x1)]) hx hb dX7_isAllowed_96 rfl hl (by decide) rfl (fun ls hl => ?_)
        refine lv_iconst (v := (1 : Int32)) hx hb dX7_isAllowed_97 rfl ?_
        refine lv_istore (lv' := [(4, .int (1 : Int32)), (2, .long (0 : Int64)), (0, .ref h), (1, .int x1)]) hx hb dX7_isAllowed_98 hl (by decide) rfl (fun ls hl => ?_)
        refine lv_iconst (v := (0 : Int32)) hx hb dX7_isAllowed_100 rfl ?_
        refine lv_istore (lv' := [(5, .int (0 : Int32)), (4, .int (1 : Int32)), (2, .long (0 : Int64)), (0, .ref h), (1, .int x1)]) hx hb dX7_isAllowed_101 hl (by decide) rfl (fun ls hl => ?_)
        exact w_103 ag2 hag2 N _ _ _ _ _ _ _ _ hE hT hS (lv_sub hl [3, 4, 2, 1, 0] rfl)
      · have hE := z_f c24 hE
        refine lv_aload_n hx hb dX7_isAllowed_58 rfl (lv_at hl 0 rfl) ?_
        refine tg_ten C hT dX7_isAllowed_59 ?_
        refine lv_iload_n hx hb dX7_isAllowed_62 rfl (lv_at hl 2 rfl) ?_
        refine tl_ten C hT hE dX7_isAllowed_63 (fun hE => ?_)
        refine z_nmi hE (fun v25 hE => ?_)
        refine lv_aload_n hx hb dX7_isAllowed_64 rfl (lv_at hl 0 rfl) ?_
        refine tg_ten C hT dX7_isAllowed_65 ?_
        refine lv_iload_n hx hb dX7_isAllowed_68 rfl (lv_at hl 1 rfl) ?_
        refine tl_ten C hT hE dX7_isAllowed_69 (fun hE => ?_)
        refine z_nmi hE (fun v26 hE => ?_)
        refine lv_icmp_ne (tgt := 89) hx hb dX7_isAllowed_70 (by decide) (fun c27 => ?_) (fun c27 => ?_)
        · have hE := z_f c27 hE
          exact w_89 ag2 hag2 (fX7_isAllowed_50 N ag2 n) ih _ _ _ _ _ _ hE hT hS (lv_sub hl [0, 1, 2] rfl)
        · have hE := z_t c27 hE
          refine lv_aload_n hx hb dX7_isAllowed_73 rfl (lv_at hl 0 rfl) ?_
          refine tg_mayBeNear C hT dX7_isAllowed_74 ?_
          refine lv_bipush (v := (7 : Int32)) hx hb dX7_isAllowed_77 rfl ?_
          refine lv_iload_n hx hb dX7_isAllowed_79 rfl (lv_at hl 1 rfl) ?_
          refine lv_imul hx hb dX7_isAllowed_80 ?_
          refine lv_iload_n hx hb dX7_isAllowed_81 rfl (lv_at hl 2 rfl) ?_
          refine lv_iadd hx hb dX7_isAllowed_82 ?_
          refine tl_mayBeNear C hT hE dX7_isAllowed_83 (fun hE => ?_)
          refine z_nmi hE (fun v28 hE => ?_)
          refine lv_if_ne (tgt := 89) hx hb dX7_isAllowed_84 (by decide) (fun c29 => ?_) (fun c29 => ?_)
          · have hE := z_f c29 hE
            exact w_89 ag2 hag2 (fX7_isAllowed_50 N ag2 n) ih _ _ _ _ _ _ hE hT hS (lv_sub hl [0, 1, 2] rfl)
          · have hE := z_t c29 hE
            refine lv_iconst (v := (0 : Int32)) hx hb dX7_isAllowed_87 rfl ?_
            exact mt_zret C hr hlocks hT hS (Or.inl rfl) hE dX7_isAllowed_88
  have w_2 : ∀ (n : Nat) (u : TS) (x1 : Int32) (H : Heap) (locs : List Loc) (ls : Array Slot), fX7_isAllowed_2 N n u x1 = some (r, u1) → TW D dA h u H → va_S (TA h) s.heap H locs → lv_has ls 6 [(0, .ref h), (1, .int x1)] → W p l e { frames := 1, cells := 0, slots := 0, locals := 22 } s m args below meth c H locs 0 0 (MQ below (mt_Q D dA h (some (.int r)) u1) args s 0 0 (TA h)) (F0 m 2 ls []) := by
    intro n
    induction n with
    | zero =>
      intro u x1 H locs ls hE hT hS hl
      cases (show (none : Option (Int32 × TS)) = some (r, u1) from hE)
    | succ n ih =>
      intro u x1 H locs ls hE hT hS hl
      rw [fX7_isAllowed_2] at hE
      refine lv_iload_n hx hb dX7_isAllowed_2 rfl (lv_at hl 1 rfl) ?_
      refine lv_aload_n hx hb dX7_isAllowed_3 rfl (lv_at hl 0 rfl) ?_
      refine tg_many C hT dX7_isAllowed_4 ?_
      refine lv_icmp_ge (tgt := 226) hx hb dX7_isAllowed_7 (by decide) (fun c30 => ?_) (fun c30 => ?_)
      · have hE := z_t c30 hE
        refine lv_iconst (v := (1 : Int32)) hx hb dX7_isAllowed_226 rfl ?_
        exact mt_zret C hr hlocks hT hS (Or.inr rfl) hE dX7_isAllowed_227
      · have hE := z_f c30 hE
        refine lv_aload_n hx hb dX7_isAllowed_10 rfl (lv_at hl 0 rfl) ?_
        refine tg_ten C hT dX7_isAllowed_11 ?_
        refine lv_iload_n hx hb dX7_isAllowed_14 rfl (lv_at hl 1 rfl) ?_
        refine tl_ten C hT hE dX7_isAllowed_15 (fun hE => ?_)
        refine z_nmi hE (fun v31 hE => ?_)
        refine lv_aload_n hx hb dX7_isAllowed_16 rfl (lv_at hl 0 rfl) ?_
        refine tg_tens C hT dX7_isAllowed_17 ?_
        refine lv_icmp_ne (tgt := 26) hx hb dX7_isAllowed_20 (by decide) (fun c32 => ?_) (fun c32 => ?_)
        · have hE := z_f c32 hE
          refine lv_aload_n hx hb dX7_isAllowed_26 rfl (lv_at hl 0 rfl) ?_
          refine tg_oldThen C hT dX7_isAllowed_27 ?_
          refine lv_iconst (v := (4 : Int32)) hx hb dX7_isAllowed_30 rfl ?_
          refine lv_iload_n hx hb dX7_isAllowed_31 rfl (lv_at hl 1 rfl) ?_
          refine lv_imul hx hb dX7_isAllowed_32 ?_
          refine lv_aload_n hx hb dX7_isAllowed_33 rfl (lv_at hl 0 rfl) ?_
          refine tg_ten C hT dX7_isAllowed_34 ?_
          refine lv_iload_n hx hb dX7_isAllowed_37 rfl (lv_at hl 1 rfl) ?_
          refine tl_ten C hT hE dX7_isAllowed_38 (fun hE => ?_)
          refine z_nmi hE (fun v33 hE => ?_)
          refine lv_iadd hx hb dX7_isAllowed_39 ?_
          refine tl_oldThen C hT hE dX7_isAllowed_40 (fun hE => ?_)
          refine z_nmi hE (fun v34 hE => ?_)
          refine lv_if_ne (tgt := 46) hx hb dX7_isAllowed_41 (by decide) (fun c35 => ?_) (fun c35 => ?_)
          · have hE := z_f c35 hE
            refine lv_iload_n hx hb dX7_isAllowed_46 rfl (lv_at hl 1 rfl) ?_
            refine lv_iconst (v := (1 : Int32)) hx hb dX7_isAllowed_47 rfl ?_
            refine lv_iadd hx hb dX7_isAllowed_48 ?_
            refine z_nmi hE (fun z36 hE => ?_)
            refine lv_istore_n (lv' := [(2, .int z36), (0, .ref h), (1, .int x1)]) hx hb dX7_isAllowed_49 rfl hl (by decide) rfl (fun ls hl => ?_)
            exact w_50 (fX7_isAllowed_2 N n) ih N _ _ _ _ _ _ hE hT hS (lv_sub hl [1, 2, 0] rfl)
          · have hE := z_t c35 hE
            refine lv_iconst (v := (0 : Int32)) hx hb dX7_isAllowed_44 rfl ?_
            exact mt_zret C hr hlocks hT hS (Or.inl rfl) hE dX7_isAllowed_45
        · have hE := z_t c32 hE
          refine lv_goto (tgt := 220) hx hb dX7_isAllowed_23 (by decide) ?_
          exact w_220 (fX7_isAllowed_2 N n) ih _ _ _ _ _ hE hT hS (lv_sub hl [0, 1] rfl)
  unfold fX7_isAllowed at hE
  refine lv_iconst (v := (0 : Int32)) hx hb dX7_isAllowed_0 rfl ?_
  refine lv_istore_n (lv' := [(1, .int (0 : Int32)), (0, .ref h)]) hx hb dX7_isAllowed_1 rfl hl (by decide) rfl (fun ls hl => ?_)
  exact w_2 N _ _ _ _ _ hE hT hS (lv_sub hl [1, 0] rfl)
theorem tc_X7_weigh {u u1 : TS} {rm : Room} (C : TC p m c cc nL s args D dA) (hT : TW D dA h u H) (hS : va_S (TA h) H0 H locs) (hM : Met l yX7_weigh (ws_ yX7_weigh cX7_weigh 5 none) rm (va_Pc [.ref h] (mt_B D dA h u)) (mt_Q D dA h none u1) 0 0 (TA h)) (hrc : rm.cells = 0) (hrs : rm.slots = 0) (hR : rm.frames + 1 ≤ R.frames ∧ 8 + (5 + 11) + rm.locals ≤ R.locals) (hf : cells + 0 ≤ R.cells ∧ slots + 0 ≤ R.slots) (d : decode cc pc = .ok (.invokevirtual 421, 3)) (hsz : ls.size = nL) (hro : (rest.map fun v => v.category).sum ≤ 8) (kk : ∀ (H1 : Heap) (locs1 : List Loc), TW D dA h u1 H1 → va_S (TA h) H0 H1 locs1 → W p l e R s m args below meth c H1 locs1 cells slots Q (F0 m (pc + 3) ls (rest))) : W p l e R s m args below meth c H locs cells slots Q (F0 m pc ls (.ref h :: rest)) :=
  mt_call (v := none) (va_runV (As := []) (rest := rest) C.1 hM (cwV 0 C.1.2.2.2.2 (lw_V q2180 q2182 qs157 q177 q2183) rfl hrc hrs (by decide +kernel) hR) (mt_preV C.2 hT _) rfl rfl hsz rfl (lv_room hro) d hf) hS (fun _ z => z) (fun H1 locs1 a b _ _ => kk H1 locs1 a b)
set_option maxHeartbeats 4000000 in
set_option maxRecDepth 100000 in
theorem kX7_weigh {l : Launch} {D : va_G} {dA : Nat → ClassId} {h N : Nat} {u u_ : TS} (hE : fX7_weigh N u = some u_) : Met l yX7_weigh (ws_ yX7_weigh cX7_weigh 5 none) ({ frames := 0, cells := 0, slots := 0, locals := 0 }) (va_Pc [.ref h] (mt_B D dA h u)) (mt_Q D dA h none u_) 0 0 (TA h) := by
  refine mt_met (by decide) rfl rfl rfl ?_
  intro p e s m args below meth c ls C hr hlocks hT hS hl
  have hx := C.1.1
  have hb := C.1.2.1
  have w_97 : ∀ (ag7 : TS → Int32 → Option (TS)) (hag7 : (∀ (u : TS) (x1 : Int32) (H : Heap) (locs : List Loc) (ls : Array Slot), ag7 u x1 = some u_ → TW D dA h u H → va_S (TA h) s.heap H locs → lv_has ls 5 [(0, .ref h), (1, .int x1)] → W p l e { frames := 0, cells := 0, slots := 0, locals := 0 } s m args below meth c H locs 0 0 (MQ below (mt_Q D dA h none u_) args s 0 0 (TA h)) (F0 m 7 ls []))) (u : TS) (x1 : Int32) (y1 : Int64) (H : Heap) (locs : List Loc) (ls : Array Slot), fX7_weigh_97 N ag7 u x1 y1 = some u_ → TW D dA h u H → va_S (TA h) s.heap H locs → lv_has ls 5 [(0, .ref h), (1, .int x1)] → W p l e { frames := 0, cells := 0, slots := 0, locals := 0 } s m args below meth c H locs 0 0 (MQ below (mt_Q D dA h none u_) args s 0 0 (TA h)) (F0 m 97 ls [.long y1, .ref h]) := by
    intro ag7 hag7 u x1 y1 H locs ls hE hT hS hl
    unfold fX7_weigh_97 at hE
    refine tp_least C hT hS hE dX7_weigh_97 (fun u1 H locs hE hT hS => ?_)
    refine z_iinc (v := (x1 + (1 : Int32))) (lw := (fun y_ => [(1, .int y_), (0, .ref h)])) hx hb dX7_weigh_100 hl hE (k := 1) rfl rfl (by decide) (fun _ => rfl) (fun z2 ls hE hl => ?_)
    refine lv_goto (tgt := 7) hx hb dX7_weigh_103 (by decide) ?_
    exact hag7 _ _ _ _ _ hE hT hS (lv_sub hl [1, 0] rfl)
  have w_89 : ∀ (ag7 : TS → Int32 → Option (TS)) (hag7 : (∀ (u : TS) (x1 : Int32) (H : Heap) (locs : List Loc) (ls : Array Slot), ag7 u x1 = some u_ → TW D dA h u H → va_S (TA h) s.heap H locs → lv_has ls 5 [(0, .ref h), (1, .int x1)] → W p l e { frames := 0, cells := 0, slots := 0, locals := 0 } s m args below meth c H locs 0 0 (MQ below (mt_Q D dA h none u_) args s 0 0 (TA h)) (F0 m 7 ls []))) (u : TS) (x1 : Int32) (x2 : Int64) (H : Heap) (locs : List Loc) (ls : Array Slot), fX7_weigh_89 N ag7 u x1 x2 = some u_ → TW D dA h u H → va_S (TA h) s.heap H locs → lv_has ls 5 [(0, .ref h), (1, .int x1), (2, .long x2)] → W p l e { frames := 0, cells := 0, slots := 0, locals := 0 } s m args below meth c H locs 0 0 (MQ below (mt_Q D dA h none u_) args s 0 0 (TA h)) (F0 m 89 ls [.ref h]) := by
    intro ag7 hag7 u x1 x2 H locs ls hE hT hS hl
    unfold fX7_weigh_89 at hE
    refine lv_lload_n hx hb dX7_weigh_89 rfl (lv_at hl 2 rfl) ?_
    refine lv_goto (tgt := 97) hx hb dX7_weigh_90 (by decide) ?_
    exact w_97 ag7 hag7 _ _ _ _ _ _ hE hT hS (lv_sub hl [0, 1] rfl)
  have w_57 : ∀ (ag7 : TS → Int32 → Option (TS)) (hag7 : (∀ (u : TS) (x1 : Int32) (H : Heap) (locs : List Loc) (ls : Array Slot), ag7 u x1 = some u_ → TW D dA h u H → va_S (TA h) s.heap H locs → lv_has ls 5 [(0, .ref h), (1, .int x1)] → W p l e { frames := 0, cells := 0, slots := 0, locals := 0 } s m args below meth c H locs 0 0 (MQ below (mt_Q D dA h none u_) args s 0 0 (TA h)) (F0 m 7 ls []))) (ag20 : TS → Int32 → Int64 → Int32 → Option (TS)) (hag20 : (∀ (u : TS) (x1 : Int32) (x2 : Int64) (x4 : Int32) (H : Heap) (locs : List Loc) (ls : Array Slot), ag20 u x1 x2 x4 = some u_ → TW D dA h u H → va_S (TA h) s.heap H locs → lv_has ls 5 [(0, .ref h), (1, .int x1), (2, .long x2), (4, .int x4)] → W p l e { frames := 0, cells := 0, slots := 0, locals := 0 } s m args below meth c H locs 0 0 (MQ below (mt_Q D dA h none u_) args s 0 0 (TA h)) (F0 m 20 ls []))) (u : TS) (x1 : Int32) (x4 : Int32) (y0 : Int64) (y1 : Int64) (H : Heap) (locs : List Loc) (ls : Array Slot), fX7_weigh_57 N ag7 ag20 u x1 x4 y0 y1 = some u_ → TW D dA h u H → va_S (TA h) s.heap H locs → lv_has ls 5 [(0, .ref h), (1, .int x1), (4, .int x4)] → W p l e { frames := 0, cells := 0, slots := 0, locals := 0 } s m args below meth c H locs 0 0 (MQ below (mt_Q D dA h none u_) args s 0 0 (TA h)) (F0 m 57 ls [.long y1, .long y0]) := by
    intro ag7 hag7 ag20 hag20 u x1 x4 y0 y1 H locs ls hE hT hS hl
    unfold fX7_weigh_57 at hE
    refine lv_ladd hx hb dX7_weigh_57 ?_
    refine z_nml hE (fun z3 hE => ?_)
    refine lv_lstore_n (lv' := [(2, .long z3), (0, .ref h), (1, .int x1), (4, .int x4)]) hx hb dX7_weigh_58 rfl hl (by decide) rfl (fun ls hl => ?_)
    refine z_iinc (v := (x4 + (1 : Int32))) (lw := (fun y_ => [(4, .int y_), (2, .long z3), (0, .ref h), (1, .int x1)])) hx hb dX7_weigh_59 hl hE (k := 3) rfl rfl (by decide) (fun _ => rfl) (fun z4 ls hE hl => ?_)
    refine lv_goto (tgt := 20) hx hb dX7_weigh_62 (by decide) ?_
    exact hag20 _ _ _ _ _ _ _ hE hT hS (lv_sub hl [2, 3, 1, 0] rfl)
  have w_20 : ∀ (ag7 : TS → Int32 → Option (TS)) (hag7 : (∀ (u : TS) (x1 : Int32) (H : Heap) (locs : List Loc) (ls : Array Slot), ag7 u x1 = some u_ → TW D dA h u H → va_S (TA h) s.heap H locs → lv_has ls 5 [(0, .ref h), (1, .int x1)] → W p l e { frames := 0, cells := 0, slots := 0, locals := 0 } s m args below meth c H locs 0 0 (MQ below (mt_Q D dA h none u_) args s 0 0 (TA h)) (F0 m 7 ls []))) (n : Nat) (u : TS) (x1 : Int32) (x2 : Int64) (x4 : Int32) (H : Heap) (locs : List Loc) (ls : Array Slot), fX7_weigh_20 N ag7 n u x1 x2 x4 = some u_ → TW D dA h u H → va_S (TA h) s.heap H locs → lv_has ls 5 [(0, .ref h), (1, .int x1), (2, .long x2), (4, .int x4)] → W p l e { frames := 0, cells := 0, slots := 0, locals := 0 } s m args below meth c H locs 0 0 (MQ below (mt_Q D dA h none u_) args s 0 0 (TA h)) (F0 m 20 ls []) := by
    intro ag7 hag7 n
    induction n with
    | zero =>
      intro u x1 x2 x4 H locs ls hE hT hS hl
      cases (show (none : Option (TS)) = some u_ from hE)
    | succ n ih =>
      intro u x1 x2 x4 H locs ls hE hT hS hl
      rw [fX7_weigh_20] at hE
      refine lv_iload hx hb dX7_weigh_20 (lv_at hl 3 rfl) ?_
      refine lv_aload_n hx hb dX7_weigh_22 rfl (lv_at hl 0 rfl) ?_
      refine tg_many C hT dX7_weigh_23 ?_
      refine lv_icmp_ge (tgt := 65) hx hb dX7_weigh_26 (by decide) (fun c5 => ?_) (fun c5 => ?_)
      · have hE := z_t c5 hE
        refine lv_aload_n hx hb dX7_weigh_65 rfl (lv_at hl 0 rfl) ?_
        refine lv_dup hx hb dX7_weigh_66 rfl ?_
        refine tg_all C hT dX7_weigh_67 ?_
        refine lv_lload_n hx hb dX7_weigh_70 rfl (lv_at hl 2 rfl) ?_
        refine lv_ladd hx hb dX7_weigh_71 ?_
        refine tp_all C hT hS hE dX7_weigh_72 (fun u6 H locs hE hT hS => ?_)
        refine lv_aload_n hx hb dX7_weigh_75 rfl (lv_at hl 0 rfl) ?_
        refine lv_iload_n hx hb dX7_weigh_76 rfl (lv_at hl 1 rfl) ?_
        refine lv_if_eq (tgt := 89) hx hb dX7_weigh_77 (by decide) (fun c7 => ?_) (fun c7 => ?_)
        · have hE := z_t c7 hE
          exact w_89 ag7 hag7 _ _ _ _ _ _ hE hT hS (lv_sub hl [0, 1, 2] rfl)
        · have hE := z_f c7 hE
          refine lv_lload_n hx hb dX7_weigh_80 rfl (lv_at hl 2 rfl) ?_
          refine lv_aload_n hx hb dX7_weigh_81 rfl (lv_at hl 0 rfl) ?_
          refine tg_least C hT dX7_weigh_82 ?_
          refine W.lcmp hx hb dX7_weigh_85 ?_
          refine lv_if_ge (tgt := 93) hx hb dX7_weigh_86 (by decide) (fun c8 => ?_) (fun c8 => ?_)
          · have hE := z_t c8 hE
            refine lv_aload_n hx hb dX7_weigh_93 rfl (lv_at hl 0 rfl) ?_
            refine tg_least C hT dX7_weigh_94 ?_
            exact w_97 ag7 hag7 _ _ _ _ _ _ hE hT hS (lv_sub hl [0, 1] rfl)
          · have hE := z_f c8 hE
            exact w_89 ag7 hag7 _ _ _ _ _ _ hE hT hS (lv_sub hl [0, 1, 2] rfl)
      · have hE := z_f c5 hE
        refine lv_lload_n hx hb dX7_weigh_29 rfl (lv_at hl 2 rfl) ?_
        refine lv_aload_n hx hb dX7_weigh_30 rfl (lv_at hl 0 rfl) ?_
        refine tg_ten C hT dX7_weigh_31 ?_
        refine lv_iload hx hb dX7_weigh_34 (lv_at hl 3 rfl) ?_
        refine tl_ten C hT hE dX7_weigh_36 (fun hE => ?_)
        refine z_nmi hE (fun v9 hE => ?_)
        refine lv_iload_n hx hb dX7_weigh_37 rfl (lv_at hl 1 rfl) ?_
        refine lv_icmp_ne (tgt := 56) hx hb dX7_weigh_38 (by decide) (fun c10 => ?_) (fun c10 => ?_)
        · have hE := z_f c10 hE
          refine lv_lconst (v := (0 : Int64)) hx hb dX7_weigh_56 rfl ?_
          exact w_57 ag7 hag7 (fX7_weigh_20 N ag7 n) ih _ _ _ _ _ _ _ _ hE hT hS (lv_sub hl [0, 1, 3] rfl)
        · have hE := z_t c10 hE
          refine lv_aload_n hx hb dX7_weigh_41 rfl (lv_at hl 0 rfl) ?_
          refine tg_woodThen C hT dX7_weigh_42 ?_
          refine lv_iconst (v := (4 : Int32)) hx hb dX7_weigh_45 rfl ?_
          refine lv_iload hx hb dX7_weigh_46 (lv_at hl 3 rfl) ?_
          refine lv_imul hx hb dX7_weigh_48 ?_
          refine lv_iload_n hx hb dX7_weigh_49 rfl (lv_at hl 1 rfl) ?_
          refine lv_iadd hx hb dX7_weigh_50 ?_
          refine tl_woodThen C hT hE dX7_weigh_51 (fun hE => ?_)
          refine z_nmi hE (fun v11 hE => ?_)
          refine lv_i2l hx hb dX7_weigh_52 rfl ?_
          refine lv_goto (tgt := 57) hx hb dX7_weigh_53 (by decide) ?_
          exact w_57 ag7 hag7 (fX7_weigh_20 N ag7 n) ih _ _ _ _ _ _ _ _ hE hT hS (lv_sub hl [0, 1, 3] rfl)
  have w_7 : ∀ (n : Nat) (u : TS) (x1 : Int32) (H : Heap) (locs : List Loc) (ls : Array Slot), fX7_weigh_7 N n u x1 = some u_ → TW D dA h u H → va_S (TA h) s.heap H locs → lv_has ls 5 [(0, .ref h), (1, .int x1)] → W p l e { frames := 0, cells := 0, slots := 0, locals := 0 } s m args below meth c H locs 0 0 (MQ below (mt_Q D dA h none u_) args s 0 0 (TA h)) (F0 m 7 ls []) := by
    intro n
    induction n with
    | zero =>
      intro u x1 H locs ls hE hT hS hl
      cases (show (none : Option (TS)) = some u_ from hE)
    | succ n ih =>
      intro u x1 H locs ls hE hT hS hl
      rw [fX7_weigh_7] at hE
      refine lv_iload_n hx hb dX7_weigh_7 rfl (lv_at hl 1 rfl) ?_
      refine lv_aload_n hx hb dX7_weigh_8 rfl (lv_at hl 0 rfl) ?_
      refine tg_tens C hT dX7_weigh_9 ?_
      refine lv_icmp_ge (tgt := 106) hx hb dX7_weigh_12 (by decide) (fun c12 => ?_) (fun c12 => ?_)
      · have hE := z_t c12 hE
        exact mt_vret C hr hlocks hT hS hE dX7_weigh_106
      · have hE := z_f c12 hE
        refine lv_lconst (v := (0 : Int64)) hx hb dX7_weigh_15 rfl ?_
        refine lv_lstore_n (lv' := [(2, .long (0 : Int64)), (0, .ref h), (1, .int x1)]) hx hb dX7_weigh_16 rfl hl (by decide) rfl (fun ls hl => ?_)
        refine lv_iconst (v := (0 : Int32)) hx hb dX7_weigh_17 rfl ?_
        refine lv_istore (lv' := [(4, .int (0 : Int32)), (2, .long (0 : Int64)), (0, .ref h), (1, .int x1)]) hx hb dX7_weigh_18 hl (by decide) rfl (fun ls hl => ?_)
        exact w_20 (fX7_weigh_7 N n) ih N _ _ _ _ _ _ _ hE hT hS (lv_sub hl [2, 3, 1, 0] rfl)
  unfold fX7_weigh at hE
  refine lv_aload_n hx hb dX7_weigh_0 rfl (lv_at hl 0 rfl) ?_
  refine lv_lconst (v := (0 : Int64)) hx hb dX7_weigh_1 rfl ?_
  refine tp_all C hT hS hE dX7_weigh_2 (fun u13 H locs hE hT hS => ?_)
  refine lv_iconst (v := (0 : Int32)) hx hb dX7_weigh_5 rfl ?_
  refine lv_istore_n (lv' := [(1, .int (0 : Int32)), (0, .ref h)]) hx hb dX7_weigh_6 rfl hl (by decide) rfl (fun ls hl => ?_)
  exact w_7 N _ _ _ _ _ hE hT hS (lv_sub hl [1, 0] rfl)
theorem tc_X7_goesUp {r : Int32} {u u1 : TS} {rm : Room} (C : TC p m c cc nL s args D dA) (hT : TW D dA h u H) (hS : va_S (TA h) H0 H locs) (hM : Met l yX7_goesUp (ws_ yX7_goesUp cX7_goesUp 2 (some .boolean)) rm (va_Pc [.ref h] (mt_B D dA h u)) (mt_Q D dA h (some (.int r)) u1) 0 0 (TA h)) (hrc : rm.cells = 0) (hrs : rm.slots = 0) (hR : rm.frames + 1 ≤ R.frames ∧ 8 + (2 + 11) + rm.locals ≤ R.locals) (hf : cells + 0 ≤ R.cells ∧ slots + 0 ≤ R.slots) (d : decode cc pc = .ok (.invokevirtual 424, 3)) (hsz : ls.size = nL) (hro : (rest.map fun v => v.category).sum ≤ 8) (kk : ∀ (H1 : Heap) (locs1 : List Loc), TW D dA h u1 H1 → va_S (TA h) H0 H1 locs1 → W p l e R s m args below meth c H1 locs1 cells slots Q (F0 m (pc + 3) ls (.int r :: rest))) : W p l e R s m args below meth c H locs cells slots Q (F0 m pc ls (.ref h :: rest)) :=
  mt_call (v := (some (.int r))) (va_runV (As := []) (rest := rest) C.1 hM (cwV 0 C.1.2.2.2.2 (lw_V q2184 q2186 qs158 q177 q2187) rfl hrc hrs (by decide +kernel) hR) (mt_preV C.2 hT _) rfl rfl hsz rfl (lv_room hro) d hf) hS (fun _ z => z) (fun H1 locs1 a b _ _ => kk H1 locs1 a b)
set_option maxHeartbeats 4000000 in
set_option maxRecDepth 100000 in
theorem kX7_goesUp {l : Launch} {D : va_G} {dA : Nat → ClassId} {h N : Nat} {u u1 : TS} {r : Int32} (hE : fX7_goesUp N u = some (r, u1)) : Met l yX7_goesUp (ws_ yX7_goesUp cX7_goesUp 2 (some .boolean)) ({ frames := 0, cells := 0, slots := 0, locals := 0 }) (va_Pc [.ref h] (mt_B D dA h u)) (mt_Q D dA h (some (.int r)) u1) 0 0 (TA h) := by
  refine mt_met (by decide) rfl rfl rfl ?_
  intro p e s m args below meth c ls C hr hlocks hT hS hl
  have hx := C.1.1
  have hb := C.1.2.1
  have w_37 : ∀ (u : TS) (x1 : Int32) (H : Heap) (locs : List Loc) (ls : Array Slot), fX7_goesUp_37 N u x1 = some (r, u1) → TW D dA h u H → va_S (TA h) s.heap H locs → lv_has ls 2 [(0, .ref h), (1, .int x1)] → W p l e { frames := 0, cells := 0, slots := 0, locals := 0 } s m args below meth c H locs 0 0 (MQ below (mt_Q D dA h (some (.int r)) u1) args s 0 0 (TA h)) (F0 m 37 ls []) := by
    intro u x1 H locs ls hE hT hS hl
    unfold fX7_goesUp_37 at hE
    refine lv_iload_n hx hb dX7_goesUp_37 rfl (lv_at hl 1 rfl) ?_
    refine lv_if_ge (tgt := 43) hx hb dX7_goesUp_38 (by decide) (fun c1 => ?_) (fun c1 => ?_)
    · have hE := z_t c1 hE
      refine lv_aload_n hx hb dX7_goesUp_43 rfl (lv_at hl 0 rfl) ?_
      refine tg_ten C hT dX7_goesUp_44 ?_
      refine lv_iload_n hx hb dX7_goesUp_47 rfl (lv_at hl 1 rfl) ?_
      refine lv_dup2_11 hx hb dX7_goesUp_48 rfl rfl ?_
      refine tl_ten C hT hE dX7_goesUp_49 (fun hE => ?_)
      refine z_nmi hE (fun v2 hE => ?_)
      refine lv_iconst (v := (1 : Int32)) hx hb dX7_goesUp_50 rfl ?_
      refine lv_iadd hx hb dX7_goesUp_51 ?_
      refine ts_ten C hT hS hE dX7_goesUp_52 (fun u3 H locs hE hT hS => ?_)
      refine lv_iconst (v := (1 : Int32)) hx hb dX7_goesUp_53 rfl ?_
      exact mt_zret C hr hlocks hT hS (Or.inr rfl) hE dX7_goesUp_54
    · have hE := z_f c1 hE
      refine lv_iconst (v := (0 : Int32)) hx hb dX7_goesUp_41 rfl ?_
      exact mt_zret C hr hlocks hT hS (Or.inl rfl) hE dX7_goesUp_42
  have w_7 : ∀ (n : Nat) (u : TS) (x1 : Int32) (H : Heap) (locs : List Loc) (ls : Array Slot), fX7_goesUp_7 N n u x1 = some (r, u1) → TW D dA h u H → va_S (TA h) s.heap H locs → lv_has ls 2 [(0, .ref h), (1, .int x1)] → W p l e { frames := 0, cells := 0, slots := 0, locals := 0 } s m args below meth c H locs 0 0 (MQ below (mt_Q D dA h (some (.int r)) u1) args s 0 0 (TA h)) (F0 m 7 ls []) := by
    intro n
    induction n with
    | zero =>
      intro u x1 H locs ls hE hT hS hl
      cases (show (none : Option (Int32 × TS)) = some (r, u1) from hE)
    | succ n ih =>
      intro u x1 H locs ls hE hT hS hl
      rw [fX7_goesUp_7] at hE
      refine lv_iload_n hx hb dX7_goesUp_7 rfl (lv_at hl 1 rfl) ?_
      refine lv_if_lt (tgt := 37) hx hb dX7_goesUp_8 (by decide) (fun c4 => ?_) (fun c4 => ?_)
      · have hE := z_t c4 hE
        exact w_37 _ _ _ _ _ hE hT hS (lv_sub hl [0, 1] rfl)
      · have hE := z_f c4 hE
        refine lv_aload_n hx hb dX7_goesUp_11 rfl (lv_at hl 0 rfl) ?_
        refine tg_ten C hT dX7_goesUp_12 ?_
        refine lv_iload_n hx hb dX7_goesUp_15 rfl (lv_at hl 1 rfl) ?_
        refine tl_ten C hT hE dX7_goesUp_16 (fun hE => ?_)
        refine z_nmi hE (fun v5 hE => ?_)
        refine lv_aload_n hx hb dX7_goesUp_17 rfl (lv_at hl 0 rfl) ?_
        refine tg_tens C hT dX7_goesUp_18 ?_
        refine lv_icmp_ne (tgt := 37) hx hb dX7_goesUp_21 (by decide) (fun c6 => ?_) (fun c6 => ?_)
        · have hE := z_f c6 hE
          exact w_37 _ _ _ _ _ hE hT hS (lv_sub hl [0, 1] rfl)
        · have hE := z_t c6 hE
          refine lv_aload_n hx hb dX7_goesUp_24 rfl (lv_at hl 0 rfl) ?_
          refine tg_ten C hT dX7_goesUp_25 ?_
          refine lv_iload_n hx hb dX7_goesUp_28 rfl (lv_at hl 1 rfl) ?_
          refine lv_iconst (v := (0 : Int32)) hx hb dX7_goesUp_29 rfl ?_
          refine ts_ten C hT hS hE dX7_goesUp_30 (fun u7 H locs hE hT hS => ?_)
          refine z_iinc (v := (x1 + (-1 : Int32))) (lw := (fun y_ => [(1, .int y_), (0, .ref h)])) hx hb dX7_goesUp_31 hl hE (k := 1) rfl rfl (by decide) (fun _ => rfl) (fun z8 ls hE hl => ?_)
          refine lv_goto (tgt := 7) hx hb dX7_goesUp_34 (by decide) ?_
          exact ih _ _ _ _ _ hE hT hS (lv_sub hl [1, 0] rfl)
  unfold fX7_goesUp at hE
  refine lv_aload_n hx hb dX7_goesUp_0 rfl (lv_at hl 0 rfl) ?_
  refine tg_many C hT dX7_goesUp_1 ?_
  refine lv_iconst (v := (1 : Int32)) hx hb dX7_goesUp_4 rfl ?_
  refine lv_isub hx hb dX7_goesUp_5 ?_
  refine z_nmi hE (fun z9 hE => ?_)
  refine lv_istore_n (lv' := [(1, .int z9), (0, .ref h)]) hx hb dX7_goesUp_6 rfl hl (by decide) rfl (fun ls hl => ?_)
  exact w_7 N _ _ _ _ _ hE hT hS (lv_sub hl [1, 0] rfl)
theorem tc_X7_keeps {a1 : Int32} {u u1 : TS} {rm : Room} (C : TC p m c cc nL s args D dA) (hT : TW D dA h u H) (hS : va_S (TA h) H0 H locs) (hM : Met l yX7_keeps (ws_ yX7_keeps cX7_keeps 3 none) rm (va_Pc [.ref h, .int a1] (mt_B D dA h u)) (mt_Q D dA h none u1) 0 0 (TA h)) (hrc : rm.cells = 0) (hrs : rm.slots = 0) (hR : rm.frames + 1 ≤ R.frames ∧ 8 + (3 + 11) + rm.locals ≤ R.locals) (hf : cells + 0 ≤ R.cells ∧ slots + 0 ≤ R.slots) (d : decode cc pc = .ok (.invokevirtual 427, 3)) (hsz : ls.size = nL) (hro : (rest.map fun v => v.category).sum ≤ 8) (kk : ∀ (H1 : Heap) (locs1 : List Loc), TW D dA h u1 H1 → va_S (TA h) H0 H1 locs1 → W p l e R s m args below meth c H1 locs1 cells slots Q (F0 m (pc + 3) ls (rest))) : W p l e R s m args below meth c H locs cells slots Q (F0 m pc ls (.int a1 :: .ref h :: rest)) :=
  mt_call (v := none) (va_runV (As := [.int a1]) (rest := rest) C.1 hM (cwV 1 C.1.2.2.2.2 (lw_V q2188 q2190 qs159 q177 q2191) rfl hrc hrs (by decide +kernel) hR) (mt_preV C.2 hT _) rfl rfl hsz rfl (lv_room hro) d hf) hS (fun _ z => z) (fun H1 locs1 a b _ _ => kk H1 locs1 a b)
set_option maxHeartbeats 4000000 in
set_option maxRecDepth 100000 in
theorem kX7_keeps {l : Launch} {D : va_G} {dA : Nat → ClassId} {h N : Nat} {u u_ : TS} {a1 : Int32} (hE : fX7_keeps N u a1 = some u_) : Met l yX7_keeps (ws_ yX7_keeps cX7_keeps 3 none) ({ frames := 0, cells := 0, slots := 0, locals := 0 }) (va_Pc [.ref h, .int a1] (mt_B D dA h u)) (mt_Q D dA h none u_) 0 0 (TA h) := by
  refine mt_met (by decide) rfl rfl rfl ?_
  intro p e s m args below meth c ls C hr hlocks hT hS hl
  have hx := C.1.1
  have hb := C.1.2.1
  have w_68 : ∀ (ag18 : TS → Int32 → Option (TS)) (hag18 : (∀ (u : TS) (x2 : Int32) (H : Heap) (locs : List Loc) (ls : Array Slot), ag18 u x2 = some u_ → TW D dA h u H → va_S (TA h) s.heap H locs → lv_has ls 3 [(0, .ref h), (2, .int x2)] → W p l e { frames := 0, cells := 0, slots := 0, locals := 0 } s m args below meth c H locs 0 0 (MQ below (mt_Q D dA h none u_) args s 0 0 (TA h)) (F0 m 18 ls []))) (u : TS) (x2 : Int32) (y1 : Int32) (y2 : Int32) (H : Heap) (locs : List Loc) (ls : Array Slot), fX7_keeps_68 N ag18 u x2 y1 y2 = some u_ → TW D dA h u H → va_S (TA h) s.heap H locs → lv_has ls 3 [(0, .ref h), (2, .int x2)] → W p l e { frames := 0, cells := 0, slots := 0, locals := 0 } s m args below meth c H locs 0 0 (MQ below (mt_Q D dA h none u_) args s 0 0 (TA h)) (F0 m 68 ls [.int y2, .int y1, .ref (h + 1)]) := by
    intro ag18 hag18 u x2 y1 y2 H locs ls hE hT hS hl
    unfold fX7_keeps_68 at hE
    refine ts_s C hT hS hE dX7_keeps_68 (fun u1 H locs hE hT hS => ?_)
    refine z_iinc (v := (x2 + (1 : Int32))) (lw := (fun y_ => [(2, .int y_), (0, .ref h)])) hx hb dX7_keeps_69 hl hE (k := 1) rfl rfl (by decide) (fun _ => rfl) (fun z2 ls hE hl => ?_)
    refine lv_goto (tgt := 18) hx hb dX7_keeps_72 (by decide) ?_
    exact hag18 _ _ _ _ _ hE hT hS (lv_sub hl [1, 0] rfl)
  have w_18 : ∀ (n : Nat) (u : TS) (x2 : Int32) (H : Heap) (locs : List Loc) (ls : Array Slot), fX7_keeps_18 N n u x2 = some u_ → TW D dA h u H → va_S (TA h) s.heap H locs → lv_has ls 3 [(0, .ref h), (2, .int x2)] → W p l e { frames := 0, cells := 0, slots := 0, locals := 0 } s m args below meth c H locs 0 0 (MQ below (mt_Q D dA h none u_) args s 0 0 (TA h)) (F0 m 18 ls []) := by
    intro n
    induction n with
    | zero =>
      intro u x2 H locs ls hE hT hS hl
      cases (show (none : Option (TS)) = some u_ from hE)
    | succ n ih =>
      intro u x2 H locs ls hE hT hS hl
      rw [fX7_keeps_18] at hE
      refine lv_iload_n hx hb dX7_keeps_18 rfl (lv_at hl 1 rfl) ?_
      refine lv_aload_n hx hb dX7_keeps_19 rfl (lv_at hl 0 rfl) ?_
      refine tg_many C hT dX7_keeps_20 ?_
      refine lv_icmp_ge (tgt := 75) hx hb dX7_keeps_23 (by decide) (fun c3 => ?_) (fun c3 => ?_)
      · have hE := z_t c3 hE
        exact mt_vret C hr hlocks hT hS hE dX7_keeps_75
      · have hE := z_f c3 hE
        refine lv_aload_n hx hb dX7_keeps_26 rfl (lv_at hl 0 rfl) ?_
        refine tg_s C hT dX7_keeps_27 ?_
        refine lv_bipush (v := (16 : Int32)) hx hb dX7_keeps_30 rfl ?_
        refine lv_bipush (v := (14 : Int32)) hx hb dX7_keeps_32 rfl ?_
        refine lv_aload_n hx hb dX7_keeps_34 rfl (lv_at hl 0 rfl) ?_
        refine tg_who C hT dX7_keeps_35 ?_
        refine lv_iload_n hx hb dX7_keeps_38 rfl (lv_at hl 1 rfl) ?_
        refine tl_who C hT hE dX7_keeps_39 (fun hE => ?_)
        refine z_nmi hE (fun v4 hE => ?_)
        refine lv_imul hx hb dX7_keeps_40 ?_
        refine lv_iadd hx hb dX7_keeps_41 ?_
        refine lv_bipush (v := (12 : Int32)) hx hb dX7_keeps_42 rfl ?_
        refine lv_iadd hx hb dX7_keeps_44 ?_
        refine lv_aload_n hx hb dX7_keeps_45 rfl (lv_at hl 0 rfl) ?_
        refine tg_bestTen C hT dX7_keeps_46 ?_
        refine lv_iload_n hx hb dX7_keeps_49 rfl (lv_at hl 1 rfl) ?_
        refine tl_bestTen C hT hE dX7_keeps_50 (fun hE => ?_)
        refine z_nmi hE (fun v5 hE => ?_)
        refine lv_aload_n hx hb dX7_keeps_51 rfl (lv_at hl 0 rfl) ?_
        refine tg_tens C hT dX7_keeps_52 ?_
        refine lv_icmp_ne (tgt := 62) hx hb dX7_keeps_55 (by decide) (fun c6 => ?_) (fun c6 => ?_)
        · have hE := z_f c6 hE
          refine lv_aload_n hx hb dX7_keeps_62 rfl (lv_at hl 0 rfl) ?_
          refine tg_bestTen C hT dX7_keeps_63 ?_
          refine lv_iload_n hx hb dX7_keeps_66 rfl (lv_at hl 1 rfl) ?_
          refine tl_bestTen C hT hE dX7_keeps_67 (fun hE => ?_)
          refine z_nmi hE (fun v7 hE => ?_)
          exact w_68 (fX7_keeps_18 N n) ih _ _ _ _ _ _ _ hE hT hS (lv_sub hl [0, 1] rfl)
        · have hE := z_t c6 hE
          refine lv_iconst (v := (-1 : Int32)) hx hb dX7_keeps_58 rfl ?_
          refine lv_goto (tgt := 68) hx hb dX7_keeps_59 (by decide) ?_
          exact w_68 (fX7_keeps_18 N n) ih _ _ _ _ _ _ _ hE hT hS (lv_sub hl [0, 1] rfl)
  unfold fX7_keeps at hE
  refine lv_aload_n hx hb dX7_keeps_0 rfl (lv_at hl 0 rfl) ?_
  refine tg_s C hT dX7_keeps_1 ?_
  refine lv_bipush (v := (8 : Int32)) hx hb dX7_keeps_4 rfl ?_
  refine lv_iconst (v := (1 : Int32)) hx hb dX7_keeps_6 rfl ?_
  refine ts_s C hT hS hE dX7_keeps_7 (fun u8 H locs hE hT hS => ?_)
  refine lv_aload_n hx hb dX7_keeps_8 rfl (lv_at hl 0 rfl) ?_
  refine tg_s C hT dX7_keeps_9 ?_
  refine lv_bipush (v := (9 : Int32)) hx hb dX7_keeps_12 rfl ?_
  refine lv_iload_n hx hb dX7_keeps_14 rfl (lv_at hl 1 rfl) ?_
  refine ts_s C hT hS hE dX7_keeps_15 (fun u9 H locs hE hT hS => ?_)
  refine lv_iconst (v := (0 : Int32)) hx hb dX7_keeps_16 rfl ?_
  refine lv_istore_n (lv' := [(2, .int (0 : Int32)), (0, .ref h), (1, .int a1)]) hx hb dX7_keeps_17 rfl hl (by decide) rfl (fun ls hl => ?_)
  exact w_18 N _ _ _ _ _ hE hT hS (lv_sub hl [1, 0] rfl)
set_option maxHeartbeats 4000000 in
set_option maxRecDepth 100000 in
theorem kX7_plan {l : Launch} {D : va_G} {dA : Nat → ClassId} {h N : Nat} {u u1 : TS} {a1 : Int32} {a2 : Int32} {r : Int64} (hE : fX7_plan N u a1 a2 = some (r, u1)) : Met l yX7_plan (ws_ yX7_plan cX7_plan 10 (some .long)) ({ frames := 72, cells := 0, slots := 0, locals := 2232 }) (va_Pc [.ref h, .int a1, .int a2] (mt_B D dA h u)) (mt_Q D dA h (some (.long r)) u1) 0 0 (TA h) := by
  refine mt_met (by decide) rfl rfl rfl ?_
  intro p e s m args below meth c ls C hr hlocks hT hS hl
  have hx := C.1.1
  have hb := C.1.2.1
  have w_151 : ∀ (ag61 : TS → Int32 → Int64 → Int64 → Int32 → Option (Int64 × TS)) (hag61 : (∀ (u : TS) (x1 : Int32) (x4 : Int64) (x6 : Int64) (x8 : Int32) (H : Heap) (locs : List Loc) (ls : Array Slot), ag61 u x1 x4 x6 x8 = some (r, u1) → TW D dA h u H → va_S (TA h) s.heap H locs → lv_has ls 10 [(0, .ref h), (1, .int x1), (4, .long x4), (6, .long x6), (8, .int x8)] → W p l e { frames := 72, cells := 0, slots := 0, locals := 2232 } s m args below meth c H locs 0 0 (MQ below (mt_Q D dA h (some (.long r)) u1) args s 0 0 (TA h)) (F0 m 61 ls []))) (u : TS) (x1 : Int32) (x4 : Int64) (x6 : Int64) (H : Heap) (locs : List Loc) (ls : Array Slot), fX7_plan_151 N ag61 u x1 x4 x6 = some (r, u1) → TW D dA h u H → va_S (TA h) s.heap H locs → lv_has ls 10 [(0, .ref h), (1, .int x1), (4, .long x4), (6, .long x6)] → W p l e { frames := 72, cells := 0, slots := 0, locals := 2232 } s m args below meth c H locs 0 0 (MQ below (mt_Q D dA h (some (.long r)) u1) args s 0 0 (TA h)) (F0 m 151 ls []) := by
    intro ag61 hag61 u x1 x4 x6 H locs ls hE hT hS hl
    unfold fX7_plan_151 at hE
    refine lv_aload_n hx hb dX7_plan_151 rfl (lv_at hl 0 rfl) ?_
    obtain ⟨r2, u1, hc, hE⟩ := o_bd2_some hE
    refine tc_X7_goesUp C hT hS (kX7_goesUp hc) rfl rfl ⟨Nat.le_of_ble_eq_true rfl, Nat.le_of_ble_eq_true rfl⟩ ⟨Nat.le_refl 0, Nat.le_refl 0⟩ dX7_plan_152 hl.1 (Nat.le_of_ble_eq_true rfl) (fun H locs hT hS => ?_)
    refine lv_istore (lv' := [(8, .int r2), (0, .ref h), (1, .int x1), (4, .long x4), (6, .long x6)]) hx hb dX7_plan_155 hl (by decide) rfl (fun ls hl => ?_)
    refine lv_goto (tgt := 61) hx hb dX7_plan_157 (by decide) ?_
    exact hag61 _ _ _ _ _ _ _ _ hE hT hS (lv_sub hl [1, 2, 3, 4, 0] rfl)
  have w_122 : ∀ (ag61 : TS → Int32 → Int64 → Int64 → Int32 → Option (Int64 × TS)) (hag61 : (∀ (u : TS) (x1 : Int32) (x4 : Int64) (x6 : Int64) (x8 : Int32) (H : Heap) (locs : List Loc) (ls : Array Slot), ag61 u x1 x4 x6 x8 = some (r, u1) → TW D dA h u H → va_S (TA h) s.heap H locs → lv_has ls 10 [(0, .ref h), (1, .int x1), (4, .long x4), (6, .long x6), (8, .int x8)] → W p l e { frames := 72, cells := 0, slots := 0, locals := 2232 } s m args below meth c H locs 0 0 (MQ below (mt_Q D dA h (some (.long r)) u1) args s 0 0 (TA h)) (F0 m 61 ls []))) (n : Nat) (u : TS) (x1 : Int32) (x4 : Int64) (x6 : Int64) (x9 : Int32) (H : Heap) (locs : List Loc) (ls : Array Slot), fX7_plan_122 N ag61 n u x1 x4 x6 x9 = some (r, u1) → TW D dA h u H → va_S (TA h) s.heap H locs → lv_has ls 10 [(0, .ref h), (1, .int x1), (4, .long x4), (6, .long x6), (9, .int x9)] → W p l e { frames := 72, cells := 0, slots := 0, locals := 2232 } s m args below meth c H locs 0 0 (MQ below (mt_Q D dA h (some (.long r)) u1) args s 0 0 (TA h)) (F0 m 122 ls []) := by
    intro ag61 hag61 n
    induction n with
    | zero =>
      intro u x1 x4 x6 x9 H locs ls hE hT hS hl
      cases (show (none : Option (Int64 × TS)) = some (r, u1) from hE)
    | succ n ih =>
      intro u x1 x4 x6 x9 H locs ls hE hT hS hl
      rw [fX7_plan_122] at hE
      refine lv_iload hx hb dX7_plan_122 (lv_at hl 4 rfl) ?_
      refine lv_aload_n hx hb dX7_plan_124 rfl (lv_at hl 0 rfl) ?_
      refine tg_many C hT dX7_plan_125 ?_
      refine lv_icmp_ge (tgt := 151) hx hb dX7_plan_128 (by decide) (fun c3 => ?_) (fun c3 => ?_)
      · have hE := z_t c3 hE
        exact w_151 ag61 hag61 _ _ _ _ _ _ _ hE hT hS (lv_sub hl [0, 1, 2, 3] rfl)
      · have hE := z_f c3 hE
        refine lv_aload_n hx hb dX7_plan_131 rfl (lv_at hl 0 rfl) ?_
        refine tg_bestTen C hT dX7_plan_132 ?_
        refine lv_iload hx hb dX7_plan_135 (lv_at hl 4 rfl) ?_
        refine lv_aload_n hx hb dX7_plan_137 rfl (lv_at hl 0 rfl) ?_
        refine tg_ten C hT dX7_plan_138 ?_
        refine lv_iload hx hb dX7_plan_141 (lv_at hl 4 rfl) ?_
        refine tl_ten C hT hE dX7_plan_143 (fun hE => ?_)
        refine z_nmi hE (fun v4 hE => ?_)
        refine ts_bestTen C hT hS hE dX7_plan_144 (fun u5 H locs hE hT hS => ?_)
        refine z_iinc (v := (x9 + (1 : Int32))) (lw := (fun y_ => [(9, .int y_), (0, .ref h), (1, .int x1), (4, .long x4), (6, .long x6)])) hx hb dX7_plan_145 hl hE (k := 4) rfl rfl (by decide) (fun _ => rfl) (fun z6 ls hE hl => ?_)
        refine lv_goto (tgt := 122) hx hb dX7_plan_148 (by decide) ?_
        exact ih _ _ _ _ _ _ _ _ hE hT hS (lv_sub hl [1, 2, 3, 4, 0] rfl)
  have w_107 : ∀ (ag61 : TS → Int32 → Int64 → Int64 → Int32 → Option (Int64 × TS)) (hag61 : (∀ (u : TS) (x1 : Int32) (x4 : Int64) (x6 : Int64) (x8 : Int32) (H : Heap) (locs : List Loc) (ls : Array Slot), ag61 u x1 x4 x6 x8 = some (r, u1) → TW D dA h u H → va_S (TA h) s.heap H locs → lv_has ls 10 [(0, .ref h), (1, .int x1), (4, .long x4), (6, .long x6), (8, .int x8)] → W p l e { frames := 72, cells := 0, slots := 0, locals := 2232 } s m args below meth c H locs 0 0 (MQ below (mt_Q D dA h (some (.long r)) u1) args s 0 0 (TA h)) (F0 m 61 ls []))) (u : TS) (x1 : Int32) (H : Heap) (locs : List Loc) (ls : Array Slot), fX7_plan_107 N ag61 u x1 = some (r, u1) → TW D dA h u H → va_S (TA h) s.heap H locs → lv_has ls 10 [(0, .ref h), (1, .int x1)] → W p l e { frames := 72, cells := 0, slots := 0, locals := 2232 } s m args below meth c H locs 0 0 (MQ below (mt_Q D dA h (some (.long r)) u1) args s 0 0 (TA h)) (F0 m 107 ls []) := by
    intro ag61 hag61 u x1 H locs ls hE hT hS hl
    unfold fX7_plan_107 at hE
    refine lv_aload_n hx hb dX7_plan_107 rfl (lv_at hl 0 rfl) ?_
    refine tg_least C hT dX7_plan_108 ?_
    refine z_nml hE (fun z7 hE => ?_)
    refine lv_lstore (lv' := [(4, .long z7), (0, .ref h), (1, .int x1)]) hx hb dX7_plan_111 hl (by decide) rfl (fun ls hl => ?_)
    refine lv_aload_n hx hb dX7_plan_113 rfl (lv_at hl 1 rfl) ?_
    refine tg_all C hT dX7_plan_114 ?_
    refine z_nml hE (fun z8 hE => ?_)
    refine lv_lstore (lv' := [(6, .long z8), (4, .long z7), (0, .ref h), (1, .int x1)]) hx hb dX7_plan_117 hl (by decide) rfl (fun ls hl => ?_)
    refine lv_iconst (v := (0 : Int32)) hx hb dX7_plan_119 rfl ?_
    refine lv_istore (lv' := [(9, .int (0 : Int32)), (6, .long z8), (4, .long z7), (0, .ref h), (1, .int x1)]) hx hb dX7_plan_120 hl (by decide) rfl (fun ls hl => ?_)
    exact w_122 ag61 hag61 N _ _ _ _ _ _ _ _ hE hT hS (lv_sub hl [3, 4, 2, 1, 0] rfl)
  have w_61 : ∀ (n : Nat) (u : TS) (x1 : Int32) (x4 : Int64) (x6 : Int64) (x8 : Int32) (H : Heap) (locs : List Loc) (ls : Array Slot), fX7_plan_61 N n u x1 x4 x6 x8 = some (r, u1) → TW D dA h u H → va_S (TA h) s.heap H locs → lv_has ls 10 [(0, .ref h), (1, .int x1), (4, .long x4), (6, .long x6), (8, .int x8)] → W p l e { frames := 72, cells := 0, slots := 0, locals := 2232 } s m args below meth c H locs 0 0 (MQ below (mt_Q D dA h (some (.long r)) u1) args s 0 0 (TA h)) (F0 m 61 ls []) := by
    intro n
    induction n with
    | zero =>
      intro u x1 x4 x6 x8 H locs ls hE hT hS hl
      cases (show (none : Option (Int64 × TS)) = some (r, u1) from hE)
    | succ n ih =>
      intro u x1 x4 x6 x8 H locs ls hE hT hS hl
      rw [fX7_plan_61] at hE
      refine lv_iload hx hb dX7_plan_61 (lv_at hl 4 rfl) ?_
      refine lv_if_eq (tgt := 160) hx hb dX7_plan_63 (by decide) (fun c9 => ?_) (fun c9 => ?_)
      · have hE := z_t c9 hE
        refine lv_aload_n hx hb dX7_plan_160 rfl (lv_at hl 0 rfl) ?_
        refine lv_iload_n hx hb dX7_plan_161 rfl (lv_at hl 1 rfl) ?_
        obtain ⟨u10, hc, hE⟩ := o_bd_some hE
        refine tc_X7_keeps C hT hS (kX7_keeps hc) rfl rfl ⟨Nat.le_of_ble_eq_true rfl, Nat.le_of_ble_eq_true rfl⟩ ⟨Nat.le_refl 0, Nat.le_refl 0⟩ dX7_plan_162 hl.1 (Nat.le_of_ble_eq_true rfl) (fun H locs hT hS => ?_)
        refine lv_lload hx hb dX7_plan_165 (lv_at hl 2 rfl) ?_
        exact mt_lret C hr hlocks hT hS hE dX7_plan_167
      · have hE := z_f c9 hE
        refine lv_aload_n hx hb dX7_plan_66 rfl (lv_at hl 0 rfl) ?_
        obtain ⟨r12, u11, hc, hE⟩ := o_bd2_some hE
        refine tc_X7_isAllowed C hT hS (kX7_isAllowed hc) rfl rfl ⟨Nat.le_of_ble_eq_true rfl, Nat.le_of_ble_eq_true rfl⟩ ⟨Nat.le_refl 0, Nat.le_refl 0⟩ dX7_plan_67 hl.1 (Nat.le_of_ble_eq_true rfl) (fun H locs hT hS => ?_)
        refine lv_if_eq (tgt := 151) hx hb dX7_plan_70 (by decide) (fun c13 => ?_) (fun c13 => ?_)
        · have hE := z_t c13 hE
          exact w_151 (fX7_plan_61 N n) ih _ _ _ _ _ _ _ hE hT hS (lv_sub hl [0, 1, 2, 3] rfl)
        · have hE := z_f c13 hE
          refine lv_aload_n hx hb dX7_plan_73 rfl (lv_at hl 0 rfl) ?_
          obtain ⟨u14, hc, hE⟩ := o_bd_some hE
          refine tc_X7_weigh C hT hS (kX7_weigh hc) rfl rfl ⟨Nat.le_of_ble_eq_true rfl, Nat.le_of_ble_eq_true rfl⟩ ⟨Nat.le_refl 0, Nat.le_refl 0⟩ dX7_plan_74 hl.1 (Nat.le_of_ble_eq_true rfl) (fun H locs hT hS => ?_)
          refine lv_aload_n hx hb dX7_plan_77 rfl (lv_at hl 0 rfl) ?_
          refine tg_least C hT dX7_plan_78 ?_
          refine lv_lload hx hb dX7_plan_81 (lv_at hl 2 rfl) ?_
          refine W.lcmp hx hb dX7_plan_83 ?_
          refine lv_if_gt (tgt := 107) hx hb dX7_plan_84 (by decide) (fun c15 => ?_) (fun c15 => ?_)
          · have hE := z_t c15 hE
            exact w_107 (fX7_plan_61 N n) ih _ _ _ _ _ hE hT hS (lv_sub hl [0, 1] rfl)
          · have hE := z_f c15 hE
            refine lv_aload_n hx hb dX7_plan_87 rfl (lv_at hl 0 rfl) ?_
            refine tg_least C hT dX7_plan_88 ?_
            refine lv_lload hx hb dX7_plan_91 (lv_at hl 2 rfl) ?_
            refine W.lcmp hx hb dX7_plan_93 ?_
            refine lv_if_ne (tgt := 151) hx hb dX7_plan_94 (by decide) (fun c16 => ?_) (fun c16 => ?_)
            · have hE := z_f c16 hE
              exact w_151 (fX7_plan_61 N n) ih _ _ _ _ _ _ _ hE hT hS (lv_sub hl [0, 1, 2, 3] rfl)
            · have hE := z_t c16 hE
              refine lv_aload_n hx hb dX7_plan_97 rfl (lv_at hl 0 rfl) ?_
              refine tg_all C hT dX7_plan_98 ?_
              refine lv_lload hx hb dX7_plan_101 (lv_at hl 3 rfl) ?_
              refine W.lcmp hx hb dX7_plan_103 ?_
              refine lv_if_le (tgt := 151) hx hb dX7_plan_104 (by decide) (fun c17 => ?_) (fun c17 => ?_)
              · have hE := z_t c17 hE
                exact w_151 (fX7_plan_61 N n) ih _ _ _ _ _ _ _ hE hT hS (lv_sub hl [0, 1, 2, 3] rfl)
              · have hE := z_f c17 hE
                exact w_107 (fX7_plan_61 N n) ih _ _ _ _ _ hE hT hS (lv_sub hl [0, 1] rfl)
  have w_27 : ∀ (n : Nat) (u : TS) (x1 : Int32) (x4 : Int32) (H : Heap) (locs : List Loc) (ls : Array Slot), fX7_plan_27 N n u x1 x4 = some (r, u1) → TW D dA h u H → va_S (TA h) s.heap H locs → lv_has ls 10 [(0, .ref h), (1, .int x1), (4, .int x4)] → W p l e { frames := 72, cells := 0, slots := 0, locals := 2232 } s m args below meth c H locs 0 0 (MQ below (mt_Q D dA h (some (.long r)) u1) args s 0 0 (TA h)) (F0 m 27 ls []) := by
    intro n
    induction n with
    | zero =>
      intro u x1 x4 H locs ls hE hT hS hl
      cases (show (none : Option (Int64 × TS)) = some (r, u1) from hE)
    | succ n ih =>
      intro u x1 x4 H locs ls hE hT hS hl
      rw [fX7_plan_27] at hE
      refine lv_iload hx hb dX7_plan_27 (lv_at hl 2 rfl) ?_
      refine lv_aload_n hx hb dX7_plan_29 rfl (lv_at hl 0 rfl) ?_
      refine tg_many C hT dX7_plan_30 ?_
      refine lv_icmp_ge (tgt := 50) hx hb dX7_plan_33 (by decide) (fun c18 => ?_) (fun c18 => ?_)
      · have hE := z_t c18 hE
        refine lv_ldc2 (v := (-1 : Int64)) hx hb C.1.2.2.2.1 (C.1.2.2.2.2 _ q1839) dX7_plan_50 ?_
        refine lv_lstore (lv' := [(4, .long (-1 : Int64)), (0, .ref h), (1, .int x1)]) hx hb dX7_plan_53 hl (by decide) rfl (fun ls hl => ?_)
        refine lv_lconst (v := (0 : Int64)) hx hb dX7_plan_55 rfl ?_
        refine lv_lstore (lv' := [(6, .long (0 : Int64)), (4, .long (-1 : Int64)), (0, .ref h), (1, .int x1)]) hx hb dX7_plan_56 hl (by decide) rfl (fun ls hl => ?_)
        refine lv_iconst (v := (1 : Int32)) hx hb dX7_plan_58 rfl ?_
        refine lv_istore (lv' := [(8, .int (1 : Int32)), (6, .long (0 : Int64)), (4, .long (-1 : Int64)), (0, .ref h), (1, .int x1)]) hx hb dX7_plan_59 hl (by decide) rfl (fun ls hl => ?_)
        exact w_61 N _ _ _ _ _ _ _ _ hE hT hS (lv_sub hl [3, 4, 2, 1, 0] rfl)
      · have hE := z_f c18 hE
        refine lv_aload_n hx hb dX7_plan_36 rfl (lv_at hl 0 rfl) ?_
        refine tg_ten C hT dX7_plan_37 ?_
        refine lv_iload hx hb dX7_plan_40 (lv_at hl 2 rfl) ?_
        refine lv_iconst (v := (0 : Int32)) hx hb dX7_plan_42 rfl ?_
        refine ts_ten C hT hS hE dX7_plan_43 (fun u19 H locs hE hT hS => ?_)
        refine z_iinc (v := (x4 + (1 : Int32))) (lw := (fun y_ => [(4, .int y_), (0, .ref h), (1, .int x1)])) hx hb dX7_plan_44 hl hE (k := 2) rfl rfl (by decide) (fun _ => rfl) (fun z20 ls hE hl => ?_)
        refine lv_goto (tgt := 27) hx hb dX7_plan_47 (by decide) ?_
        exact ih _ _ _ _ _ _ hE hT hS (lv_sub hl [1, 2, 0] rfl)
  unfold fX7_plan at hE
  refine lv_aload_n hx hb dX7_plan_0 rfl (lv_at hl 0 rfl) ?_
  refine lv_iload_n hx hb dX7_plan_1 rfl (lv_at hl 1 rfl) ?_
  refine lv_iload_n hx hb dX7_plan_2 rfl (lv_at hl 2 rfl) ?_
  obtain ⟨r22, u21, hc, hE⟩ := o_bd2_some hE
  refine tc_X7_noSet C hT hS (kX7_noSet hc) rfl rfl ⟨Nat.le_of_ble_eq_true rfl, Nat.le_of_ble_eq_true rfl⟩ ⟨Nat.le_refl 0, Nat.le_refl 0⟩ dX7_plan_3 hl.1 (Nat.le_of_ble_eq_true rfl) (fun H locs hT hS => ?_)
  refine lv_istore_n (lv' := [(3, .int r22), (0, .ref h), (1, .int a1), (2, .int a2)]) hx hb dX7_plan_6 rfl hl (by decide) rfl (fun ls hl => ?_)
  refine lv_iload_n hx hb dX7_plan_7 rfl (lv_at hl 0 rfl) ?_
  refine lv_if_ge (tgt := 18) hx hb dX7_plan_8 (by decide) (fun c23 => ?_) (fun c23 => ?_)
  · have hE := z_t c23 hE
    refine lv_aload_n hx hb dX7_plan_18 rfl (lv_at hl 1 rfl) ?_
    refine lv_iload_n hx hb dX7_plan_19 rfl (lv_at hl 2 rfl) ?_
    refine lv_iload_n hx hb dX7_plan_20 rfl (lv_at hl 3 rfl) ?_
    obtain ⟨u24, hc, hE⟩ := o_bd_some hE
    refine tc_X7_layOut C hT hS (kX7_layOut hc) rfl rfl ⟨Nat.le_of_ble_eq_true rfl, Nat.le_of_ble_eq_true rfl⟩ ⟨Nat.le_refl 0, Nat.le_refl 0⟩ dX7_plan_21 hl.1 (Nat.le_of_ble_eq_true rfl) (fun H locs hT hS => ?_)
    refine lv_iconst (v := (0 : Int32)) hx hb dX7_plan_24 rfl ?_
    refine lv_istore (lv' := [(4, .int (0 : Int32)), (3, .int r22), (0, .ref h), (1, .int a1), (2, .int a2)]) hx hb dX7_plan_25 hl (by decide) rfl (fun ls hl => ?_)
    exact w_27 N _ _ _ _ _ _ hE hT hS (lv_sub hl [2, 3, 0] rfl)
  · have hE := z_f c23 hE
    refine lv_aload_n hx hb dX7_plan_11 rfl (lv_at hl 1 rfl) ?_
    refine lv_iload_n hx hb dX7_plan_12 rfl (lv_at hl 0 rfl) ?_
    obtain ⟨r26, u25, hc, hE⟩ := o_bd2_some hE
    refine tc_X7_refuse C hT hS (kX7_refuse hc) rfl rfl ⟨Nat.le_of_ble_eq_true rfl, Nat.le_of_ble_eq_true rfl⟩ ⟨Nat.le_refl 0, Nat.le_refl 0⟩ dX7_plan_13 hl.1 (Nat.le_of_ble_eq_true rfl) (fun H locs hT hS => ?_)
    refine lv_i2l hx hb dX7_plan_16 rfl ?_
    exact mt_lret C hr hlocks hT hS hE dX7_plan_17
theorem tc_X7_differing {r : Int32} {u u1 : TS} {rm : Room} (C : TC p m c cc nL s args D dA) (hT : TW D dA h u H) (hS : va_S (TA h) H0 H locs) (hM : Met l yX7_differing (ws_ yX7_differing cX7_differing 4 (some .int)) rm (va_Pc [.ref h] (mt_B D dA h u)) (mt_Q D dA h (some (.int r)) u1) 0 0 (TA h)) (hrc : rm.cells = 0) (hrs : rm.slots = 0) (hR : rm.frames + 1 ≤ R.frames ∧ 8 + (4 + 11) + rm.locals ≤ R.locals) (hf : cells + 0 ≤ R.cells ∧ slots + 0 ≤ R.slots) (d : decode cc pc = .ok (.invokevirtual 430, 3)) (hsz : ls.size = nL) (hro : (rest.map fun v => v.category).sum ≤ 8) (kk : ∀ (H1 : Heap) (locs1 : List Loc), TW D dA h u1 H1 → va_S (TA h) H0 H1 locs1 → W p l e R s m args below meth c H1 locs1 cells slots Q (F0 m (pc + 3) ls (.int r :: rest))) : W p l e R s m args below meth c H locs cells slots Q (F0 m pc ls (.ref h :: rest)) :=
  mt_call (v := (some (.int r))) (va_runV (As := []) (rest := rest) C.1 hM (cwV 0 C.1.2.2.2.2 (lw_V q2196 q2198 qs160 q177 q2199) rfl hrc hrs (by decide +kernel) hR) (mt_preV C.2 hT _) rfl rfl hsz rfl (lv_room hro) d hf) hS (fun _ z => z) (fun H1 locs1 a b _ _ => kk H1 locs1 a b)
set_option maxHeartbeats 4000000 in
set_option maxRecDepth 100000 in
theorem kX7_differing {l : Launch} {D : va_G} {dA : Nat → ClassId} {h N : Nat} {u u1 : TS} {r : Int32} (hE : fX7_differing N u = some (r, u1)) : Met l yX7_differing (ws_ yX7_differing cX7_differing 4 (some .int)) ({ frames := 1, cells := 0, slots := 0, locals := 22 }) (va_Pc [.ref h] (mt_B D dA h u)) (mt_Q D dA h (some (.int r)) u1) 0 0 (TA h) := by
  refine mt_met (by decide) rfl rfl rfl ?_
  intro p e s m args below meth c ls C hr hlocks hT hS hl
  have hx := C.1.1
  have hb := C.1.2.1
  have w_86 : ∀ (ag4 : TS → Int32 → Int32 → Option (Int32 × TS)) (hag4 : (∀ (u : TS) (x1 : Int32) (x2 : Int32) (H : Heap) (locs : List Loc) (ls : Array Slot), ag4 u x1 x2 = some (r, u1) → TW D dA h u H → va_S (TA h) s.heap H locs → lv_has ls 4 [(0, .ref h), (1, .int x1), (2, .int x2)] → W p l e { frames := 1, cells := 0, slots := 0, locals := 22 } s m args below meth c H locs 0 0 (MQ below (mt_Q D dA h (some (.int r)) u1) args s 0 0 (TA h)) (F0 m 4 ls []))) (u : TS) (x2 : Int32) (y0 : Int32) (y1 : Int32) (H : Heap) (locs : List Loc) (ls : Array Slot), fX7_differing_86 N ag4 u x2 y0 y1 = some (r, u1) → TW D dA h u H → va_S (TA h) s.heap H locs → lv_has ls 4 [(0, .ref h), (2, .int x2)] → W p l e { frames := 1, cells := 0, slots := 0, locals := 22 } s m args below meth c H locs 0 0 (MQ below (mt_Q D dA h (some (.int r)) u1) args s 0 0 (TA h)) (F0 m 86 ls [.int y1, .int y0]) := by
    intro ag4 hag4 u x2 y0 y1 H locs ls hE hT hS hl
    unfold fX7_differing_86 at hE
    refine lv_iadd hx hb dX7_differing_86 ?_
    refine z_nmi hE (fun z1 hE => ?_)
    refine lv_istore_n (lv' := [(1, .int z1), (0, .ref h), (2, .int x2)]) hx hb dX7_differing_87 rfl hl (by decide) rfl (fun ls hl => ?_)
    refine z_iinc (v := (x2 + (1 : Int32))) (lw := (fun y_ => [(2, .int y_), (1, .int z1), (0, .ref h)])) hx hb dX7_differing_88 hl hE (k := 2) rfl rfl (by decide) (fun _ => rfl) (fun z2 ls hE hl => ?_)
    refine lv_goto (tgt := 4) hx hb dX7_differing_91 (by decide) ?_
    exact hag4 _ _ _ _ _ _ hE hT hS (lv_sub hl [2, 1, 0] rfl)
  have w_85 : ∀ (ag4 : TS → Int32 → Int32 → Option (Int32 × TS)) (hag4 : (∀ (u : TS) (x1 : Int32) (x2 : Int32) (H : Heap) (locs : List Loc) (ls : Array Slot), ag4 u x1 x2 = some (r, u1) → TW D dA h u H → va_S (TA h) s.heap H locs → lv_has ls 4 [(0, .ref h), (1, .int x1), (2, .int x2)] → W p l e { frames := 1, cells := 0, slots := 0, locals := 22 } s m args below meth c H locs 0 0 (MQ below (mt_Q D dA h (some (.int r)) u1) args s 0 0 (TA h)) (F0 m 4 ls []))) (u : TS) (x2 : Int32) (y0 : Int32) (H : Heap) (locs : List Loc) (ls : Array Slot), fX7_differing_85 N ag4 u x2 y0 = some (r, u1) → TW D dA h u H → va_S (TA h) s.heap H locs → lv_has ls 4 [(0, .ref h), (2, .int x2)] → W p l e { frames := 1, cells := 0, slots := 0, locals := 22 } s m args below meth c H locs 0 0 (MQ below (mt_Q D dA h (some (.int r)) u1) args s 0 0 (TA h)) (F0 m 85 ls [.int y0]) := by
    intro ag4 hag4 u x2 y0 H locs ls hE hT hS hl
    unfold fX7_differing_85 at hE
    refine lv_iconst (v := (1 : Int32)) hx hb dX7_differing_85 rfl ?_
    exact w_86 ag4 hag4 _ _ _ _ _ _ _ hE hT hS (lv_sub hl [0, 1] rfl)
  have w_78 : ∀ (ag4 : TS → Int32 → Int32 → Option (Int32 × TS)) (hag4 : (∀ (u : TS) (x1 : Int32) (x2 : Int32) (H : Heap) (locs : List Loc) (ls : Array Slot), ag4 u x1 x2 = some (r, u1) → TW D dA h u H → va_S (TA h) s.heap H locs → lv_has ls 4 [(0, .ref h), (1, .int x1), (2, .int x2)] → W p l e { frames := 1, cells := 0, slots := 0, locals := 22 } s m args below meth c H locs 0 0 (MQ below (mt_Q D dA h (some (.int r)) u1) args s 0 0 (TA h)) (F0 m 4 ls []))) (u : TS) (x2 : Int32) (y0 : Int32) (y1 : Int32) (y2 : Int32) (H : Heap) (locs : List Loc) (ls : Array Slot), fX7_differing_78 N ag4 u x2 y0 y1 y2 = some (r, u1) → TW D dA h u H → va_S (TA h) s.heap H locs → lv_has ls 4 [(0, .ref h), (2, .int x2)] → W p l e { frames := 1, cells := 0, slots := 0, locals := 22 } s m args below meth c H locs 0 0 (MQ below (mt_Q D dA h (some (.int r)) u1) args s 0 0 (TA h)) (F0 m 78 ls [.int y2, .int y1, .int y0]) := by
    intro ag4 hag4 u x2 y0 y1 y2 H locs ls hE hT hS hl
    unfold fX7_differing_78 at hE
    refine lv_icmp_ne (tgt := 85) hx hb dX7_differing_78 (by decide) (fun c3 => ?_) (fun c3 => ?_)
    · have hE := z_f c3 hE
      exact w_85 ag4 hag4 _ _ _ _ _ _ hE hT hS (lv_sub hl [0, 1] rfl)
    · have hE := z_t c3 hE
      refine lv_iconst (v := (0 : Int32)) hx hb dX7_differing_81 rfl ?_
      refine lv_goto (tgt := 86) hx hb dX7_differing_82 (by decide) ?_
      exact w_86 ag4 hag4 _ _ _ _ _ _ _ hE hT hS (lv_sub hl [0, 1] rfl)
  have w_37 : ∀ (ag4 : TS → Int32 → Int32 → Option (Int32 × TS)) (hag4 : (∀ (u : TS) (x1 : Int32) (x2 : Int32) (H : Heap) (locs : List Loc) (ls : Array Slot), ag4 u x1 x2 = some (r, u1) → TW D dA h u H → va_S (TA h) s.heap H locs → lv_has ls 4 [(0, .ref h), (1, .int x1), (2, .int x2)] → W p l e { frames := 1, cells := 0, slots := 0, locals := 22 } s m args below meth c H locs 0 0 (MQ below (mt_Q D dA h (some (.int r)) u1) args s 0 0 (TA h)) (F0 m 4 ls []))) (u : TS) (x1 : Int32) (x2 : Int32) (y0 : Int32) (H : Heap) (locs : List Loc) (ls : Array Slot), fX7_differing_37 N ag4 u x1 x2 y0 = some (r, u1) → TW D dA h u H → va_S (TA h) s.heap H locs → lv_has ls 4 [(0, .ref h), (1, .int x1), (2, .int x2)] → W p l e { frames := 1, cells := 0, slots := 0, locals := 22 } s m args below meth c H locs 0 0 (MQ below (mt_Q D dA h (some (.int r)) u1) args s 0 0 (TA h)) (F0 m 37 ls [.int y0]) := by
    intro ag4 hag4 u x1 x2 y0 H locs ls hE hT hS hl
    unfold fX7_differing_37 at hE
    refine lv_istore_n (lv' := [(3, .int y0), (0, .ref h), (1, .int x1), (2, .int x2)]) hx hb dX7_differing_37 rfl hl (by decide) rfl (fun ls hl => ?_)
    refine lv_iload_n hx hb dX7_differing_38 rfl (lv_at hl 2 rfl) ?_
    refine lv_iload_n hx hb dX7_differing_39 rfl (lv_at hl 0 rfl) ?_
    refine lv_if_eq (tgt := 85) hx hb dX7_differing_40 (by decide) (fun c4 => ?_) (fun c4 => ?_)
    · have hE := z_t c4 hE
      exact w_85 ag4 hag4 _ _ _ _ _ _ hE hT hS (lv_sub hl [1, 3] rfl)
    · have hE := z_f c4 hE
      refine lv_aload_n hx hb dX7_differing_43 rfl (lv_at hl 1 rfl) ?_
      refine lv_aload_n hx hb dX7_differing_44 rfl (lv_at hl 1 rfl) ?_
      refine tg_who C hT dX7_differing_45 ?_
      refine lv_iload_n hx hb dX7_differing_48 rfl (lv_at hl 3 rfl) ?_
      refine tl_who C hT hE dX7_differing_49 (fun hE => ?_)
      refine z_nmi hE (fun v5 hE => ?_)
      refine lv_bipush (v := (12 : Int32)) hx hb dX7_differing_50 rfl ?_
      obtain ⟨r7, u6, hc, hE⟩ := o_bd2_some hE
      refine tc_X7_st C hT hS (kX7_st hc) rfl rfl ⟨Nat.le_of_ble_eq_true rfl, Nat.le_of_ble_eq_true rfl⟩ ⟨Nat.le_refl 0, Nat.le_refl 0⟩ dX7_differing_52 hl.1 (Nat.le_of_ble_eq_true rfl) (fun H locs hT hS => ?_)
      refine lv_aload_n hx hb dX7_differing_55 rfl (lv_at hl 1 rfl) ?_
      refine tg_ten C hT dX7_differing_56 ?_
      refine lv_iload_n hx hb dX7_differing_59 rfl (lv_at hl 3 rfl) ?_
      refine tl_ten C hT hE dX7_differing_60 (fun hE => ?_)
      refine z_nmi hE (fun v8 hE => ?_)
      refine lv_aload_n hx hb dX7_differing_61 rfl (lv_at hl 1 rfl) ?_
      refine tg_tens C hT dX7_differing_62 ?_
      refine lv_icmp_ne (tgt := 72) hx hb dX7_differing_65 (by decide) (fun c9 => ?_) (fun c9 => ?_)
      · have hE := z_f c9 hE
        refine lv_aload_n hx hb dX7_differing_72 rfl (lv_at hl 1 rfl) ?_
        refine tg_ten C hT dX7_differing_73 ?_
        refine lv_iload_n hx hb dX7_differing_76 rfl (lv_at hl 3 rfl) ?_
        refine tl_ten C hT hE dX7_differing_77 (fun hE => ?_)
        refine z_nmi hE (fun v10 hE => ?_)
        exact w_78 ag4 hag4 _ _ _ _ _ _ _ _ hE hT hS (lv_sub hl [1, 3] rfl)
      · have hE := z_t c9 hE
        refine lv_iconst (v := (-1 : Int32)) hx hb dX7_differing_68 rfl ?_
        refine lv_goto (tgt := 78) hx hb dX7_differing_69 (by decide) ?_
        exact w_78 ag4 hag4 _ _ _ _ _ _ _ _ hE hT hS (lv_sub hl [1, 3] rfl)
  have w_4 : ∀ (n : Nat) (u : TS) (x1 : Int32) (x2 : Int32) (H : Heap) (locs : List Loc) (ls : Array Slot), fX7_differing_4 N n u x1 x2 = some (r, u1) → TW D dA h u H → va_S (TA h) s.heap H locs → lv_has ls 4 [(0, .ref h), (1, .int x1), (2, .int x2)] → W p l e { frames := 1, cells := 0, slots := 0, locals := 22 } s m args below meth c H locs 0 0 (MQ below (mt_Q D dA h (some (.int r)) u1) args s 0 0 (TA h)) (F0 m 4 ls []) := by
    intro n
    induction n with
    | zero =>
      intro u x1 x2 H locs ls hE hT hS hl
      cases (show (none : Option (Int32 × TS)) = some (r, u1) from hE)
    | succ n ih =>
      intro u x1 x2 H locs ls hE hT hS hl
      rw [fX7_differing_4] at hE
      refine lv_iload_n hx hb dX7_differing_4 rfl (lv_at hl 2 rfl) ?_
      refine lv_aload_n hx hb dX7_differing_5 rfl (lv_at hl 0 rfl) ?_
      refine tg_many C hT dX7_differing_6 ?_
      refine lv_icmp_ge (tgt := 94) hx hb dX7_differing_9 (by decide) (fun c11 => ?_) (fun c11 => ?_)
      · have hE := z_t c11 hE
        refine lv_iload_n hx hb dX7_differing_94 rfl (lv_at hl 1 rfl) ?_
        exact mt_iret C hr hlocks hT hS hE dX7_differing_95
      · have hE := z_f c11 hE
        refine lv_aload_n hx hb dX7_differing_12 rfl (lv_at hl 0 rfl) ?_
        refine tg_s C hT dX7_differing_13 ?_
        refine lv_bipush (v := (9 : Int32)) hx hb dX7_differing_16 rfl ?_
        refine tl_s C hT hE dX7_differing_18 (fun hE => ?_)
        refine z_nmi hE (fun v12 hE => ?_)
        refine lv_aload_n hx hb dX7_differing_19 rfl (lv_at hl 0 rfl) ?_
        refine tg_who C hT dX7_differing_20 ?_
        refine lv_iload_n hx hb dX7_differing_23 rfl (lv_at hl 2 rfl) ?_
        refine tl_who C hT hE dX7_differing_24 (fun hE => ?_)
        refine z_nmi hE (fun v13 hE => ?_)
        refine lv_ishr hx hb dX7_differing_25 ?_
        refine lv_iconst (v := (1 : Int32)) hx hb dX7_differing_26 rfl ?_
        refine lv_iand hx hb dX7_differing_27 ?_
        refine lv_iconst (v := (1 : Int32)) hx hb dX7_differing_28 rfl ?_
        refine lv_icmp_ne (tgt := 36) hx hb dX7_differing_29 (by decide) (fun c14 => ?_) (fun c14 => ?_)
        · have hE := z_f c14 hE
          refine lv_iconst (v := (0 : Int32)) hx hb dX7_differing_36 rfl ?_
          exact w_37 (fX7_differing_4 N n) ih _ _ _ _ _ _ _ hE hT hS (lv_sub hl [0, 1, 2] rfl)
        · have hE := z_t c14 hE
          refine lv_iconst (v := (1 : Int32)) hx hb dX7_differing_32 rfl ?_
          refine lv_goto (tgt := 37) hx hb dX7_differing_33 (by decide) ?_
          exact w_37 (fX7_differing_4 N n) ih _ _ _ _ _ _ _ hE hT hS (lv_sub hl [0, 1, 2] rfl)
  unfold fX7_differing at hE
  refine lv_iconst (v := (0 : Int32)) hx hb dX7_differing_0 rfl ?_
  refine lv_istore_n (lv' := [(1, .int (0 : Int32)), (0, .ref h)]) hx hb dX7_differing_1 rfl hl (by decide) rfl (fun ls hl => ?_)
  refine lv_iconst (v := (0 : Int32)) hx hb dX7_differing_2 rfl ?_
  refine lv_istore_n (lv' := [(2, .int (0 : Int32)), (1, .int (0 : Int32)), (0, .ref h)]) hx hb dX7_differing_3 rfl hl (by decide) rfl (fun ls hl => ?_)
  exact w_4 N _ _ _ _ _ _ hE hT hS (lv_sub hl [2, 1, 0] rfl)
set_option maxHeartbeats 4000000 in
set_option maxRecDepth 100000 in
theorem kX7_anew {l : Launch} {D : va_G} {dA : Nat → ClassId} {h N : Nat} {u u1 : TS} {a1 : Int32} {a2 : Int32} {a3 : Int64} {r : Int32} (hE : fX7_anew N u a1 a2 a3 = some (r, u1)) : Met l yX7_anew (ws_ yX7_anew cX7_anew 10 (some .int)) ({ frames := 72, cells := 0, slots := 0, locals := 2232 }) (va_Pc [.ref h, .int a1, .int a2, .long a3] (mt_B D dA h u)) (mt_Q D dA h (some (.int r)) u1) 0 0 (TA h) := by
  refine mt_met (by decide) rfl rfl rfl ?_
  intro p e s m args below meth c ls C hr hlocks hT hS hl
  have hx := C.1.1
  have hb := C.1.2.1
  have w_50 : ∀ (u : TS) (H : Heap) (locs : List Loc) (ls : Array Slot), fX7_anew_50 N u = some (r, u1) → TW D dA h u H → va_S (TA h) s.heap H locs → lv_has ls 10 [(0, .ref h)] → W p l e { frames := 72, cells := 0, slots := 0, locals := 2232 } s m args below meth c H locs 0 0 (MQ below (mt_Q D dA h (some (.int r)) u1) args s 0 0 (TA h)) (F0 m 50 ls []) := by
    intro u H locs ls hE hT hS hl
    unfold fX7_anew_50 at hE
    refine lv_aload_n hx hb dX7_anew_50 rfl (lv_at hl 0 rfl) ?_
    refine lv_bipush (v := (-7 : Int32)) hx hb dX7_anew_51 rfl ?_
    obtain ⟨r2, u1, hc, hE⟩ := o_bd2_some hE
    refine tc_X7_refuse C hT hS (kX7_refuse hc) rfl rfl ⟨Nat.le_of_ble_eq_true rfl, Nat.le_of_ble_eq_true rfl⟩ ⟨Nat.le_refl 0, Nat.le_refl 0⟩ dX7_anew_53 hl.1 (Nat.le_of_ble_eq_true rfl) (fun H locs hT hS => ?_)
    exact mt_iret C hr hlocks hT hS hE dX7_anew_56
  have w_170 : ∀ (ag96 : TS → Int32 → Int64 → Int32 → Int32 → Option (Int32 × TS)) (hag96 : (∀ (u : TS) (x1 : Int32) (x3 : Int64) (x6 : Int32) (x7 : Int32) (H : Heap) (locs : List Loc) (ls : Array Slot), ag96 u x1 x3 x6 x7 = some (r, u1) → TW D dA h u H → va_S (TA h) s.heap H locs → lv_has ls 10 [(0, .ref h), (1, .int x1), (3, .long x3), (6, .int x6), (7, .int x7)] → W p l e { frames := 72, cells := 0, slots := 0, locals := 2232 } s m args below meth c H locs 0 0 (MQ below (mt_Q D dA h (some (.int r)) u1) args s 0 0 (TA h)) (F0 m 96 ls []))) (u : TS) (x1 : Int32) (x3 : Int64) (x6 : Int32) (H : Heap) (locs : List Loc) (ls : Array Slot), fX7_anew_170 N ag96 u x1 x3 x6 = some (r, u1) → TW D dA h u H → va_S (TA h) s.heap H locs → lv_has ls 10 [(0, .ref h), (1, .int x1), (3, .long x3), (6, .int x6)] → W p l e { frames := 72, cells := 0, slots := 0, locals := 2232 } s m args below meth c H locs 0 0 (MQ below (mt_Q D dA h (some (.int r)) u1) args s 0 0 (TA h)) (F0 m 170 ls []) := by
    intro ag96 hag96 u x1 x3 x6 H locs ls hE hT hS hl
    unfold fX7_anew_170 at hE
    refine lv_aload_n hx hb dX7_anew_170 rfl (lv_at hl 0 rfl) ?_
    obtain ⟨r4, u3, hc, hE⟩ := o_bd2_some hE
    refine tc_X7_goesUp C hT hS (kX7_goesUp hc) rfl rfl ⟨Nat.le_of_ble_eq_true rfl, Nat.le_of_ble_eq_true rfl⟩ ⟨Nat.le_refl 0, Nat.le_refl 0⟩ dX7_anew_171 hl.1 (Nat.le_of_ble_eq_true rfl) (fun H locs hT hS => ?_)
    refine lv_istore (lv' := [(7, .int r4), (0, .ref h), (1, .int x1), (3, .long x3), (6, .int x6)]) hx hb dX7_anew_174 hl (by decide) rfl (fun ls hl => ?_)
    refine lv_goto (tgt := 96) hx hb dX7_anew_176 (by decide) ?_
    exact hag96 _ _ _ _ _ _ _ _ hE hT hS (lv_sub hl [1, 2, 3, 4, 0] rfl)
  have w_141 : ∀ (ag96 : TS → Int32 → Int64 → Int32 → Int32 → Option (Int32 × TS)) (hag96 : (∀ (u : TS) (x1 : Int32) (x3 : Int64) (x6 : Int32) (x7 : Int32) (H : Heap) (locs : List Loc) (ls : Array Slot), ag96 u x1 x3 x6 x7 = some (r, u1) → TW D dA h u H → va_S (TA h) s.heap H locs → lv_has ls 10 [(0, .ref h), (1, .int x1), (3, .long x3), (6, .int x6), (7, .int x7)] → W p l e { frames := 72, cells := 0, slots := 0, locals := 2232 } s m args below meth c H locs 0 0 (MQ below (mt_Q D dA h (some (.int r)) u1) args s 0 0 (TA h)) (F0 m 96 ls []))) (n : Nat) (u : TS) (x1 : Int32) (x3 : Int64) (x6 : Int32) (x9 : Int32) (H : Heap) (locs : List Loc) (ls : Array Slot), fX7_anew_141 N ag96 n u x1 x3 x6 x9 = some (r, u1) → TW D dA h u H → va_S (TA h) s.heap H locs → lv_has ls 10 [(0, .ref h), (1, .int x1), (3, .long x3), (6, .int x6), (9, .int x9)] → W p l e { frames := 72, cells := 0, slots := 0, locals := 2232 } s m args below meth c H locs 0 0 (MQ below (mt_Q D dA h (some (.int r)) u1) args s 0 0 (TA h)) (F0 m 141 ls []) := by
    intro ag96 hag96 n
    induction n with
    | zero =>
      intro u x1 x3 x6 x9 H locs ls hE hT hS hl
      cases (show (none : Option (Int32 × TS)) = some (r, u1) from hE)
    | succ n ih =>
      intro u x1 x3 x6 x9 H locs ls hE hT hS hl
      rw [fX7_anew_141] at hE
      refine lv_iload hx hb dX7_anew_141 (lv_at hl 4 rfl) ?_
      refine lv_aload_n hx hb dX7_anew_143 rfl (lv_at hl 0 rfl) ?_
      refine tg_many C hT dX7_anew_144 ?_
      refine lv_icmp_ge (tgt := 170) hx hb dX7_anew_147 (by decide) (fun c5 => ?_) (fun c5 => ?_)
      · have hE := z_t c5 hE
        exact w_170 ag96 hag96 _ _ _ _ _ _ _ hE hT hS (lv_sub hl [0, 1, 2, 3] rfl)
      · have hE := z_f c5 hE
        refine lv_aload_n hx hb dX7_anew_150 rfl (lv_at hl 0 rfl) ?_
        refine tg_bestTen C hT dX7_anew_151 ?_
        refine lv_iload hx hb dX7_anew_154 (lv_at hl 4 rfl) ?_
        refine lv_aload_n hx hb dX7_anew_156 rfl (lv_at hl 0 rfl) ?_
        refine tg_ten C hT dX7_anew_157 ?_
        refine lv_iload hx hb dX7_anew_160 (lv_at hl 4 rfl) ?_
        refine tl_ten C hT hE dX7_anew_162 (fun hE => ?_)
        refine z_nmi hE (fun v6 hE => ?_)
        refine ts_bestTen C hT hS hE dX7_anew_163 (fun u7 H locs hE hT hS => ?_)
        refine z_iinc (v := (x9 + (1 : Int32))) (lw := (fun y_ => [(9, .int y_), (0, .ref h), (1, .int x1), (3, .long x3), (6, .int x6)])) hx hb dX7_anew_164 hl hE (k := 4) rfl rfl (by decide) (fun _ => rfl) (fun z8 ls hE hl => ?_)
        refine lv_goto (tgt := 141) hx hb dX7_anew_167 (by decide) ?_
        exact ih _ _ _ _ _ _ _ _ hE hT hS (lv_sub hl [1, 2, 3, 4, 0] rfl)
  have w_96 : ∀ (n : Nat) (u : TS) (x1 : Int32) (x3 : Int64) (x6 : Int32) (x7 : Int32) (H : Heap) (locs : List Loc) (ls : Array Slot), fX7_anew_96 N n u x1 x3 x6 x7 = some (r, u1) → TW D dA h u H → va_S (TA h) s.heap H locs → lv_has ls 10 [(0, .ref h), (1, .int x1), (3, .long x3), (6, .int x6), (7, .int x7)] → W p l e { frames := 72, cells := 0, slots := 0, locals := 2232 } s m args below meth c H locs 0 0 (MQ below (mt_Q D dA h (some (.int r)) u1) args s 0 0 (TA h)) (F0 m 96 ls []) := by
    intro n
    induction n with
    | zero =>
      intro u x1 x3 x6 x7 H locs ls hE hT hS hl
      cases (show (none : Option (Int32 × TS)) = some (r, u1) from hE)
    | succ n ih =>
      intro u x1 x3 x6 x7 H locs ls hE hT hS hl
      rw [fX7_anew_96] at hE
      refine lv_iload hx hb dX7_anew_96 (lv_at hl 4 rfl) ?_
      refine lv_if_eq (tgt := 179) hx hb dX7_anew_98 (by decide) (fun c9 => ?_) (fun c9 => ?_)
      · have hE := z_t c9 hE
        refine lv_iload hx hb dX7_anew_179 (lv_at hl 3 rfl) ?_
        refine lv_bipush (v := (8 : Int32)) hx hb dX7_anew_181 rfl ?_
        refine lv_icmp_ne (tgt := 193) hx hb dX7_anew_183 (by decide) (fun c10 => ?_) (fun c10 => ?_)
        · have hE := z_f c10 hE
          refine lv_aload_n hx hb dX7_anew_193 rfl (lv_at hl 0 rfl) ?_
          refine lv_iload_n hx hb dX7_anew_194 rfl (lv_at hl 1 rfl) ?_
          obtain ⟨u11, hc, hE⟩ := o_bd_some hE
          refine tc_X7_keeps C hT hS (kX7_keeps hc) rfl rfl ⟨Nat.le_of_ble_eq_true rfl, Nat.le_of_ble_eq_true rfl⟩ ⟨Nat.le_refl 0, Nat.le_refl 0⟩ dX7_anew_195 hl.1 (Nat.le_of_ble_eq_true rfl) (fun H locs hT hS => ?_)
          refine lv_iload hx hb dX7_anew_198 (lv_at hl 3 rfl) ?_
          exact mt_iret C hr hlocks hT hS hE dX7_anew_200
        · have hE := z_t c10 hE
          refine lv_aload_n hx hb dX7_anew_186 rfl (lv_at hl 0 rfl) ?_
          refine lv_bipush (v := (-7 : Int32)) hx hb dX7_anew_187 rfl ?_
          obtain ⟨r13, u12, hc, hE⟩ := o_bd2_some hE
          refine tc_X7_refuse C hT hS (kX7_refuse hc) rfl rfl ⟨Nat.le_of_ble_eq_true rfl, Nat.le_of_ble_eq_true rfl⟩ ⟨Nat.le_refl 0, Nat.le_refl 0⟩ dX7_anew_189 hl.1 (Nat.le_of_ble_eq_true rfl) (fun H locs hT hS => ?_)
          exact mt_iret C hr hlocks hT hS hE dX7_anew_192
      · have hE := z_f c9 hE
        refine lv_aload_n hx hb dX7_anew_101 rfl (lv_at hl 0 rfl) ?_
        obtain ⟨r15, u14, hc, hE⟩ := o_bd2_some hE
        refine tc_X7_isAllowed C hT hS (kX7_isAllowed hc) rfl rfl ⟨Nat.le_of_ble_eq_true rfl, Nat.le_of_ble_eq_true rfl⟩ ⟨Nat.le_refl 0, Nat.le_refl 0⟩ dX7_anew_102 hl.1 (Nat.le_of_ble_eq_true rfl) (fun H locs hT hS => ?_)
        refine lv_if_eq (tgt := 170) hx hb dX7_anew_105 (by decide) (fun c16 => ?_) (fun c16 => ?_)
        · have hE := z_t c16 hE
          exact w_170 (fX7_anew_96 N n) ih _ _ _ _ _ _ _ hE hT hS (lv_sub hl [0, 1, 2, 3] rfl)
        · have hE := z_f c16 hE
          refine lv_aload_n hx hb dX7_anew_108 rfl (lv_at hl 0 rfl) ?_
          obtain ⟨u17, hc, hE⟩ := o_bd_some hE
          refine tc_X7_weigh C hT hS (kX7_weigh hc) rfl rfl ⟨Nat.le_of_ble_eq_true rfl, Nat.le_of_ble_eq_true rfl⟩ ⟨Nat.le_refl 0, Nat.le_refl 0⟩ dX7_anew_109 hl.1 (Nat.le_of_ble_eq_true rfl) (fun H locs hT hS => ?_)
          refine lv_aload_n hx hb dX7_anew_112 rfl (lv_at hl 0 rfl) ?_
          obtain ⟨r19, u18, hc, hE⟩ := o_bd2_some hE
          refine tc_X7_differing C hT hS (kX7_differing hc) rfl rfl ⟨Nat.le_of_ble_eq_true rfl, Nat.le_of_ble_eq_true rfl⟩ ⟨Nat.le_refl 0, Nat.le_refl 0⟩ dX7_anew_113 hl.1 (Nat.le_of_ble_eq_true rfl) (fun H locs hT hS => ?_)
          refine lv_istore (lv' := [(8, .int r19), (0, .ref h), (1, .int x1), (3, .long x3), (6, .int x6), (7, .int x7)]) hx hb dX7_anew_116 hl (by decide) rfl (fun ls hl => ?_)
          refine lv_aload_n hx hb dX7_anew_118 rfl (lv_at hl 1 rfl) ?_
          refine tg_least C hT dX7_anew_119 ?_
          refine lv_lload_n hx hb dX7_anew_122 rfl (lv_at hl 3 rfl) ?_
          refine W.lcmp hx hb dX7_anew_123 ?_
          refine lv_if_lt (tgt := 170) hx hb dX7_anew_124 (by decide) (fun c20 => ?_) (fun c20 => ?_)
          · have hE := z_t c20 hE
            exact w_170 (fX7_anew_96 N n) ih _ _ _ _ _ _ _ hE hT hS (lv_sub hl [1, 2, 3, 4] rfl)
          · have hE := z_f c20 hE
            refine lv_iload hx hb dX7_anew_127 (lv_at hl 0 rfl) ?_
            refine lv_iload hx hb dX7_anew_129 (lv_at hl 4 rfl) ?_
            refine lv_icmp_ge (tgt := 170) hx hb dX7_anew_131 (by decide) (fun c21 => ?_) (fun c21 => ?_)
            · have hE := z_t c21 hE
              exact w_170 (fX7_anew_96 N n) ih _ _ _ _ _ _ _ hE hT hS (lv_sub hl [1, 2, 3, 4] rfl)
            · have hE := z_f c21 hE
              refine lv_iload hx hb dX7_anew_134 (lv_at hl 0 rfl) ?_
              refine lv_istore (lv' := [(6, .int r19), (8, .int r19), (0, .ref h), (1, .int x1), (3, .long x3), (7, .int x7)]) hx hb dX7_anew_136 hl (by decide) rfl (fun ls hl => ?_)
              refine lv_iconst (v := (0 : Int32)) hx hb dX7_anew_138 rfl ?_
              refine lv_istore (lv' := [(9, .int (0 : Int32)), (6, .int r19), (8, .int r19), (0, .ref h), (1, .int x1), (3, .long x3), (7, .int x7)]) hx hb dX7_anew_139 hl (by decide) rfl (fun ls hl => ?_)
              exact w_141 (fX7_anew_96 N n) ih N _ _ _ _ _ _ _ _ hE hT hS (lv_sub hl [3, 4, 5, 1, 0] rfl)
  have w_66 : ∀ (n : Nat) (u : TS) (x1 : Int32) (x3 : Int64) (x6 : Int32) (H : Heap) (locs : List Loc) (ls : Array Slot), fX7_anew_66 N n u x1 x3 x6 = some (r, u1) → TW D dA h u H → va_S (TA h) s.heap H locs → lv_has ls 10 [(0, .ref h), (1, .int x1), (3, .long x3), (6, .int x6)] → W p l e { frames := 72, cells := 0, slots := 0, locals := 2232 } s m args below meth c H locs 0 0 (MQ below (mt_Q D dA h (some (.int r)) u1) args s 0 0 (TA h)) (F0 m 66 ls []) := by
    intro n
    induction n with
    | zero =>
      intro u x1 x3 x6 H locs ls hE hT hS hl
      cases (show (none : Option (Int32 × TS)) = some (r, u1) from hE)
    | succ n ih =>
      intro u x1 x3 x6 H locs ls hE hT hS hl
      rw [fX7_anew_66] at hE
      refine lv_iload hx hb dX7_anew_66 (lv_at hl 3 rfl) ?_
      refine lv_aload_n hx hb dX7_anew_68 rfl (lv_at hl 0 rfl) ?_
      refine tg_many C hT dX7_anew_69 ?_
      refine lv_icmp_ge (tgt := 89) hx hb dX7_anew_72 (by decide) (fun c22 => ?_) (fun c22 => ?_)
      · have hE := z_t c22 hE
        refine lv_bipush (v := (8 : Int32)) hx hb dX7_anew_89 rfl ?_
        refine lv_istore (lv' := [(6, .int (8 : Int32)), (0, .ref h), (1, .int x1), (3, .long x3)]) hx hb dX7_anew_91 hl (by decide) rfl (fun ls hl => ?_)
        refine lv_iconst (v := (1 : Int32)) hx hb dX7_anew_93 rfl ?_
        refine lv_istore (lv' := [(7, .int (1 : Int32)), (6, .int (8 : Int32)), (0, .ref h), (1, .int x1), (3, .long x3)]) hx hb dX7_anew_94 hl (by decide) rfl (fun ls hl => ?_)
        exact w_96 N _ _ _ _ _ _ _ _ hE hT hS (lv_sub hl [2, 3, 4, 1, 0] rfl)
      · have hE := z_f c22 hE
        refine lv_aload_n hx hb dX7_anew_75 rfl (lv_at hl 0 rfl) ?_
        refine tg_ten C hT dX7_anew_76 ?_
        refine lv_iload hx hb dX7_anew_79 (lv_at hl 3 rfl) ?_
        refine lv_iconst (v := (0 : Int32)) hx hb dX7_anew_81 rfl ?_
        refine ts_ten C hT hS hE dX7_anew_82 (fun u23 H locs hE hT hS => ?_)
        refine z_iinc (v := (x6 + (1 : Int32))) (lw := (fun y_ => [(6, .int y_), (0, .ref h), (1, .int x1), (3, .long x3)])) hx hb dX7_anew_83 hl hE (k := 3) rfl rfl (by decide) (fun _ => rfl) (fun z24 ls hE hl => ?_)
        refine lv_goto (tgt := 66) hx hb dX7_anew_86 (by decide) ?_
        exact ih _ _ _ _ _ _ _ hE hT hS (lv_sub hl [1, 2, 3, 0] rfl)
  unfold fX7_anew at hE
  refine lv_aload_n hx hb dX7_anew_0 rfl (lv_at hl 0 rfl) ?_
  refine lv_iload_n hx hb dX7_anew_1 rfl (lv_at hl 1 rfl) ?_
  refine lv_iload_n hx hb dX7_anew_2 rfl (lv_at hl 2 rfl) ?_
  obtain ⟨r26, u25, hc, hE⟩ := o_bd2_some hE
  refine tc_X7_noSet C hT hS (kX7_noSet hc) rfl rfl ⟨Nat.le_of_ble_eq_true rfl, Nat.le_of_ble_eq_true rfl⟩ ⟨Nat.le_refl 0, Nat.le_refl 0⟩ dX7_anew_3 hl.1 (Nat.le_of_ble_eq_true rfl) (fun H locs hT hS => ?_)
  refine lv_istore (lv' := [(5, .int r26), (0, .ref h), (1, .int a1), (2, .int a2), (3, .long a3)]) hx hb dX7_anew_6 hl (by decide) rfl (fun ls hl => ?_)
  refine lv_iload hx hb dX7_anew_8 (lv_at hl 0 rfl) ?_
  refine lv_bipush (v := (-3 : Int32)) hx hb dX7_anew_10 rfl ?_
  refine lv_icmp_ne (tgt := 22) hx hb dX7_anew_12 (by decide) (fun c27 => ?_) (fun c27 => ?_)
  · have hE := z_f c27 hE
    refine lv_aload_n hx hb dX7_anew_22 rfl (lv_at hl 1 rfl) ?_
    refine tg_s C hT dX7_anew_23 ?_
    refine lv_bipush (v := (8 : Int32)) hx hb dX7_anew_26 rfl ?_
    refine tl_s C hT hE dX7_anew_28 (fun hE => ?_)
    refine z_nmi hE (fun v28 hE => ?_)
    refine lv_if_ne (tgt := 39) hx hb dX7_anew_29 (by decide) (fun c29 => ?_) (fun c29 => ?_)
    · have hE := z_f c29 hE
      refine lv_iload hx hb dX7_anew_39 (lv_at hl 0 rfl) ?_
      refine lv_if_lt (tgt := 50) hx hb dX7_anew_41 (by decide) (fun c30 => ?_) (fun c30 => ?_)
      · have hE := z_t c30 hE
        exact w_50 _ _ _ _ hE hT hS (lv_sub hl [1] rfl)
      · have hE := z_f c30 hE
        refine lv_lload_n hx hb dX7_anew_44 rfl (lv_at hl 4 rfl) ?_
        refine lv_lconst (v := (0 : Int64)) hx hb dX7_anew_45 rfl ?_
        refine W.lcmp hx hb dX7_anew_46 ?_
        refine lv_if_ge (tgt := 57) hx hb dX7_anew_47 (by decide) (fun c31 => ?_) (fun c31 => ?_)
        · have hE := z_t c31 hE
          refine lv_aload_n hx hb dX7_anew_57 rfl (lv_at hl 1 rfl) ?_
          refine lv_iload_n hx hb dX7_anew_58 rfl (lv_at hl 2 rfl) ?_
          refine lv_iload_n hx hb dX7_anew_59 rfl (lv_at hl 3 rfl) ?_
          obtain ⟨u32, hc, hE⟩ := o_bd_some hE
          refine tc_X7_layOut C hT hS (kX7_layOut hc) rfl rfl ⟨Nat.le_of_ble_eq_true rfl, Nat.le_of_ble_eq_true rfl⟩ ⟨Nat.le_refl 0, Nat.le_refl 0⟩ dX7_anew_60 hl.1 (Nat.le_of_ble_eq_true rfl) (fun H locs hT hS => ?_)
          refine lv_iconst (v := (0 : Int32)) hx hb dX7_anew_63 rfl ?_
          refine lv_istore (lv' := [(6, .int (0 : Int32)), (5, .int r26), (0, .ref h), (1, .int a1), (2, .int a2), (3, .long a3)]) hx hb dX7_anew_64 hl (by decide) rfl (fun ls hl => ?_)
          exact w_66 N _ _ _ _ _ _ _ hE hT hS (lv_sub hl [2, 3, 5, 0] rfl)
        · have hE := z_f c31 hE
          exact w_50 _ _ _ _ hE hT hS (lv_sub hl [1] rfl)
    · have hE := z_t c29 hE
      refine lv_aload_n hx hb dX7_anew_32 rfl (lv_at hl 1 rfl) ?_
      refine lv_bipush (v := (-2 : Int32)) hx hb dX7_anew_33 rfl ?_
      obtain ⟨r34, u33, hc, hE⟩ := o_bd2_some hE
      refine tc_X7_refuse C hT hS (kX7_refuse hc) rfl rfl ⟨Nat.le_of_ble_eq_true rfl, Nat.le_of_ble_eq_true rfl⟩ ⟨Nat.le_refl 0, Nat.le_refl 0⟩ dX7_anew_35 hl.1 (Nat.le_of_ble_eq_true rfl) (fun H locs hT hS => ?_)
      exact mt_iret C hr hlocks hT hS hE dX7_anew_38
  · have hE := z_t c27 hE
    refine lv_aload_n hx hb dX7_anew_15 rfl (lv_at hl 1 rfl) ?_
    refine lv_bipush (v := (-3 : Int32)) hx hb dX7_anew_16 rfl ?_
    obtain ⟨r36, u35, hc, hE⟩ := o_bd2_some hE
    refine tc_X7_refuse C hT hS (kX7_refuse hc) rfl rfl ⟨Nat.le_of_ble_eq_true rfl, Nat.le_of_ble_eq_true rfl⟩ ⟨Nat.le_refl 0, Nat.le_refl 0⟩ dX7_anew_18 hl.1 (Nat.le_of_ble_eq_true rfl) (fun H locs hT hS => ?_)
    exact mt_iret C hr hlocks hT hS hE dX7_anew_21
end TRG7
