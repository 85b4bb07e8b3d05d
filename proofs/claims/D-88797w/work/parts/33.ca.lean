section CG200
variable {p : Program} {l : Launch} {e : Env} {R : Room} {s : State} {m : MethodId} {args : Array Value} {below : List Frame} {meth : Method} {c : Code} {H : Heap} {locs : List Loc} {cells slots : Nat} {Q : State → Prop} {cc : ByteArray} {nL pc : Nat} {ls : Array Slot} {rest : List Value} {D : va_G} {dA : Nat → ClassId} {h : Nat} {H0 : Heap}
theorem ci_X8_21 {n0 : Nat} {u u1 : CS} {rm : Room} (C : CC p m c cc nL s args D dA RX8) (hW : wc_W D dA h u H) (hS : wc_S u) (hV : va_S (CA h) H0 H locs) (hM : Met l yX8_init (ws_ yX8_init cX8_init 1 none) rm (va_Pc [.ref (h + n0)] (wc_St D dA h u)) (wc_Qr D dA h none u1) 0 0 (CA h)) (hrc : rm.cells = 0) (hrs : rm.slots = 0) (hR : rm.frames + 1 ≤ R.frames ∧ 8 + (1 + 11) + rm.locals ≤ R.locals) (hf : cells + 0 ≤ R.cells ∧ slots + 0 ≤ R.slots) (d : decode cc pc = .ok (.invokespecial 21, 3)) (hsz : ls.size = nL) (hro : (rest.map fun v => v.category).sum ≤ 8) (kk : ∀ (H1 : Heap) (locs1 : List Loc), wc_W D dA h u1 H1 → wc_S u1 → va_S (CA h) H0 H1 locs1 → W p l e R s m args below meth c H1 locs1 cells slots Q (F0 m (pc + 3) ls (rest))) : W p l e R s m args below meth c H locs cells slots Q (F0 m pc ls (.ref (h + n0) :: rest)) :=
  wc_call (v := none) (va_runI (As := []) (rest := rest) C.1 hM (cwI 0 C.1.2.2.2.2 (lw_meth q959) rfl hrc hrs (C.1.2.2.2.2 _ q180) (C.1.2.2.2.2 _ q1538) (C.1.2.2.2.2 _ q958) rfl (by decide +kernel) hR) (wc_preS C.2 hW hS _) rfl rfl hsz rfl (lv_room hro) d hf) hV (fun _ z => z) (fun H1 locs1 a b c0 _ _ => kk H1 locs1 a b c0)
theorem ci_X1_282 {n0 : Nat} {u u1 : CS} {rm : Room} (C : CC p m c cc nL s args D dA RX1) (hW : wc_W D dA h u H) (hS : wc_S u) (hV : va_S (CA h) H0 H locs) (hM : Met l yX8_init (ws_ yX8_init cX8_init 1 none) rm (va_Pc [.ref (h + n0)] (wc_St D dA h u)) (wc_Qr D dA h none u1) 0 0 (CA h)) (hrc : rm.cells = 0) (hrs : rm.slots = 0) (hR : rm.frames + 1 ≤ R.frames ∧ 8 + (1 + 11) + rm.locals ≤ R.locals) (hf : cells + 0 ≤ R.cells ∧ slots + 0 ≤ R.slots) (d : decode cc pc = .ok (.invokespecial 282, 3)) (hsz : ls.size = nL) (hro : (rest.map fun v => v.category).sum ≤ 8) (kk : ∀ (H1 : Heap) (locs1 : List Loc), wc_W D dA h u1 H1 → wc_S u1 → va_S (CA h) H0 H1 locs1 → W p l e R s m args below meth c H1 locs1 cells slots Q (F0 m (pc + 3) ls (rest))) : W p l e R s m args below meth c H locs cells slots Q (F0 m pc ls (.ref (h + n0) :: rest)) :=
  wc_call (v := none) (va_runIN (As := []) (rest := rest) C.1 hM ⟨va_cnB 0 C.1.2.2.2.2 (lw_meth q959) rfl hrc hrs (C.2.2.at q1333 rfl) (C.1.2.2.2.2 _ q180) (by decide +kernel) hR, rfl, C.1.2.2.2.2 _ q958⟩ (wc_preS C.2 hW hS _) rfl rfl hsz rfl (lv_room hro) d hf) hV (fun _ z => z) (fun H1 locs1 a b c0 _ _ => kk H1 locs1 a b c0)
theorem ci_X16_1 {n0 : Nat} {u u1 : CS} {rm : Room} (C : CC p m c cc nL s args D dA RX16) (hW : wc_W D dA h u H) (hS : wc_S u) (hV : va_S (CA h) H0 H locs) (hM : Met l yX8_init (ws_ yX8_init cX8_init 1 none) rm (va_Pc [.ref (h + n0)] (wc_St D dA h u)) (wc_Qr D dA h none u1) 0 0 (CA h)) (hrc : rm.cells = 0) (hrs : rm.slots = 0) (hR : rm.frames + 1 ≤ R.frames ∧ 8 + (1 + 11) + rm.locals ≤ R.locals) (hf : cells + 0 ≤ R.cells ∧ slots + 0 ≤ R.slots) (d : decode cc pc = .ok (.invokespecial 1, 3)) (hsz : ls.size = nL) (hro : (rest.map fun v => v.category).sum ≤ 8) (kk : ∀ (H1 : Heap) (locs1 : List Loc), wc_W D dA h u1 H1 → wc_S u1 → va_S (CA h) H0 H1 locs1 → W p l e R s m args below meth c H1 locs1 cells slots Q (F0 m (pc + 3) ls (rest))) : W p l e R s m args below meth c H locs cells slots Q (F0 m pc ls (.ref (h + n0) :: rest)) :=
  wc_call (v := none) (va_runIN (As := []) (rest := rest) C.1 hM ⟨va_cnB 0 C.1.2.2.2.2 (lw_meth q959) rfl hrc hrs (C.2.2.at q1310 rfl) (C.1.2.2.2.2 _ q180) (by decide +kernel) hR, rfl, C.1.2.2.2.2 _ q958⟩ (wc_preS C.2 hW hS _) rfl rfl hsz rfl (lv_room hro) d hf) hV (fun _ z => z) (fun H1 locs1 a b c0 _ _ => kk H1 locs1 a b c0)
theorem ci_X9_3 {n0 : Nat} {u u1 : CS} {rm : Room} (C : CC p m c cc nL s args D dA RX9) (hW : wc_W D dA h u H) (hS : wc_S u) (hV : va_S (CA h) H0 H locs) (hM : Met l yX8_init (ws_ yX8_init cX8_init 1 none) rm (va_Pc [.ref (h + n0)] (wc_St D dA h u)) (wc_Qr D dA h none u1) 0 0 (CA h)) (hrc : rm.cells = 0) (hrs : rm.slots = 0) (hR : rm.frames + 1 ≤ R.frames ∧ 8 + (1 + 11) + rm.locals ≤ R.locals) (hf : cells + 0 ≤ R.cells ∧ slots + 0 ≤ R.slots) (d : decode cc pc = .ok (.invokespecial 3, 3)) (hsz : ls.size = nL) (hro : (rest.map fun v => v.category).sum ≤ 8) (kk : ∀ (H1 : Heap) (locs1 : List Loc), wc_W D dA h u1 H1 → wc_S u1 → va_S (CA h) H0 H1 locs1 → W p l e R s m args below meth c H1 locs1 cells slots Q (F0 m (pc + 3) ls (rest))) : W p l e R s m args below meth c H locs cells slots Q (F0 m pc ls (.ref (h + n0) :: rest)) :=
  wc_call (v := none) (va_runIN (As := []) (rest := rest) C.1 hM ⟨va_cnB 0 C.1.2.2.2.2 (lw_meth q959) rfl hrc hrs (C.2.2.at q957 rfl) (C.1.2.2.2.2 _ q180) (by decide +kernel) hR, rfl, C.1.2.2.2.2 _ q958⟩ (wc_preS C.2 hW hS _) rfl rfl hsz rfl (lv_room hro) d hf) hV (fun _ z => z) (fun H1 locs1 a b c0 _ _ => kk H1 locs1 a b c0)
set_option maxHeartbeats 4000000 in
set_option maxRecDepth 100000 in
theorem kX8_init {l : Launch} {D : va_G} {dA : Nat → ClassId} {h N : Nat} {n0 : Nat} {u u_ : CS} (hE : fX8_init N u n0 = some u_) : Met l yX8_init (ws_ yX8_init cX8_init 1 none) ({ frames := 1, cells := 0, slots := 0, locals := 24 }) (va_Pc [.ref (h + n0)] (wc_St D dA h u)) (wc_Qr D dA h none u_) 0 0 (CA h) := by
  refine wc_metI (own := RX8) (lv := [(0, .ref (h + n0))]) rfl (by decide) rfl rfl rfl ?_
  intro p e s m args below meth c ls C hnm0 hr hlocks hW hS hV hl
  have hx := C.1.1
  have hb := C.1.2.1
  unfold fX8_init at hE
  refine lv_aload_n hx hb dX8_init_0 rfl (lv_at hl 0 rfl) ?_
  refine W.objInit hx hb C.1.2.2.2.1 (C.1.2.2.2.2 _ q960) (C.1.2.2.2.2 _ q199) (C.1.2.2.2.2 _ q200) rfl (by rw [C.1.2.2.1]; exact hl.1) rfl dX8_init_1 (Nat.le_of_ble_eq_true rfl) (Nat.le_of_ble_eq_true rfl) ?_
  refine W.eq (g2 := F0 m 4 ls []) rfl ?_
  exact wc_vret C hr hlocks hW hS hV hE dX8_init_4
theorem ci_X16_24 {n0 : Nat} {u u1 : CS} {rm : Room} (C : CC p m c cc nL s args D dA RX16) (hW : wc_W D dA h u H) (hS : wc_S u) (hV : va_S (CA h) H0 H locs) (hM : Met l yX16_init (ws_ yX16_init cX16_init 1 none) rm (va_Pc [.ref (h + n0)] (wc_St D dA h u)) (wc_Qr D dA h none u1) 0 0 (CA h)) (hrc : rm.cells = 0) (hrs : rm.slots = 0) (hR : rm.frames + 1 ≤ R.frames ∧ 8 + (1 + 11) + rm.locals ≤ R.locals) (hf : cells + 0 ≤ R.cells ∧ slots + 0 ≤ R.slots) (d : decode cc pc = .ok (.invokespecial 24, 3)) (hsz : ls.size = nL) (hro : (rest.map fun v => v.category).sum ≤ 8) (kk : ∀ (H1 : Heap) (locs1 : List Loc), wc_W D dA h u1 H1 → wc_S u1 → va_S (CA h) H0 H1 locs1 → W p l e R s m args below meth c H1 locs1 cells slots Q (F0 m (pc + 3) ls (rest))) : W p l e R s m args below meth c H locs cells slots Q (F0 m pc ls (.ref (h + n0) :: rest)) :=
  wc_call (v := none) (va_runI (As := []) (rest := rest) C.1 hM (cwI 0 C.1.2.2.2.2 (lw_meth q1309) rfl hrc hrs (C.1.2.2.2.2 _ q189) (C.1.2.2.2.2 _ q1530) (C.1.2.2.2.2 _ q1308) rfl (by decide +kernel) hR) (wc_preS C.2 hW hS _) rfl rfl hsz rfl (lv_room hro) d hf) hV (fun _ z => z) (fun H1 locs1 a b c0 _ _ => kk H1 locs1 a b c0)
theorem ci_X1_274 {n0 : Nat} {u u1 : CS} {rm : Room} (C : CC p m c cc nL s args D dA RX1) (hW : wc_W D dA h u H) (hS : wc_S u) (hV : va_S (CA h) H0 H locs) (hM : Met l yX16_init (ws_ yX16_init cX16_init 1 none) rm (va_Pc [.ref (h + n0)] (wc_St D dA h u)) (wc_Qr D dA h none u1) 0 0 (CA h)) (hrc : rm.cells = 0) (hrs : rm.slots = 0) (hR : rm.frames + 1 ≤ R.frames ∧ 8 + (1 + 11) + rm.locals ≤ R.locals) (hf : cells + 0 ≤ R.cells ∧ slots + 0 ≤ R.slots) (d : decode cc pc = .ok (.invokespecial 274, 3)) (hsz : ls.size = nL) (hro : (rest.map fun v => v.category).sum ≤ 8) (kk : ∀ (H1 : Heap) (locs1 : List Loc), wc_W D dA h u1 H1 → wc_S u1 → va_S (CA h) H0 H1 locs1 → W p l e R s m args below meth c H1 locs1 cells slots Q (F0 m (pc + 3) ls (rest))) : W p l e R s m args below meth c H locs cells slots Q (F0 m pc ls (.ref (h + n0) :: rest)) :=
  wc_call (v := none) (va_runIN (As := []) (rest := rest) C.1 hM ⟨va_cnB 0 C.1.2.2.2.2 (lw_meth q1309) rfl hrc hrs (C.2.2.at q1307 rfl) (C.1.2.2.2.2 _ q189) (by decide +kernel) hR, rfl, C.1.2.2.2.2 _ q1308⟩ (wc_preS C.2 hW hS _) rfl rfl hsz rfl (lv_room hro) d hf) hV (fun _ z => z) (fun H1 locs1 a b c0 _ _ => kk H1 locs1 a b c0)
set_option maxHeartbeats 4000000 in
set_option maxRecDepth 100000 in
theorem kX16_init {l : Launch} {D : va_G} {dA : Nat → ClassId} {h N : Nat} {n0 : Nat} {u u_ : CS} (hE : fX16_init N u n0 = some u_) : Met l yX16_init (ws_ yX16_init cX16_init 1 none) ({ frames := 2, cells := 0, slots := 0, locals := 44 }) (va_Pc [.ref (h + n0)] (wc_St D dA h u)) (wc_Qr D dA h none u_) 0 0 (CA h) := by
  refine wc_metI (own := RX16) (lv := [(0, .ref (h + n0))]) rfl (by decide) rfl rfl rfl ?_
  intro p e s m args below meth c ls C hnm0 hr hlocks hW hS hV hl
  have hx := C.1.1
  have hb := C.1.2.1
  unfold fX16_init at hE
  refine lv_aload_n hx hb dX16_init_0 rfl (lv_at hl 0 rfl) ?_
  obtain ⟨u2, hc, hE⟩ := o_bd_some hE
  refine ci_X16_1 C hW hS hV (kX8_init hc) rfl rfl ⟨Nat.le_of_ble_eq_true rfl, Nat.le_of_ble_eq_true rfl⟩ ⟨Nat.le_refl 0, Nat.le_refl 0⟩ dX16_init_1 hl.1 (Nat.le_of_ble_eq_true rfl) (fun H locs hW hS hV => ?_)
  exact wc_vret C hr hlocks hW hS hV hE dX16_init_4
theorem ci_X9_15 {n0 : Nat} {u u1 : CS} {rm : Room} (C : CC p m c cc nL s args D dA RX9) (hW : wc_W D dA h u H) (hS : wc_S u) (hV : va_S (CA h) H0 H locs) (hM : Met l yX9_init (ws_ yX9_init cX9_init 1 none) rm (va_Pc [.ref (h + n0)] (wc_St D dA h u)) (wc_Qr D dA h none u1) 0 0 (CA h)) (hrc : rm.cells = 0) (hrs : rm.slots = 0) (hR : rm.frames + 1 ≤ R.frames ∧ 8 + (1 + 11) + rm.locals ≤ R.locals) (hf : cells + 0 ≤ R.cells ∧ slots + 0 ≤ R.slots) (d : decode cc pc = .ok (.invokespecial 15, 3)) (hsz : ls.size = nL) (hro : (rest.map fun v => v.category).sum ≤ 8) (kk : ∀ (H1 : Heap) (locs1 : List Loc), wc_W D dA h u1 H1 → wc_S u1 → va_S (CA h) H0 H1 locs1 → W p l e R s m args below meth c H1 locs1 cells slots Q (F0 m (pc + 3) ls (rest))) : W p l e R s m args below meth c H locs cells slots Q (F0 m pc ls (.ref (h + n0) :: rest)) :=
  wc_call (v := none) (va_runI (As := []) (rest := rest) C.1 hM (cwI 0 C.1.2.2.2.2 (lw_meth q956) rfl hrc hrs (C.1.2.2.2.2 _ q181) (C.1.2.2.2.2 _ q1535) (C.1.2.2.2.2 _ q955) rfl (by decide +kernel) hR) (wc_preS C.2 hW hS _) rfl rfl hsz rfl (lv_room hro) d hf) hV (fun _ z => z) (fun H1 locs1 a b c0 _ _ => kk H1 locs1 a b c0)
theorem ci_X0_303 {n0 : Nat} {u u1 : CS} {rm : Room} (C : CC p m c cc nL s args D dA RX0) (hW : wc_W D dA h u H) (hS : wc_S u) (hV : va_S (CA h) H0 H locs) (hM : Met l yX9_init (ws_ yX9_init cX9_init 1 none) rm (va_Pc [.ref (h + n0)] (wc_St D dA h u)) (wc_Qr D dA h none u1) 0 0 (CA h)) (hrc : rm.cells = 0) (hrs : rm.slots = 0) (hR : rm.frames + 1 ≤ R.frames ∧ 8 + (1 + 11) + rm.locals ≤ R.locals) (hf : cells + 0 ≤ R.cells ∧ slots + 0 ≤ R.slots) (d : decode cc pc = .ok (.invokespecial 303, 3)) (hsz : ls.size = nL) (hro : (rest.map fun v => v.category).sum ≤ 8) (kk : ∀ (H1 : Heap) (locs1 : List Loc), wc_W D dA h u1 H1 → wc_S u1 → va_S (CA h) H0 H1 locs1 → W p l e R s m args below meth c H1 locs1 cells slots Q (F0 m (pc + 3) ls (rest))) : W p l e R s m args below meth c H locs cells slots Q (F0 m pc ls (.ref (h + n0) :: rest)) :=
  wc_call (v := none) (va_runIN (As := []) (rest := rest) C.1 hM ⟨va_cnB 0 C.1.2.2.2.2 (lw_meth q956) rfl hrc hrs (C.2.2.at q954 rfl) (C.1.2.2.2.2 _ q181) (by decide +kernel) hR, rfl, C.1.2.2.2.2 _ q955⟩ (wc_preS C.2 hW hS _) rfl rfl hsz rfl (lv_room hro) d hf) hV (fun _ z => z) (fun H1 locs1 a b c0 _ _ => kk H1 locs1 a b c0)
set_option maxHeartbeats 4000000 in
set_option maxRecDepth 100000 in
theorem kX9_init {l : Launch} {D : va_G} {dA : Nat → ClassId} {h N : Nat} {n0 : Nat} {u u_ : CS} (hE : fX9_init N u n0 = some u_) : Met l yX9_init (ws_ yX9_init cX9_init 1 none) ({ frames := 2, cells := 0, slots := 0, locals := 44 }) (va_Pc [.ref (h + n0)] (wc_St D dA h u)) (wc_Qr D dA h none u_) 0 0 (CA h) := by
  refine wc_metI (own := RX9) (lv := [(0, .ref (h + n0))]) rfl (by decide) rfl rfl rfl ?_
  intro p e s m args below meth c ls C hnm0 hr hlocks hW hS hV hl
  have hx := C.1.1
  have hb := C.1.2.1
  unfold fX9_init at hE
  refine lv_aload_n hx hb dX9_init_0 rfl (lv_at hl 0 rfl) ?_
  obtain ⟨u2, hc, hE⟩ := o_bd_some hE
  refine ci_X9_3 C hW hS hV (kX8_init hc) rfl rfl ⟨Nat.le_of_ble_eq_true rfl, Nat.le_of_ble_eq_true rfl⟩ ⟨Nat.le_refl 0, Nat.le_refl 0⟩ dX9_init_1 hl.1 (Nat.le_of_ble_eq_true rfl) (fun H locs hW hS hV => ?_)
  exact wc_vret C hr hlocks hW hS hV hE dX9_init_4
theorem ca_X2_19 {n0 : Nat} {r : Option Nat} {mc ms : Nat} {u u1 : CS} {rm : Room} (C : CC p m c cc nL s args D dA RX2) (hW : wc_W D dA h u H) (hS : wc_S u) (hV : va_S (CA h) H0 H locs) (ht : wc_T u n0 = some (.inl 8)) (hM : Met l yX8_another (ws_ yX8_another cX8_another 1 (some (.object "WoodState$Lot"))) rm (va_Pc [.ref (h + n0)] (wc_St D dA h u)) (wc_Qr D dA h (some (wc_rf h r)) u1) mc ms (CA h)) (hrc : rm.cells = mc) (hrs : rm.slots = ms) (hR : rm.frames + 1 ≤ R.frames ∧ 8 + (1 + 11) + rm.locals ≤ R.locals) (hf : cells + mc ≤ R.cells ∧ slots + ms ≤ R.slots) (d : decode cc pc = .ok (.invokevirtual 19, 3)) (hsz : ls.size = nL) (hro : (rest.map fun v => v.category).sum ≤ 8) (kk : ∀ (H1 : Heap) (locs1 : List Loc), wc_W D dA h u1 H1 → wc_S u1 → va_S (CA h) H0 H1 locs1 → W p l e R s m args below meth c H1 locs1 (cells + mc) (slots + ms) Q (F0 m (pc + 3) ls (wc_rf h r :: rest))) : W p l e R s m args below meth c H locs cells slots Q (F0 m pc ls (.ref (h + n0) :: rest)) :=
  wc_call (v := (some (wc_rf h r))) (va_runV (As := []) (rest := rest) C.1 hM (cwV 0 C.1.2.2.2.2 (lw_V q1522 q1523 q1524 q180 q1536) rfl hrc hrs (by decide +kernel) hR) (wc_preV (q := (RX8, TX8, 3)) C.2 hW hS ht rfl _) rfl rfl hsz rfl (lv_room hro) d hf) hV (fun _ z => z) (fun H1 locs1 a b c0 _ _ => kk H1 locs1 a b c0)
set_option maxHeartbeats 4000000 in
set_option maxRecDepth 100000 in
theorem kX8_another {l : Launch} {D : va_G} {dA : Nat → ClassId} {h N z0 : Nat} {n0 : Nat} {u u1 : CS} {r : Option Nat} (hz0 : wc_z u = z0) (hz1 : wc_z u ≤ wc_z u1) (hE : fX8_another N u n0 = some (r, u1)) : Met l yX8_another (ws_ yX8_another cX8_another 1 (some (.object "WoodState$Lot"))) ({ frames := 2, cells := wc_z u1 - z0, slots := 4 * (wc_z u1 - z0), locals := 44 }) (va_Pc [.ref (h + n0)] (wc_St D dA h u)) (wc_Qr D dA h (some (wc_rf h r)) u1) (wc_z u1 - z0) (4 * (wc_z u1 - z0)) (CA h) := by
  refine wa_met (own := RX8) (lv := [(0, .ref (h + n0))]) hz0 (by decide) rfl rfl rfl ?_
  intro p e s m args below meth c ls C hr hlocks hW hS hV hl
  have hx := C.1.1
  have hb := C.1.2.1
  have hZ : z0 ≤ wc_z u ∧ wc_z u ≤ wc_z u1 := ⟨by omega, hz1⟩
  unfold fX8_another at hE
  obtain ⟨hq_, hE⟩ := o_zc_some hE
  have hq_ : wc_z u + 1 ≤ wc_z u1 := hq_
  refine wa_newE (ci := 8) (Cn := RX8) (T := TX8) (N := 3) (ty := tyX8) C hW hS hV hZ hq_ rfl rfl (by decide) hE rfl rfl in_X8 tyX8_ok (fun j hj => by rcases (show j = 0 ∨ j = 1 ∨ j = 2 by omega) with rfl | rfl | rfl <;> rfl) q1537 q1332 q180 dX8_another_0 (fun u2 H hE hW hS hZ hV => ?_)
  refine lv_dup hx hb dX8_another_3 rfl ?_
  obtain ⟨u3, hc, hE⟩ := o_bd_some hE
  refine ci_X8_21 C hW hS hV (kX8_init hc) rfl rfl ⟨Nat.le_of_ble_eq_true rfl, Nat.le_of_ble_eq_true rfl⟩ (wa_r0 hZ) dX8_another_4 hl.1 (Nat.le_of_ble_eq_true rfl) (fun H locs hW hS hV => ?_)
  obtain ⟨hz_, hE⟩ := o_ze_some hE
  rw [← hz_] at hZ ⊢
  cases hE
  exact wc_aret (x := (some (wc_z u))) C hr hlocks hW hS hV rfl dX8_another_7
set_option maxHeartbeats 4000000 in
set_option maxRecDepth 100000 in
theorem kX16_another {l : Launch} {D : va_G} {dA : Nat → ClassId} {h N z0 : Nat} {n0 : Nat} {u u1 : CS} {r : Option Nat} (hz0 : wc_z u = z0) (hz1 : wc_z u ≤ wc_z u1) (hE : fX16_another N u n0 = some (r, u1)) : Met l yX16_another (ws_ yX16_another cX16_another 1 (some (.object "WoodState$Lot"))) ({ frames := 3, cells := wc_z u1 - z0, slots := 4 * (wc_z u1 - z0), locals := 64 }) (va_Pc [.ref (h + n0)] (wc_St D dA h u)) (wc_Qr D dA h (some (wc_rf h r)) u1) (wc_z u1 - z0) (4 * (wc_z u1 - z0)) (CA h) := by
  refine wa_met (own := RX16) (lv := [(0, .ref (h + n0))]) hz0 (by decide) rfl rfl rfl ?_
  intro p e s m args below meth c ls C hr hlocks hW hS hV hl
  have hx := C.1.1
  have hb := C.1.2.1
  have hZ : z0 ≤ wc_z u ∧ wc_z u ≤ wc_z u1 := ⟨by omega, hz1⟩
  unfold fX16_another at hE
  obtain ⟨hq_, hE⟩ := o_zc_some hE
  have hq_ : wc_z u + 1 ≤ wc_z u1 := hq_
  refine wa_newE (ci := 16) (Cn := RX16) (T := TX16) (N := 4) (ty := tyX16) C hW hS hV hZ hq_ rfl rfl (by decide) hE rfl rfl in_X16 tyX16_ok (fun j hj => by rcases (show j = 0 ∨ j = 1 ∨ j = 2 ∨ j = 3 by omega) with rfl | rfl | rfl | rfl <;> rfl) q1529 q1306 q189 dX16_another_0 (fun u2 H hE hW hS hZ hV => ?_)
  refine lv_dup hx hb dX16_another_3 rfl ?_
  obtain ⟨u3, hc, hE⟩ := o_bd_some hE
  refine ci_X16_24 C hW hS hV (kX16_init hc) rfl rfl ⟨Nat.le_of_ble_eq_true rfl, Nat.le_of_ble_eq_true rfl⟩ (wa_r0 hZ) dX16_another_4 hl.1 (Nat.le_of_ble_eq_true rfl) (fun H locs hW hS hV => ?_)
  obtain ⟨hz_, hE⟩ := o_ze_some hE
  rw [← hz_] at hZ ⊢
  cases hE
  exact wc_aret (x := (some (wc_z u))) C hr hlocks hW hS hV rfl dX16_another_7
set_option maxHeartbeats 4000000 in
set_option maxRecDepth 100000 in
theorem kX9_another {l : Launch} {D : va_G} {dA : Nat → ClassId} {h N z0 : Nat} {n0 : Nat} {u u1 : CS} {r : Option Nat} (hz0 : wc_z u = z0) (hz1 : wc_z u ≤ wc_z u1) (hE : fX9_another N u n0 = some (r, u1)) : Met l yX9_another (ws_ yX9_another cX9_another 1 (some (.object "WoodState$Lot"))) ({ frames := 3, cells := wc_z u1 - z0, slots := 4 * (wc_z u1 - z0), locals := 64 }) (va_Pc [.ref (h + n0)] (wc_St D dA h u)) (wc_Qr D dA h (some (wc_rf h r)) u1) (wc_z u1 - z0) (4 * (wc_z u1 - z0)) (CA h) := by
  refine wa_met (own := RX9) (lv := [(0, .ref (h + n0))]) hz0 (by decide) rfl rfl rfl ?_
  intro p e s m args below meth c ls C hr hlocks hW hS hV hl
  have hx := C.1.1
  have hb := C.1.2.1
  have hZ : z0 ≤ wc_z u ∧ wc_z u ≤ wc_z u1 := ⟨by omega, hz1⟩
  unfold fX9_another at hE
  obtain ⟨hq_, hE⟩ := o_zc_some hE
  have hq_ : wc_z u + 1 ≤ wc_z u1 := hq_
  refine wa_newE (ci := 9) (Cn := RX9) (T := TX9) (N := 3) (ty := tyX9) C hW hS hV hZ hq_ rfl rfl (by decide) hE rfl rfl in_X9 tyX9_ok (fun j hj => by rcases (show j = 0 ∨ j = 1 ∨ j = 2 by omega) with rfl | rfl | rfl <;> rfl) q1534 q953 q181 dX9_another_0 (fun u2 H hE hW hS hZ hV => ?_)
  refine lv_dup hx hb dX9_another_3 rfl ?_
  obtain ⟨u3, hc, hE⟩ := o_bd_some hE
  refine ci_X9_15 C hW hS hV (kX9_init hc) rfl rfl ⟨Nat.le_of_ble_eq_true rfl, Nat.le_of_ble_eq_true rfl⟩ (wa_r0 hZ) dX9_another_4 hl.1 (Nat.le_of_ble_eq_true rfl) (fun H locs hW hS hV => ?_)
  obtain ⟨hz_, hE⟩ := o_ze_some hE
  rw [← hz_] at hZ ⊢
  cases hE
  exact wc_aret (x := (some (wc_z u))) C hr hlocks hW hS hV rfl dX9_another_7
theorem cla_X2_19 {N n0 : Nat} {r : Option Nat} {u u1 : CS} (C : CC p m c cc nL s args D dA RX2) (hW : wc_W D dA h u H) (hS : wc_S u) (hV : va_S (CA h) H0 H locs) (hz1 : wc_z u ≤ wc_z u1) (hc : fLot_another N u n0 = some (r, u1)) (hR : 3 + 1 ≤ R.frames ∧ 8 + (4 + 11) + 64 ≤ R.locals) (hf : cells + (wc_z u1 - wc_z u) ≤ R.cells ∧ slots + 4 * (wc_z u1 - wc_z u) ≤ R.slots) (dd : decode cc pc = .ok (.invokevirtual 19, 3)) (hsz : ls.size = nL) (hro : (rest.map fun v => v.category).sum ≤ 8) (kk : ∀ (H1 : Heap) (locs1 : List Loc), wc_W D dA h u1 H1 → wc_S u1 → va_S (CA h) H0 H1 locs1 → W p l e R s m args below meth c H1 locs1 (cells + (wc_z u1 - wc_z u)) (slots + 4 * (wc_z u1 - wc_z u)) Q (F0 m (pc + 3) ls (wc_rf h r :: rest))) : W p l e R s m args below meth c H locs cells slots Q (F0 m pc ls (.ref (h + n0) :: rest)) := by
  unfold fLot_another at hc
  by_cases ct : wc_T u n0 = some (.inl 8)
  · rw [if_pos ct] at hc
    exact wc_call (v := (some (wc_rf h r))) (va_runV (C := RX8) (As := []) (rest := rest) C.1 (kX8_another rfl hz1 hc) (cwV 0 C.1.2.2.2.2 (lw_V q1522 q1523 q1524 q180 q1536) rfl rfl rfl (by decide +kernel) ⟨(by show 2 + 1 ≤ _; omega), (by show 8 + (1 + 11) + 44 ≤ _; omega)⟩) (wc_preV (q := (RX8, TX8, 3)) C.2 hW hS ct rfl _) rfl rfl hsz rfl (lv_room hro) dd hf) hV (fun _ z => z) (fun H1 locs1 a b c0 _ _ => kk H1 locs1 a b c0)
  rw [if_neg ct] at hc
  by_cases ct : wc_T u n0 = some (.inl 16)
  · rw [if_pos ct] at hc
    exact wc_call (v := (some (wc_rf h r))) (va_runU (C := RX16) (owner := "WoodState$Lot") (As := []) (rest := rest) C.1 (kX16_another rfl hz1 hc) (va_cwO 0 C.1.2.2.2.2 (lw_O q1522 q1525 q1523 q1526 q1527 q189 q1528) rfl rfl rfl q1536 (by decide +kernel) ⟨(by show 3 + 1 ≤ _; omega), (by show 8 + (1 + 11) + 64 ≤ _; omega)⟩) (wc_preV (q := (RX16, TX16, 4)) C.2 hW hS ct rfl _) rfl rfl hsz rfl (lv_room hro) dd hf) hV (fun _ z => z) (fun H1 locs1 a b c0 _ _ => kk H1 locs1 a b c0)
  rw [if_neg ct] at hc
  by_cases ct : wc_T u n0 = some (.inl 9)
  · rw [if_pos ct] at hc
    exact wc_call (v := (some (wc_rf h r))) (va_runU (C := RX9) (owner := "WoodState$Lot") (As := []) (rest := rest) C.1 (kX9_another rfl hz1 hc) (va_cwO 0 C.1.2.2.2.2 (lw_O q1522 q1525 q1523 q1531 q1532 q181 q1533) rfl rfl rfl q1536 (by decide +kernel) ⟨(by show 3 + 1 ≤ _; omega), (by show 8 + (1 + 11) + 64 ≤ _; omega)⟩) (wc_preV (q := (RX9, TX9, 3)) C.2 hW hS ct rfl _) rfl rfl hsz rfl (lv_room hro) dd hf) hV (fun _ z => z) (fun H1 locs1 a b c0 _ _ => kk H1 locs1 a b c0)
  rw [if_neg ct] at hc
  cases hc
theorem ci_X1_138 {n0 : Nat} {u u1 : CS} {rm : Room} (C : CC p m c cc nL s args D dA RX1) (hW : wc_W D dA h u H) (hS : wc_S u) (hV : va_S (CA h) H0 H locs) (hM : Met l yX2_init (ws_ yX2_init cX2_init 1 none) rm (va_Pc [.ref (h + n0)] (wc_St D dA h u)) (wc_Qr D dA h none u1) 0 0 (CA h)) (hrc : rm.cells = 0) (hrs : rm.slots = 0) (hR : rm.frames + 1 ≤ R.frames ∧ 8 + (1 + 11) + rm.locals ≤ R.locals) (hf : cells + 0 ≤ R.cells ∧ slots + 0 ≤ R.slots) (d : decode cc pc = .ok (.invokespecial 138, 3)) (hsz : ls.size = nL) (hro : (rest.map fun v => v.category).sum ≤ 8) (kk : ∀ (H1 : Heap) (locs1 : List Loc), wc_W D dA h u1 H1 → wc_S u1 → va_S (CA h) H0 H1 locs1 → W p l e R s m args below meth c H1 locs1 cells slots Q (F0 m (pc + 3) ls (rest))) : W p l e R s m args below meth c H locs cells slots Q (F0 m pc ls (.ref (h + n0) :: rest)) :=
  wc_call (v := none) (va_runIN (As := []) (rest := rest) C.1 hM ⟨va_cnB 0 C.1.2.2.2.2 (lw_meth q216) rfl hrc hrs (C.2.2.at q214 rfl) (C.1.2.2.2.2 _ q168) (by decide +kernel) hR, rfl, C.1.2.2.2.2 _ q215⟩ (wc_preS C.2 hW hS _) rfl rfl hsz rfl (lv_room hro) d hf) hV (fun _ z => z) (fun H1 locs1 a b c0 _ _ => kk H1 locs1 a b c0)
set_option maxHeartbeats 4000000 in
set_option maxRecDepth 100000 in
theorem kX2_init {l : Launch} {D : va_G} {dA : Nat → ClassId} {h N : Nat} {n0 : Nat} {u u_ : CS} (hE : fX2_init N u n0 = some u_) : Met l yX2_init (ws_ yX2_init cX2_init 1 none) ({ frames := 1, cells := 0, slots := 0, locals := 24 }) (va_Pc [.ref (h + n0)] (wc_St D dA h u)) (wc_Qr D dA h none u_) 0 0 (CA h) := by
  refine wc_metI (own := RX2) (lv := [(0, .ref (h + n0))]) rfl (by decide) rfl rfl rfl ?_
  intro p e s m args below meth c ls C hnm0 hr hlocks hW hS hV hl
  have hx := C.1.1
  have hb := C.1.2.1
  unfold fX2_init at hE
  refine lv_aload_n hx hb dX2_init_0 rfl (lv_at hl 0 rfl) ?_
  refine W.objInit hx hb C.1.2.2.2.1 (C.1.2.2.2.2 _ q217) (C.1.2.2.2.2 _ q199) (C.1.2.2.2.2 _ q200) rfl (by rw [C.1.2.2.1]; exact hl.1) rfl dX2_init_1 (Nat.le_of_ble_eq_true rfl) (Nat.le_of_ble_eq_true rfl) ?_
  refine W.eq (g2 := F0 m 4 ls []) rfl ?_
  exact wc_vret C hr hlocks hW hS hV hE dX2_init_4
theorem ci_X3_30 {n0 : Nat} {u u1 : CS} {rm : Room} (C : CC p m c cc nL s args D dA RX3) (hW : wc_W D dA h u H) (hS : wc_S u) (hV : va_S (CA h) H0 H locs) (hM : Met l yX5_init (ws_ yX5_init cX5_init 1 none) rm (va_Pc [.ref (h + n0)] (wc_St D dA h u)) (wc_Qr D dA h none u1) 0 0 (CA h)) (hrc : rm.cells = 0) (hrs : rm.slots = 0) (hR : rm.frames + 1 ≤ R.frames ∧ 8 + (1 + 11) + rm.locals ≤ R.locals) (hf : cells + 0 ≤ R.cells ∧ slots + 0 ≤ R.slots) (d : decode cc pc = .ok (.invokespecial 30, 3)) (hsz : ls.size = nL) (hro : (rest.map fun v => v.category).sum ≤ 8) (kk : ∀ (H1 : Heap) (locs1 : List Loc), wc_W D dA h u1 H1 → wc_S u1 → va_S (CA h) H0 H1 locs1 → W p l e R s m args below meth c H1 locs1 cells slots Q (F0 m (pc + 3) ls (rest))) : W p l e R s m args below meth c H locs cells slots Q (F0 m pc ls (.ref (h + n0) :: rest)) :=
  wc_call (v := none) (va_runIN (As := []) (rest := rest) C.1 hM ⟨va_cnB 0 C.1.2.2.2.2 (lw_meth q514) rfl hrc hrs (C.2.2.at q512 rfl) (C.1.2.2.2.2 _ q175) (by decide +kernel) hR, rfl, C.1.2.2.2.2 _ q513⟩ (wc_preS C.2 hW hS _) rfl rfl hsz rfl (lv_room hro) d hf) hV (fun _ z => z) (fun H1 locs1 a b c0 _ _ => kk H1 locs1 a b c0)
set_option maxHeartbeats 4000000 in
set_option maxRecDepth 100000 in
theorem kX5_init {l : Launch} {D : va_G} {dA : Nat → ClassId} {h N : Nat} {n0 : Nat} {u u_ : CS} (hE : fX5_init N u n0 = some u_) : Met l yX5_init (ws_ yX5_init cX5_init 1 none) ({ frames := 1, cells := 0, slots := 0, locals := 24 }) (va_Pc [.ref (h + n0)] (wc_St D dA h u)) (wc_Qr D dA h none u_) 0 0 (CA h) := by
  refine wc_metI (own := RX5) (lv := [(0, .ref (h + n0))]) rfl (by decide) rfl rfl rfl ?_
  intro p e s m args below meth c ls C hnm0 hr hlocks hW hS hV hl
  have hx := C.1.1
  have hb := C.1.2.1
  unfold fX5_init at hE
  refine lv_aload_n hx hb dX5_init_0 rfl (lv_at hl 0 rfl) ?_
  refine W.objInit hx hb C.1.2.2.2.1 (C.1.2.2.2.2 _ q515) (C.1.2.2.2.2 _ q199) (C.1.2.2.2.2 _ q200) rfl (by rw [C.1.2.2.1]; exact hl.1) rfl dX5_init_1 (Nat.le_of_ble_eq_true rfl) (Nat.le_of_ble_eq_true rfl) ?_
  refine W.eq (g2 := F0 m 4 ls []) rfl ?_
  refine lv_aload_n hx hb dX5_init_4 rfl (lv_at hl 0 rfl) ?_
  refine lv_iconst (v := (-1 : Int32)) hx hb dX5_init_5 rfl ?_
  obtain ⟨ht, hE⟩ := o_sh_some hE
  refine cp_X5_9_5 (J := wc_S) C hW hV ht hS.uI hE dX5_init_6 (fun u2 H locs hE hW hS hV => ?_)
  exact wc_vret C hr hlocks hW hS hV hE dX5_init_9
set_option maxHeartbeats 4000000 in
set_option maxRecDepth 100000 in
theorem kX0_loss {l : Launch} {D : va_G} {dA : Nat → ClassId} {h N z0 : Nat} {a1 : Int32} {u u1 : CS} {r : Int32} (hz0 : wc_z u = z0) (hz1 : wc_z u ≤ wc_z u1) (hE : fX0_loss N u a1 = some (r, u1)) : Met l yX0_loss (ws_ yX0_loss cX0_loss 3 (some .int)) ({ frames := 4, cells := wc_z u1 - z0, slots := 4 * (wc_z u1 - z0), locals := 90 }) (va_Pc [.ref (h + 0), .int a1] (wc_St D dA h u)) (wc_Qr D dA h (some (.int r)) u1) (wc_z u1 - z0) (4 * (wc_z u1 - z0)) (CA h) := by
  refine wa_met (own := RX0) (lv := [(0, .ref (h + 0)), (1, .int a1)]) hz0 (by decide) rfl rfl rfl ?_
  intro p e s m args below meth c ls C hr hlocks hW hS hV hl
  have hx := C.1.1
  have hb := C.1.2.1
  have hZ : z0 ≤ wc_z u ∧ wc_z u ≤ wc_z u1 := ⟨by omega, hz1⟩
  have w_91 : ∀ (u : CS) (y0 : Int32) (H : Heap) (locs : List Loc) (ls : Array Slot), fX0_loss_91 N u y0 = some (r, u1) → wc_W D dA h u H → wc_S u → va_S (CA h) s.heap H locs → z0 ≤ wc_z u ∧ wc_z u ≤ wc_z u1 → lv_has ls 3 [] → W p l e ({ frames := 4, cells := wc_z u1 - z0, slots := 4 * (wc_z u1 - z0), locals := 90 }) s m args below meth c H locs (wc_z u - z0) (4 * (wc_z u - z0)) (MQ below (wc_Qr D dA h (some (.int r)) u1) args s (wc_z u1 - z0) (4 * (wc_z u1 - z0)) (CA h)) (F0 m 91 ls [.int y0]) := by
    intro u y0 H locs ls hE hW hS hV hZ hl
    unfold fX0_loss_91 at hE
    obtain ⟨rfl, rfl⟩ := z_ret hE
    exact wc_iret C hr hlocks hW hS hV rfl dX0_loss_91
  unfold fX0_loss at hE
  refine lv_aload_n hx hb dX0_loss_0 rfl (lv_at hl 0 rfl) ?_
  refine lv_iload_n hx hb dX0_loss_1 rfl (lv_at hl 1 rfl) ?_
  obtain ⟨r19, u20, hc, hE⟩ := o_bd2_some hE
  refine cc_X0_148 C hW hS hV (st_0 hS) (kX0_isStand hc) rfl rfl ⟨Nat.le_of_ble_eq_true rfl, Nat.le_of_ble_eq_true rfl⟩ (wa_r0 hZ) dX0_loss_2 hl.1 (Nat.le_of_ble_eq_true rfl) (fun H locs hW hS hV => ?_)
  obtain ⟨hz_, hE⟩ := o_ze_some hE
  rw [← hz_] at hZ ⊢
  refine lv_if_ne (tgt := 15) hx hb dX0_loss_5 (by decide) (fun c21 => ?_) (fun c21 => ?_)
  · have hE := z_f c21 hE
    refine lv_aload_n hx hb dX0_loss_15 rfl (lv_at hl 0 rfl) ?_
    refine cgs_X0_19_0 C hW (st_0 hS) (sp_0_now hS) dX0_loss_16 ?_
    refine cgs_X0_173_1 C hW (st_F hS wc_F3) (sp_F_countMany hS wc_F3) dX0_loss_19 ?_
    refine lv_iload_n hx hb dX0_loss_22 rfl (lv_at hl 1 rfl) ?_
    refine wc_ldi C hW (st_F_countMany hS wc_F3) hE dX0_loss_23 (fun hE => ?_)
    refine z_nmi hE (fun v22 hE => ?_)
    refine lv_iconst (v := (2 : Int32)) hx hb dX0_loss_24 rfl ?_
    refine lv_icmp_ge (tgt := 35) hx hb dX0_loss_25 (by decide) (fun c23 => ?_) (fun c23 => ?_)
    · have hE := z_t c23 hE
      refine lv_aload_n hx hb dX0_loss_35 rfl (lv_at hl 0 rfl) ?_
      refine cgs_X0_19_0 C hW (st_0 hS) (sp_0_now hS) dX0_loss_36 ?_
      refine lv_iload_n hx hb dX0_loss_39 rfl (lv_at hl 1 rfl) ?_
      obtain ⟨r24, u25, hc, hE⟩ := o_bd2_some hE
      refine cc_X0_295 C hW hS hV (st_F hS wc_F3) (kX1_lack wc_F3 hc) rfl rfl ⟨Nat.le_of_ble_eq_true rfl, Nat.le_of_ble_eq_true rfl⟩ (wa_r0 hZ) dX0_loss_40 hl.1 (Nat.le_of_ble_eq_true rfl) (fun H locs hW hS hV => ?_)
      obtain ⟨hz_, hE⟩ := o_ze_some hE
      rw [← hz_] at hZ ⊢
      refine lv_istore_n (lv' := [(2, .int r24), (0, .ref (h + 0)), (1, .int a1)]) hx hb dX0_loss_43 rfl hl (by decide) rfl (fun ls hl => ?_)
      refine lv_iload_n hx hb dX0_loss_44 rfl (lv_at hl 0 rfl) ?_
      refine lv_if_ne (tgt := 55) hx hb dX0_loss_45 (by decide) (fun c26 => ?_) (fun c26 => ?_)
      · have hE := z_f c26 hE
        refine lv_aload_n hx hb dX0_loss_55 rfl (lv_at hl 1 rfl) ?_
        refine cgs_X0_19_0 C hW (st_0 hS) (sp_0_now hS) dX0_loss_56 ?_
        obtain ⟨r27, u28, hc, hE⟩ := o_bd2_some hE
        refine cc_X0_298 C hW hS hV (st_F hS wc_F3) (kX1_free wc_F3 hc) rfl rfl ⟨Nat.le_of_ble_eq_true rfl, Nat.le_of_ble_eq_true rfl⟩ (wa_r0 hZ) dX0_loss_59 hl.1 (Nat.le_of_ble_eq_true rfl) (fun H locs hW hS hV => ?_)
        obtain ⟨hz_, hE⟩ := o_ze_some hE
        rw [← hz_] at hZ ⊢
        refine lv_iconst (v := (-1 : Int32)) hx hb dX0_loss_62 rfl ?_
        refine lv_icmp_ne (tgt := 75) hx hb dX0_loss_63 (by decide) (fun c29 => ?_) (fun c29 => ?_)
        · have hE := z_f c29 hE
          refine lv_aload_n hx hb dX0_loss_75 rfl (lv_at hl 1 rfl) ?_
          refine cgs_X0_19_0 C hW (st_0 hS) (sp_0_now hS) dX0_loss_76 ?_
          obtain ⟨hq_, hE⟩ := o_zc_some hE
          have hq_ : wc_z u28 + 1 ≤ wc_z u1 := hq_
          refine wa_newE (ci := 9) (Cn := RX9) (T := TX9) (N := 3) (ty := tyX9) C hW hS hV hZ hq_ rfl rfl (by decide) hE rfl rfl in_X9 tyX9_ok (fun j hj => by rcases (show j = 0 ∨ j = 1 ∨ j = 2 by omega) with rfl | rfl | rfl <;> rfl) q952 q953 q181 dX0_loss_79 (fun u30 H hE hW hS hZ hV => ?_)
          refine lv_dup hx hb dX0_loss_82 rfl ?_
          obtain ⟨u31, hc, hE⟩ := o_bd_some hE
          refine ci_X0_303 C hW hS hV (kX9_init hc) rfl rfl ⟨Nat.le_of_ble_eq_true rfl, Nat.le_of_ble_eq_true rfl⟩ (wa_r0 hZ) dX0_loss_83 hl.1 (Nat.le_of_ble_eq_true rfl) (fun H locs hW hS hV => ?_)
          obtain ⟨hz_, hE⟩ := o_ze_some hE
          rw [← hz_] at hZ ⊢
          refine lv_iload_n hx hb dX0_loss_86 rfl (lv_at hl 2 rfl) ?_
          refine lv_iload_n hx hb dX0_loss_87 rfl (lv_at hl 0 rfl) ?_
          obtain ⟨r32, u33, hc, hE⟩ := o_bd2_some hE
          refine cc_X0_304 C hW hS hV (st_F hS wc_F3) (kX1_put wc_F3 hc) rfl rfl ⟨Nat.le_of_ble_eq_true rfl, Nat.le_of_ble_eq_true rfl⟩ (wa_r0 hZ) dX0_loss_88 hl.1 (Nat.le_of_ble_eq_true rfl) (fun H locs hW hS hV => ?_)
          obtain ⟨hz_, hE⟩ := o_ze_some hE
          rw [← hz_] at hZ ⊢
          exact w_91 _ _ _ _ _ hE hW hS hV hZ (lv_sub hl [] rfl)
        · have hE := z_t c29 hE
          refine lv_aload_n hx hb dX0_loss_66 rfl (lv_at hl 1 rfl) ?_
          refine lv_bipush (v := (-8 : Int32)) hx hb dX0_loss_67 rfl ?_
          obtain ⟨r34, u35, hc, hE⟩ := o_bd2_some hE
          refine cc_X0_118 C hW hS hV (st_0 hS) (kX0_refuse hc) rfl rfl ⟨Nat.le_of_ble_eq_true rfl, Nat.le_of_ble_eq_true rfl⟩ (wa_r0 hZ) dX0_loss_69 hl.1 (Nat.le_of_ble_eq_true rfl) (fun H locs hW hS hV => ?_)
          obtain ⟨hz_, hE⟩ := o_ze_some hE
          rw [← hz_] at hZ ⊢
          refine lv_goto (tgt := 91) hx hb dX0_loss_72 (by decide) ?_
          exact w_91 _ _ _ _ _ hE hW hS hV hZ (lv_sub hl [] rfl)
      · have hE := z_t c26 hE
        refine lv_aload_n hx hb dX0_loss_48 rfl (lv_at hl 1 rfl) ?_
        refine lv_bipush (v := (-7 : Int32)) hx hb dX0_loss_49 rfl ?_
        obtain ⟨r36, u37, hc, hE⟩ := o_bd2_some hE
        refine cc_X0_118 C hW hS hV (st_0 hS) (kX0_refuse hc) rfl rfl ⟨Nat.le_of_ble_eq_true rfl, Nat.le_of_ble_eq_true rfl⟩ (wa_r0 hZ) dX0_loss_51 hl.1 (Nat.le_of_ble_eq_true rfl) (fun H locs hW hS hV => ?_)
        obtain ⟨hz_, hE⟩ := o_ze_some hE
        rw [← hz_] at hZ ⊢
        obtain ⟨rfl, rfl⟩ := z_ret hE
        exact wc_iret C hr hlocks hW hS hV rfl dX0_loss_54
    · have hE := z_f c23 hE
      refine lv_aload_n hx hb dX0_loss_28 rfl (lv_at hl 0 rfl) ?_
      refine lv_bipush (v := (-2 : Int32)) hx hb dX0_loss_29 rfl ?_
      obtain ⟨r38, u39, hc, hE⟩ := o_bd2_some hE
      refine cc_X0_118 C hW hS hV (st_0 hS) (kX0_refuse hc) rfl rfl ⟨Nat.le_of_ble_eq_true rfl, Nat.le_of_ble_eq_true rfl⟩ (wa_r0 hZ) dX0_loss_31 hl.1 (Nat.le_of_ble_eq_true rfl) (fun H locs hW hS hV => ?_)
      obtain ⟨hz_, hE⟩ := o_ze_some hE
      rw [← hz_] at hZ ⊢
      obtain ⟨rfl, rfl⟩ := z_ret hE
      exact wc_iret C hr hlocks hW hS hV rfl dX0_loss_34
  · have hE := z_t c21 hE
    refine lv_aload_n hx hb dX0_loss_8 rfl (lv_at hl 0 rfl) ?_
    refine lv_bipush (v := (-3 : Int32)) hx hb dX0_loss_9 rfl ?_
    obtain ⟨r40, u41, hc, hE⟩ := o_bd2_some hE
    refine cc_X0_118 C hW hS hV (st_0 hS) (kX0_refuse hc) rfl rfl ⟨Nat.le_of_ble_eq_true rfl, Nat.le_of_ble_eq_true rfl⟩ (wa_r0 hZ) dX0_loss_11 hl.1 (Nat.le_of_ble_eq_true rfl) (fun H locs hW hS hV => ?_)
    obtain ⟨hz_, hE⟩ := o_ze_some hE
    rw [← hz_] at hZ ⊢
    obtain ⟨rfl, rfl⟩ := z_ret hE
    exact wc_iret C hr hlocks hW hS hV rfl dX0_loss_14
theorem ci_X11_1 {n0 : Nat} {u u1 : CS} {rm : Room} (C : CC p m c cc nL s args D dA RX11) (hW : wc_W D dA h u H) (hS : wc_S u) (hV : va_S (CA h) H0 H locs) (hM : Met l yX10_init (ws_ yX10_init cX10_init 1 none) rm (va_Pc [.ref (h + n0)] (wc_St D dA h u)) (wc_Qr D dA h none u1) 0 0 (CA h)) (hrc : rm.cells = 0) (hrs : rm.slots = 0) (hR : rm.frames + 1 ≤ R.frames ∧ 8 + (1 + 11) + rm.locals ≤ R.locals) (hf : cells + 0 ≤ R.cells ∧ slots + 0 ≤ R.slots) (d : decode cc pc = .ok (.invokespecial 1, 3)) (hsz : ls.size = nL) (hro : (rest.map fun v => v.category).sum ≤ 8) (kk : ∀ (H1 : Heap) (locs1 : List Loc), wc_W D dA h u1 H1 → wc_S u1 → va_S (CA h) H0 H1 locs1 → W p l e R s m args below meth c H1 locs1 cells slots Q (F0 m (pc + 3) ls (rest))) : W p l e R s m args below meth c H locs cells slots Q (F0 m pc ls (.ref (h + n0) :: rest)) :=
  wc_call (v := none) (va_runIN (As := []) (rest := rest) C.1 hM ⟨va_cnB 0 C.1.2.2.2.2 (lw_meth q1086) rfl hrc hrs (C.2.2.at q1084 rfl) (C.1.2.2.2.2 _ q182) (by decide +kernel) hR, rfl, C.1.2.2.2.2 _ q1085⟩ (wc_preS C.2 hW hS _) rfl rfl hsz rfl (lv_room hro) d hf) hV (fun _ z => z) (fun H1 locs1 a b c0 _ _ => kk H1 locs1 a b c0)
theorem ci_X12_1 {n0 : Nat} {u u1 : CS} {rm : Room} (C : CC p m c cc nL s args D dA RX12) (hW : wc_W D dA h u H) (hS : wc_S u) (hV : va_S (CA h) H0 H locs) (hM : Met l yX10_init (ws_ yX10_init cX10_init 1 none) rm (va_Pc [.ref (h + n0)] (wc_St D dA h u)) (wc_Qr D dA h none u1) 0 0 (CA h)) (hrc : rm.cells = 0) (hrs : rm.slots = 0) (hR : rm.frames + 1 ≤ R.frames ∧ 8 + (1 + 11) + rm.locals ≤ R.locals) (hf : cells + 0 ≤ R.cells ∧ slots + 0 ≤ R.slots) (d : decode cc pc = .ok (.invokespecial 1, 3)) (hsz : ls.size = nL) (hro : (rest.map fun v => v.category).sum ≤ 8) (kk : ∀ (H1 : Heap) (locs1 : List Loc), wc_W D dA h u1 H1 → wc_S u1 → va_S (CA h) H0 H1 locs1 → W p l e R s m args below meth c H1 locs1 cells slots Q (F0 m (pc + 3) ls (rest))) : W p l e R s m args below meth c H locs cells slots Q (F0 m pc ls (.ref (h + n0) :: rest)) :=
  wc_call (v := none) (va_runIN (As := []) (rest := rest) C.1 hM ⟨va_cnB 0 C.1.2.2.2.2 (lw_meth q1086) rfl hrc hrs (C.2.2.at q1111 rfl) (C.1.2.2.2.2 _ q182) (by decide +kernel) hR, rfl, C.1.2.2.2.2 _ q1085⟩ (wc_preS C.2 hW hS _) rfl rfl hsz rfl (lv_room hro) d hf) hV (fun _ z => z) (fun H1 locs1 a b c0 _ _ => kk H1 locs1 a b c0)
theorem ci_X13_1 {n0 : Nat} {u u1 : CS} {rm : Room} (C : CC p m c cc nL s args D dA RX13) (hW : wc_W D dA h u H) (hS : wc_S u) (hV : va_S (CA h) H0 H locs) (hM : Met l yX10_init (ws_ yX10_init cX10_init 1 none) rm (va_Pc [.ref (h + n0)] (wc_St D dA h u)) (wc_Qr D dA h none u1) 0 0 (CA h)) (hrc : rm.cells = 0) (hrs : rm.slots = 0) (hR : rm.frames + 1 ≤ R.frames ∧ 8 + (1 + 11) + rm.locals ≤ R.locals) (hf : cells + 0 ≤ R.cells ∧ slots + 0 ≤ R.slots) (d : decode cc pc = .ok (.invokespecial 1, 3)) (hsz : ls.size = nL) (hro : (rest.map fun v => v.category).sum ≤ 8) (kk : ∀ (H1 : Heap) (locs1 : List Loc), wc_W D dA h u1 H1 → wc_S u1 → va_S (CA h) H0 H1 locs1 → W p l e R s m args below meth c H1 locs1 cells slots Q (F0 m (pc + 3) ls (rest))) : W p l e R s m args below meth c H locs cells slots Q (F0 m pc ls (.ref (h + n0) :: rest)) :=
  wc_call (v := none) (va_runIN (As := []) (rest := rest) C.1 hM ⟨va_cnB 0 C.1.2.2.2.2 (lw_meth q1086) rfl hrc hrs (C.2.2.at q1121 rfl) (C.1.2.2.2.2 _ q182) (by decide +kernel) hR, rfl, C.1.2.2.2.2 _ q1085⟩ (wc_preS C.2 hW hS _) rfl rfl hsz rfl (lv_room hro) d hf) hV (fun _ z => z) (fun H1 locs1 a b c0 _ _ => kk H1 locs1 a b c0)
theorem ci_X15_1 {n0 : Nat} {u u1 : CS} {rm : Room} (C : CC p m c cc nL s args D dA RX15) (hW : wc_W D dA h u H) (hS : wc_S u) (hV : va_S (CA h) H0 H locs) (hM : Met l yX10_init (ws_ yX10_init cX10_init 1 none) rm (va_Pc [.ref (h + n0)] (wc_St D dA h u)) (wc_Qr D dA h none u1) 0 0 (CA h)) (hrc : rm.cells = 0) (hrs : rm.slots = 0) (hR : rm.frames + 1 ≤ R.frames ∧ 8 + (1 + 11) + rm.locals ≤ R.locals) (hf : cells + 0 ≤ R.cells ∧ slots + 0 ≤ R.slots) (d : decode cc pc = .ok (.invokespecial 1, 3)) (hsz : ls.size = nL) (hro : (rest.map fun v => v.category).sum ≤ 8) (kk : ∀ (H1 : Heap) (locs1 : List Loc), wc_W D dA h u1 H1 → wc_S u1 → va_S (CA h) H0 H1 locs1 → W p l e R s m args below meth c H1 locs1 cells slots Q (F0 m (pc + 3) ls (rest))) : W p l e R s m args below meth c H locs cells slots Q (F0 m pc ls (.ref (h + n0) :: rest)) :=
  wc_call (v := none) (va_runIN (As := []) (rest := rest) C.1 hM ⟨va_cnB 0 C.1.2.2.2.2 (lw_meth q1086) rfl hrc hrs (C.2.2.at q1143 rfl) (C.1.2.2.2.2 _ q182) (by decide +kernel) hR, rfl, C.1.2.2.2.2 _ q1085⟩ (wc_preS C.2 hW hS _) rfl rfl hsz rfl (lv_room hro) d hf) hV (fun _ z => z) (fun H1 locs1 a b c0 _ _ => kk H1 locs1 a b c0)
set_option maxHeartbeats 4000000 in
set_option maxRecDepth 100000 in
theorem kX10_init {l : Launch} {D : va_G} {dA : Nat → ClassId} {h N : Nat} {n0 : Nat} {u u_ : CS} (hE : fX10_init N u n0 = some u_) : Met l yX10_init (ws_ yX10_init cX10_init 1 none) ({ frames := 1, cells := 0, slots := 0, locals := 24 }) (va_Pc [.ref (h + n0)] (wc_St D dA h u)) (wc_Qr D dA h none u_) 0 0 (CA h) := by
  refine wc_metI (own := RX10) (lv := [(0, .ref (h + n0))]) rfl (by decide) rfl rfl rfl ?_
  intro p e s m args below meth c ls C hnm0 hr hlocks hW hS hV hl
  have hx := C.1.1
  have hb := C.1.2.1
  unfold fX10_init at hE
  refine lv_aload_n hx hb dX10_init_0 rfl (lv_at hl 0 rfl) ?_
  refine W.objInit hx hb C.1.2.2.2.1 (C.1.2.2.2.2 _ q1087) (C.1.2.2.2.2 _ q199) (C.1.2.2.2.2 _ q200) rfl (by rw [C.1.2.2.1]; exact hl.1) rfl dX10_init_1 (Nat.le_of_ble_eq_true rfl) (Nat.le_of_ble_eq_true rfl) ?_
  refine W.eq (g2 := F0 m 4 ls []) rfl ?_
  exact wc_vret C hr hlocks hW hS hV hE dX10_init_4
theorem ci_X3_92 {n0 : Nat} {a1 : Int32} {u u1 : CS} {rm : Room} (C : CC p m c cc nL s args D dA RX3) (hW : wc_W D dA h u H) (hS : wc_S u) (hV : va_S (CA h) H0 H locs) (hM : Met l yX12_init (ws_ yX12_init cX12_init 2 none) rm (va_Pc [.ref (h + n0), .int a1] (wc_St D dA h u)) (wc_Qr D dA h none u1) 0 0 (CA h)) (hrc : rm.cells = 0) (hrs : rm.slots = 0) (hR : rm.frames + 1 ≤ R.frames ∧ 8 + (2 + 11) + rm.locals ≤ R.locals) (hf : cells + 0 ≤ R.cells ∧ slots + 0 ≤ R.slots) (d : decode cc pc = .ok (.invokespecial 92, 3)) (hsz : ls.size = nL) (hro : (rest.map fun v => v.category).sum ≤ 8) (kk : ∀ (H1 : Heap) (locs1 : List Loc), wc_W D dA h u1 H1 → wc_S u1 → va_S (CA h) H0 H1 locs1 → W p l e R s m args below meth c H1 locs1 cells slots Q (F0 m (pc + 3) ls (rest))) : W p l e R s m args below meth c H locs cells slots Q (F0 m pc ls (.int a1 :: .ref (h + n0) :: rest)) :=
  wc_call (v := none) (va_runI (As := [.int a1]) (rest := rest) C.1 hM (cwI 1 C.1.2.2.2.2 (lw_meth q1110) rfl hrc hrs (C.1.2.2.2.2 _ q184) (C.1.2.2.2.2 _ q1108) (C.1.2.2.2.2 _ q1109) rfl (by decide +kernel) hR) (wc_preS C.2 hW hS _) rfl rfl hsz rfl (lv_room hro) d hf) hV (fun _ z => z) (fun H1 locs1 a b c0 _ _ => kk H1 locs1 a b c0)
set_option maxHeartbeats 4000000 in
set_option maxRecDepth 100000 in
theorem kX12_init {l : Launch} {D : va_G} {dA : Nat → ClassId} {h N : Nat} {n0 : Nat} {a1 : Int32} {u u_ : CS} (hE : fX12_init N u n0 a1 = some u_) : Met l yX12_init (ws_ yX12_init cX12_init 2 none) ({ frames := 2, cells := 0, slots := 0, locals := 44 }) (va_Pc [.ref (h + n0), .int a1] (wc_St D dA h u)) (wc_Qr D dA h none u_) 0 0 (CA h) := by
  refine wc_metI (own := RX12) (lv := [(0, .ref (h + n0)), (1, .int a1)]) rfl (by decide) rfl rfl rfl ?_
  intro p e s m args below meth c ls C hnm0 hr hlocks hW hS hV hl
  have hx := C.1.1
  have hb := C.1.2.1
  unfold fX12_init at hE
  refine lv_aload_n hx hb dX12_init_0 rfl (lv_at hl 0 rfl) ?_
  obtain ⟨u3, hc, hE⟩ := o_bd_some hE
  refine ci_X12_1 C hW hS hV (kX10_init hc) rfl rfl ⟨Nat.le_of_ble_eq_true rfl, Nat.le_of_ble_eq_true rfl⟩ ⟨Nat.le_refl 0, Nat.le_refl 0⟩ dX12_init_1 hl.1 (Nat.le_of_ble_eq_true rfl) (fun H locs hW hS hV => ?_)
  refine lv_aload_n hx hb dX12_init_4 rfl (lv_at hl 0 rfl) ?_
  refine lv_iload_n hx hb dX12_init_5 rfl (lv_at hl 1 rfl) ?_
  obtain ⟨ht, hE⟩ := o_sh_some hE
  refine cpf_X12_7_12 (J := wc_S) C hnm0 hW hV ht hS.uI hE dX12_init_6 (fun u4 H locs hE hW hS hV => ?_)
  exact wc_vret C hr hlocks hW hS hV hE dX12_init_9
theorem ci_X3_97 {n0 : Nat} {a1 : Int32} {u u1 : CS} {rm : Room} (C : CC p m c cc nL s args D dA RX3) (hW : wc_W D dA h u H) (hS : wc_S u) (hV : va_S (CA h) H0 H locs) (hM : Met l yX13_init (ws_ yX13_init cX13_init 2 none) rm (va_Pc [.ref (h + n0), .int a1] (wc_St D dA h u)) (wc_Qr D dA h none u1) 0 0 (CA h)) (hrc : rm.cells = 0) (hrs : rm.slots = 0) (hR : rm.frames + 1 ≤ R.frames ∧ 8 + (2 + 11) + rm.locals ≤ R.locals) (hf : cells + 0 ≤ R.cells ∧ slots + 0 ≤ R.slots) (d : decode cc pc = .ok (.invokespecial 97, 3)) (hsz : ls.size = nL) (hro : (rest.map fun v => v.category).sum ≤ 8) (kk : ∀ (H1 : Heap) (locs1 : List Loc), wc_W D dA h u1 H1 → wc_S u1 → va_S (CA h) H0 H1 locs1 → W p l e R s m args below meth c H1 locs1 cells slots Q (F0 m (pc + 3) ls (rest))) : W p l e R s m args below meth c H locs cells slots Q (F0 m pc ls (.int a1 :: .ref (h + n0) :: rest)) :=
  wc_call (v := none) (va_runI (As := [.int a1]) (rest := rest) C.1 hM (cwI 1 C.1.2.2.2.2 (lw_meth q1120) rfl hrc hrs (C.1.2.2.2.2 _ q185) (C.1.2.2.2.2 _ q1118) (C.1.2.2.2.2 _ q1119) rfl (by decide +kernel) hR) (wc_preS C.2 hW hS _) rfl rfl hsz rfl (lv_room hro) d hf) hV (fun _ z => z) (fun H1 locs1 a b c0 _ _ => kk H1 locs1 a b c0)
set_option maxHeartbeats 4000000 in
set_option maxRecDepth 100000 in
theorem kX13_init {l : Launch} {D : va_G} {dA : Nat → ClassId} {h N : Nat} {n0 : Nat} {a1 : Int32} {u u_ : CS} (hE : fX13_init N u n0 a1 = some u_) : Met l yX13_init (ws_ yX13_init cX13_init 2 none) ({ frames := 2, cells := 0, slots := 0, locals := 44 }) (va_Pc [.ref (h + n0), .int a1] (wc_St D dA h u)) (wc_Qr D dA h none u_) 0 0 (CA h) := by
  refine wc_metI (own := RX13) (lv := [(0, .ref (h + n0)), (1, .int a1)]) rfl (by decide) rfl rfl rfl ?_
  intro p e s m args below meth c ls C hnm0 hr hlocks hW hS hV hl
  have hx := C.1.1
  have hb := C.1.2.1
  unfold fX13_init at hE
  refine lv_aload_n hx hb dX13_init_0 rfl (lv_at hl 0 rfl) ?_
  obtain ⟨u3, hc, hE⟩ := o_bd_some hE
  refine ci_X13_1 C hW hS hV (kX10_init hc) rfl rfl ⟨Nat.le_of_ble_eq_true rfl, Nat.le_of_ble_eq_true rfl⟩ ⟨Nat.le_refl 0, Nat.le_refl 0⟩ dX13_init_1 hl.1 (Nat.le_of_ble_eq_true rfl) (fun H locs hW hS hV => ?_)
  refine lv_aload_n hx hb dX13_init_4 rfl (lv_at hl 0 rfl) ?_
  refine lv_iload_n hx hb dX13_init_5 rfl (lv_at hl 1 rfl) ?_
  obtain ⟨ht, hE⟩ := o_sh_some hE
  refine cpf_X13_7_13 (J := wc_S) C hnm0 hW hV ht hS.uI hE dX13_init_6 (fun u4 H locs hE hW hS hV => ?_)
  exact wc_vret C hr hlocks hW hS hV hE dX13_init_9
theorem ci_X14_1 {n0 : Nat} {a1 : Option Nat} {u u1 : CS} {rm : Room} (C : CC p m c cc nL s args D dA RX14) (hW : wc_W D dA h u H) (hS : wc_S u) (hV : va_S (CA h) H0 H locs) (hM : Met l yX11_init (ws_ yX11_init cX11_init 2 none) rm (va_Pc [.ref (h + n0), wc_rf h a1] (wc_St D dA h u)) (wc_Qr D dA h none u1) 0 0 (CA h)) (hrc : rm.cells = 0) (hrs : rm.slots = 0) (hR : rm.frames + 1 ≤ R.frames ∧ 8 + (2 + 11) + rm.locals ≤ R.locals) (hf : cells + 0 ≤ R.cells ∧ slots + 0 ≤ R.slots) (d : decode cc pc = .ok (.invokespecial 1, 3)) (hsz : ls.size = nL) (hro : (rest.map fun v => v.category).sum ≤ 8) (kk : ∀ (H1 : Heap) (locs1 : List Loc), wc_W D dA h u1 H1 → wc_S u1 → va_S (CA h) H0 H1 locs1 → W p l e R s m args below meth c H1 locs1 cells slots Q (F0 m (pc + 3) ls (rest))) : W p l e R s m args below meth c H locs cells slots Q (F0 m pc ls (wc_rf h a1 :: .ref (h + n0) :: rest)) :=
  wc_call (v := none) (va_runI (As := [wc_rf h a1]) (rest := rest) C.1 hM (cwI 1 C.1.2.2.2.2 (lw_meth q1083) rfl hrc hrs (C.1.2.2.2.2 _ q183) (C.1.2.2.2.2 _ q1131) (C.1.2.2.2.2 _ q1082) rfl (by decide +kernel) hR) (wc_preS C.2 hW hS _) rfl rfl hsz rfl (lv_room hro) d hf) hV (fun _ z => z) (fun H1 locs1 a b c0 _ _ => kk H1 locs1 a b c0)
theorem ci_X3_128 {n0 : Nat} {a1 : Option Nat} {u u1 : CS} {rm : Room} (C : CC p m c cc nL s args D dA RX3) (hW : wc_W D dA h u H) (hS : wc_S u) (hV : va_S (CA h) H0 H locs) (hM : Met l yX11_init (ws_ yX11_init cX11_init 2 none) rm (va_Pc [.ref (h + n0), wc_rf h a1] (wc_St D dA h u)) (wc_Qr D dA h none u1) 0 0 (CA h)) (hrc : rm.cells = 0) (hrs : rm.slots = 0) (hR : rm.frames + 1 ≤ R.frames ∧ 8 + (2 + 11) + rm.locals ≤ R.locals) (hf : cells + 0 ≤ R.cells ∧ slots + 0 ≤ R.slots) (d : decode cc pc = .ok (.invokespecial 128, 3)) (hsz : ls.size = nL) (hro : (rest.map fun v => v.category).sum ≤ 8) (kk : ∀ (H1 : Heap) (locs1 : List Loc), wc_W D dA h u1 H1 → wc_S u1 → va_S (CA h) H0 H1 locs1 → W p l e R s m args below meth c H1 locs1 cells slots Q (F0 m (pc + 3) ls (rest))) : W p l e R s m args below meth c H locs cells slots Q (F0 m pc ls (wc_rf h a1 :: .ref (h + n0) :: rest)) :=
  wc_call (v := none) (va_runI (As := [wc_rf h a1]) (rest := rest) C.1 hM (cwI 1 C.1.2.2.2.2 (lw_meth q1083) rfl hrc hrs (C.1.2.2.2.2 _ q183) (C.1.2.2.2.2 _ q1081) (C.1.2.2.2.2 _ q1082) rfl (by decide +kernel) hR) (wc_preS C.2 hW hS _) rfl rfl hsz rfl (lv_room hro) d hf) hV (fun _ z => z) (fun H1 locs1 a b c0 _ _ => kk H1 locs1 a b c0)
set_option maxHeartbeats 4000000 in
set_option maxRecDepth 100000 in
theorem kX11_init {l : Launch} {D : va_G} {dA : Nat → ClassId} {h N : Nat} {n0 : Nat} {a1 : Option Nat} {u u_ : CS} (hE : fX11_init N u n0 a1 = some u_) : Met l yX11_init (ws_ yX11_init cX11_init 2 none) ({ frames := 2, cells := 0, slots := 0, locals := 44 }) (va_Pc [.ref (h + n0), wc_rf h a1] (wc_St D dA h u)) (wc_Qr D dA h none u_) 0 0 (CA h) := by
  refine wc_metI (own := RX11) (lv := [(0, .ref (h + n0)), (1, wc_rf h a1)]) rfl (by decide) rfl (by cases a1 <;> rfl) (by cases a1 <;> rfl) ?_
  intro p e s m args below meth c ls C hnm0 hr hlocks hW hS hV hl
  have hx := C.1.1
  have hb := C.1.2.1
  unfold fX11_init at hE
  refine lv_aload_n hx hb dX11_init_0 rfl (lv_at hl 0 rfl) ?_
  obtain ⟨u3, hc, hE⟩ := o_bd_some hE
  refine ci_X11_1 C hW hS hV (kX10_init hc) rfl rfl ⟨Nat.le_of_ble_eq_true rfl, Nat.le_of_ble_eq_true rfl⟩ ⟨Nat.le_refl 0, Nat.le_refl 0⟩ dX11_init_1 hl.1 (Nat.le_of_ble_eq_true rfl) (fun H locs hW hS hV => ?_)
  refine lv_aload_n hx hb dX11_init_4 rfl (lv_at hl 0 rfl) ?_
  refine z_aload_n hx hb dX11_init_5 rfl (lv_at hl 1 rfl) ?_
  obtain ⟨ht, hE⟩ := o_sh_some hE
  refine cpf_X11_7_11 (x := a1) (J := wc_S) C hnm0 hW hV ht (hS.uP (wc_S.noR hS ht (by decide))) hE dX11_init_6 (fun u4 H locs hE hW hS hV => ?_)
  exact wc_vret C hr hlocks hW hS hV hE dX11_init_9
theorem ci_X3_107 {n0 : Nat} {a1 : Option Nat} {u u1 : CS} {rm : Room} (C : CC p m c cc nL s args D dA RX3) (hW : wc_W D dA h u H) (hS : wc_S u) (hV : va_S (CA h) H0 H locs) (hM : Met l yX14_init (ws_ yX14_init cX14_init 2 none) rm (va_Pc [.ref (h + n0), wc_rf h a1] (wc_St D dA h u)) (wc_Qr D dA h none u1) 0 0 (CA h)) (hrc : rm.cells = 0) (hrs : rm.slots = 0) (hR : rm.frames + 1 ≤ R.frames ∧ 8 + (2 + 11) + rm.locals ≤ R.locals) (hf : cells + 0 ≤ R.cells ∧ slots + 0 ≤ R.slots) (d : decode cc pc = .ok (.invokespecial 107, 3)) (hsz : ls.size = nL) (hro : (rest.map fun v => v.category).sum ≤ 8) (kk : ∀ (H1 : Heap) (locs1 : List Loc), wc_W D dA h u1 H1 → wc_S u1 → va_S (CA h) H0 H1 locs1 → W p l e R s m args below meth c H1 locs1 cells slots Q (F0 m (pc + 3) ls (rest))) : W p l e R s m args below meth c H locs cells slots Q (F0 m pc ls (wc_rf h a1 :: .ref (h + n0) :: rest)) :=
  wc_call (v := none) (va_runI (As := [wc_rf h a1]) (rest := rest) C.1 hM (cwI 1 C.1.2.2.2.2 (lw_meth q1130) rfl hrc hrs (C.1.2.2.2.2 _ q186) (C.1.2.2.2.2 _ q1128) (C.1.2.2.2.2 _ q1129) rfl (by decide +kernel) hR) (wc_preS C.2 hW hS _) rfl rfl hsz rfl (lv_room hro) d hf) hV (fun _ z => z) (fun H1 locs1 a b c0 _ _ => kk H1 locs1 a b c0)
set_option maxHeartbeats 4000000 in
set_option maxRecDepth 100000 in
theorem kX14_init {l : Launch} {D : va_G} {dA : Nat → ClassId} {h N : Nat} {n0 : Nat} {a1 : Option Nat} {u u_ : CS} (hE : fX14_init N u n0 a1 = some u_) : Met l yX14_init (ws_ yX14_init cX14_init 2 none) ({ frames := 3, cells := 0, slots := 0, locals := 65 }) (va_Pc [.ref (h + n0), wc_rf h a1] (wc_St D dA h u)) (wc_Qr D dA h none u_) 0 0 (CA h) := by
  refine wc_metI (own := RX14) (lv := [(0, .ref (h + n0)), (1, wc_rf h a1)]) rfl (by decide) rfl (by cases a1 <;> rfl) (by cases a1 <;> rfl) ?_
  intro p e s m args below meth c ls C hnm0 hr hlocks hW hS hV hl
  have hx := C.1.1
  have hb := C.1.2.1
  unfold fX14_init at hE
  refine lv_aload_n hx hb dX14_init_0 rfl (lv_at hl 0 rfl) ?_
  refine z_aload_n hx hb dX14_init_1 rfl (lv_at hl 1 rfl) ?_
  obtain ⟨u2, hc, hE⟩ := o_bd_some hE
  refine ci_X14_1 C hW hS hV (kX11_init hc) rfl rfl ⟨Nat.le_of_ble_eq_true rfl, Nat.le_of_ble_eq_true rfl⟩ ⟨Nat.le_refl 0, Nat.le_refl 0⟩ dX14_init_2 hl.1 (Nat.le_of_ble_eq_true rfl) (fun H locs hW hS hV => ?_)
  exact wc_vret C hr hlocks hW hS hV hE dX14_init_5
theorem ci_X3_147 {n0 : Nat} {a1 : Int32} {a2 : Option Nat} {a3 : Option Nat} {u u1 : CS} {rm : Room} (C : CC p m c cc nL s args D dA RX3) (hW : wc_W D dA h u H) (hS : wc_S u) (hV : va_S (CA h) H0 H locs) (hM : Met l yX15_init (ws_ yX15_init cX15_init 4 none) rm (va_Pc [.ref (h + n0), .int a1, wc_rf h a2, wc_rf h a3] (wc_St D dA h u)) (wc_Qr D dA h none u1) 0 0 (CA h)) (hrc : rm.cells = 0) (hrs : rm.slots = 0) (hR : rm.frames + 1 ≤ R.frames ∧ 8 + (4 + 11) + rm.locals ≤ R.locals) (hf : cells + 0 ≤ R.cells ∧ slots + 0 ≤ R.slots) (d : decode cc pc = .ok (.invokespecial 147, 3)) (hsz : ls.size = nL) (hro : (rest.map fun v => v.category).sum ≤ 8) (kk : ∀ (H1 : Heap) (locs1 : List Loc), wc_W D dA h u1 H1 → wc_S u1 → va_S (CA h) H0 H1 locs1 → W p l e R s m args below meth c H1 locs1 cells slots Q (F0 m (pc + 3) ls (rest))) : W p l e R s m args below meth c H locs cells slots Q (F0 m pc ls (wc_rf h a3 :: wc_rf h a2 :: .int a1 :: .ref (h + n0) :: rest)) :=
  wc_call (v := none) (va_runI (As := [.int a1, wc_rf h a2, wc_rf h a3]) (rest := rest) C.1 hM (cwI 3 C.1.2.2.2.2 (lw_meth q1142) rfl hrc hrs (C.1.2.2.2.2 _ q187) (C.1.2.2.2.2 _ q1140) (C.1.2.2.2.2 _ q1141) rfl (by decide +kernel) hR) (wc_preS C.2 hW hS _) rfl rfl hsz rfl (lv_room hro) d hf) hV (fun _ z => z) (fun H1 locs1 a b c0 _ _ => kk H1 locs1 a b c0)
set_option maxHeartbeats 4000000 in
set_option maxRecDepth 100000 in
theorem kX15_init {l : Launch} {D : va_G} {dA : Nat → ClassId} {h N : Nat} {n0 : Nat} {a1 : Int32} {a2 : Option Nat} {a3 : Option Nat} {u u_ : CS} (hE : fX15_init N u n0 a1 a2 a3 = some u_) : Met l yX15_init (ws_ yX15_init cX15_init 4 none) ({ frames := 2, cells := 0, slots := 0, locals := 44 }) (va_Pc [.ref (h + n0), .int a1, wc_rf h a2, wc_rf h a3] (wc_St D dA h u)) (wc_Qr D dA h none u_) 0 0 (CA h) := by
  refine wc_metI (own := RX15) (lv := [(0, .ref (h + n0)), (1, .int a1), (2, wc_rf h a2), (3, wc_rf h a3)]) rfl (by decide) rfl (by cases a2 <;> cases a3 <;> rfl) (by cases a2 <;> cases a3 <;> rfl) ?_
  intro p e s m args below meth c ls C hnm0 hr hlocks hW hS hV hl
  have hx := C.1.1
  have hb := C.1.2.1
  unfold fX15_init at hE
  refine lv_aload_n hx hb dX15_init_0 rfl (lv_at hl 0 rfl) ?_
  obtain ⟨u5, hc, hE⟩ := o_bd_some hE
  refine ci_X15_1 C hW hS hV (kX10_init hc) rfl rfl ⟨Nat.le_of_ble_eq_true rfl, Nat.le_of_ble_eq_true rfl⟩ ⟨Nat.le_refl 0, Nat.le_refl 0⟩ dX15_init_1 hl.1 (Nat.le_of_ble_eq_true rfl) (fun H locs hW hS hV => ?_)
  refine lv_aload_n hx hb dX15_init_4 rfl (lv_at hl 0 rfl) ?_
  refine lv_iload_n hx hb dX15_init_5 rfl (lv_at hl 1 rfl) ?_
  obtain ⟨ht, hE⟩ := o_sh_some hE
  obtain ⟨hb1, hE⟩ := o_ch_some hE
  refine cpf_X15_7_15 (J := wc_S) C hnm0 hW hV ht hS.uI hb1 hE dX15_init_6 (fun u6 H locs hE hW hS hV => ?_)
  refine lv_aload_n hx hb dX15_init_9 rfl (lv_at hl 0 rfl) ?_
  refine z_aload_n hx hb dX15_init_10 rfl (lv_at hl 2 rfl) ?_
  obtain ⟨ht, hE⟩ := o_sh_some hE
  refine cpf_X15_13_15 (x := a2) (J := wc_S) C hnm0 hW hV ht (hS.uP (wc_S.noR hS ht (by decide))) hE dX15_init_11 (fun u7 H locs hE hW hS hV => ?_)
  refine lv_aload_n hx hb dX15_init_14 rfl (lv_at hl 0 rfl) ?_
  refine z_aload_n hx hb dX15_init_15 rfl (lv_at hl 3 rfl) ?_
  obtain ⟨ht, hE⟩ := o_sh_some hE
  refine cpf_X15_17_15 (x := a3) (J := wc_S) C hnm0 hW hV ht (hS.uP (wc_S.noR hS ht (by decide))) hE dX15_init_16 (fun u8 H locs hE hW hS hV => ?_)
  exact wc_vret C hr hlocks hW hS hV hE dX15_init_19
theorem ca_X3_113 {a1 : Int32} {a2 : Option Nat} {a3 : Option Nat} {r : Option Nat} {mc ms : Nat} {u u1 : CS} {rm : Room} (C : CC p m c cc nL s args D dA RX3) (hW : wc_W D dA h u H) (hS : wc_S u) (hV : va_S (CA h) H0 H locs) (ht : wc_T u 297 = some (.inl 3)) (hM : Met l yX3_pair (ws_ yX3_pair cX3_pair 4 (some (.object "WoodState$Part"))) rm (va_Pc [.ref (h + 297), .int a1, wc_rf h a2, wc_rf h a3] (wc_St D dA h u)) (wc_Qr D dA h (some (wc_rf h r)) u1) mc ms (CA h)) (hrc : rm.cells = mc) (hrs : rm.slots = ms) (hR : rm.frames + 1 ≤ R.frames ∧ 8 + (4 + 11) + rm.locals ≤ R.locals) (hf : cells + mc ≤ R.cells ∧ slots + ms ≤ R.slots) (d : decode cc pc = .ok (.invokevirtual 113, 3)) (hsz : ls.size = nL) (hro : (rest.map fun v => v.category).sum ≤ 8) (kk : ∀ (H1 : Heap) (locs1 : List Loc), wc_W D dA h u1 H1 → wc_S u1 → va_S (CA h) H0 H1 locs1 → W p l e R s m args below meth c H1 locs1 (cells + mc) (slots + ms) Q (F0 m (pc + 3) ls (wc_rf h r :: rest))) : W p l e R s m args below meth c H locs cells slots Q (F0 m pc ls (wc_rf h a3 :: wc_rf h a2 :: .int a1 :: .ref (h + 297) :: rest)) :=
  wc_call (v := (some (wc_rf h r))) (va_runV (As := [.int a1, wc_rf h a2, wc_rf h a3]) (rest := rest) C.1 hM (cwV 3 C.1.2.2.2.2 (lw_V q1134 q1136 qs49 q170 q1137) rfl hrc hrs (by decide +kernel) hR) (wc_preV (q := (RX3, TX3, 12)) C.2 hW hS ht rfl _) rfl rfl hsz rfl (lv_room hro) d hf) hV (fun _ z => z) (fun H1 locs1 a b c0 _ _ => kk H1 locs1 a b c0)
set_option maxHeartbeats 4000000 in
set_option maxRecDepth 100000 in
theorem kX3_pair {l : Launch} {D : va_G} {dA : Nat → ClassId} {h N z0 : Nat} {a1 : Int32} {a2 : Option Nat} {a3 : Option Nat} {u u1 : CS} {r : Option Nat} (hz0 : wc_z u = z0) (hz1 : wc_z u ≤ wc_z u1) (hE : fX3_pair N u a1 a2 a3 = some (r, u1)) : Met l yX3_pair (ws_ yX3_pair cX3_pair 4 (some (.object "WoodState$Part"))) ({ frames := 3, cells := wc_z u1 - z0, slots := 4 * (wc_z u1 - z0), locals := 67 }) (va_Pc [.ref (h + 297), .int a1, wc_rf h a2, wc_rf h a3] (wc_St D dA h u)) (wc_Qr D dA h (some (wc_rf h r)) u1) (wc_z u1 - z0) (4 * (wc_z u1 - z0)) (CA h) := by
  refine wa_met (own := RX3) (lv := [(0, .ref (h + 297)), (1, .int a1), (2, wc_rf h a2), (3, wc_rf h a3)]) hz0 (by decide) rfl (by cases a2 <;> cases a3 <;> rfl) (by cases a2 <;> cases a3 <;> rfl) ?_
  intro p e s m args below meth c ls C hr hlocks hW hS hV hl
  have hx := C.1.1
  have hb := C.1.2.1
  have hZ : z0 ≤ wc_z u ∧ wc_z u ≤ wc_z u1 := ⟨by omega, hz1⟩
  have w_21 : ∀ (u : CS) (y0 : Option Nat) (H : Heap) (locs : List Loc) (ls : Array Slot), fX3_pair_21 N u y0 = some (r, u1) → wc_W D dA h u H → wc_S u → va_S (CA h) s.heap H locs → z0 ≤ wc_z u ∧ wc_z u ≤ wc_z u1 → lv_has ls 4 [] → W p l e ({ frames := 3, cells := wc_z u1 - z0, slots := 4 * (wc_z u1 - z0), locals := 67 }) s m args below meth c H locs (wc_z u - z0) (4 * (wc_z u - z0)) (MQ below (wc_Qr D dA h (some (wc_rf h r)) u1) args s (wc_z u1 - z0) (4 * (wc_z u1 - z0)) (CA h)) (F0 m 21 ls [wc_rf h y0]) := by
    intro u y0 H locs ls hE hW hS hV hZ hl
    unfold fX3_pair_21 at hE
    cases hE
    exact wc_aret C hr hlocks hW hS hV rfl dX3_pair_21
  unfold fX3_pair at hE
  refine lv_aload_n hx hb dX3_pair_0 rfl (lv_at hl 0 rfl) ?_
  refine cg_X3_86_3 C hW (st_297 hS) dX3_pair_1 ?_
  refine lv_if_eq (tgt := 11) hx hb dX3_pair_4 (by decide) (fun c2 => ?_) (fun c2 => ?_)
  · have hE := z_t c2 hE
    obtain ⟨hq_, hE⟩ := o_zc_some hE
    have hq_ : wc_z u + 1 ≤ wc_z u1 := hq_
    refine wa_newE (ci := 15) (Cn := RX15) (T := TX15) (N := 3) (ty := tyX15) C hW hS hV hZ hq_ rfl rfl (by decide) hE rfl rfl in_X15 tyX15_ok (fun j hj => by rcases (show j = 0 ∨ j = 1 ∨ j = 2 by omega) with rfl | rfl | rfl <;> rfl) q1138 q1139 q187 dX3_pair_11 (fun u3 H hE hW hS hZ hV => ?_)
    refine lv_dup hx hb dX3_pair_14 rfl ?_
    refine lv_iload_n hx hb dX3_pair_15 rfl (lv_at hl 1 rfl) ?_
    refine z_aload_n hx hb dX3_pair_16 rfl (lv_at hl 2 rfl) ?_
    refine z_aload_n hx hb dX3_pair_17 rfl (lv_at hl 3 rfl) ?_
    obtain ⟨u4, hc, hE⟩ := o_bd_some hE
    refine ci_X3_147 C hW hS hV (kX15_init hc) rfl rfl ⟨Nat.le_of_ble_eq_true rfl, Nat.le_of_ble_eq_true rfl⟩ (wa_r0 hZ) dX3_pair_18 hl.1 (Nat.le_of_ble_eq_true rfl) (fun H locs hW hS hV => ?_)
    obtain ⟨hz_, hE⟩ := o_ze_some hE
    rw [← hz_] at hZ ⊢
    exact w_21 _ _ _ _ _ hE hW hS hV hZ (lv_sub hl [] rfl)
  · have hE := z_f c2 hE
    refine lv_null hx hb dX3_pair_7 ?_
    refine lv_goto (tgt := 21) hx hb dX3_pair_8 (by decide) ?_
    exact w_21 _ _ _ _ _ hE hW hS hV hZ (lv_sub hl [] rfl)
theorem ca_X1_293 {F : Nat} {mc ms : Nat} {u u1 : CS} {rm : Room} (C : CC p m c cc nL s args D dA RX1) (hW : wc_W D dA h u H) (hS : wc_S u) (hV : va_S (CA h) H0 H locs) (ht : wc_T u F = some (.inl 1)) (hM : Met l yX1_rights (ws_ yX1_rights cX1_rights 6 none) rm (va_Pc [.ref (h + F)] (wc_St D dA h u)) (wc_Qr D dA h none u1) mc ms (CA h)) (hrc : rm.cells = mc) (hrs : rm.slots = ms) (hR : rm.frames + 1 ≤ R.frames ∧ 8 + (6 + 11) + rm.locals ≤ R.locals) (hf : cells + mc ≤ R.cells ∧ slots + ms ≤ R.slots) (d : decode cc pc = .ok (.invokevirtual 293, 3)) (hsz : ls.size = nL) (hro : (rest.map fun v => v.category).sum ≤ 8) (kk : ∀ (H1 : Heap) (locs1 : List Loc), wc_W D dA h u1 H1 → wc_S u1 → va_S (CA h) H0 H1 locs1 → W p l e R s m args below meth c H1 locs1 (cells + mc) (slots + ms) Q (F0 m (pc + 3) ls (rest))) : W p l e R s m args below meth c H locs cells slots Q (F0 m pc ls (.ref (h + F) :: rest)) :=
  wc_call (v := none) (va_runV (As := []) (rest := rest) C.1 hM (cwV 0 C.1.2.2.2.2 (lw_V q1300 q1302 qs65 q167 q1303) rfl hrc hrs (by decide +kernel) hR) (wc_preV (q := (RX1, TX1, 46)) C.2 hW hS ht rfl _) rfl rfl hsz rfl (lv_room hro) d hf) hV (fun _ z => z) (fun H1 locs1 a b c0 _ _ => kk H1 locs1 a b c0)
set_option maxHeartbeats 4000000 in
set_option maxRecDepth 100000 in
theorem kX1_rights {l : Launch} {D : va_G} {dA : Nat → ClassId} {h N z0 : Nat} {F : Nat} {u u_ : CS} (hF : wc_F F) (hz0 : wc_z u = z0) (hz1 : wc_z u ≤ wc_z u_) (hE : fX1_rights N F u = some u_) : Met l yX1_rights (ws_ yX1_rights cX1_rights 6 none) ({ frames := 205, cells := wc_z u_ - z0, slots := 4 * (wc_z u_ - z0), locals := 6522 }) (va_Pc [.ref (h + F)] (wc_St D dA h u)) (wc_Qr D dA h none u_) (wc_z u_ - z0) (4 * (wc_z u_ - z0)) (CA h) := by
  refine wa_met (own := RX1) (lv := [(0, .ref (h + F))]) hz0 (by decide) rfl rfl rfl ?_
  intro p e s m args below meth c ls C hr hlocks hW hS hV hl
  have hx := C.1.1
  have hb := C.1.2.1
  have hZ : z0 ≤ wc_z u ∧ wc_z u ≤ wc_z u_ := ⟨by omega, hz1⟩
  have w_166 : ∀ (ag2 : CS → Int32 → Option (CS)) (hag2 : (∀ (u : CS) (x1 : Int32) (H : Heap) (locs : List Loc) (ls : Array Slot), ag2 u x1 = some u_ → wc_W D dA h u H → wc_S u → va_S (CA h) s.heap H locs → z0 ≤ wc_z u ∧ wc_z u ≤ wc_z u_ → lv_has ls 6 [(0, .ref (h + F)), (1, .int x1)] → W p l e ({ frames := 205, cells := wc_z u_ - z0, slots := 4 * (wc_z u_ - z0), locals := 6522 }) s m args below meth c H locs (wc_z u - z0) (4 * (wc_z u - z0)) (MQ below (wc_Qr D dA h none u_) args s (wc_z u_ - z0) (4 * (wc_z u_ - z0)) (CA h)) (F0 m 2 ls []))) (u : CS) (x1 : Int32) (H : Heap) (locs : List Loc) (ls : Array Slot), fX1_rights_166 N F ag2 u x1 = some u_ → wc_W D dA h u H → wc_S u → va_S (CA h) s.heap H locs → z0 ≤ wc_z u ∧ wc_z u ≤ wc_z u_ → lv_has ls 6 [(0, .ref (h + F)), (1, .int x1)] → W p l e ({ frames := 205, cells := wc_z u_ - z0, slots := 4 * (wc_z u_ - z0), locals := 6522 }) s m args below meth c H locs (wc_z u - z0) (4 * (wc_z u - z0)) (MQ below (wc_Qr D dA h none u_) args s (wc_z u_ - z0) (4 * (wc_z u_ - z0)) (CA h)) (F0 m 166 ls []) := by
    intro ag2 hag2 u x1 H locs ls hE hW hS hV hZ hl
    unfold fX1_rights_166 at hE
    refine z_iinc (v := (x1 + (1 : Int32))) (lw := (fun y_ => [(1, .int y_), (0, .ref (h + F))])) hx hb dX1_rights_166 hl hE (k := 1) rfl rfl (by decide) (fun _ => rfl) (fun z24 ls hE hl => ?_)
    refine lv_goto (tgt := 2) hx hb dX1_rights_169 (by decide) ?_
    exact hag2 _ _ _ _ _ hE hW hS hV hZ (lv_sub hl [1, 0] rfl)
  have w_160 : ∀ (ag2 : CS → Int32 → Option (CS)) (hag2 : (∀ (u : CS) (x1 : Int32) (H : Heap) (locs : List Loc) (ls : Array Slot), ag2 u x1 = some u_ → wc_W D dA h u H → wc_S u → va_S (CA h) s.heap H locs → z0 ≤ wc_z u ∧ wc_z u ≤ wc_z u_ → lv_has ls 6 [(0, .ref (h + F)), (1, .int x1)] → W p l e ({ frames := 205, cells := wc_z u_ - z0, slots := 4 * (wc_z u_ - z0), locals := 6522 }) s m args below meth c H locs (wc_z u - z0) (4 * (wc_z u - z0)) (MQ below (wc_Qr D dA h none u_) args s (wc_z u_ - z0) (4 * (wc_z u_ - z0)) (CA h)) (F0 m 2 ls []))) (ag44 : CS → Int32 → Int32 → Option (CS)) (hag44 : (∀ (u : CS) (x1 : Int32) (x2 : Int32) (H : Heap) (locs : List Loc) (ls : Array Slot), ag44 u x1 x2 = some u_ → wc_W D dA h u H → wc_S u → va_S (CA h) s.heap H locs → z0 ≤ wc_z u ∧ wc_z u ≤ wc_z u_ → lv_has ls 6 [(0, .ref (h + F)), (1, .int x1), (2, .int x2)] → W p l e ({ frames := 205, cells := wc_z u_ - z0, slots := 4 * (wc_z u_ - z0), locals := 6522 }) s m args below meth c H locs (wc_z u - z0) (4 * (wc_z u - z0)) (MQ below (wc_Qr D dA h none u_) args s (wc_z u_ - z0) (4 * (wc_z u_ - z0)) (CA h)) (F0 m 44 ls []))) (u : CS) (x1 : Int32) (x2 : Int32) (H : Heap) (locs : List Loc) (ls : Array Slot), fX1_rights_160 N F ag2 ag44 u x1 x2 = some u_ → wc_W D dA h u H → wc_S u → va_S (CA h) s.heap H locs → z0 ≤ wc_z u ∧ wc_z u ≤ wc_z u_ → lv_has ls 6 [(0, .ref (h + F)), (1, .int x1), (2, .int x2)] → W p l e ({ frames := 205, cells := wc_z u_ - z0, slots := 4 * (wc_z u_ - z0), locals := 6522 }) s m args below meth c H locs (wc_z u - z0) (4 * (wc_z u - z0)) (MQ below (wc_Qr D dA h none u_) args s (wc_z u_ - z0) (4 * (wc_z u_ - z0)) (CA h)) (F0 m 160 ls []) := by
    intro ag2 hag2 ag44 hag44 u x1 x2 H locs ls hE hW hS hV hZ hl
    unfold fX1_rights_160 at hE
    refine z_iinc (v := (x2 + (1 : Int32))) (lw := (fun y_ => [(2, .int y_), (0, .ref (h + F)), (1, .int x1)])) hx hb dX1_rights_160 hl hE (k := 2) rfl rfl (by decide) (fun _ => rfl) (fun z25 ls hE hl => ?_)
    refine lv_goto (tgt := 44) hx hb dX1_rights_163 (by decide) ?_
    exact hag44 _ _ _ _ _ _ hE hW hS hV hZ (lv_sub hl [1, 2, 0] rfl)
  have w_111 : ∀ (ag2 : CS → Int32 → Option (CS)) (hag2 : (∀ (u : CS) (x1 : Int32) (H : Heap) (locs : List Loc) (ls : Array Slot), ag2 u x1 = some u_ → wc_W D dA h u H → wc_S u → va_S (CA h) s.heap H locs → z0 ≤ wc_z u ∧ wc_z u ≤ wc_z u_ → lv_has ls 6 [(0, .ref (h + F)), (1, .int x1)] → W p l e ({ frames := 205, cells := wc_z u_ - z0, slots := 4 * (wc_z u_ - z0), locals := 6522 }) s m args below meth c H locs (wc_z u - z0) (4 * (wc_z u - z0)) (MQ below (wc_Qr D dA h none u_) args s (wc_z u_ - z0) (4 * (wc_z u_ - z0)) (CA h)) (F0 m 2 ls []))) (ag44 : CS → Int32 → Int32 → Option (CS)) (hag44 : (∀ (u : CS) (x1 : Int32) (x2 : Int32) (H : Heap) (locs : List Loc) (ls : Array Slot), ag44 u x1 x2 = some u_ → wc_W D dA h u H → wc_S u → va_S (CA h) s.heap H locs → z0 ≤ wc_z u ∧ wc_z u ≤ wc_z u_ → lv_has ls 6 [(0, .ref (h + F)), (1, .int x1), (2, .int x2)] → W p l e ({ frames := 205, cells := wc_z u_ - z0, slots := 4 * (wc_z u_ - z0), locals := 6522 }) s m args below meth c H locs (wc_z u - z0) (4 * (wc_z u - z0)) (MQ below (wc_Qr D dA h none u_) args s (wc_z u_ - z0) (4 * (wc_z u_ - z0)) (CA h)) (F0 m 44 ls []))) (u : CS) (x1 : Int32) (x2 : Int32) (x3 : Int32) (H : Heap) (locs : List Loc) (ls : Array Slot), fX1_rights_111 N F ag2 ag44 u x1 x2 x3 = some u_ → wc_W D dA h u H → wc_S u → va_S (CA h) s.heap H locs → z0 ≤ wc_z u ∧ wc_z u ≤ wc_z u_ → lv_has ls 6 [(0, .ref (h + F)), (1, .int x1), (2, .int x2), (3, .int x3)] → W p l e ({ frames := 205, cells := wc_z u_ - z0, slots := 4 * (wc_z u_ - z0), locals := 6522 }) s m args below meth c H locs (wc_z u - z0) (4 * (wc_z u - z0)) (MQ below (wc_Qr D dA h none u_) args s (wc_z u_ - z0) (4 * (wc_z u_ - z0)) (CA h)) (F0 m 111 ls []) := by
    intro ag2 hag2 ag44 hag44 u x1 x2 x3 H locs ls hE hW hS hV hZ hl
    unfold fX1_rights_111 at hE
    refine lv_iload_n hx hb dX1_rights_111 rfl (lv_at hl 3 rfl) ?_
    refine lv_if_le (tgt := 160) hx hb dX1_rights_112 (by decide) (fun c26 => ?_) (fun c26 => ?_)
    · have hE := z_t c26 hE
      exact w_160 ag2 hag2 ag44 hag44 _ _ _ _ _ _ hE hW hS hV hZ (lv_sub hl [0, 1, 2] rfl)
    · have hE := z_f c26 hE
      obtain ⟨hq_, hE⟩ := o_zc_some hE
      have hq_ : wc_z u + 1 ≤ wc_z u_ := hq_
      refine wa_newE (ci := 16) (Cn := RX16) (T := TX16) (N := 4) (ty := tyX16) C hW hS hV hZ hq_ rfl rfl (by decide) hE rfl rfl in_X16 tyX16_ok (fun j hj => by rcases (show j = 0 ∨ j = 1 ∨ j = 2 ∨ j = 3 by omega) with rfl | rfl | rfl | rfl <;> rfl) q1305 q1306 q189 dX1_rights_115 (fun u27 H hE hW hS hZ hV => ?_)
      refine lv_dup hx hb dX1_rights_118 rfl ?_
      obtain ⟨u28, hc, hE⟩ := o_bd_some hE
      refine ci_X1_274 C hW hS hV (kX16_init hc) rfl rfl ⟨Nat.le_of_ble_eq_true rfl, Nat.le_of_ble_eq_true rfl⟩ (wa_r0 hZ) dX1_rights_119 hl.1 (Nat.le_of_ble_eq_true rfl) (fun H locs hW hS hV => ?_)
      obtain ⟨hz_, hE⟩ := o_ze_some hE
      rw [← hz_] at hZ ⊢
      refine lv_astore (lv' := [(4, .ref (h + (wc_z u))), (0, .ref (h + F)), (1, .int x1), (2, .int x2), (3, .int x3)]) hx hb dX1_rights_122 hl (by decide) rfl (fun ls hl => ?_)
      refine lv_aload hx hb dX1_rights_124 (lv_at hl 0 rfl) ?_
      refine lv_iload_n hx hb dX1_rights_126 rfl (lv_at hl 2 rfl) ?_
      obtain ⟨ht, hE⟩ := o_sh_some hE
      refine cp_X1_275_16 (J := wa_J u28) C hW hV ht ⟨hS.uI, rfl⟩ hE dX1_rights_127 (fun u29 H locs hE hW hS hV => ?_)
      obtain ⟨hS, hz_⟩ := hS
      rw [← hz_] at hZ ⊢
      refine lv_aload_n hx hb dX1_rights_130 rfl (lv_at hl 1 rfl) ?_
      refine lv_aload hx hb dX1_rights_131 (lv_at hl 0 rfl) ?_
      refine lv_iload_n hx hb dX1_rights_133 rfl (lv_at hl 3 rfl) ?_
      refine lv_iload_n hx hb dX1_rights_134 rfl (lv_at hl 4 rfl) ?_
      obtain ⟨r30, u31, hc, hE⟩ := o_bd2_some hE
      refine cc_X1_278 C hW hS hV (st_F hS hF) (kX1_put hF hc) rfl rfl ⟨Nat.le_of_ble_eq_true rfl, Nat.le_of_ble_eq_true rfl⟩ (wa_r0 hZ) dX1_rights_135 hl.1 (Nat.le_of_ble_eq_true rfl) (fun H locs hW hS hV => ?_)
      obtain ⟨hz_, hE⟩ := o_ze_some hE
      rw [← hz_] at hZ ⊢
      refine lv_istore (lv' := [(5, .int r30), (4, .ref (h + (wc_z u))), (0, .ref (h + F)), (1, .int x1), (2, .int x2), (3, .int x3)]) hx hb dX1_rights_138 hl (by decide) rfl (fun ls hl => ?_)
      refine lv_aload_n hx hb dX1_rights_140 rfl (lv_at hl 2 rfl) ?_
      refine cgs_X1_33_1 C hW (st_F hS hF) (sp_F_lying hS hF) dX1_rights_141 ?_
      refine lv_iload_n hx hb dX1_rights_144 rfl (lv_at hl 4 rfl) ?_
      refine lv_dup2_11 hx hb dX1_rights_145 rfl rfl ?_
      refine wc_ldi C hW (st_F_lying hS hF) hE dX1_rights_146 (fun hE => ?_)
      refine z_nmi hE (fun v32 hE => ?_)
      refine lv_iload_n hx hb dX1_rights_147 rfl (lv_at hl 5 rfl) ?_
      refine lv_isub hx hb dX1_rights_148 ?_
      refine wc_sti (J := wa_J u31) C hW hV (st_F_lying hS hF) ⟨hS.uA, rfl⟩ hE dX1_rights_149 (fun u33 H locs hE hW hS hV => ?_)
      obtain ⟨hS, hz_⟩ := hS
      rw [← hz_] at hZ ⊢
      refine lv_aload_n hx hb dX1_rights_150 rfl (lv_at hl 2 rfl) ?_
      refine cgs_X1_76_1 C hW (st_F hS hF) (sp_F_owed hS hF) dX1_rights_151 ?_
      refine lv_iload_n hx hb dX1_rights_154 rfl (lv_at hl 3 rfl) ?_
      refine lv_dup2_11 hx hb dX1_rights_155 rfl rfl ?_
      refine wc_ldi C hW (st_F_owed hS hF) hE dX1_rights_156 (fun hE => ?_)
      refine z_nmi hE (fun v34 hE => ?_)
      refine lv_iload_n hx hb dX1_rights_157 rfl (lv_at hl 5 rfl) ?_
      refine lv_isub hx hb dX1_rights_158 ?_
      refine wc_sti (J := wa_J u33) C hW hV (st_F_owed hS hF) ⟨hS.uA, rfl⟩ hE dX1_rights_159 (fun u35 H locs hE hW hS hV => ?_)
      obtain ⟨hS, hz_⟩ := hS
      rw [← hz_] at hZ ⊢
      exact w_160 ag2 hag2 ag44 hag44 _ _ _ _ _ _ hE hW hS hV hZ (lv_sub hl [2, 3, 4] rfl)
  have w_95 : ∀ (ag2 : CS → Int32 → Option (CS)) (hag2 : (∀ (u : CS) (x1 : Int32) (H : Heap) (locs : List Loc) (ls : Array Slot), ag2 u x1 = some u_ → wc_W D dA h u H → wc_S u → va_S (CA h) s.heap H locs → z0 ≤ wc_z u ∧ wc_z u ≤ wc_z u_ → lv_has ls 6 [(0, .ref (h + F)), (1, .int x1)] → W p l e ({ frames := 205, cells := wc_z u_ - z0, slots := 4 * (wc_z u_ - z0), locals := 6522 }) s m args below meth c H locs (wc_z u - z0) (4 * (wc_z u - z0)) (MQ below (wc_Qr D dA h none u_) args s (wc_z u_ - z0) (4 * (wc_z u_ - z0)) (CA h)) (F0 m 2 ls []))) (ag44 : CS → Int32 → Int32 → Option (CS)) (hag44 : (∀ (u : CS) (x1 : Int32) (x2 : Int32) (H : Heap) (locs : List Loc) (ls : Array Slot), ag44 u x1 x2 = some u_ → wc_W D dA h u H → wc_S u → va_S (CA h) s.heap H locs → z0 ≤ wc_z u ∧ wc_z u ≤ wc_z u_ → lv_has ls 6 [(0, .ref (h + F)), (1, .int x1), (2, .int x2)] → W p l e ({ frames := 205, cells := wc_z u_ - z0, slots := 4 * (wc_z u_ - z0), locals := 6522 }) s m args below meth c H locs (wc_z u - z0) (4 * (wc_z u - z0)) (MQ below (wc_Qr D dA h none u_) args s (wc_z u_ - z0) (4 * (wc_z u_ - z0)) (CA h)) (F0 m 44 ls []))) (u : CS) (x1 : Int32) (x2 : Int32) (y0 : Int32) (H : Heap) (locs : List Loc) (ls : Array Slot), fX1_rights_95 N F ag2 ag44 u x1 x2 y0 = some u_ → wc_W D dA h u H → wc_S u → va_S (CA h) s.heap H locs → z0 ≤ wc_z u ∧ wc_z u ≤ wc_z u_ → lv_has ls 6 [(0, .ref (h + F)), (1, .int x1), (2, .int x2)] → W p l e ({ frames := 205, cells := wc_z u_ - z0, slots := 4 * (wc_z u_ - z0), locals := 6522 }) s m args below meth c H locs (wc_z u - z0) (4 * (wc_z u - z0)) (MQ below (wc_Qr D dA h none u_) args s (wc_z u_ - z0) (4 * (wc_z u_ - z0)) (CA h)) (F0 m 95 ls [.int y0]) := by
    intro ag2 hag2 ag44 hag44 u x1 x2 y0 H locs ls hE hW hS hV hZ hl
    unfold fX1_rights_95 at hE
    refine lv_istore_n (lv' := [(3, .int y0), (0, .ref (h + F)), (1, .int x1), (2, .int x2)]) hx hb dX1_rights_95 rfl hl (by decide) rfl (fun ls hl => ?_)
    refine lv_iload_n hx hb dX1_rights_96 rfl (lv_at hl 0 rfl) ?_
    refine lv_if_le (tgt := 111) hx hb dX1_rights_97 (by decide) (fun c36 => ?_) (fun c36 => ?_)
    · have hE := z_t c36 hE
      exact w_111 ag2 hag2 ag44 hag44 _ _ _ _ _ _ _ hE hW hS hV hZ (lv_sub hl [1, 2, 3, 0] rfl)
    · have hE := z_f c36 hE
      refine lv_aload_n hx hb dX1_rights_100 rfl (lv_at hl 1 rfl) ?_
      obtain ⟨r37, u38, hc, hE⟩ := o_bd2_some hE
      refine cc_X1_258 C hW hS hV (st_F hS hF) (kX1_free hF hc) rfl rfl ⟨Nat.le_of_ble_eq_true rfl, Nat.le_of_ble_eq_true rfl⟩ (wa_r0 hZ) dX1_rights_101 hl.1 (Nat.le_of_ble_eq_true rfl) (fun H locs hW hS hV => ?_)
      obtain ⟨hz_, hE⟩ := o_ze_some hE
      rw [← hz_] at hZ ⊢
      refine lv_iconst (v := (-1 : Int32)) hx hb dX1_rights_104 rfl ?_
      refine lv_icmp_ne (tgt := 111) hx hb dX1_rights_105 (by decide) (fun c39 => ?_) (fun c39 => ?_)
      · have hE := z_f c39 hE
        exact w_111 ag2 hag2 ag44 hag44 _ _ _ _ _ _ _ hE hW hS hV hZ (lv_sub hl [1, 2, 3, 0] rfl)
      · have hE := z_t c39 hE
        refine lv_goto (tgt := 166) hx hb dX1_rights_108 (by decide) ?_
        exact w_166 ag2 hag2 _ _ _ _ _ hE hW hS hV hZ (lv_sub hl [1, 2] rfl)
  have w_44 : ∀ (ag2 : CS → Int32 → Option (CS)) (hag2 : (∀ (u : CS) (x1 : Int32) (H : Heap) (locs : List Loc) (ls : Array Slot), ag2 u x1 = some u_ → wc_W D dA h u H → wc_S u → va_S (CA h) s.heap H locs → z0 ≤ wc_z u ∧ wc_z u ≤ wc_z u_ → lv_has ls 6 [(0, .ref (h + F)), (1, .int x1)] → W p l e ({ frames := 205, cells := wc_z u_ - z0, slots := 4 * (wc_z u_ - z0), locals := 6522 }) s m args below meth c H locs (wc_z u - z0) (4 * (wc_z u - z0)) (MQ below (wc_Qr D dA h none u_) args s (wc_z u_ - z0) (4 * (wc_z u_ - z0)) (CA h)) (F0 m 2 ls []))) (n : Nat) (u : CS) (x1 : Int32) (x2 : Int32) (H : Heap) (locs : List Loc) (ls : Array Slot), fX1_rights_44 N F ag2 n u x1 x2 = some u_ → wc_W D dA h u H → wc_S u → va_S (CA h) s.heap H locs → z0 ≤ wc_z u ∧ wc_z u ≤ wc_z u_ → lv_has ls 6 [(0, .ref (h + F)), (1, .int x1), (2, .int x2)] → W p l e ({ frames := 205, cells := wc_z u_ - z0, slots := 4 * (wc_z u_ - z0), locals := 6522 }) s m args below meth c H locs (wc_z u - z0) (4 * (wc_z u - z0)) (MQ below (wc_Qr D dA h none u_) args s (wc_z u_ - z0) (4 * (wc_z u_ - z0)) (CA h)) (F0 m 44 ls []) := by
    intro ag2 hag2 n
    induction n with
    | zero =>
      intro u x1 x2 H locs ls hE hW hS hV hZ hl
      cases (show (none : Option (CS)) = some u_ from hE)
    | succ n ih =>
      intro u x1 x2 H locs ls hE hW hS hV hZ hl
      rw [fX1_rights_44] at hE
      refine lv_iload_n hx hb dX1_rights_44 rfl (lv_at hl 2 rfl) ?_
      refine lv_aload_n hx hb dX1_rights_45 rfl (lv_at hl 0 rfl) ?_
      refine cg_X1_168_1 C hW (st_F hS hF) dX1_rights_46 ?_
      refine lv_icmp_ge (tgt := 166) hx hb dX1_rights_49 (by decide) (fun c40 => ?_) (fun c40 => ?_)
      · have hE := z_t c40 hE
        exact w_166 ag2 hag2 _ _ _ _ _ hE hW hS hV hZ (lv_sub hl [0, 1] rfl)
      · have hE := z_f c40 hE
        refine lv_aload_n hx hb dX1_rights_52 rfl (lv_at hl 0 rfl) ?_
        refine cgs_X1_76_1 C hW (st_F hS hF) (sp_F_owed hS hF) dX1_rights_53 ?_
        refine lv_iload_n hx hb dX1_rights_56 rfl (lv_at hl 1 rfl) ?_
        refine wc_ldi C hW (st_F_owed hS hF) hE dX1_rights_57 (fun hE => ?_)
        refine z_nmi hE (fun v41 hE => ?_)
        refine lv_if_le (tgt := 166) hx hb dX1_rights_58 (by decide) (fun c42 => ?_) (fun c42 => ?_)
        · have hE := z_t c42 hE
          exact w_166 ag2 hag2 _ _ _ _ _ hE hW hS hV hZ (lv_sub hl [0, 1] rfl)
        · have hE := z_f c42 hE
          refine lv_aload_n hx hb dX1_rights_61 rfl (lv_at hl 0 rfl) ?_
          refine cgs_X1_9_1 C hW (st_F hS hF) (sp_F_blocks hS hF) dX1_rights_62 ?_
          refine lv_iload_n hx hb dX1_rights_65 rfl (lv_at hl 2 rfl) ?_
          refine wc_ldi C hW (st_F_blocks hS hF) hE dX1_rights_66 (fun hE => ?_)
          refine z_nmi hE (fun v43 hE => ?_)
          refine lv_aload_n hx hb dX1_rights_67 rfl (lv_at hl 0 rfl) ?_
          refine cgs_X1_67_1 C hW (st_F hS hF) (sp_F_homes hS hF) dX1_rights_68 ?_
          refine lv_iload_n hx hb dX1_rights_71 rfl (lv_at hl 1 rfl) ?_
          refine wc_ldi C hW (st_F_homes hS hF) hE dX1_rights_72 (fun hE => ?_)
          refine z_nmi hE (fun v44 hE => ?_)
          refine lv_icmp_ne (tgt := 94) hx hb dX1_rights_73 (by decide) (fun c45 => ?_) (fun c45 => ?_)
          · have hE := z_f c45 hE
            refine lv_iconst (v := (0 : Int32)) hx hb dX1_rights_94 rfl ?_
            exact w_95 ag2 hag2 (fX1_rights_44 N F ag2 n) ih _ _ _ _ _ _ _ hE hW hS hV hZ (lv_sub hl [0, 1, 2] rfl)
          · have hE := z_t c45 hE
            refine lv_aload_n hx hb dX1_rights_76 rfl (lv_at hl 0 rfl) ?_
            refine cgs_X1_76_1 C hW (st_F hS hF) (sp_F_owed hS hF) dX1_rights_77 ?_
            refine lv_iload_n hx hb dX1_rights_80 rfl (lv_at hl 1 rfl) ?_
            refine wc_ldi C hW (st_F_owed hS hF) hE dX1_rights_81 (fun hE => ?_)
            refine z_nmi hE (fun v46 hE => ?_)
            refine lv_aload_n hx hb dX1_rights_82 rfl (lv_at hl 0 rfl) ?_
            refine cgs_X1_33_1 C hW (st_F hS hF) (sp_F_lying hS hF) dX1_rights_83 ?_
            refine lv_iload_n hx hb dX1_rights_86 rfl (lv_at hl 2 rfl) ?_
            refine wc_ldi C hW (st_F_lying hS hF) hE dX1_rights_87 (fun hE => ?_)
            refine z_nmi hE (fun v47 hE => ?_)
            refine va_mmin hx hb (C.1.2.2.1.trans hl.1.symm) C.1.2.2.2.1 (C.1.2.2.2.2 _ q232) (C.1.2.2.2.2 _ q233) (C.1.2.2.2.2 _ q169) (C.1.2.2.2.2 _ q234) (Nat.le_of_ble_eq_true rfl) (by first | exact Nat.le_of_ble_eq_true rfl | (simp [wc_cat, Value.category])) (wa_r1 hZ).1 (wa_r1 hZ).2 dX1_rights_88 ?_
            refine lv_goto (tgt := 95) hx hb dX1_rights_91 (by decide) ?_
            exact w_95 ag2 hag2 (fX1_rights_44 N F ag2 n) ih _ _ _ _ _ _ _ hE hW hS hV hZ (lv_sub hl [0, 1, 2] rfl)
  have w_2 : ∀ (n : Nat) (u : CS) (x1 : Int32) (H : Heap) (locs : List Loc) (ls : Array Slot), fX1_rights_2 N F n u x1 = some u_ → wc_W D dA h u H → wc_S u → va_S (CA h) s.heap H locs → z0 ≤ wc_z u ∧ wc_z u ≤ wc_z u_ → lv_has ls 6 [(0, .ref (h + F)), (1, .int x1)] → W p l e ({ frames := 205, cells := wc_z u_ - z0, slots := 4 * (wc_z u_ - z0), locals := 6522 }) s m args below meth c H locs (wc_z u - z0) (4 * (wc_z u - z0)) (MQ below (wc_Qr D dA h none u_) args s (wc_z u_ - z0) (4 * (wc_z u_ - z0)) (CA h)) (F0 m 2 ls []) := by
    intro n
    induction n with
    | zero =>
      intro u x1 H locs ls hE hW hS hV hZ hl
      cases (show (none : Option (CS)) = some u_ from hE)
    | succ n ih =>
      intro u x1 H locs ls hE hW hS hV hZ hl
      rw [fX1_rights_2] at hE
      refine lv_iload_n hx hb dX1_rights_2 rfl (lv_at hl 1 rfl) ?_
      refine lv_aload_n hx hb dX1_rights_3 rfl (lv_at hl 0 rfl) ?_
      refine cg_X1_177_1 C hW (st_F hS hF) dX1_rights_4 ?_
      refine lv_icmp_ge (tgt := 172) hx hb dX1_rights_7 (by decide) (fun c48 => ?_) (fun c48 => ?_)
      · have hE := z_t c48 hE
        cases hE
        exact wc_vret C hr hlocks hW hS hV rfl dX1_rights_172
      · have hE := z_f c48 hE
        refine lv_aload_n hx hb dX1_rights_10 rfl (lv_at hl 0 rfl) ?_
        refine cgs_X1_76_1 C hW (st_F hS hF) (sp_F_owed hS hF) dX1_rights_11 ?_
        refine lv_iload_n hx hb dX1_rights_14 rfl (lv_at hl 1 rfl) ?_
        refine lv_dup2_11 hx hb dX1_rights_15 rfl rfl ?_
        refine wc_ldi C hW (st_F_owed hS hF) hE dX1_rights_16 (fun hE => ?_)
        refine z_nmi hE (fun v49 hE => ?_)
        refine lv_aload_n hx hb dX1_rights_17 rfl (lv_at hl 0 rfl) ?_
        refine lv_aload_n hx hb dX1_rights_18 rfl (lv_at hl 0 rfl) ?_
        refine lv_iconst (v := (4 : Int32)) hx hb dX1_rights_19 rfl ?_
        refine lv_bipush (v := (100 : Int32)) hx hb dX1_rights_20 rfl ?_
        refine lv_iload_n hx hb dX1_rights_22 rfl (lv_at hl 1 rfl) ?_
        refine lv_iadd hx hb dX1_rights_23 ?_
        obtain ⟨r50, u51, hc, hE⟩ := o_bd2_some hE
        refine cc_X1_223 C hW hS hV (st_F hS hF) (kX1_saysNow hF hc) rfl rfl ⟨Nat.le_of_ble_eq_true rfl, Nat.le_of_ble_eq_true rfl⟩ (wa_r0 hZ) dX1_rights_24 hl.1 (Nat.le_of_ble_eq_true rfl) (fun H locs hW hS hV => ?_)
        obtain ⟨hz_, hE⟩ := o_ze_some hE
        rw [← hz_] at hZ ⊢
        refine lv_sipush (v := (1000 : Int32)) hx hb dX1_rights_27 rfl ?_
        obtain ⟨r52, u53, hc, hE⟩ := o_bd2_some hE
        refine cc_X1_269 C hW hS hV (st_F hS hF) (kX1_between hF hc) rfl rfl ⟨Nat.le_of_ble_eq_true rfl, Nat.le_of_ble_eq_true rfl⟩ (wa_r0 hZ) dX1_rights_30 hl.1 (Nat.le_of_ble_eq_true rfl) (fun H locs hW hS hV => ?_)
        obtain ⟨hz_, hE⟩ := o_ze_some hE
        rw [← hz_] at hZ ⊢
        refine lv_aload_n hx hb dX1_rights_33 rfl (lv_at hl 0 rfl) ?_
        refine cgs_X1_70_1 C hW (st_F hS hF) (sp_F_hearths hS hF) dX1_rights_34 ?_
        refine lv_iload_n hx hb dX1_rights_37 rfl (lv_at hl 1 rfl) ?_
        refine wc_ldi C hW (st_F_hearths hS hF) hE dX1_rights_38 (fun hE => ?_)
        refine z_nmi hE (fun v54 hE => ?_)
        refine lv_imul hx hb dX1_rights_39 ?_
        refine lv_iadd hx hb dX1_rights_40 ?_
        refine wc_sti (J := wa_J u53) C hW hV (st_F_owed hS hF) ⟨hS.uA, rfl⟩ hE dX1_rights_41 (fun u55 H locs hE hW hS hV => ?_)
        obtain ⟨hS, hz_⟩ := hS
        rw [← hz_] at hZ ⊢
        refine lv_iconst (v := (0 : Int32)) hx hb dX1_rights_42 rfl ?_
        refine lv_istore_n (lv' := [(2, .int (0 : Int32)), (0, .ref (h + F)), (1, .int x1)]) hx hb dX1_rights_43 rfl hl (by decide) rfl (fun ls hl => ?_)
        exact w_44 (fX1_rights_2 N F n) ih N _ _ _ _ _ _ hE hW hS hV hZ (lv_sub hl [1, 2, 0] rfl)
  unfold fX1_rights at hE
  refine lv_iconst (v := (0 : Int32)) hx hb dX1_rights_0 rfl ?_
  refine lv_istore_n (lv' := [(1, .int (0 : Int32)), (0, .ref (h + F))]) hx hb dX1_rights_1 rfl hl (by decide) rfl (fun ls hl => ?_)
  exact w_2 N _ _ _ _ _ hE hW hS hV hZ (lv_sub hl [1, 0] rfl)
theorem ca_X1_290 {F : Nat} {a1 : Int32} {a2 : Int32} {mc ms : Nat} {u u1 : CS} {rm : Room} (C : CC p m c cc nL s args D dA RX1) (hW : wc_W D dA h u H) (hS : wc_S u) (hV : va_S (CA h) H0 H locs) (ht : wc_T u F = some (.inl 1)) (hM : Met l yX1_lead (ws_ yX1_lead cX1_lead 4 none) rm (va_Pc [.ref (h + F), .int a1, .int a2] (wc_St D dA h u)) (wc_Qr D dA h none u1) mc ms (CA h)) (hrc : rm.cells = mc) (hrs : rm.slots = ms) (hR : rm.frames + 1 ≤ R.frames ∧ 8 + (4 + 11) + rm.locals ≤ R.locals) (hf : cells + mc ≤ R.cells ∧ slots + ms ≤ R.slots) (d : decode cc pc = .ok (.invokevirtual 290, 3)) (hsz : ls.size = nL) (hro : (rest.map fun v => v.category).sum ≤ 8) (kk : ∀ (H1 : Heap) (locs1 : List Loc), wc_W D dA h u1 H1 → wc_S u1 → va_S (CA h) H0 H1 locs1 → W p l e R s m args below meth c H1 locs1 (cells + mc) (slots + ms) Q (F0 m (pc + 3) ls (rest))) : W p l e R s m args below meth c H locs cells slots Q (F0 m pc ls (.int a2 :: .int a1 :: .ref (h + F) :: rest)) :=
  wc_call (v := none) (va_runV (As := [.int a1, .int a2]) (rest := rest) C.1 hM (cwV 2 C.1.2.2.2.2 (lw_V q1328 q1330 qs68 q167 q1331) rfl hrc hrs (by decide +kernel) hR) (wc_preV (q := (RX1, TX1, 46)) C.2 hW hS ht rfl _) rfl rfl hsz rfl (lv_room hro) d hf) hV (fun _ z => z) (fun H1 locs1 a b c0 _ _ => kk H1 locs1 a b c0)
set_option maxHeartbeats 4000000 in
set_option maxRecDepth 100000 in
theorem kX1_lead {l : Launch} {D : va_G} {dA : Nat → ClassId} {h N z0 : Nat} {F : Nat} {a1 : Int32} {a2 : Int32} {u u_ : CS} (hF : wc_F F) (hz0 : wc_z u = z0) (hz1 : wc_z u ≤ wc_z u_) (hE : fX1_lead N F u a1 a2 = some u_) : Met l yX1_lead (ws_ yX1_lead cX1_lead 4 none) ({ frames := 2, cells := wc_z u_ - z0, slots := 4 * (wc_z u_ - z0), locals := 45 }) (va_Pc [.ref (h + F), .int a1, .int a2] (wc_St D dA h u)) (wc_Qr D dA h none u_) (wc_z u_ - z0) (4 * (wc_z u_ - z0)) (CA h) := by
  refine wa_met (own := RX1) (lv := [(0, .ref (h + F)), (1, .int a1), (2, .int a2)]) hz0 (by decide) rfl rfl rfl ?_
  intro p e s m args below meth c ls C hr hlocks hW hS hV hl
  have hx := C.1.1
  have hb := C.1.2.1
  have hZ : z0 ≤ wc_z u ∧ wc_z u ≤ wc_z u_ := ⟨by omega, hz1⟩
  have w_55 : ∀ (u : CS) (H : Heap) (locs : List Loc) (ls : Array Slot), fX1_lead_55 N F u = some u_ → wc_W D dA h u H → wc_S u → va_S (CA h) s.heap H locs → z0 ≤ wc_z u ∧ wc_z u ≤ wc_z u_ → lv_has ls 4 [] → W p l e ({ frames := 2, cells := wc_z u_ - z0, slots := 4 * (wc_z u_ - z0), locals := 45 }) s m args below meth c H locs (wc_z u - z0) (4 * (wc_z u - z0)) (MQ below (wc_Qr D dA h none u_) args s (wc_z u_ - z0) (4 * (wc_z u_ - z0)) (CA h)) (F0 m 55 ls []) := by
    intro u H locs ls hE hW hS hV hZ hl
    unfold fX1_lead_55 at hE
    cases hE
    exact wc_vret C hr hlocks hW hS hV rfl dX1_lead_55
  have w_37 : ∀ (u : CS) (x1 : Int32) (x2 : Int32) (H : Heap) (locs : List Loc) (ls : Array Slot), fX1_lead_37 N F u x1 x2 = some u_ → wc_W D dA h u H → wc_S u → va_S (CA h) s.heap H locs → z0 ≤ wc_z u ∧ wc_z u ≤ wc_z u_ → lv_has ls 4 [(0, .ref (h + F)), (1, .int x1), (2, .int x2)] → W p l e ({ frames := 2, cells := wc_z u_ - z0, slots := 4 * (wc_z u_ - z0), locals := 45 }) s m args below meth c H locs (wc_z u - z0) (4 * (wc_z u - z0)) (MQ below (wc_Qr D dA h none u_) args s (wc_z u_ - z0) (4 * (wc_z u_ - z0)) (CA h)) (F0 m 37 ls []) := by
    intro u x1 x2 H locs ls hE hW hS hV hZ hl
    unfold fX1_lead_37 at hE
    refine lv_iload_n hx hb dX1_lead_37 rfl (lv_at hl 2 rfl) ?_
    refine lv_if_le (tgt := 55) hx hb dX1_lead_38 (by decide) (fun c8 => ?_) (fun c8 => ?_)
    · have hE := z_t c8 hE
      exact w_55 _ _ _ _ hE hW hS hV hZ (lv_sub hl [] rfl)
    · have hE := z_f c8 hE
      refine lv_aload_n hx hb dX1_lead_41 rfl (lv_at hl 0 rfl) ?_
      obtain ⟨hq_, hE⟩ := o_zc_some hE
      have hq_ : wc_z u + 1 ≤ wc_z u_ := hq_
      refine wa_newE (ci := 8) (Cn := RX8) (T := TX8) (N := 3) (ty := tyX8) C hW hS hV hZ hq_ rfl rfl (by decide) hE rfl rfl in_X8 tyX8_ok (fun j hj => by rcases (show j = 0 ∨ j = 1 ∨ j = 2 by omega) with rfl | rfl | rfl <;> rfl) q846 q1332 q180 dX1_lead_42 (fun u9 H hE hW hS hZ hV => ?_)
      refine lv_dup hx hb dX1_lead_45 rfl ?_
      obtain ⟨u10, hc, hE⟩ := o_bd_some hE
      refine ci_X1_282 C hW hS hV (kX8_init hc) rfl rfl ⟨Nat.le_of_ble_eq_true rfl, Nat.le_of_ble_eq_true rfl⟩ (wa_r0 hZ) dX1_lead_46 hl.1 (Nat.le_of_ble_eq_true rfl) (fun H locs hW hS hV => ?_)
      obtain ⟨hz_, hE⟩ := o_ze_some hE
      rw [← hz_] at hZ ⊢
      refine lv_iload_n hx hb dX1_lead_49 rfl (lv_at hl 1 rfl) ?_
      refine lv_iload_n hx hb dX1_lead_50 rfl (lv_at hl 2 rfl) ?_
      obtain ⟨r11, u12, hc, hE⟩ := o_bd2_some hE
      refine cc_X1_278 C hW hS hV (st_F hS hF) (kX1_put hF hc) rfl rfl ⟨Nat.le_of_ble_eq_true rfl, Nat.le_of_ble_eq_true rfl⟩ (wa_r0 hZ) dX1_lead_51 hl.1 (Nat.le_of_ble_eq_true rfl) (fun H locs hW hS hV => ?_)
      obtain ⟨hz_, hE⟩ := o_ze_some hE
      rw [← hz_] at hZ ⊢
      refine lv_istore_n (lv' := [(3, .int r11), (0, .ref (h + F)), (1, .int x1), (2, .int x2)]) hx hb dX1_lead_54 rfl hl (by decide) rfl (fun ls hl => ?_)
      exact w_55 _ _ _ _ hE hW hS hV hZ (lv_sub hl [] rfl)
  unfold fX1_lead at hE
  refine lv_aload_n hx hb dX1_lead_0 rfl (lv_at hl 0 rfl) ?_
  refine cgs_X1_85_1 C hW (st_F hS hF) (sp_F_books hS hF) dX1_lead_1 ?_
  refine lv_iconst (v := (0 : Int32)) hx hb dX1_lead_4 rfl ?_
  refine lv_dup2_11 hx hb dX1_lead_5 rfl rfl ?_
  refine wc_ldl C hW (st_F_books hS hF) hE dX1_lead_6 (fun hE => ?_)
  refine z_nml hE (fun v13 hE => ?_)
  refine lv_iload_n hx hb dX1_lead_7 rfl (lv_at hl 2 rfl) ?_
  refine lv_i2l hx hb dX1_lead_8 rfl ?_
  refine lv_ladd hx hb dX1_lead_9 ?_
  refine wc_stl (J := wa_J u) C hW hV (st_F_books hS hF) ⟨hS.uB, rfl⟩ hE dX1_lead_10 (fun u14 H locs hE hW hS hV => ?_)
  obtain ⟨hS, hz_⟩ := hS
  rw [← hz_] at hZ ⊢
  refine lv_iload_n hx hb dX1_lead_11 rfl (lv_at hl 2 rfl) ?_
  refine lv_if_le (tgt := 37) hx hb dX1_lead_12 (by decide) (fun c15 => ?_) (fun c15 => ?_)
  · have hE := z_t c15 hE
    exact w_37 _ _ _ _ _ _ hE hW hS hV hZ (lv_sub hl [0, 1, 2] rfl)
  · have hE := z_f c15 hE
    refine lv_aload_n hx hb dX1_lead_15 rfl (lv_at hl 0 rfl) ?_
    obtain ⟨r16, u17, hc, hE⟩ := o_bd2_some hE
    refine cc_X1_258 C hW hS hV (st_F hS hF) (kX1_free hF hc) rfl rfl ⟨Nat.le_of_ble_eq_true rfl, Nat.le_of_ble_eq_true rfl⟩ (wa_r0 hZ) dX1_lead_16 hl.1 (Nat.le_of_ble_eq_true rfl) (fun H locs hW hS hV => ?_)
    obtain ⟨hz_, hE⟩ := o_ze_some hE
    rw [← hz_] at hZ ⊢
    refine lv_iconst (v := (-1 : Int32)) hx hb dX1_lead_19 rfl ?_
    refine lv_icmp_ne (tgt := 37) hx hb dX1_lead_20 (by decide) (fun c18 => ?_) (fun c18 => ?_)
    · have hE := z_f c18 hE
      exact w_37 _ _ _ _ _ _ hE hW hS hV hZ (lv_sub hl [0, 1, 2] rfl)
    · have hE := z_t c18 hE
      refine lv_aload_n hx hb dX1_lead_23 rfl (lv_at hl 0 rfl) ?_
      refine cgs_X1_85_1 C hW (st_F hS hF) (sp_F_books hS hF) dX1_lead_24 ?_
      refine lv_iconst (v := (4 : Int32)) hx hb dX1_lead_27 rfl ?_
      refine lv_dup2_11 hx hb dX1_lead_28 rfl rfl ?_
      refine wc_ldl C hW (st_F_books hS hF) hE dX1_lead_29 (fun hE => ?_)
      refine z_nml hE (fun v19 hE => ?_)
      refine lv_iload_n hx hb dX1_lead_30 rfl (lv_at hl 2 rfl) ?_
      refine lv_i2l hx hb dX1_lead_31 rfl ?_
      refine lv_ladd hx hb dX1_lead_32 ?_
      refine wc_stl (J := wa_J u17) C hW hV (st_F_books hS hF) ⟨hS.uB, rfl⟩ hE dX1_lead_33 (fun u20 H locs hE hW hS hV => ?_)
      obtain ⟨hS, hz_⟩ := hS
      rw [← hz_] at hZ ⊢
      refine lv_goto (tgt := 55) hx hb dX1_lead_34 (by decide) ?_
      exact w_55 _ _ _ _ hE hW hS hV hZ (lv_sub hl [] rfl)
theorem ca_X1_296 {F : Nat} {a1 : Int32} {mc ms : Nat} {u u1 : CS} {rm : Room} (C : CC p m c cc nL s args D dA RX1) (hW : wc_W D dA h u H) (hS : wc_S u) (hV : va_S (CA h) H0 H locs) (ht : wc_T u F = some (.inl 1)) (hM : Met l yX1_doOrder (ws_ yX1_doOrder cX1_doOrder 4 none) rm (va_Pc [.ref (h + F), .int a1] (wc_St D dA h u)) (wc_Qr D dA h none u1) mc ms (CA h)) (hrc : rm.cells = mc) (hrs : rm.slots = ms) (hR : rm.frames + 1 ≤ R.frames ∧ 8 + (4 + 11) + rm.locals ≤ R.locals) (hf : cells + mc ≤ R.cells ∧ slots + ms ≤ R.slots) (d : decode cc pc = .ok (.invokevirtual 296, 3)) (hsz : ls.size = nL) (hro : (rest.map fun v => v.category).sum ≤ 8) (kk : ∀ (H1 : Heap) (locs1 : List Loc), wc_W D dA h u1 H1 → wc_S u1 → va_S (CA h) H0 H1 locs1 → W p l e R s m args below meth c H1 locs1 (cells + mc) (slots + ms) Q (F0 m (pc + 3) ls (rest))) : W p l e R s m args below meth c H locs cells slots Q (F0 m pc ls (.int a1 :: .ref (h + F) :: rest)) :=
  wc_call (v := none) (va_runV (As := [.int a1]) (rest := rest) C.1 hM (cwV 1 C.1.2.2.2.2 (lw_V q1319 q1321 qs66 q167 q1322) rfl hrc hrs (by decide +kernel) hR) (wc_preV (q := (RX1, TX1, 46)) C.2 hW hS ht rfl _) rfl rfl hsz rfl (lv_room hro) d hf) hV (fun _ z => z) (fun H1 locs1 a b c0 _ _ => kk H1 locs1 a b c0)
set_option maxHeartbeats 4000000 in
set_option maxRecDepth 100000 in
theorem kX1_doOrder {l : Launch} {D : va_G} {dA : Nat → ClassId} {h N z0 : Nat} {F : Nat} {a1 : Int32} {u u_ : CS} (hF : wc_F F) (hz0 : wc_z u = z0) (hz1 : wc_z u ≤ wc_z u_) (hE : fX1_doOrder N F u a1 = some u_) : Met l yX1_doOrder (ws_ yX1_doOrder cX1_doOrder 4 none) ({ frames := 4, cells := wc_z u_ - z0, slots := 4 * (wc_z u_ - z0), locals := 88 }) (va_Pc [.ref (h + F), .int a1] (wc_St D dA h u)) (wc_Qr D dA h none u_) (wc_z u_ - z0) (4 * (wc_z u_ - z0)) (CA h) := by
  refine wa_met (own := RX1) (lv := [(0, .ref (h + F)), (1, .int a1)]) hz0 (by decide) rfl rfl rfl ?_
  intro p e s m args below meth c ls C hr hlocks hW hS hV hl
  have hx := C.1.1
  have hb := C.1.2.1
  have hZ : z0 ≤ wc_z u ∧ wc_z u ≤ wc_z u_ := ⟨by omega, hz1⟩
  have w_150 : ∀ (u : CS) (H : Heap) (locs : List Loc) (ls : Array Slot), fX1_doOrder_150 N F u = some u_ → wc_W D dA h u H → wc_S u → va_S (CA h) s.heap H locs → z0 ≤ wc_z u ∧ wc_z u ≤ wc_z u_ → lv_has ls 4 [] → W p l e ({ frames := 4, cells := wc_z u_ - z0, slots := 4 * (wc_z u_ - z0), locals := 88 }) s m args below meth c H locs (wc_z u - z0) (4 * (wc_z u - z0)) (MQ below (wc_Qr D dA h none u_) args s (wc_z u_ - z0) (4 * (wc_z u_ - z0)) (CA h)) (F0 m 150 ls []) := by
    intro u H locs ls hE hW hS hV hZ hl
    unfold fX1_doOrder_150 at hE
    cases hE
    exact wc_vret C hr hlocks hW hS hV rfl dX1_doOrder_150
  unfold fX1_doOrder at hE
  refine lv_aload_n hx hb dX1_doOrder_0 rfl (lv_at hl 0 rfl) ?_
  refine cgs_X1_101_1 C hW (st_F hS hF) (sp_F_orderStand hS hF) dX1_doOrder_1 ?_
  refine lv_iload_n hx hb dX1_doOrder_4 rfl (lv_at hl 1 rfl) ?_
  refine wc_ldi C hW (st_F_orderStand hS hF) hE dX1_doOrder_5 (fun hE => ?_)
  refine z_nmi hE (fun v19 hE => ?_)
  refine lv_istore_n (lv' := [(2, .int v19), (0, .ref (h + F)), (1, .int a1)]) hx hb dX1_doOrder_6 rfl hl (by decide) rfl (fun ls hl => ?_)
  refine lv_aload_n hx hb dX1_doOrder_7 rfl (lv_at hl 1 rfl) ?_
  refine lv_iload_n hx hb dX1_doOrder_8 rfl (lv_at hl 0 rfl) ?_
  obtain ⟨r20, u21, hc, hE⟩ := o_bd2_some hE
  refine cc_X1_283 C hW hS hV (st_F hS hF) (kX1_wood hF hc) rfl rfl ⟨Nat.le_of_ble_eq_true rfl, Nat.le_of_ble_eq_true rfl⟩ (wa_r0 hZ) dX1_doOrder_9 hl.1 (Nat.le_of_ble_eq_true rfl) (fun H locs hW hS hV => ?_)
  obtain ⟨hz_, hE⟩ := o_ze_some hE
  rw [← hz_] at hZ ⊢
  refine lv_istore_n (lv' := [(3, .int r20), (2, .int v19), (0, .ref (h + F)), (1, .int a1)]) hx hb dX1_doOrder_12 rfl hl (by decide) rfl (fun ls hl => ?_)
  refine lv_aload_n hx hb dX1_doOrder_13 rfl (lv_at hl 2 rfl) ?_
  refine cgs_X1_104_1 C hW (st_F hS hF) (sp_F_orderSort hS hF) dX1_doOrder_14 ?_
  refine lv_iload_n hx hb dX1_doOrder_17 rfl (lv_at hl 3 rfl) ?_
  refine wc_ldi C hW (st_F_orderSort hS hF) hE dX1_doOrder_18 (fun hE => ?_)
  refine z_nmi hE (fun v22 hE => ?_)
  refine lv_if_ne (tgt := 47) hx hb dX1_doOrder_19 (by decide) (fun c23 => ?_) (fun c23 => ?_)
  · have hE := z_f c23 hE
    refine lv_aload_n hx hb dX1_doOrder_47 rfl (lv_at hl 2 rfl) ?_
    refine cgs_X1_104_1 C hW (st_F hS hF) (sp_F_orderSort hS hF) dX1_doOrder_48 ?_
    refine lv_iload_n hx hb dX1_doOrder_51 rfl (lv_at hl 3 rfl) ?_
    refine wc_ldi C hW (st_F_orderSort hS hF) hE dX1_doOrder_52 (fun hE => ?_)
    refine z_nmi hE (fun v24 hE => ?_)
    refine lv_iconst (v := (1 : Int32)) hx hb dX1_doOrder_53 rfl ?_
    refine lv_icmp_ne (tgt := 83) hx hb dX1_doOrder_54 (by decide) (fun c25 => ?_) (fun c25 => ?_)
    · have hE := z_f c25 hE
      refine lv_aload_n hx hb dX1_doOrder_83 rfl (lv_at hl 2 rfl) ?_
      refine lv_iload_n hx hb dX1_doOrder_84 rfl (lv_at hl 1 rfl) ?_
      obtain ⟨r26, u27, hc, hE⟩ := o_bd2_some hE
      refine cc_X1_232 C hW hS hV (st_F hS hF) (kX1_isBare hF hc) rfl rfl ⟨Nat.le_of_ble_eq_true rfl, Nat.le_of_ble_eq_true rfl⟩ (wa_r0 hZ) dX1_doOrder_85 hl.1 (Nat.le_of_ble_eq_true rfl) (fun H locs hW hS hV => ?_)
      obtain ⟨hz_, hE⟩ := o_ze_some hE
      rw [← hz_] at hZ ⊢
      refine lv_if_eq (tgt := 150) hx hb dX1_doOrder_88 (by decide) (fun c28 => ?_) (fun c28 => ?_)
      · have hE := z_t c28 hE
        exact w_150 _ _ _ _ hE hW hS hV hZ (lv_sub hl [] rfl)
      · have hE := z_f c28 hE
        refine lv_aload_n hx hb dX1_doOrder_91 rfl (lv_at hl 2 rfl) ?_
        refine cgs_X1_18_1 C hW (st_F hS hF) (sp_F_kinds hS hF) dX1_doOrder_92 ?_
        refine lv_iload_n hx hb dX1_doOrder_95 rfl (lv_at hl 1 rfl) ?_
        refine lv_aload_n hx hb dX1_doOrder_96 rfl (lv_at hl 2 rfl) ?_
        refine cgs_X1_107_1 C hW (st_F hS hF) (sp_F_orderTold hS hF) dX1_doOrder_97 ?_
        refine lv_iload_n hx hb dX1_doOrder_100 rfl (lv_at hl 3 rfl) ?_
        refine wc_ldi C hW (st_F_orderTold hS hF) hE dX1_doOrder_101 (fun hE => ?_)
        refine z_nmi hE (fun v29 hE => ?_)
        refine wc_sti (J := wa_J u27) C hW hV (st_F_kinds hS hF) ⟨hS.uA, rfl⟩ hE dX1_doOrder_102 (fun u30 H locs hE hW hS hV => ?_)
        obtain ⟨hS, hz_⟩ := hS
        rw [← hz_] at hZ ⊢
        refine lv_aload_n hx hb dX1_doOrder_103 rfl (lv_at hl 2 rfl) ?_
        refine cgs_X1_30_1 C hW (st_F hS hF) (sp_F_fulls hS hF) dX1_doOrder_104 ?_
        refine lv_iload_n hx hb dX1_doOrder_107 rfl (lv_at hl 1 rfl) ?_
        refine lv_bipush (v := (60 : Int32)) hx hb dX1_doOrder_108 rfl ?_
        refine wc_sti (J := wa_J u30) C hW hV (st_F_fulls hS hF) ⟨hS.uA, rfl⟩ hE dX1_doOrder_110 (fun u31 H locs hE hW hS hV => ?_)
        obtain ⟨hS, hz_⟩ := hS
        rw [← hz_] at hZ ⊢
        refine lv_aload_n hx hb dX1_doOrder_111 rfl (lv_at hl 2 rfl) ?_
        refine cgs_X1_27_1 C hW (st_F hS hF) (sp_F_ages hS hF) dX1_doOrder_112 ?_
        refine lv_iload_n hx hb dX1_doOrder_115 rfl (lv_at hl 1 rfl) ?_
        refine lv_iconst (v := (1 : Int32)) hx hb dX1_doOrder_116 rfl ?_
        refine wc_sti (J := wa_J u31) C hW hV (st_F_ages hS hF) ⟨hS.uA, rfl⟩ hE dX1_doOrder_117 (fun u32 H locs hE hW hS hV => ?_)
        obtain ⟨hS, hz_⟩ := hS
        rw [← hz_] at hZ ⊢
        refine lv_aload_n hx hb dX1_doOrder_118 rfl (lv_at hl 2 rfl) ?_
        refine cgs_X1_42_1 C hW (st_F hS hF) (sp_F_plantedIn hS hF) dX1_doOrder_119 ?_
        refine lv_iload_n hx hb dX1_doOrder_122 rfl (lv_at hl 1 rfl) ?_
        refine lv_aload_n hx hb dX1_doOrder_123 rfl (lv_at hl 2 rfl) ?_
        refine cg_X1_142_1 C hW (st_F hS hF) dX1_doOrder_124 ?_
        refine wc_sti (J := wa_J u32) C hW hV (st_F_plantedIn hS hF) ⟨hS.uA, rfl⟩ hE dX1_doOrder_127 (fun u33 H locs hE hW hS hV => ?_)
        obtain ⟨hS, hz_⟩ := hS
        rw [← hz_] at hZ ⊢
        refine lv_aload_n hx hb dX1_doOrder_128 rfl (lv_at hl 2 rfl) ?_
        refine cgs_X1_110_1 C hW (st_F hS hF) (sp_F_sown hS hF) dX1_doOrder_129 ?_
        refine lv_iconst (v := (3 : Int32)) hx hb dX1_doOrder_132 rfl ?_
        refine lv_aload_n hx hb dX1_doOrder_133 rfl (lv_at hl 2 rfl) ?_
        refine cgs_X1_107_1 C hW (st_F hS hF) (sp_F_orderTold hS hF) dX1_doOrder_134 ?_
        refine lv_iload_n hx hb dX1_doOrder_137 rfl (lv_at hl 3 rfl) ?_
        refine wc_ldi C hW (st_F_orderTold hS hF) hE dX1_doOrder_138 (fun hE => ?_)
        refine z_nmi hE (fun v34 hE => ?_)
        refine lv_imul hx hb dX1_doOrder_139 ?_
        refine lv_dup2_11 hx hb dX1_doOrder_140 rfl rfl ?_
        refine wc_ldi C hW (st_F_sown hS hF) hE dX1_doOrder_141 (fun hE => ?_)
        refine z_nmi hE (fun v35 hE => ?_)
        refine lv_aload_n hx hb dX1_doOrder_142 rfl (lv_at hl 2 rfl) ?_
        refine cgs_X1_24_1 C hW (st_F hS hF) (sp_F_acres hS hF) dX1_doOrder_143 ?_
        refine lv_iload_n hx hb dX1_doOrder_146 rfl (lv_at hl 1 rfl) ?_
        refine wc_ldi C hW (st_F_acres hS hF) hE dX1_doOrder_147 (fun hE => ?_)
        refine z_nmi hE (fun v36 hE => ?_)
        refine lv_isub hx hb dX1_doOrder_148 ?_
        refine wc_sti (J := wa_J u33) C hW hV (st_F_sown hS hF) ⟨hS.uA, rfl⟩ hE dX1_doOrder_149 (fun u37 H locs hE hW hS hV => ?_)
        obtain ⟨hS, hz_⟩ := hS
        rw [← hz_] at hZ ⊢
        exact w_150 _ _ _ _ hE hW hS hV hZ (lv_sub hl [] rfl)
    · have hE := z_t c25 hE
      refine lv_aload_n hx hb dX1_doOrder_57 rfl (lv_at hl 2 rfl) ?_
      refine lv_iload_n hx hb dX1_doOrder_58 rfl (lv_at hl 1 rfl) ?_
      refine lv_aload_n hx hb dX1_doOrder_59 rfl (lv_at hl 2 rfl) ?_
      refine cgs_X1_107_1 C hW (st_F hS hF) (sp_F_orderTold hS hF) dX1_doOrder_60 ?_
      refine lv_iload_n hx hb dX1_doOrder_63 rfl (lv_at hl 3 rfl) ?_
      refine wc_ldi C hW (st_F_orderTold hS hF) hE dX1_doOrder_64 (fun hE => ?_)
      refine z_nmi hE (fun v38 hE => ?_)
      obtain ⟨u39, hc, hE⟩ := o_bd_some hE
      refine cc_X1_286 C hW hS hV (st_F hS hF) (kX1_become hF hc) rfl rfl ⟨Nat.le_of_ble_eq_true rfl, Nat.le_of_ble_eq_true rfl⟩ (wa_r0 hZ) dX1_doOrder_65 hl.1 (Nat.le_of_ble_eq_true rfl) (fun H locs hW hS hV => ?_)
      obtain ⟨hz_, hE⟩ := o_ze_some hE
      rw [← hz_] at hZ ⊢
      refine lv_aload_n hx hb dX1_doOrder_68 rfl (lv_at hl 2 rfl) ?_
      refine lv_iload_n hx hb dX1_doOrder_69 rfl (lv_at hl 1 rfl) ?_
      refine lv_iload_n hx hb dX1_doOrder_70 rfl (lv_at hl 0 rfl) ?_
      refine lv_aload_n hx hb dX1_doOrder_71 rfl (lv_at hl 2 rfl) ?_
      refine lv_iload_n hx hb dX1_doOrder_72 rfl (lv_at hl 1 rfl) ?_
      obtain ⟨r40, u41, hc, hE⟩ := o_bd2_some hE
      refine cc_X1_283 C hW hS hV (st_F hS hF) (kX1_wood hF hc) rfl rfl ⟨Nat.le_of_ble_eq_true rfl, Nat.le_of_ble_eq_true rfl⟩ (wa_r0 hZ) dX1_doOrder_73 hl.1 (Nat.le_of_ble_eq_true rfl) (fun H locs hW hS hV => ?_)
      obtain ⟨hz_, hE⟩ := o_ze_some hE
      rw [← hz_] at hZ ⊢
      refine lv_isub hx hb dX1_doOrder_76 ?_
      obtain ⟨u42, hc, hE⟩ := o_bd_some hE
      obtain ⟨hz1_, hE⟩ := o_zl_some hE
      obtain ⟨hq_, hE⟩ := o_zc_some hE
      have hq_ : wc_z u42 ≤ wc_z u_ := hq_
      refine ca_X1_290 C hW hS hV (st_F hS hF) (kX1_lead hF rfl hz1_ hc) rfl rfl ⟨Nat.le_of_ble_eq_true rfl, Nat.le_of_ble_eq_true rfl⟩ (wa_r2 hZ hz1_ hq_) dX1_doOrder_77 hl.1 (Nat.le_of_ble_eq_true rfl) (fun H locs hW hS hV => ?_)
      refine W.recount (wa_c hZ hz1_).1 (wa_c hZ hz1_).2 ?_
      have hZ := wa_z hZ hz1_ hq_
      refine lv_goto (tgt := 150) hx hb dX1_doOrder_80 (by decide) ?_
      exact w_150 _ _ _ _ hE hW hS hV hZ (lv_sub hl [] rfl)
  · have hE := z_t c23 hE
    refine lv_aload_n hx hb dX1_doOrder_22 rfl (lv_at hl 2 rfl) ?_
    refine lv_iload_n hx hb dX1_doOrder_23 rfl (lv_at hl 1 rfl) ?_
    refine lv_iconst (v := (0 : Int32)) hx hb dX1_doOrder_24 rfl ?_
    obtain ⟨u43, hc, hE⟩ := o_bd_some hE
    refine cc_X1_286 C hW hS hV (st_F hS hF) (kX1_become hF hc) rfl rfl ⟨Nat.le_of_ble_eq_true rfl, Nat.le_of_ble_eq_true rfl⟩ (wa_r0 hZ) dX1_doOrder_25 hl.1 (Nat.le_of_ble_eq_true rfl) (fun H locs hW hS hV => ?_)
    obtain ⟨hz_, hE⟩ := o_ze_some hE
    rw [← hz_] at hZ ⊢
    refine lv_aload_n hx hb dX1_doOrder_28 rfl (lv_at hl 2 rfl) ?_
    refine cgs_X1_39_1 C hW (st_F hS hF) (sp_F_cutIn hS hF) dX1_doOrder_29 ?_
    refine lv_iload_n hx hb dX1_doOrder_32 rfl (lv_at hl 1 rfl) ?_
    refine lv_aload_n hx hb dX1_doOrder_33 rfl (lv_at hl 2 rfl) ?_
    refine cg_X1_142_1 C hW (st_F hS hF) dX1_doOrder_34 ?_
    refine wc_sti (J := wa_J u43) C hW hV (st_F_cutIn hS hF) ⟨hS.uA, rfl⟩ hE dX1_doOrder_37 (fun u44 H locs hE hW hS hV => ?_)
    obtain ⟨hS, hz_⟩ := hS
    rw [← hz_] at hZ ⊢
    refine lv_aload_n hx hb dX1_doOrder_38 rfl (lv_at hl 2 rfl) ?_
    refine lv_iload_n hx hb dX1_doOrder_39 rfl (lv_at hl 1 rfl) ?_
    refine lv_iload_n hx hb dX1_doOrder_40 rfl (lv_at hl 0 rfl) ?_
    obtain ⟨u45, hc, hE⟩ := o_bd_some hE
    obtain ⟨hz1_, hE⟩ := o_zl_some hE
    obtain ⟨hq_, hE⟩ := o_zc_some hE
    have hq_ : wc_z u45 ≤ wc_z u_ := hq_
    refine ca_X1_290 C hW hS hV (st_F hS hF) (kX1_lead hF rfl hz1_ hc) rfl rfl ⟨Nat.le_of_ble_eq_true rfl, Nat.le_of_ble_eq_true rfl⟩ (wa_r2 hZ hz1_ hq_) dX1_doOrder_41 hl.1 (Nat.le_of_ble_eq_true rfl) (fun H locs hW hS hV => ?_)
    refine W.recount (wa_c hZ hz1_).1 (wa_c hZ hz1_).2 ?_
    have hZ := wa_z hZ hz1_ hq_
    refine lv_goto (tgt := 150) hx hb dX1_doOrder_44 (by decide) ?_
    exact w_150 _ _ _ _ hE hW hS hV hZ (lv_sub hl [] rfl)
theorem ca_X0_427 {F : Nat} {mc ms : Nat} {u u1 : CS} {rm : Room} (C : CC p m c cc nL s args D dA RX0) (hW : wc_W D dA h u H) (hS : wc_S u) (hV : va_S (CA h) H0 H locs) (ht : wc_T u F = some (.inl 1)) (hM : Met l yX1_close (ws_ yX1_close cX1_close 2 none) rm (va_Pc [.ref (h + F)] (wc_St D dA h u)) (wc_Qr D dA h none u1) mc ms (CA h)) (hrc : rm.cells = mc) (hrs : rm.slots = ms) (hR : rm.frames + 1 ≤ R.frames ∧ 8 + (2 + 11) + rm.locals ≤ R.locals) (hf : cells + mc ≤ R.cells ∧ slots + ms ≤ R.slots) (d : decode cc pc = .ok (.invokevirtual 427, 3)) (hsz : ls.size = nL) (hro : (rest.map fun v => v.category).sum ≤ 8) (kk : ∀ (H1 : Heap) (locs1 : List Loc), wc_W D dA h u1 H1 → wc_S u1 → va_S (CA h) H0 H1 locs1 → W p l e R s m args below meth c H1 locs1 (cells + mc) (slots + ms) Q (F0 m (pc + 3) ls (rest))) : W p l e R s m args below meth c H locs cells slots Q (F0 m pc ls (.ref (h + F) :: rest)) :=
  wc_call (v := none) (va_runVN (As := []) (rest := rest) C.1 hM ⟨va_cnB 0 C.1.2.2.2.2 (lw_meth q1299) rfl hrc hrs (C.2.2.at q1296 rfl) (C.1.2.2.2.2 _ q167) (by decide +kernel) hR, C.1.2.2.2.2 _ q1298, C.1.2.2.2.2 _ qs64⟩ (wc_preV (q := (RX1, TX1, 46)) C.2 hW hS ht rfl _) rfl rfl hsz rfl (lv_room hro) d hf) hV (fun _ z => z) (fun H1 locs1 a b c0 _ _ => kk H1 locs1 a b c0)
set_option maxHeartbeats 4000000 in
set_option maxRecDepth 100000 in
theorem kX1_close {l : Launch} {D : va_G} {dA : Nat → ClassId} {h N z0 : Nat} {F : Nat} {u u_ : CS} (hF : wc_F F) (hz0 : wc_z u = z0) (hz1 : wc_z u ≤ wc_z u_) (hE : fX1_close N F u = some u_) : Met l yX1_close (ws_ yX1_close cX1_close 2 none) ({ frames := 206, cells := wc_z u_ - z0, slots := 4 * (wc_z u_ - z0), locals := 6547 }) (va_Pc [.ref (h + F)] (wc_St D dA h u)) (wc_Qr D dA h none u_) (wc_z u_ - z0) (4 * (wc_z u_ - z0)) (CA h) := by
  refine wa_met (own := RX1) (lv := [(0, .ref (h + F))]) hz0 (by decide) rfl rfl rfl ?_
  intro p e s m args below meth c ls C hr hlocks hW hS hV hl
  have hx := C.1.1
  have hb := C.1.2.1
  have hZ : z0 ≤ wc_z u ∧ wc_z u ≤ wc_z u_ := ⟨by omega, hz1⟩
  have w_67 : ∀ (n : Nat) (u : CS) (x1 : Int32) (H : Heap) (locs : List Loc) (ls : Array Slot), fX1_close_67 N F n u x1 = some u_ → wc_W D dA h u H → wc_S u → va_S (CA h) s.heap H locs → z0 ≤ wc_z u ∧ wc_z u ≤ wc_z u_ → lv_has ls 2 [(0, .ref (h + F)), (1, .int x1)] → W p l e ({ frames := 206, cells := wc_z u_ - z0, slots := 4 * (wc_z u_ - z0), locals := 6547 }) s m args below meth c H locs (wc_z u - z0) (4 * (wc_z u - z0)) (MQ below (wc_Qr D dA h none u_) args s (wc_z u_ - z0) (4 * (wc_z u_ - z0)) (CA h)) (F0 m 67 ls []) := by
    intro n
    induction n with
    | zero =>
      intro u x1 H locs ls hE hW hS hV hZ hl
      cases (show (none : Option (CS)) = some u_ from hE)
    | succ n ih =>
      intro u x1 H locs ls hE hW hS hV hZ hl
      rw [fX1_close_67] at hE
      refine lv_iload_n hx hb dX1_close_67 rfl (lv_at hl 1 rfl) ?_
      refine lv_bipush (v := (12 : Int32)) hx hb dX1_close_68 rfl ?_
      refine lv_icmp_ge (tgt := 121) hx hb dX1_close_70 (by decide) (fun c16 => ?_) (fun c16 => ?_)
      · have hE := z_t c16 hE
        refine lv_aload_n hx hb dX1_close_121 rfl (lv_at hl 0 rfl) ?_
        refine lv_dup hx hb dX1_close_122 rfl ?_
        refine cg_X1_142_1 C hW (st_F hS hF) dX1_close_123 ?_
        refine lv_iconst (v := (1 : Int32)) hx hb dX1_close_126 rfl ?_
        refine lv_iadd hx hb dX1_close_127 ?_
        refine cp_X1_142_1 (J := wa_J u) C hW hV (st_F hS hF) ⟨hS.uI, rfl⟩ hE dX1_close_128 (fun u17 H locs hE hW hS hV => ?_)
        obtain ⟨hS, hz_⟩ := hS
        rw [← hz_] at hZ ⊢
        cases hE
        exact wc_vret C hr hlocks hW hS hV rfl dX1_close_131
      · have hE := z_f c16 hE
        refine lv_aload_n hx hb dX1_close_73 rfl (lv_at hl 0 rfl) ?_
        refine cgs_X1_110_1 C hW (st_F hS hF) (sp_F_sown hS hF) dX1_close_74 ?_
        refine lv_iload_n hx hb dX1_close_77 rfl (lv_at hl 1 rfl) ?_
        refine lv_dup2_11 hx hb dX1_close_78 rfl rfl ?_
        refine wc_ldi C hW (st_F_sown hS hF) hE dX1_close_79 (fun hE => ?_)
        refine z_nmi hE (fun v18 hE => ?_)
        refine lv_aload_n hx hb dX1_close_80 rfl (lv_at hl 0 rfl) ?_
        refine cgs_X1_110_1 C hW (st_F hS hF) (sp_F_sown hS hF) dX1_close_81 ?_
        refine lv_iload_n hx hb dX1_close_84 rfl (lv_at hl 1 rfl) ?_
        refine lv_iconst (v := (1 : Int32)) hx hb dX1_close_85 rfl ?_
        refine lv_iadd hx hb dX1_close_86 ?_
        refine wc_ldi C hW (st_F_sown hS hF) hE dX1_close_87 (fun hE => ?_)
        refine z_nmi hE (fun v19 hE => ?_)
        refine lv_iadd hx hb dX1_close_88 ?_
        refine wc_sti (J := wa_J u) C hW hV (st_F_sown hS hF) ⟨hS.uA, rfl⟩ hE dX1_close_89 (fun u20 H locs hE hW hS hV => ?_)
        obtain ⟨hS, hz_⟩ := hS
        rw [← hz_] at hZ ⊢
        refine lv_aload_n hx hb dX1_close_90 rfl (lv_at hl 0 rfl) ?_
        refine cgs_X1_110_1 C hW (st_F hS hF) (sp_F_sown hS hF) dX1_close_91 ?_
        refine lv_iload_n hx hb dX1_close_94 rfl (lv_at hl 1 rfl) ?_
        refine lv_iconst (v := (1 : Int32)) hx hb dX1_close_95 rfl ?_
        refine lv_iadd hx hb dX1_close_96 ?_
        refine lv_aload_n hx hb dX1_close_97 rfl (lv_at hl 0 rfl) ?_
        refine cgs_X1_110_1 C hW (st_F hS hF) (sp_F_sown hS hF) dX1_close_98 ?_
        refine lv_iload_n hx hb dX1_close_101 rfl (lv_at hl 1 rfl) ?_
        refine lv_iconst (v := (2 : Int32)) hx hb dX1_close_102 rfl ?_
        refine lv_iadd hx hb dX1_close_103 ?_
        refine wc_ldi C hW (st_F_sown hS hF) hE dX1_close_104 (fun hE => ?_)
        refine z_nmi hE (fun v21 hE => ?_)
        refine wc_sti (J := wa_J u20) C hW hV (st_F_sown hS hF) ⟨hS.uA, rfl⟩ hE dX1_close_105 (fun u22 H locs hE hW hS hV => ?_)
        obtain ⟨hS, hz_⟩ := hS
        rw [← hz_] at hZ ⊢
        refine lv_aload_n hx hb dX1_close_106 rfl (lv_at hl 0 rfl) ?_
        refine cgs_X1_110_1 C hW (st_F hS hF) (sp_F_sown hS hF) dX1_close_107 ?_
        refine lv_iload_n hx hb dX1_close_110 rfl (lv_at hl 1 rfl) ?_
        refine lv_iconst (v := (2 : Int32)) hx hb dX1_close_111 rfl ?_
        refine lv_iadd hx hb dX1_close_112 ?_
        refine lv_iconst (v := (0 : Int32)) hx hb dX1_close_113 rfl ?_
        refine wc_sti (J := wa_J u22) C hW hV (st_F_sown hS hF) ⟨hS.uA, rfl⟩ hE dX1_close_114 (fun u23 H locs hE hW hS hV => ?_)
        obtain ⟨hS, hz_⟩ := hS
        rw [← hz_] at hZ ⊢
        refine z_iinc (v := (x1 + (3 : Int32))) (lw := (fun y_ => [(1, .int y_), (0, .ref (h + F))])) hx hb dX1_close_115 hl hE (k := 1) rfl rfl (by decide) (fun _ => rfl) (fun z24 ls hE hl => ?_)
        refine lv_goto (tgt := 67) hx hb dX1_close_118 (by decide) ?_
        exact ih _ _ _ _ _ hE hW hS hV hZ (lv_sub hl [1, 0] rfl)
  have w_48 : ∀ (n : Nat) (u : CS) (x1 : Int32) (H : Heap) (locs : List Loc) (ls : Array Slot), fX1_close_48 N F n u x1 = some u_ → wc_W D dA h u H → wc_S u → va_S (CA h) s.heap H locs → z0 ≤ wc_z u ∧ wc_z u ≤ wc_z u_ → lv_has ls 2 [(0, .ref (h + F)), (1, .int x1)] → W p l e ({ frames := 206, cells := wc_z u_ - z0, slots := 4 * (wc_z u_ - z0), locals := 6547 }) s m args below meth c H locs (wc_z u - z0) (4 * (wc_z u - z0)) (MQ below (wc_Qr D dA h none u_) args s (wc_z u_ - z0) (4 * (wc_z u_ - z0)) (CA h)) (F0 m 48 ls []) := by
    intro n
    induction n with
    | zero =>
      intro u x1 H locs ls hE hW hS hV hZ hl
      cases (show (none : Option (CS)) = some u_ from hE)
    | succ n ih =>
      intro u x1 H locs ls hE hW hS hV hZ hl
      rw [fX1_close_48] at hE
      refine lv_iload_n hx hb dX1_close_48 rfl (lv_at hl 1 rfl) ?_
      refine lv_bipush (v := (6 : Int32)) hx hb dX1_close_49 rfl ?_
      refine lv_icmp_ge (tgt := 65) hx hb dX1_close_51 (by decide) (fun c25 => ?_) (fun c25 => ?_)
      · have hE := z_t c25 hE
        refine lv_iconst (v := (0 : Int32)) hx hb dX1_close_65 rfl ?_
        refine lv_istore_n (lv' := [(1, .int (0 : Int32)), (0, .ref (h + F))]) hx hb dX1_close_66 rfl hl (by decide) rfl (fun ls hl => ?_)
        exact w_67 N _ _ _ _ _ hE hW hS hV hZ (lv_sub hl [1, 0] rfl)
      · have hE := z_f c25 hE
        refine lv_aload_n hx hb dX1_close_54 rfl (lv_at hl 0 rfl) ?_
        refine lv_iload_n hx hb dX1_close_55 rfl (lv_at hl 1 rfl) ?_
        obtain ⟨u26, hc, hE⟩ := o_bd_some hE
        refine cc_X1_312 C hW hS hV (st_F hS hF) (kX1_steal hF hc) rfl rfl ⟨Nat.le_of_ble_eq_true rfl, Nat.le_of_ble_eq_true rfl⟩ (wa_r0 hZ) dX1_close_56 hl.1 (Nat.le_of_ble_eq_true rfl) (fun H locs hW hS hV => ?_)
        obtain ⟨hz_, hE⟩ := o_ze_some hE
        rw [← hz_] at hZ ⊢
        refine z_iinc (v := (x1 + (1 : Int32))) (lw := (fun y_ => [(1, .int y_), (0, .ref (h + F))])) hx hb dX1_close_59 hl hE (k := 1) rfl rfl (by decide) (fun _ => rfl) (fun z27 ls hE hl => ?_)
        refine lv_goto (tgt := 48) hx hb dX1_close_62 (by decide) ?_
        exact ih _ _ _ _ _ hE hW hS hV hZ (lv_sub hl [1, 0] rfl)
  have w_6 : ∀ (n : Nat) (u : CS) (x1 : Int32) (H : Heap) (locs : List Loc) (ls : Array Slot), fX1_close_6 N F n u x1 = some u_ → wc_W D dA h u H → wc_S u → va_S (CA h) s.heap H locs → z0 ≤ wc_z u ∧ wc_z u ≤ wc_z u_ → lv_has ls 2 [(0, .ref (h + F)), (1, .int x1)] → W p l e ({ frames := 206, cells := wc_z u_ - z0, slots := 4 * (wc_z u_ - z0), locals := 6547 }) s m args below meth c H locs (wc_z u - z0) (4 * (wc_z u - z0)) (MQ below (wc_Qr D dA h none u_) args s (wc_z u_ - z0) (4 * (wc_z u_ - z0)) (CA h)) (F0 m 6 ls []) := by
    intro n
    induction n with
    | zero =>
      intro u x1 H locs ls hE hW hS hV hZ hl
      cases (show (none : Option (CS)) = some u_ from hE)
    | succ n ih =>
      intro u x1 H locs ls hE hW hS hV hZ hl
      rw [fX1_close_6] at hE
      refine lv_iload_n hx hb dX1_close_6 rfl (lv_at hl 1 rfl) ?_
      refine lv_aload_n hx hb dX1_close_7 rfl (lv_at hl 0 rfl) ?_
      refine cg_X1_165_1 C hW (st_F hS hF) dX1_close_8 ?_
      refine lv_icmp_ge (tgt := 25) hx hb dX1_close_11 (by decide) (fun c28 => ?_) (fun c28 => ?_)
      · have hE := z_t c28 hE
        refine lv_aload_n hx hb dX1_close_25 rfl (lv_at hl 0 rfl) ?_
        refine lv_iconst (v := (0 : Int32)) hx hb dX1_close_26 rfl ?_
        refine cp_X1_165_1 (J := wa_J u) C hW hV (st_F hS hF) ⟨hS.uI, rfl⟩ hE dX1_close_27 (fun u29 H locs hE hW hS hV => ?_)
        obtain ⟨hS, hz_⟩ := hS
        rw [← hz_] at hZ ⊢
        refine lv_aload_n hx hb dX1_close_30 rfl (lv_at hl 0 rfl) ?_
        obtain ⟨u30, hc, hE⟩ := o_bd_some hE
        refine cc_X1_300 C hW hS hV (st_F hS hF) (kX1_blow hF hc) rfl rfl ⟨Nat.le_of_ble_eq_true rfl, Nat.le_of_ble_eq_true rfl⟩ (wa_r0 hZ) dX1_close_31 hl.1 (Nat.le_of_ble_eq_true rfl) (fun H locs hW hS hV => ?_)
        obtain ⟨hz_, hE⟩ := o_ze_some hE
        rw [← hz_] at hZ ⊢
        refine lv_aload_n hx hb dX1_close_34 rfl (lv_at hl 0 rfl) ?_
        obtain ⟨u31, hc, hE⟩ := o_bd_some hE
        refine cc_X1_303 C hW hS hV (st_F hS hF) (kX1_eat hF hc) rfl rfl ⟨Nat.le_of_ble_eq_true rfl, Nat.le_of_ble_eq_true rfl⟩ (wa_r0 hZ) dX1_close_35 hl.1 (Nat.le_of_ble_eq_true rfl) (fun H locs hW hS hV => ?_)
        obtain ⟨hz_, hE⟩ := o_ze_some hE
        rw [← hz_] at hZ ⊢
        refine lv_aload_n hx hb dX1_close_38 rfl (lv_at hl 0 rfl) ?_
        obtain ⟨u32, hc, hE⟩ := o_bd_some hE
        refine cc_X1_306 C hW hS hV (st_F hS hF) (kX1_rot hF hc) rfl rfl ⟨Nat.le_of_ble_eq_true rfl, Nat.le_of_ble_eq_true rfl⟩ (wa_r0 hZ) dX1_close_39 hl.1 (Nat.le_of_ble_eq_true rfl) (fun H locs hW hS hV => ?_)
        obtain ⟨hz_, hE⟩ := o_ze_some hE
        rw [← hz_] at hZ ⊢
        refine lv_aload_n hx hb dX1_close_42 rfl (lv_at hl 0 rfl) ?_
        obtain ⟨u33, hc, hE⟩ := o_bd_some hE
        refine cc_X1_309 C hW hS hV (st_F hS hF) (kX1_grow hF hc) rfl rfl ⟨Nat.le_of_ble_eq_true rfl, Nat.le_of_ble_eq_true rfl⟩ (wa_r0 hZ) dX1_close_43 hl.1 (Nat.le_of_ble_eq_true rfl) (fun H locs hW hS hV => ?_)
        obtain ⟨hz_, hE⟩ := o_ze_some hE
        rw [← hz_] at hZ ⊢
        refine lv_iconst (v := (0 : Int32)) hx hb dX1_close_46 rfl ?_
        refine lv_istore_n (lv' := [(1, .int (0 : Int32)), (0, .ref (h + F))]) hx hb dX1_close_47 rfl hl (by decide) rfl (fun ls hl => ?_)
        exact w_48 N _ _ _ _ _ hE hW hS hV hZ (lv_sub hl [1, 0] rfl)
      · have hE := z_f c28 hE
        refine lv_aload_n hx hb dX1_close_14 rfl (lv_at hl 0 rfl) ?_
        refine lv_iload_n hx hb dX1_close_15 rfl (lv_at hl 1 rfl) ?_
        obtain ⟨u34, hc, hE⟩ := o_bd_some hE
        obtain ⟨hz1_, hE⟩ := o_zl_some hE
        obtain ⟨hq_, hE⟩ := o_zc_some hE
        have hq_ : wc_z u34 ≤ wc_z u_ := hq_
        refine ca_X1_296 C hW hS hV (st_F hS hF) (kX1_doOrder hF rfl hz1_ hc) rfl rfl ⟨Nat.le_of_ble_eq_true rfl, Nat.le_of_ble_eq_true rfl⟩ (wa_r2 hZ hz1_ hq_) dX1_close_16 hl.1 (Nat.le_of_ble_eq_true rfl) (fun H locs hW hS hV => ?_)
        refine W.recount (wa_c hZ hz1_).1 (wa_c hZ hz1_).2 ?_
        have hZ := wa_z hZ hz1_ hq_
        refine z_iinc (v := (x1 + (1 : Int32))) (lw := (fun y_ => [(1, .int y_), (0, .ref (h + F))])) hx hb dX1_close_19 hl hE (k := 1) rfl rfl (by decide) (fun _ => rfl) (fun z35 ls hE hl => ?_)
        refine lv_goto (tgt := 6) hx hb dX1_close_22 (by decide) ?_
        exact ih _ _ _ _ _ hE hW hS hV hZ (lv_sub hl [1, 0] rfl)
  unfold fX1_close at hE
  refine lv_aload_n hx hb dX1_close_0 rfl (lv_at hl 0 rfl) ?_
  obtain ⟨u36, hc, hE⟩ := o_bd_some hE
  obtain ⟨hz1_, hE⟩ := o_zl_some hE
  obtain ⟨hq_, hE⟩ := o_zc_some hE
  have hq_ : wc_z u36 ≤ wc_z u_ := hq_
  refine ca_X1_293 C hW hS hV (st_F hS hF) (kX1_rights hF rfl hz1_ hc) rfl rfl ⟨Nat.le_of_ble_eq_true rfl, Nat.le_of_ble_eq_true rfl⟩ (wa_r2 hZ hz1_ hq_) dX1_close_1 hl.1 (Nat.le_of_ble_eq_true rfl) (fun H locs hW hS hV => ?_)
  refine W.recount (wa_c hZ hz1_).1 (wa_c hZ hz1_).2 ?_
  have hZ := wa_z hZ hz1_ hq_
  refine lv_iconst (v := (0 : Int32)) hx hb dX1_close_4 rfl ?_
  refine lv_istore_n (lv' := [(1, .int (0 : Int32)), (0, .ref (h + F))]) hx hb dX1_close_5 rfl hl (by decide) rfl (fun ls hl => ?_)
  exact w_6 N _ _ _ _ _ hE hW hS hV hZ (lv_sub hl [1, 0] rfl)
set_option maxHeartbeats 4000000 in
set_option maxRecDepth 100000 in
theorem kX0_run {l : Launch} {D : va_G} {dA : Nat → ClassId} {h N z0 : Nat} {a1 : Int32} {u u1 : CS} {r : Int32} (hz0 : wc_z u = z0) (hz1 : wc_z u ≤ wc_z u1) (hE : fX0_run N u a1 = some (r, u1)) : Met l yX0_run (ws_ yX0_run cX0_run 3 (some .int)) ({ frames := 207, cells := wc_z u1 - z0, slots := 4 * (wc_z u1 - z0), locals := 6568 }) (va_Pc [.ref (h + 0), .int a1] (wc_St D dA h u)) (wc_Qr D dA h (some (.int r)) u1) (wc_z u1 - z0) (4 * (wc_z u1 - z0)) (CA h) := by
  refine wa_met (own := RX0) (lv := [(0, .ref (h + 0)), (1, .int a1)]) hz0 (by decide) rfl rfl rfl ?_
  intro p e s m args below meth c ls C hr hlocks hW hS hV hl
  have hx := C.1.1
  have hb := C.1.2.1
  have hZ : z0 ≤ wc_z u ∧ wc_z u ≤ wc_z u1 := ⟨by omega, hz1⟩
  have w_21 : ∀ (u : CS) (H : Heap) (locs : List Loc) (ls : Array Slot), fX0_run_21 N u = some (r, u1) → wc_W D dA h u H → wc_S u → va_S (CA h) s.heap H locs → z0 ≤ wc_z u ∧ wc_z u ≤ wc_z u1 → lv_has ls 3 [(0, .ref (h + 0))] → W p l e ({ frames := 207, cells := wc_z u1 - z0, slots := 4 * (wc_z u1 - z0), locals := 6568 }) s m args below meth c H locs (wc_z u - z0) (4 * (wc_z u - z0)) (MQ below (wc_Qr D dA h (some (.int r)) u1) args s (wc_z u1 - z0) (4 * (wc_z u1 - z0)) (CA h)) (F0 m 21 ls []) := by
    intro u H locs ls hE hW hS hV hZ hl
    unfold fX0_run_21 at hE
    refine lv_aload_n hx hb dX0_run_21 rfl (lv_at hl 0 rfl) ?_
    refine lv_bipush (v := (-7 : Int32)) hx hb dX0_run_22 rfl ?_
    obtain ⟨r11, u12, hc, hE⟩ := o_bd2_some hE
    refine cc_X0_118 C hW hS hV (st_0 hS) (kX0_refuse hc) rfl rfl ⟨Nat.le_of_ble_eq_true rfl, Nat.le_of_ble_eq_true rfl⟩ (wa_r0 hZ) dX0_run_24 hl.1 (Nat.le_of_ble_eq_true rfl) (fun H locs hW hS hV => ?_)
    obtain ⟨hz_, hE⟩ := o_ze_some hE
    rw [← hz_] at hZ ⊢
    obtain ⟨rfl, rfl⟩ := z_ret hE
    exact wc_iret C hr hlocks hW hS hV rfl dX0_run_27
  have w_52 : ∀ (n : Nat) (u : CS) (x1 : Int32) (x2 : Int32) (H : Heap) (locs : List Loc) (ls : Array Slot), fX0_run_52 N n u x1 x2 = some (r, u1) → wc_W D dA h u H → wc_S u → va_S (CA h) s.heap H locs → z0 ≤ wc_z u ∧ wc_z u ≤ wc_z u1 → lv_has ls 3 [(0, .ref (h + 0)), (1, .int x1), (2, .int x2)] → W p l e ({ frames := 207, cells := wc_z u1 - z0, slots := 4 * (wc_z u1 - z0), locals := 6568 }) s m args below meth c H locs (wc_z u - z0) (4 * (wc_z u - z0)) (MQ below (wc_Qr D dA h (some (.int r)) u1) args s (wc_z u1 - z0) (4 * (wc_z u1 - z0)) (CA h)) (F0 m 52 ls []) := by
    intro n
    induction n with
    | zero =>
      intro u x1 x2 H locs ls hE hW hS hV hZ hl
      cases (show (none : Option (Int32 × CS)) = some (r, u1) from hE)
    | succ n ih =>
      intro u x1 x2 H locs ls hE hW hS hV hZ hl
      rw [fX0_run_52] at hE
      refine lv_iload_n hx hb dX0_run_52 rfl (lv_at hl 2 rfl) ?_
      refine lv_iload_n hx hb dX0_run_53 rfl (lv_at hl 1 rfl) ?_
      refine lv_icmp_ge (tgt := 70) hx hb dX0_run_54 (by decide) (fun c13 => ?_) (fun c13 => ?_)
      · have hE := z_t c13 hE
        refine lv_aload_n hx hb dX0_run_70 rfl (lv_at hl 0 rfl) ?_
        refine cgs_X0_19_0 C hW (st_0 hS) (sp_0_now hS) dX0_run_71 ?_
        obtain ⟨r14, u15, hc, hE⟩ := o_bd2_some hE
        refine cc_X0_430 C hW hS hV (kX0_bareOf wc_F3 hc) rfl rfl ⟨Nat.le_of_ble_eq_true rfl, Nat.le_of_ble_eq_true rfl⟩ (wa_r0 hZ) dX0_run_74 hl.1 (Nat.le_of_ble_eq_true rfl) (fun H locs hW hS hV => ?_)
        obtain ⟨hz_, hE⟩ := o_ze_some hE
        rw [← hz_] at hZ ⊢
        obtain ⟨rfl, rfl⟩ := z_ret hE
        exact wc_iret C hr hlocks hW hS hV rfl dX0_run_77
      · have hE := z_f c13 hE
        refine lv_aload_n hx hb dX0_run_57 rfl (lv_at hl 0 rfl) ?_
        refine cgs_X0_19_0 C hW (st_0 hS) (sp_0_now hS) dX0_run_58 ?_
        obtain ⟨u16, hc, hE⟩ := o_bd_some hE
        obtain ⟨hz1_, hE⟩ := o_zl_some hE
        obtain ⟨hq_, hE⟩ := o_zc_some hE
        have hq_ : wc_z u16 ≤ wc_z u1 := hq_
        refine ca_X0_427 C hW hS hV (st_F hS wc_F3) (kX1_close wc_F3 rfl hz1_ hc) rfl rfl ⟨Nat.le_of_ble_eq_true rfl, Nat.le_of_ble_eq_true rfl⟩ (wa_r2 hZ hz1_ hq_) dX0_run_61 hl.1 (Nat.le_of_ble_eq_true rfl) (fun H locs hW hS hV => ?_)
        refine W.recount (wa_c hZ hz1_).1 (wa_c hZ hz1_).2 ?_
        have hZ := wa_z hZ hz1_ hq_
        refine z_iinc (v := (x2 + (1 : Int32))) (lw := (fun y_ => [(2, .int y_), (0, .ref (h + 0)), (1, .int x1)])) hx hb dX0_run_64 hl hE (k := 2) rfl rfl (by decide) (fun _ => rfl) (fun z17 ls hE hl => ?_)
        refine lv_goto (tgt := 52) hx hb dX0_run_67 (by decide) ?_
        exact ih _ _ _ _ _ _ hE hW hS hV hZ (lv_sub hl [1, 2, 0] rfl)
  unfold fX0_run at hE
  refine lv_iload_n hx hb dX0_run_0 rfl (lv_at hl 1 rfl) ?_
  refine lv_if_ge (tgt := 11) hx hb dX0_run_1 (by decide) (fun c18 => ?_) (fun c18 => ?_)
  · have hE := z_t c18 hE
    refine lv_iload_n hx hb dX0_run_11 rfl (lv_at hl 1 rfl) ?_
    refine lv_if_eq (tgt := 21) hx hb dX0_run_12 (by decide) (fun c19 => ?_) (fun c19 => ?_)
    · have hE := z_t c19 hE
      exact w_21 _ _ _ _ hE hW hS hV hZ (lv_sub hl [0] rfl)
    · have hE := z_f c19 hE
      refine lv_iload_n hx hb dX0_run_15 rfl (lv_at hl 1 rfl) ?_
      refine lv_bipush (v := (40 : Int32)) hx hb dX0_run_16 rfl ?_
      refine lv_icmp_le (tgt := 28) hx hb dX0_run_18 (by decide) (fun c20 => ?_) (fun c20 => ?_)
      · have hE := z_t c20 hE
        refine lv_aload_n hx hb dX0_run_28 rfl (lv_at hl 0 rfl) ?_
        refine cgs_X0_19_0 C hW (st_0 hS) (sp_0_now hS) dX0_run_29 ?_
        refine cg_X0_344_1 C hW (st_F hS wc_F3) dX0_run_32 ?_
        refine lv_iload_n hx hb dX0_run_35 rfl (lv_at hl 1 rfl) ?_
        refine lv_iadd hx hb dX0_run_36 ?_
        refine lv_sipush (v := (400 : Int32)) hx hb dX0_run_37 rfl ?_
        refine lv_icmp_le (tgt := 50) hx hb dX0_run_40 (by decide) (fun c21 => ?_) (fun c21 => ?_)
        · have hE := z_t c21 hE
          refine lv_iconst (v := (0 : Int32)) hx hb dX0_run_50 rfl ?_
          refine lv_istore_n (lv' := [(2, .int (0 : Int32)), (0, .ref (h + 0)), (1, .int a1)]) hx hb dX0_run_51 rfl hl (by decide) rfl (fun ls hl => ?_)
          exact w_52 N _ _ _ _ _ _ hE hW hS hV hZ (lv_sub hl [1, 2, 0] rfl)
        · have hE := z_f c21 hE
          refine lv_aload_n hx hb dX0_run_43 rfl (lv_at hl 0 rfl) ?_
          refine lv_bipush (v := (-8 : Int32)) hx hb dX0_run_44 rfl ?_
          obtain ⟨r22, u23, hc, hE⟩ := o_bd2_some hE
          refine cc_X0_118 C hW hS hV (st_0 hS) (kX0_refuse hc) rfl rfl ⟨Nat.le_of_ble_eq_true rfl, Nat.le_of_ble_eq_true rfl⟩ (wa_r0 hZ) dX0_run_46 hl.1 (Nat.le_of_ble_eq_true rfl) (fun H locs hW hS hV => ?_)
          obtain ⟨hz_, hE⟩ := o_ze_some hE
          rw [← hz_] at hZ ⊢
          obtain ⟨rfl, rfl⟩ := z_ret hE
          exact wc_iret C hr hlocks hW hS hV rfl dX0_run_49
      · have hE := z_f c20 hE
        exact w_21 _ _ _ _ hE hW hS hV hZ (lv_sub hl [0] rfl)
  · have hE := z_f c18 hE
    refine lv_aload_n hx hb dX0_run_4 rfl (lv_at hl 0 rfl) ?_
    refine lv_bipush (v := (-4 : Int32)) hx hb dX0_run_5 rfl ?_
    obtain ⟨r24, u25, hc, hE⟩ := o_bd2_some hE
    refine cc_X0_118 C hW hS hV (st_0 hS) (kX0_refuse hc) rfl rfl ⟨Nat.le_of_ble_eq_true rfl, Nat.le_of_ble_eq_true rfl⟩ (wa_r0 hZ) dX0_run_7 hl.1 (Nat.le_of_ble_eq_true rfl) (fun H locs hW hS hV => ?_)
    obtain ⟨hz_, hE⟩ := o_ze_some hE
    rw [← hz_] at hZ ⊢
    obtain ⟨rfl, rfl⟩ := z_ret hE
    exact wc_iret C hr hlocks hW hS hV rfl dX0_run_10
theorem ca_X1_152 {n0 : Nat} {a1 : Nat} {mc ms : Nat} {u u1 : CS} {rm : Room} (C : CC p m c cc nL s args D dA RX1) (hW : wc_W D dA h u H) (hS : wc_S u) (hV : va_S (CA h) H0 H locs) (ht : wc_T u n0 = some (.inl 2)) (hM : Met l yX2_as (ws_ yX2_as cX2_as 4 none) rm (va_Pc [.ref (h + n0), .ref (h + a1)] (wc_St D dA h u)) (wc_Qr D dA h none u1) mc ms (CA h)) (hrc : rm.cells = mc) (hrs : rm.slots = ms) (hR : rm.frames + 1 ≤ R.frames ∧ 8 + (4 + 11) + rm.locals ≤ R.locals) (hf : cells + mc ≤ R.cells ∧ slots + ms ≤ R.slots) (d : decode cc pc = .ok (.invokevirtual 152, 3)) (hsz : ls.size = nL) (hro : (rest.map fun v => v.category).sum ≤ 8) (kk : ∀ (H1 : Heap) (locs1 : List Loc), wc_W D dA h u1 H1 → wc_S u1 → va_S (CA h) H0 H1 locs1 → W p l e R s m args below meth c H1 locs1 (cells + mc) (slots + ms) Q (F0 m (pc + 3) ls (rest))) : W p l e R s m args below meth c H locs cells slots Q (F0 m pc ls (.ref (h + a1) :: .ref (h + n0) :: rest)) :=
  wc_call (v := none) (va_runV (As := [.ref (h + a1)]) (rest := rest) C.1 hM (cwV 1 C.1.2.2.2.2 (lw_V q1516 q1517 q1518 q168 q1519) rfl hrc hrs (by decide +kernel) hR) (wc_preV (q := (RX2, TX2, 1)) C.2 hW hS ht rfl _) rfl rfl hsz rfl (lv_room hro) d hf) hV (fun _ z => z) (fun H1 locs1 a b c0 _ _ => kk H1 locs1 a b c0)
set_option maxHeartbeats 4000000 in
set_option maxRecDepth 100000 in
theorem kX2_as {l : Launch} {D : va_G} {dA : Nat → ClassId} {h N z0 : Nat} {n0 : Nat} {a1 : Nat} {u u_ : CS} (hz0 : wc_z u = z0) (hz1 : wc_z u ≤ wc_z u_) (hE : fX2_as N u n0 a1 = some u_) : Met l yX2_as (ws_ yX2_as cX2_as 4 none) ({ frames := 4, cells := wc_z u_ - z0, slots := 4 * (wc_z u_ - z0), locals := 87 }) (va_Pc [.ref (h + n0), .ref (h + a1)] (wc_St D dA h u)) (wc_Qr D dA h none u_) (wc_z u_ - z0) (4 * (wc_z u_ - z0)) (CA h) := by
  refine wa_met (own := RX2) (lv := [(0, .ref (h + n0)), (1, .ref (h + a1))]) hz0 (by decide) rfl rfl rfl ?_
  intro p e s m args below meth c ls C hr hlocks hW hS hV hl
  have hx := C.1.1
  have hb := C.1.2.1
  have hZ : z0 ≤ wc_z u ∧ wc_z u ≤ wc_z u_ := ⟨by omega, hz1⟩
  have w_65 : ∀ (u : CS) (x2 : Nat) (x3 : Option Nat) (H : Heap) (locs : List Loc) (ls : Array Slot), fX2_as_65 N u x2 x3 = some u_ → wc_W D dA h u H → wc_S u → va_S (CA h) s.heap H locs → z0 ≤ wc_z u ∧ wc_z u ≤ wc_z u_ → lv_has ls 4 [(2, .ref (h + x2)), (3, wc_rf h x3)] → W p l e ({ frames := 4, cells := wc_z u_ - z0, slots := 4 * (wc_z u_ - z0), locals := 87 }) s m args below meth c H locs (wc_z u - z0) (4 * (wc_z u - z0)) (MQ below (wc_Qr D dA h none u_) args s (wc_z u_ - z0) (4 * (wc_z u_ - z0)) (CA h)) (F0 m 65 ls []) := by
    intro u x2 x3 H locs ls hE hW hS hV hZ hl
    unfold fX2_as_65 at hE
    refine z_aload_n hx hb dX2_as_65 rfl (lv_at hl 1 rfl) ?_
    refine lv_aload_n hx hb dX2_as_66 rfl (lv_at hl 0 rfl) ?_
    obtain ⟨n20, hp_, hE_⟩ := o_nn_some hE
    clear hE
    subst hp_
    have hE := hE_
    obtain ⟨u21, hc, hE⟩ := o_bd_some hE
    refine cl_X2_23 C hW hS hV hc ⟨Nat.le_of_ble_eq_true rfl, Nat.le_of_ble_eq_true rfl⟩ (wa_r0 hZ) dX2_as_67 hl.1 (Nat.le_of_ble_eq_true rfl) (fun H locs hW hS hV => ?_)
    obtain ⟨hz_, hE⟩ := o_ze_some hE
    rw [← hz_] at hZ ⊢
    cases hE
    exact wc_vret C hr hlocks hW hS hV rfl dX2_as_70
  have w_55 : ∀ (u : CS) (x0 : Nat) (x2 : Option Nat) (H : Heap) (locs : List Loc) (ls : Array Slot), fX2_as_55 N u x0 x2 = some u_ → wc_W D dA h u H → wc_S u → va_S (CA h) s.heap H locs → z0 ≤ wc_z u ∧ wc_z u ≤ wc_z u_ → lv_has ls 4 [(0, .ref (h + x0)), (2, wc_rf h x2)] → W p l e ({ frames := 4, cells := wc_z u_ - z0, slots := 4 * (wc_z u_ - z0), locals := 87 }) s m args below meth c H locs (wc_z u - z0) (4 * (wc_z u - z0)) (MQ below (wc_Qr D dA h none u_) args s (wc_z u_ - z0) (4 * (wc_z u_ - z0)) (CA h)) (F0 m 55 ls []) := by
    intro u x0 x2 H locs ls hE hW hS hV hZ hl
    unfold fX2_as_55 at hE
    refine z_aload_n hx hb dX2_as_55 rfl (lv_at hl 1 rfl) ?_
    obtain ⟨n23, hp_, hE_⟩ := o_nn_some hE
    clear hE
    subst hp_
    have hE := hE_
    obtain ⟨r24, u25, hc, hE⟩ := o_bd2_some hE
    obtain ⟨hz1_, hE⟩ := o_zl_some hE
    obtain ⟨hq_, hE⟩ := o_zc_some hE
    have hq_ : wc_z u25 ≤ wc_z u_ := hq_
    refine cla_X2_19 C hW hS hV hz1_ hc ⟨Nat.le_of_ble_eq_true rfl, Nat.le_of_ble_eq_true rfl⟩ (wa_r2 hZ hz1_ hq_) dX2_as_56 hl.1 (Nat.le_of_ble_eq_true rfl) (fun H locs hW hS hV => ?_)
    refine W.recount (wa_c hZ hz1_).1 (wa_c hZ hz1_).2 ?_
    have hZ := wa_z hZ hz1_ hq_
    refine z_astore_n (lv' := [(3, wc_rf h r24), (0, .ref (h + x0)), (2, .ref (h + n23))]) hx hb dX2_as_59 rfl hl (by decide) rfl (fun ls hl => ?_)
    refine lv_aload_n hx hb dX2_as_60 rfl (lv_at hl 1 rfl) ?_
    refine z_aload_n hx hb dX2_as_61 rfl (lv_at hl 0 rfl) ?_
    obtain ⟨ht, hE⟩ := o_sh_some hE
    refine cp_X2_7_2 (x := r24) (J := wa_J u25) C hW hV ht ⟨(hS.uP (wc_S.noR hS ht (by decide))), rfl⟩ hE dX2_as_62 (fun u26 H locs hE hW hS hV => ?_)
    obtain ⟨hS, hz_⟩ := hS
    rw [← hz_] at hZ ⊢
    exact w_65 _ _ _ _ _ _ hE hW hS hV hZ (lv_sub hl [2, 0] rfl)
  have w_39 : ∀ (u : CS) (x0 : Nat) (x2 : Option Nat) (y0 : Option Nat) (H : Heap) (locs : List Loc) (ls : Array Slot), fX2_as_39 N u x0 x2 y0 = some u_ → wc_W D dA h u H → wc_S u → va_S (CA h) s.heap H locs → z0 ≤ wc_z u ∧ wc_z u ≤ wc_z u_ → lv_has ls 4 [(0, .ref (h + x0)), (2, wc_rf h x2)] → W p l e ({ frames := 4, cells := wc_z u_ - z0, slots := 4 * (wc_z u_ - z0), locals := 87 }) s m args below meth c H locs (wc_z u - z0) (4 * (wc_z u - z0)) (MQ below (wc_Qr D dA h none u_) args s (wc_z u_ - z0) (4 * (wc_z u_ - z0)) (CA h)) (F0 m 39 ls [wc_rf h y0]) := by
    intro u x0 x2 y0 H locs ls hE hW hS hV hZ hl
    unfold fX2_as_39 at hE
    refine z_astore_n (lv' := [(3, wc_rf h y0), (0, .ref (h + x0)), (2, wc_rf h x2)]) hx hb dX2_as_39 rfl hl (by decide) (by cases x2 <;> rfl) (fun ls hl => ?_)
    refine z_aload_n hx hb dX2_as_40 rfl (lv_at hl 0 rfl) ?_
    rcases y0 with _ | n27
    · have hE := o_nu_none hE
      refine lv_ifnullN (tgt := 55) hx hb dX2_as_41 (by decide) ?_
      exact w_55 _ _ _ _ _ _ hE hW hS hV hZ (lv_sub hl [1, 2] rfl)
    · have hE := o_nu_nn hE
      refine lv_ifnull hx hb dX2_as_41 ?_
      refine lv_aload_n hx hb dX2_as_44 rfl (lv_at hl 0 rfl) ?_
      obtain ⟨r29, u28, hc, hE⟩ := o_bd2_some hE
      refine cl_X2_15 C hW hS hV hc ⟨Nat.le_of_ble_eq_true rfl, Nat.le_of_ble_eq_true rfl⟩ (wa_r0 hZ) dX2_as_45 hl.1 (Nat.le_of_ble_eq_true rfl) (fun H locs hW hS hV => ?_)
      obtain ⟨hz_, hE⟩ := o_ze_some hE
      rw [← hz_] at hZ ⊢
      refine z_aload_n hx hb dX2_as_48 rfl (lv_at hl 2 rfl) ?_
      obtain ⟨n30, hp_, hE_⟩ := o_nn_some hE
      clear hE
      subst hp_
      have hE := hE_
      obtain ⟨r32, u31, hc, hE⟩ := o_bd2_some hE
      refine cl_X2_15 C hW hS hV hc ⟨Nat.le_of_ble_eq_true rfl, Nat.le_of_ble_eq_true rfl⟩ (wa_r0 hZ) dX2_as_49 hl.1 (Nat.le_of_ble_eq_true rfl) (fun H locs hW hS hV => ?_)
      obtain ⟨hz_, hE⟩ := o_ze_some hE
      rw [← hz_] at hZ ⊢
      refine lv_icmp_eq (tgt := 65) hx hb dX2_as_52 (by decide) (fun c33 => ?_) (fun c33 => ?_)
      · have hE := z_t c33 hE
        exact w_65 _ _ _ _ _ _ hE hW hS hV hZ (lv_sub hl [2, 0] rfl)
      · have hE := z_f c33 hE
        exact w_55 _ _ _ _ _ _ hE hW hS hV hZ (lv_sub hl [1, 2] rfl)
  unfold fX2_as at hE
  refine lv_aload_n hx hb dX2_as_0 rfl (lv_at hl 1 rfl) ?_
  obtain ⟨ht, hE⟩ := o_sh_some hE
  refine cg_X2_7_2 C hW ht dX2_as_1 ?_
  refine z_nmp hE (fun p34 hE => ?_)
  rcases p34 with _ | n35
  · have hE := o_nu_none hE
    refine lv_ifnonnullN hx hb dX2_as_4 ?_
    refine lv_aload_n hx hb dX2_as_7 rfl (lv_at hl 0 rfl) ?_
    refine lv_null hx hb dX2_as_8 ?_
    obtain ⟨ht, hE⟩ := o_sh_some hE
    refine cp_X2_7_2 (x := none) (J := wa_J u) C hW hV ht ⟨(hS.uP (wc_S.noR hS ht (by decide))), rfl⟩ hE dX2_as_9 (fun u36 H locs hE hW hS hV => ?_)
    obtain ⟨hS, hz_⟩ := hS
    rw [← hz_] at hZ ⊢
    cases hE
    exact wc_vret C hr hlocks hW hS hV rfl dX2_as_12
  · have hE := o_nu_nn hE
    refine lv_ifnonnull (tgt := 13) hx hb dX2_as_4 (by decide) ?_
    refine lv_aload_n hx hb dX2_as_13 rfl (lv_at hl 1 rfl) ?_
    obtain ⟨ht, hE⟩ := o_sh_some hE
    refine cg_X2_7_2 C hW ht dX2_as_14 ?_
    refine z_nmp hE (fun p37 hE => ?_)
    refine wc_castLN C hW q1520 hE dX2_as_17 (fun hE => ?_)
    refine z_astore_n (lv' := [(2, wc_rf h p37), (0, .ref (h + n0)), (1, .ref (h + a1))]) hx hb dX2_as_20 rfl hl (by decide) rfl (fun ls hl => ?_)
    refine lv_aload_n hx hb dX2_as_21 rfl (lv_at hl 1 rfl) ?_
    obtain ⟨ht, hE⟩ := o_sh_some hE
    refine cg_X2_7_2 C hW ht dX2_as_22 ?_
    refine z_nmp hE (fun p38 hE => ?_)
    rcases p38 with _ | n39
    · have hE := o_nu_none hE
      refine lv_ifnonnullN hx hb dX2_as_25 ?_
      refine lv_null hx hb dX2_as_28 ?_
      refine lv_goto (tgt := 39) hx hb dX2_as_29 (by decide) ?_
      exact w_39 _ _ _ _ _ _ _ hE hW hS hV hZ (lv_sub hl [1, 0] rfl)
    · have hE := o_nu_nn hE
      refine lv_ifnonnull (tgt := 32) hx hb dX2_as_25 (by decide) ?_
      refine lv_aload_n hx hb dX2_as_32 rfl (lv_at hl 1 rfl) ?_
      obtain ⟨ht, hE⟩ := o_sh_some hE
      refine cg_X2_7_2 C hW ht dX2_as_33 ?_
      refine z_nmp hE (fun p40 hE => ?_)
      refine wc_castLN C hW q1520 hE dX2_as_36 (fun hE => ?_)
      exact w_39 _ _ _ _ _ _ _ hE hW hS hV hZ (lv_sub hl [1, 0] rfl)
end CG200
