section CG201
variable {p : Program} {l : Launch} {e : Env} {R : Room} {s : State} {m : MethodId} {args : Array Value} {below : List Frame} {meth : Method} {c : Code} {H : Heap} {locs : List Loc} {cells slots : Nat} {Q : State → Prop} {cc : ByteArray} {nL pc : Nat} {ls : Array Slot} {rest : List Value} {D : va_G} {dA : Nat → ClassId} {h : Nat} {H0 : Heap}
theorem ca_X0_575 {F : Nat} {G1 : Nat} {mc ms : Nat} {u u1 : CS} {rm : Room} (C : CC p m c cc nL s args D dA RX0) (hW : wc_W D dA h u H) (hS : wc_S u) (hV : va_S (CA h) H0 H locs) (ht : wc_T u F = some (.inl 1)) (hM : Met l yX1_as (ws_ yX1_as cX1_as 3 none) rm (va_Pc [.ref (h + F), .ref (h + G1)] (wc_St D dA h u)) (wc_Qr D dA h none u1) mc ms (CA h)) (hrc : rm.cells = mc) (hrs : rm.slots = ms) (hR : rm.frames + 1 ≤ R.frames ∧ 8 + (3 + 11) + rm.locals ≤ R.locals) (hf : cells + mc ≤ R.cells ∧ slots + ms ≤ R.slots) (d : decode cc pc = .ok (.invokevirtual 575, 3)) (hsz : ls.size = nL) (hro : (rest.map fun v => v.category).sum ≤ 8) (kk : ∀ (H1 : Heap) (locs1 : List Loc), wc_W D dA h u1 H1 → wc_S u1 → va_S (CA h) H0 H1 locs1 → W p l e R s m args below meth c H1 locs1 (cells + mc) (slots + ms) Q (F0 m (pc + 3) ls (rest))) : W p l e R s m args below meth c H locs cells slots Q (F0 m pc ls (.ref (h + G1) :: .ref (h + F) :: rest)) :=
  wc_call (v := none) (va_runV (As := [.ref (h + G1)]) (rest := rest) C.1 hM (cwV 1 C.1.2.2.2.2 (lw_V q1504 q1505 q1506 q167 q1507) rfl hrc hrs (by decide +kernel) hR) (wc_preV (q := (RX1, TX1, 46)) C.2 hW hS ht rfl _) rfl rfl hsz rfl (lv_room hro) d hf) hV (fun _ z => z) (fun H1 locs1 a b c0 _ _ => kk H1 locs1 a b c0)
set_option maxHeartbeats 4000000 in
set_option maxRecDepth 100000 in
theorem kX1_as {l : Launch} {D : va_G} {dA : Nat → ClassId} {h N z0 : Nat} {F : Nat} {G1 : Nat} {u u_ : CS} (hF : wc_F F) (hG1 : wc_F G1) (hz0 : wc_z u = z0) (hz1 : wc_z u ≤ wc_z u_) (hE : fX1_as N F G1 u = some u_) : Met l yX1_as (ws_ yX1_as cX1_as 3 none) ({ frames := 5, cells := wc_z u_ - z0, slots := 4 * (wc_z u_ - z0), locals := 110 }) (va_Pc [.ref (h + F), .ref (h + G1)] (wc_St D dA h u)) (wc_Qr D dA h none u_) (wc_z u_ - z0) (4 * (wc_z u_ - z0)) (CA h) := by
  refine wa_met (own := RX1) (lv := [(0, .ref (h + F)), (1, .ref (h + G1))]) hz0 (by decide) rfl rfl rfl ?_
  intro p e s m args below meth c ls C hr hlocks hW hS hV hl
  have hx := C.1.1
  have hb := C.1.2.1
  have hZ : z0 ≤ wc_z u ∧ wc_z u ≤ wc_z u_ := ⟨by omega, hz1⟩
  have w_20 : ∀ (n : Nat) (u : CS) (x2 : Int32) (H : Heap) (locs : List Loc) (ls : Array Slot), fX1_as_20 N F G1 n u x2 = some u_ → wc_W D dA h u H → wc_S u → va_S (CA h) s.heap H locs → z0 ≤ wc_z u ∧ wc_z u ≤ wc_z u_ → lv_has ls 3 [(0, .ref (h + F)), (1, .ref (h + G1)), (2, .int x2)] → W p l e ({ frames := 5, cells := wc_z u_ - z0, slots := 4 * (wc_z u_ - z0), locals := 110 }) s m args below meth c H locs (wc_z u - z0) (4 * (wc_z u - z0)) (MQ below (wc_Qr D dA h none u_) args s (wc_z u_ - z0) (4 * (wc_z u_ - z0)) (CA h)) (F0 m 20 ls []) := by
    intro n
    induction n with
    | zero =>
      intro u x2 H locs ls hE hW hS hV hZ hl
      cases (show (none : Option (CS)) = some u_ from hE)
    | succ n ih =>
      intro u x2 H locs ls hE hW hS hV hZ hl
      rw [fX1_as_20] at hE
      refine lv_iload_n hx hb dX1_as_20 rfl (lv_at hl 2 rfl) ?_
      refine lv_bipush (v := (60 : Int32)) hx hb dX1_as_21 rfl ?_
      refine lv_icmp_ge (tgt := 47) hx hb dX1_as_23 (by decide) (fun c9 => ?_) (fun c9 => ?_)
      · have hE := z_t c9 hE
        refine lv_aload_n hx hb dX1_as_47 rfl (lv_at hl 1 rfl) ?_
        refine cgs_X1_85_1 C hW (st_F hS hG1) (sp_F_books hS hG1) dX1_as_48 ?_
        refine lv_iconst (v := (0 : Int32)) hx hb dX1_as_51 rfl ?_
        refine lv_aload_n hx hb dX1_as_52 rfl (lv_at hl 0 rfl) ?_
        refine cgs_X1_85_1 C hW (st_F hS hF) (sp_F_books hS hF) dX1_as_53 ?_
        refine lv_iconst (v := (0 : Int32)) hx hb dX1_as_56 rfl ?_
        refine lv_bipush (v := (8 : Int32)) hx hb dX1_as_57 rfl ?_
        refine wc_copyL (J := wa_J u) C hl.1 q1377 q1379 q1378 q190 hW hV (st_F_books hS hG1) (st_F_books hS hF) ⟨hS.aB, rfl⟩ hE (Nat.le_of_ble_eq_true rfl) (by first | exact Nat.le_of_ble_eq_true rfl | (simp [wc_cat, Value.category]; decide)) dX1_as_59 (fun u10 H locs hE hW hS hV => ?_)
        obtain ⟨hS, hz_⟩ := hS
        rw [← hz_] at hZ ⊢
        refine lv_aload_n hx hb dX1_as_62 rfl (lv_at hl 0 rfl) ?_
        refine lv_aload_n hx hb dX1_as_63 rfl (lv_at hl 1 rfl) ?_
        refine cg_X1_162_1 C hW (st_F hS hG1) dX1_as_64 ?_
        refine cp_X1_162_1 (J := wa_J u10) C hW hV (st_F hS hF) ⟨hS.uI, rfl⟩ hE dX1_as_67 (fun u11 H locs hE hW hS hV => ?_)
        obtain ⟨hS, hz_⟩ := hS
        rw [← hz_] at hZ ⊢
        refine lv_aload_n hx hb dX1_as_70 rfl (lv_at hl 1 rfl) ?_
        refine cgs_X1_91_1 C hW (st_F hS hG1) (sp_F_line hS hG1) dX1_as_71 ?_
        refine lv_iconst (v := (0 : Int32)) hx hb dX1_as_74 rfl ?_
        refine lv_aload_n hx hb dX1_as_75 rfl (lv_at hl 0 rfl) ?_
        refine cgs_X1_91_1 C hW (st_F hS hF) (sp_F_line hS hF) dX1_as_76 ?_
        refine lv_iconst (v := (0 : Int32)) hx hb dX1_as_79 rfl ?_
        refine lv_bipush (v := (16 : Int32)) hx hb dX1_as_80 rfl ?_
        refine wc_copyQ (J := wa_J u11) C hl.1 q1377 q1379 q1378 q190 hW hV (st_F_line hS hG1) (st_F_line hS hF) ⟨(hS.aQ (wc_sqL hF)), rfl⟩ hE (Nat.le_of_ble_eq_true rfl) (by first | exact Nat.le_of_ble_eq_true rfl | (simp [wc_cat, Value.category]; decide)) dX1_as_82 (fun u12 H locs hE hW hS hV => ?_)
        obtain ⟨hS, hz_⟩ := hS
        rw [← hz_] at hZ ⊢
        refine lv_aload_n hx hb dX1_as_85 rfl (lv_at hl 1 rfl) ?_
        refine cgs_X1_95_1 C hW (st_F hS hG1) (sp_F_cameIn hS hG1) dX1_as_86 ?_
        refine lv_iconst (v := (0 : Int32)) hx hb dX1_as_89 rfl ?_
        refine lv_aload_n hx hb dX1_as_90 rfl (lv_at hl 0 rfl) ?_
        refine cgs_X1_95_1 C hW (st_F hS hF) (sp_F_cameIn hS hF) dX1_as_91 ?_
        refine lv_iconst (v := (0 : Int32)) hx hb dX1_as_94 rfl ?_
        refine lv_bipush (v := (16 : Int32)) hx hb dX1_as_95 rfl ?_
        refine wc_copyI (J := wa_J u12) C hl.1 q1377 q1379 q1378 q190 hW hV (st_F_cameIn hS hG1) (st_F_cameIn hS hF) ⟨hS.aA, rfl⟩ hE (Nat.le_of_ble_eq_true rfl) (by first | exact Nat.le_of_ble_eq_true rfl | (simp [wc_cat, Value.category]; decide)) dX1_as_97 (fun u13 H locs hE hW hS hV => ?_)
        obtain ⟨hS, hz_⟩ := hS
        rw [← hz_] at hZ ⊢
        refine lv_aload_n hx hb dX1_as_100 rfl (lv_at hl 1 rfl) ?_
        refine cgs_X1_98_1 C hW (st_F hS hG1) (sp_F_struckIn hS hG1) dX1_as_101 ?_
        refine lv_iconst (v := (0 : Int32)) hx hb dX1_as_104 rfl ?_
        refine lv_aload_n hx hb dX1_as_105 rfl (lv_at hl 0 rfl) ?_
        refine cgs_X1_98_1 C hW (st_F hS hF) (sp_F_struckIn hS hF) dX1_as_106 ?_
        refine lv_iconst (v := (0 : Int32)) hx hb dX1_as_109 rfl ?_
        refine lv_bipush (v := (16 : Int32)) hx hb dX1_as_110 rfl ?_
        refine wc_copyI (J := wa_J u13) C hl.1 q1377 q1379 q1378 q190 hW hV (st_F_struckIn hS hG1) (st_F_struckIn hS hF) ⟨hS.aA, rfl⟩ hE (Nat.le_of_ble_eq_true rfl) (by first | exact Nat.le_of_ble_eq_true rfl | (simp [wc_cat, Value.category]; decide)) dX1_as_112 (fun u14 H locs hE hW hS hV => ?_)
        obtain ⟨hS, hz_⟩ := hS
        rw [← hz_] at hZ ⊢
        refine lv_aload_n hx hb dX1_as_115 rfl (lv_at hl 0 rfl) ?_
        refine lv_aload_n hx hb dX1_as_116 rfl (lv_at hl 1 rfl) ?_
        refine cg_X1_165_1 C hW (st_F hS hG1) dX1_as_117 ?_
        refine cp_X1_165_1 (J := wa_J u14) C hW hV (st_F hS hF) ⟨hS.uI, rfl⟩ hE dX1_as_120 (fun u15 H locs hE hW hS hV => ?_)
        obtain ⟨hS, hz_⟩ := hS
        rw [← hz_] at hZ ⊢
        refine lv_aload_n hx hb dX1_as_123 rfl (lv_at hl 1 rfl) ?_
        refine cgs_X1_101_1 C hW (st_F hS hG1) (sp_F_orderStand hS hG1) dX1_as_124 ?_
        refine lv_iconst (v := (0 : Int32)) hx hb dX1_as_127 rfl ?_
        refine lv_aload_n hx hb dX1_as_128 rfl (lv_at hl 0 rfl) ?_
        refine cgs_X1_101_1 C hW (st_F hS hF) (sp_F_orderStand hS hF) dX1_as_129 ?_
        refine lv_iconst (v := (0 : Int32)) hx hb dX1_as_132 rfl ?_
        refine lv_bipush (v := (30 : Int32)) hx hb dX1_as_133 rfl ?_
        refine wc_copyI (J := wa_J u15) C hl.1 q1377 q1379 q1378 q190 hW hV (st_F_orderStand hS hG1) (st_F_orderStand hS hF) ⟨hS.aA, rfl⟩ hE (Nat.le_of_ble_eq_true rfl) (by first | exact Nat.le_of_ble_eq_true rfl | (simp [wc_cat, Value.category]; decide)) dX1_as_135 (fun u16 H locs hE hW hS hV => ?_)
        obtain ⟨hS, hz_⟩ := hS
        rw [← hz_] at hZ ⊢
        refine lv_aload_n hx hb dX1_as_138 rfl (lv_at hl 1 rfl) ?_
        refine cgs_X1_104_1 C hW (st_F hS hG1) (sp_F_orderSort hS hG1) dX1_as_139 ?_
        refine lv_iconst (v := (0 : Int32)) hx hb dX1_as_142 rfl ?_
        refine lv_aload_n hx hb dX1_as_143 rfl (lv_at hl 0 rfl) ?_
        refine cgs_X1_104_1 C hW (st_F hS hF) (sp_F_orderSort hS hF) dX1_as_144 ?_
        refine lv_iconst (v := (0 : Int32)) hx hb dX1_as_147 rfl ?_
        refine lv_bipush (v := (30 : Int32)) hx hb dX1_as_148 rfl ?_
        refine wc_copyI (J := wa_J u16) C hl.1 q1377 q1379 q1378 q190 hW hV (st_F_orderSort hS hG1) (st_F_orderSort hS hF) ⟨hS.aA, rfl⟩ hE (Nat.le_of_ble_eq_true rfl) (by first | exact Nat.le_of_ble_eq_true rfl | (simp [wc_cat, Value.category]; decide)) dX1_as_150 (fun u17 H locs hE hW hS hV => ?_)
        obtain ⟨hS, hz_⟩ := hS
        rw [← hz_] at hZ ⊢
        refine lv_aload_n hx hb dX1_as_153 rfl (lv_at hl 1 rfl) ?_
        refine cgs_X1_107_1 C hW (st_F hS hG1) (sp_F_orderTold hS hG1) dX1_as_154 ?_
        refine lv_iconst (v := (0 : Int32)) hx hb dX1_as_157 rfl ?_
        refine lv_aload_n hx hb dX1_as_158 rfl (lv_at hl 0 rfl) ?_
        refine cgs_X1_107_1 C hW (st_F hS hF) (sp_F_orderTold hS hF) dX1_as_159 ?_
        refine lv_iconst (v := (0 : Int32)) hx hb dX1_as_162 rfl ?_
        refine lv_bipush (v := (30 : Int32)) hx hb dX1_as_163 rfl ?_
        refine wc_copyI (J := wa_J u17) C hl.1 q1377 q1379 q1378 q190 hW hV (st_F_orderTold hS hG1) (st_F_orderTold hS hF) ⟨hS.aA, rfl⟩ hE (Nat.le_of_ble_eq_true rfl) (by first | exact Nat.le_of_ble_eq_true rfl | (simp [wc_cat, Value.category]; decide)) dX1_as_165 (fun u18 H locs hE hW hS hV => ?_)
        obtain ⟨hS, hz_⟩ := hS
        rw [← hz_] at hZ ⊢
        refine lv_aload_n hx hb dX1_as_168 rfl (lv_at hl 1 rfl) ?_
        refine cgs_X1_110_1 C hW (st_F hS hG1) (sp_F_sown hS hG1) dX1_as_169 ?_
        refine lv_iconst (v := (0 : Int32)) hx hb dX1_as_172 rfl ?_
        refine lv_aload_n hx hb dX1_as_173 rfl (lv_at hl 0 rfl) ?_
        refine cgs_X1_110_1 C hW (st_F hS hF) (sp_F_sown hS hF) dX1_as_174 ?_
        refine lv_iconst (v := (0 : Int32)) hx hb dX1_as_177 rfl ?_
        refine lv_bipush (v := (12 : Int32)) hx hb dX1_as_178 rfl ?_
        refine wc_copyI (J := wa_J u18) C hl.1 q1377 q1379 q1378 q190 hW hV (st_F_sown hS hG1) (st_F_sown hS hF) ⟨hS.aA, rfl⟩ hE (Nat.le_of_ble_eq_true rfl) (by first | exact Nat.le_of_ble_eq_true rfl | (simp [wc_cat, Value.category]; decide)) dX1_as_180 (fun u19 H locs hE hW hS hV => ?_)
        obtain ⟨hS, hz_⟩ := hS
        rw [← hz_] at hZ ⊢
        refine lv_aload_n hx hb dX1_as_183 rfl (lv_at hl 1 rfl) ?_
        refine cgs_X1_113_1 C hW (st_F hS hG1) (sp_F_winds hS hG1) dX1_as_184 ?_
        refine lv_iconst (v := (0 : Int32)) hx hb dX1_as_187 rfl ?_
        refine lv_aload_n hx hb dX1_as_188 rfl (lv_at hl 0 rfl) ?_
        refine cgs_X1_113_1 C hW (st_F hS hF) (sp_F_winds hS hF) dX1_as_189 ?_
        refine lv_iconst (v := (0 : Int32)) hx hb dX1_as_192 rfl ?_
        refine lv_bipush (v := (100 : Int32)) hx hb dX1_as_193 rfl ?_
        refine wc_copyI (J := wa_J u19) C hl.1 q1377 q1379 q1378 q190 hW hV (st_F_winds hS hG1) (st_F_winds hS hF) ⟨hS.aA, rfl⟩ hE (Nat.le_of_ble_eq_true rfl) (by first | exact Nat.le_of_ble_eq_true rfl | (simp [wc_cat, Value.category]; decide)) dX1_as_195 (fun u20 H locs hE hW hS hV => ?_)
        obtain ⟨hS, hz_⟩ := hS
        rw [← hz_] at hZ ⊢
        refine lv_aload_n hx hb dX1_as_198 rfl (lv_at hl 1 rfl) ?_
        refine cgs_X1_116_1 C hW (st_F hS hG1) (sp_F_thieves hS hG1) dX1_as_199 ?_
        refine lv_iconst (v := (0 : Int32)) hx hb dX1_as_202 rfl ?_
        refine lv_aload_n hx hb dX1_as_203 rfl (lv_at hl 0 rfl) ?_
        refine cgs_X1_116_1 C hW (st_F hS hF) (sp_F_thieves hS hF) dX1_as_204 ?_
        refine lv_iconst (v := (0 : Int32)) hx hb dX1_as_207 rfl ?_
        refine lv_bipush (v := (6 : Int32)) hx hb dX1_as_208 rfl ?_
        refine wc_copyI (J := wa_J u20) C hl.1 q1377 q1379 q1378 q190 hW hV (st_F_thieves hS hG1) (st_F_thieves hS hF) ⟨hS.aA, rfl⟩ hE (Nat.le_of_ble_eq_true rfl) (by first | exact Nat.le_of_ble_eq_true rfl | (simp [wc_cat, Value.category]; decide)) dX1_as_210 (fun u21 H locs hE hW hS hV => ?_)
        obtain ⟨hS, hz_⟩ := hS
        rw [← hz_] at hZ ⊢
        refine lv_aload_n hx hb dX1_as_213 rfl (lv_at hl 1 rfl) ?_
        refine cgs_X1_119_1 C hW (st_F hS hG1) (sp_F_guards hS hG1) dX1_as_214 ?_
        refine lv_iconst (v := (0 : Int32)) hx hb dX1_as_217 rfl ?_
        refine lv_aload_n hx hb dX1_as_218 rfl (lv_at hl 0 rfl) ?_
        refine cgs_X1_119_1 C hW (st_F hS hF) (sp_F_guards hS hF) dX1_as_219 ?_
        refine lv_iconst (v := (0 : Int32)) hx hb dX1_as_222 rfl ?_
        refine lv_bipush (v := (6 : Int32)) hx hb dX1_as_223 rfl ?_
        refine wc_copyI (J := wa_J u21) C hl.1 q1377 q1379 q1378 q190 hW hV (st_F_guards hS hG1) (st_F_guards hS hF) ⟨hS.aA, rfl⟩ hE (Nat.le_of_ble_eq_true rfl) (by first | exact Nat.le_of_ble_eq_true rfl | (simp [wc_cat, Value.category]; decide)) dX1_as_225 (fun u22 H locs hE hW hS hV => ?_)
        obtain ⟨hS, hz_⟩ := hS
        rw [← hz_] at hZ ⊢
        refine lv_aload_n hx hb dX1_as_228 rfl (lv_at hl 1 rfl) ?_
        refine cgs_X1_122_1 C hW (st_F hS hG1) (sp_F_countMany hS hG1) dX1_as_229 ?_
        refine lv_iconst (v := (0 : Int32)) hx hb dX1_as_232 rfl ?_
        refine lv_aload_n hx hb dX1_as_233 rfl (lv_at hl 0 rfl) ?_
        refine cgs_X1_122_1 C hW (st_F hS hF) (sp_F_countMany hS hF) dX1_as_234 ?_
        refine lv_iconst (v := (0 : Int32)) hx hb dX1_as_237 rfl ?_
        refine lv_bipush (v := (24 : Int32)) hx hb dX1_as_238 rfl ?_
        refine wc_copyI (J := wa_J u22) C hl.1 q1377 q1379 q1378 q190 hW hV (st_F_countMany hS hG1) (st_F_countMany hS hF) ⟨hS.aA, rfl⟩ hE (Nat.le_of_ble_eq_true rfl) (by first | exact Nat.le_of_ble_eq_true rfl | (simp [wc_cat, Value.category]; decide)) dX1_as_240 (fun u23 H locs hE hW hS hV => ?_)
        obtain ⟨hS, hz_⟩ := hS
        rw [← hz_] at hZ ⊢
        refine lv_aload_n hx hb dX1_as_243 rfl (lv_at hl 1 rfl) ?_
        refine cgs_X1_125_1 C hW (st_F hS hG1) (sp_F_counts hS hG1) dX1_as_244 ?_
        refine lv_iconst (v := (0 : Int32)) hx hb dX1_as_247 rfl ?_
        refine lv_aload_n hx hb dX1_as_248 rfl (lv_at hl 0 rfl) ?_
        refine cgs_X1_125_1 C hW (st_F hS hF) (sp_F_counts hS hF) dX1_as_249 ?_
        refine lv_iconst (v := (0 : Int32)) hx hb dX1_as_252 rfl ?_
        refine lv_sipush (v := (960 : Int32)) hx hb dX1_as_253 rfl ?_
        refine wc_copyI (J := wa_J u23) C hl.1 q1377 q1379 q1378 q190 hW hV (st_F_counts hS hG1) (st_F_counts hS hF) ⟨hS.aA, rfl⟩ hE (Nat.le_of_ble_eq_true rfl) (by first | exact Nat.le_of_ble_eq_true rfl | (simp [wc_cat, Value.category]; decide)) dX1_as_256 (fun u24 H locs hE hW hS hV => ?_)
        obtain ⟨hS, hz_⟩ := hS
        rw [← hz_] at hZ ⊢
        cases hE
        exact wc_vret C hr hlocks hW hS hV rfl dX1_as_259
      · have hE := z_f c9 hE
        refine lv_aload_n hx hb dX1_as_26 rfl (lv_at hl 0 rfl) ?_
        refine cgs_X1_81_1 C hW (st_F hS hF) (sp_F_slots hS hF) dX1_as_27 ?_
        refine lv_iload_n hx hb dX1_as_30 rfl (lv_at hl 2 rfl) ?_
        refine wc_ldq6 C hW (st_F_slots hS hF) hE dX1_as_31 (fun hE => ?_)
        refine z_nmp hE (fun p25 hE => ?_)
        refine lv_aload_n hx hb dX1_as_32 rfl (lv_at hl 1 rfl) ?_
        refine cgs_X1_81_1 C hW (st_F hS hG1) (sp_F_slots hS hG1) dX1_as_33 ?_
        refine lv_iload_n hx hb dX1_as_36 rfl (lv_at hl 2 rfl) ?_
        refine wc_ldq6 C hW (st_F_slots hS hG1) hE dX1_as_37 (fun hE => ?_)
        refine z_nmp hE (fun p26 hE => ?_)
        obtain ⟨n27, hp_, hE_⟩ := o_nn_some hE
        clear hE
        subst hp_
        have hE := hE_
        obtain ⟨n28, hp_, hE_⟩ := o_nn_some hE
        clear hE
        subst hp_
        have hE := hE_
        obtain ⟨ht0_, hE⟩ := o_sh_some hE
        obtain ⟨u29, hc, hE⟩ := o_bd_some hE
        obtain ⟨hz1_, hE⟩ := o_zl_some hE
        obtain ⟨hq_, hE⟩ := o_zc_some hE
        have hq_ : wc_z u29 ≤ wc_z u_ := hq_
        refine ca_X1_152 C hW hS hV ht0_ (kX2_as rfl hz1_ hc) rfl rfl ⟨Nat.le_of_ble_eq_true rfl, Nat.le_of_ble_eq_true rfl⟩ (wa_r2 hZ hz1_ hq_) dX1_as_38 hl.1 (Nat.le_of_ble_eq_true rfl) (fun H locs hW hS hV => ?_)
        refine W.recount (wa_c hZ hz1_).1 (wa_c hZ hz1_).2 ?_
        have hZ := wa_z hZ hz1_ hq_
        refine z_iinc (v := (x2 + (1 : Int32))) (lw := (fun y_ => [(2, .int y_), (0, .ref (h + F)), (1, .ref (h + G1))])) hx hb dX1_as_41 hl hE (k := 2) rfl rfl (by decide) (fun _ => rfl) (fun z30 ls hE hl => ?_)
        refine lv_goto (tgt := 20) hx hb dX1_as_44 (by decide) ?_
        exact ih _ _ _ _ _ hE hW hS hV hZ (lv_sub hl [1, 2, 0] rfl)
  unfold fX1_as at hE
  refine lv_aload_n hx hb dX1_as_0 rfl (lv_at hl 0 rfl) ?_
  refine lv_aload_n hx hb dX1_as_1 rfl (lv_at hl 1 rfl) ?_
  refine cg_X1_142_1 C hW (st_F hS hG1) dX1_as_2 ?_
  refine cp_X1_142_1 (J := wa_J u) C hW hV (st_F hS hF) ⟨hS.uI, rfl⟩ hE dX1_as_5 (fun u31 H locs hE hW hS hV => ?_)
  obtain ⟨hS, hz_⟩ := hS
  rw [← hz_] at hZ ⊢
  refine lv_aload_n hx hb dX1_as_8 rfl (lv_at hl 0 rfl) ?_
  refine lv_aload_n hx hb dX1_as_9 rfl (lv_at hl 1 rfl) ?_
  obtain ⟨u32, hc, hE⟩ := o_bd_some hE
  refine cc_X1_145 C hW hS hV (st_F hS hF) (kX1_asStands hF hG1 hc) rfl rfl ⟨Nat.le_of_ble_eq_true rfl, Nat.le_of_ble_eq_true rfl⟩ (wa_r0 hZ) dX1_as_10 hl.1 (Nat.le_of_ble_eq_true rfl) (fun H locs hW hS hV => ?_)
  obtain ⟨hz_, hE⟩ := o_ze_some hE
  rw [← hz_] at hZ ⊢
  refine lv_aload_n hx hb dX1_as_13 rfl (lv_at hl 0 rfl) ?_
  refine lv_aload_n hx hb dX1_as_14 rfl (lv_at hl 1 rfl) ?_
  obtain ⟨u33, hc, hE⟩ := o_bd_some hE
  refine cc_X1_149 C hW hS hV (st_F hS hF) (kX1_asLands hF hG1 hc) rfl rfl ⟨Nat.le_of_ble_eq_true rfl, Nat.le_of_ble_eq_true rfl⟩ (wa_r0 hZ) dX1_as_15 hl.1 (Nat.le_of_ble_eq_true rfl) (fun H locs hW hS hV => ?_)
  obtain ⟨hz_, hE⟩ := o_ze_some hE
  rw [← hz_] at hZ ⊢
  refine lv_iconst (v := (0 : Int32)) hx hb dX1_as_18 rfl ?_
  refine lv_istore_n (lv' := [(2, .int (0 : Int32)), (0, .ref (h + F)), (1, .ref (h + G1))]) hx hb dX1_as_19 rfl hl (by decide) rfl (fun ls hl => ?_)
  exact w_20 N _ _ _ _ _ hE hW hS hV hZ (lv_sub hl [1, 2, 0] rfl)
set_option maxHeartbeats 4000000 in
set_option maxRecDepth 100000 in
theorem kX0_attempt {l : Launch} {D : va_G} {dA : Nat → ClassId} {h N z0 : Nat} {a1 : Int32} {a2 : Int32} {u u1 : CS} {r : Int64} (hz0 : wc_z u = z0) (hz1 : wc_z u ≤ wc_z u1) (hE : fX0_attempt N u a1 a2 = some (r, u1)) : Met l yX0_attempt (ws_ yX0_attempt cX0_attempt 4 (some .long)) ({ frames := 207, cells := wc_z u1 - z0, slots := 4 * (wc_z u1 - z0), locals := 6568 }) (va_Pc [.ref (h + 0), .int a1, .int a2] (wc_St D dA h u)) (wc_Qr D dA h (some (.long r)) u1) (wc_z u1 - z0) (4 * (wc_z u1 - z0)) (CA h) := by
  refine wa_met (own := RX0) (lv := [(0, .ref (h + 0)), (1, .int a1), (2, .int a2)]) hz0 (by decide) rfl rfl rfl ?_
  intro p e s m args below meth c ls C hr hlocks hW hS hV hl
  have hx := C.1.1
  have hb := C.1.2.1
  have hZ : z0 ≤ wc_z u ∧ wc_z u ≤ wc_z u1 := ⟨by omega, hz1⟩
  have w_76 : ∀ (n : Nat) (u : CS) (x1 : Int32) (x2 : Int32) (x3 : Int32) (H : Heap) (locs : List Loc) (ls : Array Slot), fX0_attempt_76 N n u x1 x2 x3 = some (r, u1) → wc_W D dA h u H → wc_S u → va_S (CA h) s.heap H locs → z0 ≤ wc_z u ∧ wc_z u ≤ wc_z u1 → lv_has ls 4 [(0, .ref (h + 0)), (1, .int x1), (2, .int x2), (3, .int x3)] → W p l e ({ frames := 207, cells := wc_z u1 - z0, slots := 4 * (wc_z u1 - z0), locals := 6568 }) s m args below meth c H locs (wc_z u - z0) (4 * (wc_z u - z0)) (MQ below (wc_Qr D dA h (some (.long r)) u1) args s (wc_z u1 - z0) (4 * (wc_z u1 - z0)) (CA h)) (F0 m 76 ls []) := by
    intro n
    induction n with
    | zero =>
      intro u x1 x2 x3 H locs ls hE hW hS hV hZ hl
      cases (show (none : Option (Int64 × CS)) = some (r, u1) from hE)
    | succ n ih =>
      intro u x1 x2 x3 H locs ls hE hW hS hV hZ hl
      rw [fX0_attempt_76] at hE
      refine lv_iload_n hx hb dX0_attempt_76 rfl (lv_at hl 3 rfl) ?_
      refine lv_iload_n hx hb dX0_attempt_77 rfl (lv_at hl 1 rfl) ?_
      refine lv_icmp_ge (tgt := 94) hx hb dX0_attempt_78 (by decide) (fun c14 => ?_) (fun c14 => ?_)
      · have hE := z_t c14 hE
        refine lv_aload_n hx hb dX0_attempt_94 rfl (lv_at hl 0 rfl) ?_
        refine lv_iload_n hx hb dX0_attempt_95 rfl (lv_at hl 2 rfl) ?_
        obtain ⟨r15, u16, hc, hE⟩ := o_bd2_some hE
        refine cc_X0_579 C hW hS hV (st_0 hS) (kX0_outcome hc) rfl rfl ⟨Nat.le_of_ble_eq_true rfl, Nat.le_of_ble_eq_true rfl⟩ (wa_r0 hZ) dX0_attempt_96 hl.1 (Nat.le_of_ble_eq_true rfl) (fun H locs hW hS hV => ?_)
        obtain ⟨hz_, hE⟩ := o_ze_some hE
        rw [← hz_] at hZ ⊢
        cases hE
        exact wc_lret C hr hlocks hW hS hV rfl dX0_attempt_99
      · have hE := z_f c14 hE
        refine lv_aload_n hx hb dX0_attempt_81 rfl (lv_at hl 0 rfl) ?_
        refine cgs_X0_59_0 C hW (st_0 hS) (sp_0_trial hS) dX0_attempt_82 ?_
        obtain ⟨u17, hc, hE⟩ := o_bd_some hE
        obtain ⟨hz1_, hE⟩ := o_zl_some hE
        obtain ⟨hq_, hE⟩ := o_zc_some hE
        have hq_ : wc_z u17 ≤ wc_z u1 := hq_
        refine ca_X0_427 C hW hS hV (st_F hS wc_F101) (kX1_close wc_F101 rfl hz1_ hc) rfl rfl ⟨Nat.le_of_ble_eq_true rfl, Nat.le_of_ble_eq_true rfl⟩ (wa_r2 hZ hz1_ hq_) dX0_attempt_85 hl.1 (Nat.le_of_ble_eq_true rfl) (fun H locs hW hS hV => ?_)
        refine W.recount (wa_c hZ hz1_).1 (wa_c hZ hz1_).2 ?_
        have hZ := wa_z hZ hz1_ hq_
        refine z_iinc (v := (x3 + (1 : Int32))) (lw := (fun y_ => [(3, .int y_), (0, .ref (h + 0)), (1, .int x1), (2, .int x2)])) hx hb dX0_attempt_88 hl hE (k := 3) rfl rfl (by decide) (fun _ => rfl) (fun z18 ls hE hl => ?_)
        refine lv_goto (tgt := 76) hx hb dX0_attempt_91 (by decide) ?_
        exact ih _ _ _ _ _ _ _ hE hW hS hV hZ (lv_sub hl [1, 2, 3, 0] rfl)
  unfold fX0_attempt at hE
  refine lv_iload_n hx hb dX0_attempt_0 rfl (lv_at hl 2 rfl) ?_
  refine lv_i2l hx hb dX0_attempt_1 rfl ?_
  refine lv_lconst (v := (0 : Int64)) hx hb dX0_attempt_2 rfl ?_
  refine lv_ldc2 (v := (6 : Int64)) hx hb C.1.2.2.2.1 (C.1.2.2.2.2 _ q1502) dX0_attempt_3 ?_
  obtain ⟨r19, hc, hE⟩ := o_bd_some hE
  refine sc_X0_31 C.1 (kX0_isIn hc) rfl rfl ⟨Nat.le_of_ble_eq_true rfl, Nat.le_of_ble_eq_true rfl⟩ (wa_r0 hZ) dX0_attempt_6 hl.1 (Nat.le_of_ble_eq_true rfl) ?_
  refine lv_if_ne (tgt := 20) hx hb dX0_attempt_9 (by decide) (fun c20 => ?_) (fun c20 => ?_)
  · have hE := z_f c20 hE
    refine lv_iload_n hx hb dX0_attempt_20 rfl (lv_at hl 1 rfl) ?_
    refine lv_i2l hx hb dX0_attempt_21 rfl ?_
    refine lv_lconst (v := (1 : Int64)) hx hb dX0_attempt_22 rfl ?_
    refine lv_ldc2 (v := (30 : Int64)) hx hb C.1.2.2.2.1 (C.1.2.2.2.2 _ q1503) dX0_attempt_23 ?_
    obtain ⟨r21, hc, hE⟩ := o_bd_some hE
    refine sc_X0_31 C.1 (kX0_isIn hc) rfl rfl ⟨Nat.le_of_ble_eq_true rfl, Nat.le_of_ble_eq_true rfl⟩ (wa_r0 hZ) dX0_attempt_26 hl.1 (Nat.le_of_ble_eq_true rfl) ?_
    refine lv_if_ne (tgt := 40) hx hb dX0_attempt_29 (by decide) (fun c22 => ?_) (fun c22 => ?_)
    · have hE := z_f c22 hE
      refine lv_aload_n hx hb dX0_attempt_40 rfl (lv_at hl 0 rfl) ?_
      refine cgs_X0_19_0 C hW (st_0 hS) (sp_0_now hS) dX0_attempt_41 ?_
      refine cg_X0_344_1 C hW (st_F hS wc_F3) dX0_attempt_44 ?_
      refine lv_iload_n hx hb dX0_attempt_47 rfl (lv_at hl 1 rfl) ?_
      refine lv_iadd hx hb dX0_attempt_48 ?_
      refine lv_sipush (v := (400 : Int32)) hx hb dX0_attempt_49 rfl ?_
      refine lv_icmp_le (tgt := 63) hx hb dX0_attempt_52 (by decide) (fun c23 => ?_) (fun c23 => ?_)
      · have hE := z_t c23 hE
        refine lv_aload_n hx hb dX0_attempt_63 rfl (lv_at hl 0 rfl) ?_
        refine cgs_X0_59_0 C hW (st_0 hS) (sp_0_trial hS) dX0_attempt_64 ?_
        refine lv_aload_n hx hb dX0_attempt_67 rfl (lv_at hl 0 rfl) ?_
        refine cgs_X0_19_0 C hW (st_0 hS) (sp_0_now hS) dX0_attempt_68 ?_
        obtain ⟨u24, hc, hE⟩ := o_bd_some hE
        obtain ⟨hz1_, hE⟩ := o_zl_some hE
        obtain ⟨hq_, hE⟩ := o_zc_some hE
        have hq_ : wc_z u24 ≤ wc_z u1 := hq_
        refine ca_X0_575 C hW hS hV (st_F hS wc_F101) (kX1_as wc_F101 wc_F3 rfl hz1_ hc) rfl rfl ⟨Nat.le_of_ble_eq_true rfl, Nat.le_of_ble_eq_true rfl⟩ (wa_r2 hZ hz1_ hq_) dX0_attempt_71 hl.1 (Nat.le_of_ble_eq_true rfl) (fun H locs hW hS hV => ?_)
        refine W.recount (wa_c hZ hz1_).1 (wa_c hZ hz1_).2 ?_
        have hZ := wa_z hZ hz1_ hq_
        refine lv_iconst (v := (0 : Int32)) hx hb dX0_attempt_74 rfl ?_
        refine lv_istore_n (lv' := [(3, .int (0 : Int32)), (0, .ref (h + 0)), (1, .int a1), (2, .int a2)]) hx hb dX0_attempt_75 rfl hl (by decide) rfl (fun ls hl => ?_)
        exact w_76 N _ _ _ _ _ _ _ hE hW hS hV hZ (lv_sub hl [1, 2, 3, 0] rfl)
      · have hE := z_f c23 hE
        refine lv_aload_n hx hb dX0_attempt_55 rfl (lv_at hl 0 rfl) ?_
        refine lv_bipush (v := (-8 : Int32)) hx hb dX0_attempt_56 rfl ?_
        obtain ⟨r25, u26, hc, hE⟩ := o_bd2_some hE
        refine cc_X0_312 C hW hS hV (st_0 hS) (kX0_refuseAsNought hc) rfl rfl ⟨Nat.le_of_ble_eq_true rfl, Nat.le_of_ble_eq_true rfl⟩ (wa_r0 hZ) dX0_attempt_58 hl.1 (Nat.le_of_ble_eq_true rfl) (fun H locs hW hS hV => ?_)
        obtain ⟨hz_, hE⟩ := o_ze_some hE
        rw [← hz_] at hZ ⊢
        refine lv_i2l hx hb dX0_attempt_61 rfl ?_
        cases hE
        exact wc_lret C hr hlocks hW hS hV rfl dX0_attempt_62
    · have hE := z_t c22 hE
      refine lv_aload_n hx hb dX0_attempt_32 rfl (lv_at hl 0 rfl) ?_
      refine lv_bipush (v := (-7 : Int32)) hx hb dX0_attempt_33 rfl ?_
      obtain ⟨r27, u28, hc, hE⟩ := o_bd2_some hE
      refine cc_X0_312 C hW hS hV (st_0 hS) (kX0_refuseAsNought hc) rfl rfl ⟨Nat.le_of_ble_eq_true rfl, Nat.le_of_ble_eq_true rfl⟩ (wa_r0 hZ) dX0_attempt_35 hl.1 (Nat.le_of_ble_eq_true rfl) (fun H locs hW hS hV => ?_)
      obtain ⟨hz_, hE⟩ := o_ze_some hE
      rw [← hz_] at hZ ⊢
      refine lv_i2l hx hb dX0_attempt_38 rfl ?_
      cases hE
      exact wc_lret C hr hlocks hW hS hV rfl dX0_attempt_39
  · have hE := z_t c20 hE
    refine lv_aload_n hx hb dX0_attempt_12 rfl (lv_at hl 0 rfl) ?_
    refine lv_bipush (v := (-3 : Int32)) hx hb dX0_attempt_13 rfl ?_
    obtain ⟨r29, u30, hc, hE⟩ := o_bd2_some hE
    refine cc_X0_312 C hW hS hV (st_0 hS) (kX0_refuseAsNought hc) rfl rfl ⟨Nat.le_of_ble_eq_true rfl, Nat.le_of_ble_eq_true rfl⟩ (wa_r0 hZ) dX0_attempt_15 hl.1 (Nat.le_of_ble_eq_true rfl) (fun H locs hW hS hV => ?_)
    obtain ⟨hz_, hE⟩ := o_ze_some hE
    rw [← hz_] at hZ ⊢
    refine lv_i2l hx hb dX0_attempt_18 rfl ?_
    cases hE
    exact wc_lret C hr hlocks hW hS hV rfl dX0_attempt_19
set_option maxHeartbeats 4000000 in
set_option maxRecDepth 100000 in
theorem kX0_image {l : Launch} {D : va_G} {dA : Nat → ClassId} {h N z0 : Nat} {u u1 : CS} {r : Int32} (hz0 : wc_z u = z0) (hz1 : wc_z u ≤ wc_z u1) (hE : fX0_image N u = some (r, u1)) : Met l yX0_image (ws_ yX0_image cX0_image 1 (some .int)) ({ frames := 6, cells := wc_z u1 - z0, slots := 4 * (wc_z u1 - z0), locals := 132 }) (va_Pc [.ref (h + 0)] (wc_St D dA h u)) (wc_Qr D dA h (some (.int r)) u1) (wc_z u1 - z0) (4 * (wc_z u1 - z0)) (CA h) := by
  refine wa_met (own := RX0) (lv := [(0, .ref (h + 0))]) hz0 (by decide) rfl rfl rfl ?_
  intro p e s m args below meth c ls C hr hlocks hW hS hV hl
  have hx := C.1.1
  have hb := C.1.2.1
  have hZ : z0 ≤ wc_z u ∧ wc_z u ≤ wc_z u1 := ⟨by omega, hz1⟩
  unfold fX0_image at hE
  refine lv_aload_n hx hb dX0_image_0 rfl (lv_at hl 0 rfl) ?_
  refine cgs_X0_62_0 C hW (st_0 hS) (sp_0_image hS) dX0_image_1 ?_
  refine lv_aload_n hx hb dX0_image_4 rfl (lv_at hl 0 rfl) ?_
  refine cgs_X0_19_0 C hW (st_0 hS) (sp_0_now hS) dX0_image_5 ?_
  obtain ⟨u4, hc, hE⟩ := o_bd_some hE
  obtain ⟨hz1_, hE⟩ := o_zl_some hE
  obtain ⟨hq_, hE⟩ := o_zc_some hE
  have hq_ : wc_z u4 ≤ wc_z u1 := hq_
  refine ca_X0_575 C hW hS hV (st_F hS wc_F199) (kX1_as wc_F199 wc_F3 rfl hz1_ hc) rfl rfl ⟨Nat.le_of_ble_eq_true rfl, Nat.le_of_ble_eq_true rfl⟩ (wa_r2 hZ hz1_ hq_) dX0_image_8 hl.1 (Nat.le_of_ble_eq_true rfl) (fun H locs hW hS hV => ?_)
  refine W.recount (wa_c hZ hz1_).1 (wa_c hZ hz1_).2 ?_
  have hZ := wa_z hZ hz1_ hq_
  refine lv_aload_n hx hb dX0_image_11 rfl (lv_at hl 0 rfl) ?_
  refine lv_iconst (v := (1 : Int32)) hx hb dX0_image_12 rfl ?_
  refine cp_X0_582_0 (J := wa_J u4) C hW hV (st_0 hS) ⟨hS.uI, rfl⟩ (Or.inr rfl) hE dX0_image_13 (fun u5 H locs hE hW hS hV => ?_)
  obtain ⟨hS, hz_⟩ := hS
  rw [← hz_] at hZ ⊢
  refine lv_aload_n hx hb dX0_image_16 rfl (lv_at hl 0 rfl) ?_
  refine lv_aload_n hx hb dX0_image_17 rfl (lv_at hl 0 rfl) ?_
  refine cg_X0_483_0 C hW (st_0 hS) dX0_image_18 ?_
  refine cp_X0_585_0 (J := wa_J u5) C hW hV (st_0 hS) ⟨hS.uI, rfl⟩ hE dX0_image_21 (fun u6 H locs hE hW hS hV => ?_)
  obtain ⟨hS, hz_⟩ := hS
  rw [← hz_] at hZ ⊢
  refine lv_aload_n hx hb dX0_image_24 rfl (lv_at hl 0 rfl) ?_
  refine cgs_X0_94_0 C hW (st_0 hS) (sp_0_keptTen hS) dX0_image_25 ?_
  refine lv_iconst (v := (0 : Int32)) hx hb dX0_image_28 rfl ?_
  refine lv_aload_n hx hb dX0_image_29 rfl (lv_at hl 0 rfl) ?_
  refine cgs_X0_97_0 C hW (st_0 hS) (sp_0_imageTen hS) dX0_image_30 ?_
  refine lv_iconst (v := (0 : Int32)) hx hb dX0_image_33 rfl ?_
  refine lv_bipush (v := (24 : Int32)) hx hb dX0_image_34 rfl ?_
  refine wc_copyI (J := wa_J u6) C hl.1 q1461 q1379 q1378 q190 hW hV (st_0_keptTen hS) (st_0_imageTen hS) ⟨hS.aA, rfl⟩ hE (Nat.le_of_ble_eq_true rfl) (by first | exact Nat.le_of_ble_eq_true rfl | (simp [wc_cat, Value.category]; decide)) dX0_image_36 (fun u7 H locs hE hW hS hV => ?_)
  obtain ⟨hS, hz_⟩ := hS
  rw [← hz_] at hZ ⊢
  refine lv_aload_n hx hb dX0_image_39 rfl (lv_at hl 0 rfl) ?_
  refine cgs_X0_19_0 C hW (st_0 hS) (sp_0_now hS) dX0_image_40 ?_
  refine cg_X0_344_1 C hW (st_F hS wc_F3) dX0_image_43 ?_
  obtain ⟨rfl, rfl⟩ := z_ret hE
  exact wc_iret C hr hlocks hW hS hV rfl dX0_image_46
set_option maxHeartbeats 4000000 in
set_option maxRecDepth 100000 in
theorem kX0_back {l : Launch} {D : va_G} {dA : Nat → ClassId} {h N z0 : Nat} {u u1 : CS} {r : Int32} (hz0 : wc_z u = z0) (hz1 : wc_z u ≤ wc_z u1) (hE : fX0_back N u = some (r, u1)) : Met l yX0_back (ws_ yX0_back cX0_back 1 (some .int)) ({ frames := 6, cells := wc_z u1 - z0, slots := 4 * (wc_z u1 - z0), locals := 132 }) (va_Pc [.ref (h + 0)] (wc_St D dA h u)) (wc_Qr D dA h (some (.int r)) u1) (wc_z u1 - z0) (4 * (wc_z u1 - z0)) (CA h) := by
  refine wa_met (own := RX0) (lv := [(0, .ref (h + 0))]) hz0 (by decide) rfl rfl rfl ?_
  intro p e s m args below meth c ls C hr hlocks hW hS hV hl
  have hx := C.1.1
  have hb := C.1.2.1
  have hZ : z0 ≤ wc_z u ∧ wc_z u ≤ wc_z u1 := ⟨by omega, hz1⟩
  unfold fX0_back at hE
  refine lv_aload_n hx hb dX0_back_0 rfl (lv_at hl 0 rfl) ?_
  refine cg_X0_582_0 C hW (st_0 hS) dX0_back_1 ?_
  refine lv_if_ne (tgt := 14) hx hb dX0_back_4 (by decide) (fun c5 => ?_) (fun c5 => ?_)
  · have hE := z_f c5 hE
    refine lv_aload_n hx hb dX0_back_14 rfl (lv_at hl 0 rfl) ?_
    refine cgs_X0_19_0 C hW (st_0 hS) (sp_0_now hS) dX0_back_15 ?_
    refine lv_aload_n hx hb dX0_back_18 rfl (lv_at hl 0 rfl) ?_
    refine cgs_X0_62_0 C hW (st_0 hS) (sp_0_image hS) dX0_back_19 ?_
    obtain ⟨u6, hc, hE⟩ := o_bd_some hE
    obtain ⟨hz1_, hE⟩ := o_zl_some hE
    obtain ⟨hq_, hE⟩ := o_zc_some hE
    have hq_ : wc_z u6 ≤ wc_z u1 := hq_
    refine ca_X0_575 C hW hS hV (st_F hS wc_F3) (kX1_as wc_F3 wc_F199 rfl hz1_ hc) rfl rfl ⟨Nat.le_of_ble_eq_true rfl, Nat.le_of_ble_eq_true rfl⟩ (wa_r2 hZ hz1_ hq_) dX0_back_22 hl.1 (Nat.le_of_ble_eq_true rfl) (fun H locs hW hS hV => ?_)
    refine W.recount (wa_c hZ hz1_).1 (wa_c hZ hz1_).2 ?_
    have hZ := wa_z hZ hz1_ hq_
    refine lv_aload_n hx hb dX0_back_25 rfl (lv_at hl 0 rfl) ?_
    refine lv_aload_n hx hb dX0_back_26 rfl (lv_at hl 0 rfl) ?_
    refine cg_X0_585_0 C hW (st_0 hS) dX0_back_27 ?_
    refine cp_X0_483_0 (J := wa_J u6) C hW hV (st_0 hS) ⟨hS.uI, rfl⟩ hE dX0_back_30 (fun u7 H locs hE hW hS hV => ?_)
    obtain ⟨hS, hz_⟩ := hS
    rw [← hz_] at hZ ⊢
    refine lv_aload_n hx hb dX0_back_33 rfl (lv_at hl 0 rfl) ?_
    refine cgs_X0_97_0 C hW (st_0 hS) (sp_0_imageTen hS) dX0_back_34 ?_
    refine lv_iconst (v := (0 : Int32)) hx hb dX0_back_37 rfl ?_
    refine lv_aload_n hx hb dX0_back_38 rfl (lv_at hl 0 rfl) ?_
    refine cgs_X0_94_0 C hW (st_0 hS) (sp_0_keptTen hS) dX0_back_39 ?_
    refine lv_iconst (v := (0 : Int32)) hx hb dX0_back_42 rfl ?_
    refine lv_bipush (v := (24 : Int32)) hx hb dX0_back_43 rfl ?_
    refine wc_copyI (J := wa_J u7) C hl.1 q1461 q1379 q1378 q190 hW hV (st_0_imageTen hS) (st_0_keptTen hS) ⟨hS.aA, rfl⟩ hE (Nat.le_of_ble_eq_true rfl) (by first | exact Nat.le_of_ble_eq_true rfl | (simp [wc_cat, Value.category]; decide)) dX0_back_45 (fun u8 H locs hE hW hS hV => ?_)
    obtain ⟨hS, hz_⟩ := hS
    rw [← hz_] at hZ ⊢
    refine lv_aload_n hx hb dX0_back_48 rfl (lv_at hl 0 rfl) ?_
    refine cgs_X0_19_0 C hW (st_0 hS) (sp_0_now hS) dX0_back_49 ?_
    refine cg_X0_344_1 C hW (st_F hS wc_F3) dX0_back_52 ?_
    obtain ⟨rfl, rfl⟩ := z_ret hE
    exact wc_iret C hr hlocks hW hS hV rfl dX0_back_55
  · have hE := z_t c5 hE
    refine lv_aload_n hx hb dX0_back_7 rfl (lv_at hl 0 rfl) ?_
    refine lv_bipush (v := (-2 : Int32)) hx hb dX0_back_8 rfl ?_
    obtain ⟨r9, u10, hc, hE⟩ := o_bd2_some hE
    refine cc_X0_118 C hW hS hV (st_0 hS) (kX0_refuse hc) rfl rfl ⟨Nat.le_of_ble_eq_true rfl, Nat.le_of_ble_eq_true rfl⟩ (wa_r0 hZ) dX0_back_10 hl.1 (Nat.le_of_ble_eq_true rfl) (fun H locs hW hS hV => ?_)
    obtain ⟨hz_, hE⟩ := o_ze_some hE
    rw [← hz_] at hZ ⊢
    obtain ⟨rfl, rfl⟩ := z_ret hE
    exact wc_iret C hr hlocks hW hS hV rfl dX0_back_13
end CG201
