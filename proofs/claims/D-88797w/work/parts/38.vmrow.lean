/-! ROWS: the machine's own exception comes into the method's own handler; its cells are a hole in the component's world -/
def wc_gz (u : CS) (k : Nat) : CS := (u.1, u.2.1, u.2.2.1, u.2.2.2.1, u.2.2.2.2.1, u.2.2.2.2.2.1, u.2.2.2.2.2.2.1, wc_z u + k)
section VMR
variable {p : Program} {l : Launch} {e : Env} {R : Room} {s : State} {m : MethodId} {args : Array Value} {below : List Frame} {meth : Method} {c : Code} {H : Heap} {locs : List Loc} {cells slots : Nat} {Q : State → Prop} {cc : ByteArray} {nL pc : Nat} {ls : Array Slot} {rest : List Value} {D : va_G} {dA : Nat → ClassId} {h : Nat} {u : CS} {H0 : Heap} {own : String}
theorem wc_W.gz {H1 : Heap} {k : Nat} (hW : wc_W D dA h u H) (hs : H1.size = H.size + k) (oq : ∀ q : Nat, q < H.size → H1[q]? = H[q]?) : wc_W D dA h (wc_gz u k) H1 := by
  refine ⟨by rw [hs, hW.1]; show _ = h + (wc_z u + k); omega, fun n hn => hW.2.1 n (Nat.le_trans (Nat.le_add_right _ k) hn), hW.2.2.1, fun n e1 hm => ?_⟩
  have hm1 : wc_cell h dA u n = some e1 := hm
  have hlt : n < wc_z u := by
    rcases Nat.lt_or_ge n (wc_z u) with q | q
    · exact q
    · unfold wc_cell at hm1
      rw [hW.2.1 n q] at hm1
      cases hm1
  exact (hW.2.2.2 n e1 hm1).kept (oq _ (by show h + n < H.size; rw [hW.1]; omega))
theorem wc_S.gz {k : Nat} (hS : wc_S u) : wc_S (wc_gz u k) := ⟨hS.1, hS.2.1, hS.2.2.1, Nat.le_trans hS.2.2.2 (Nat.le_add_right _ k)⟩
/-- from the faulting instruction to the handler -/
theorem vm_catch {cls : String} {k sl hp : Nat} {f0 : Frame} {g0 : JFrame} (hW : wc_W D dA h u H) (hS : wc_S u) (hV : va_S (CA h) H0 H locs)
    (hmade : ∀ T : State, Stand p l e R s m args below meth c T locs cells slots → vm_made p l e R s m args below meth c T locs cells slots (F0 m pc ls rest) cls k sl f0)
    (hgo : ∀ (cell : Cell) (locs1 : List Loc), s.vm.findClass cls = some cell.cls → cell.vm = .none → xh_go p l e R s m args below meth c locs1 (cells + k + 1) (slots + sl) (F0 m pc ls rest) (h + (wc_z u + k)) cell c.exceptionTable.toList hp)
    (hstep : ∀ T : State, Stand p l e R s m args below meth c T locs cells slots → ∀ target, Steps p.tables e below ((T.setTop (F0 m pc ls rest)).pushFrame f0) target → Steps p.tables e below (T.setTop g0) target)
    (kk : ∀ (H1 : Heap) (locs1 : List Loc), wc_W D dA h (wc_gz u (k + 1)) H1 → wc_S (wc_gz u (k + 1)) → va_S (CA h) H0 H1 locs1 → W p l e R s m args below meth c H1 locs1 (cells + k + 1) (slots + sl) Q (F0 m hp ls [.ref (h + (wc_z u + k))])) : W p l e R s m args below meth c H locs cells slots Q g0 := by
  intro T hT X
  obtain ⟨U, locs1, cell, n, hn, XU, hl, hk, hsz, hf, hce, hvm, st⟩ := hmade T X
  have hTs : T.heap.size = h + wc_z u := by rw [hT]; exact hW.1
  have ead : T.heap.size + k = h + (wc_z u + k) := by omega
  rw [ead] at hce st
  have XU := stand_widen XU (Nat.le_refl _) hn
  obtain ⟨vm', X', st2⟩ := xh_into (g := F0 m pc ls rest) rfl XU hce (hgo cell locs1 hf hvm)
  have hz := hS.2.2.2
  have hW1 : wc_W D dA h (wc_gz u (k + 1)) U.heap := hW.gz (by rw [hsz, hT]; omega) (fun q hq => by rw [hk q (by rw [hT]; exact hq), hT])
  have hV1 : va_S (CA h) H0 U.heap locs1 := by
    refine ⟨Nat.le_trans hV.1 (by rw [hsz, hT]; omega), fun q h1 h2 => ?_, fun y hy => ?_⟩
    · rw [hk q (by rw [hT]; exact Nat.lt_of_lt_of_le h1 hV.1), hT]
      exact hV.2.1 q h1 h2
    · rcases hl y hy with h1 | h1
      · exact hV.2.2 y h1
      · rw [h1, ead]
        exact ⟨by omega, by omega⟩
  obtain ⟨t, a1, b1⟩ := kk U.heap locs1 hW1 hS.gz hV1 (U.setVm vm') rfl X'
  exact ⟨t, hstep T X t (st t (st2 t a1)), b1⟩
end VMR
