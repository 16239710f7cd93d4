set_option maxRecDepth 100000
/-! the law: both sides' cells apart, the script -/
theorem GH.swap {g : GG} {w v : GW} {H : Heap} (h : GH g w v H) : GH g v w H := ⟨h.2.1, h.1, fun a => (h.2.2 a).symm⟩
theorem SH.swap {g : GG} {w v : GW} {s : State} {H : Heap} {locs : List Loc} (h : SH g w v s H locs) : SH g v w s H locs := ⟨h.1.swap, h.2⟩
/-- a cell of v goes over to w -/
theorem SH.mv {g : GG} {w v : GW} {s : State} {H : Heap} {locs : List Loc} {o : Nat} {e : va_E} (h : SH g w (gu v o e) s H locs) (hv : v o = none) : SH g (gu w o e) v s H locs ∧ w o = none := by
  obtain ⟨⟨h1, h2, h3⟩, h4⟩ := h
  have ho : w o = none := by
    rcases h3 o with q | q
    · exact q
    · rw [gu_s] at q; cases q
  refine ⟨⟨⟨fun a e1 ha => ?_, fun a e1 ha => ?_, fun a => ?_⟩, h4⟩, ho⟩
  · by_cases q : a = o
    · subst q
      rw [gu_s] at ha
      cases ha
      exact h2 a _ gu_s
    · rw [gu_n q] at ha
      exact h1 a e1 ha
  · have q : a ≠ o := fun q => by subst q; rw [hv] at ha; cases ha
    exact h2 a e1 (by rw [gu_n q]; exact ha)
  · by_cases q : a = o
    · subst q
      exact Or.inr hv
    · rw [gu_n q]
      rcases h3 a with z | z
      · exact Or.inl z
      · rw [gu_n q] at z
        exact Or.inr z
/-- .. and back -/
theorem SH.mb {g : GG} {w v : GW} {s : State} {H : Heap} {locs : List Loc} {o : Nat} {e : va_E} (h : SH g (gu w o e) v s H locs) (hw : w o = none) : SH g w (gu v o e) s H locs ∧ v o = none := by
  obtain ⟨k1, k2⟩ := h.swap.mv hw
  exact ⟨k1.swap, k2⟩
/-- the other side's turn -/
theorem SH.rot {g : GG} {w v : GW} {s : State} {H : Heap} {locs : List Loc} {o : Nat} {e : va_E} (h : SH g w (gu v o e) s H locs) (hv : v o = none) : SH g v (gu w o e) s H locs ∧ w o = none := by
  obtain ⟨k1, k2⟩ := h.mv hv
  exact ⟨k1.swap, k2⟩
section GL
variable {p : Program} {l : Launch} {e : Env} {R : Room} {s : State} {m : MethodId} {args : Array Value} {below : List Frame} {meth : Method} {c : Code} {H : Heap} {locs : List Loc} {cells slots : Nat} {Q : State → Prop}
variable {g : GG} {w v : GW} {cc : ByteArray} {nL : Nat} {own : String} {ret : Option FieldType} {pc : Nat} {ls : Array Slot} {rest : List Value} {b L : Nat} {xs : Nat → Int32}
theorem gx_sld (C : Cx g p s m args meth c cc nL own ret) (h : SH g w v s H locs) (hX : va_X b L xs s s.heap) (hbl : b < s.heap.size) (hbA : ¬ g.2.2.1 ≤ b) {i : Int32} (j : Nat) (hi : i = nI j) (hj : j < L ∧ L ≤ 65536) (hdg : decode cc pc = .ok (.iaload, 1))
    (kk : W p l e R s m args below meth c H locs cells slots Q (F0 m (pc + 1) ls (.int (xs j) :: rest))) : W p l e R s m args below meth c H locs cells slots Q (F0 m pc ls (.int i :: .ref b :: rest)) := by
  obtain ⟨h1, h2⟩ := g_vin hi hj
  refine va_sld C.1 C.2.1 hX hbl (A := gA g) hbA h.2 h1 hdg ?_
  rw [h2]
  exact kk
theorem gx_slen (C : Cx g p s m args meth c cc nL own ret) (h : SH g w v s H locs) (hX : va_X b L xs s s.heap) (hbl : b < s.heap.size) (hbA : ¬ g.2.2.1 ≤ b) (hdg : decode cc pc = .ok (.arraylength, 1))
    (kk : W p l e R s m args below meth c H locs cells slots Q (F0 m (pc + 1) ls (.int (nI L) :: rest))) : W p l e R s m args below meth c H locs cells slots Q (F0 m pc ls (.ref b :: rest)) :=
  va_slen C.1 C.2.1 hX hbl (A := gA g) hbA h.2 hdg kk
theorem gp_X (C : Cx g p s m args meth c cc nL own ret) (h : SH g w v s H locs) (hX : va_X b L xs s s.heap) (hbl : b < s.heap.size) (hbA : ¬ g.2.2.1 ≤ b) (av : List Value) : PreS s H (va_Pc av (fun U => (GS g U U.heap ∧ GH g w v U.heap) ∧ va_X b L xs U U.heap)) av :=
  ⟨fun a U q mk z => by
    obtain ⟨z1, ⟨z2, z3⟩, z4⟩ := z
    exact ⟨z1, ⟨GS.warm (U := U.calling q mk a) z2 va_S.rf rfl (State.WarmedH.refl U), z3⟩, va_X.moved (u := U) (U := U.calling q mk a) (Vm.Alike.refl U.vm) z4⟩,
   fun U hU hW => ⟨rfl, ⟨C.gs.warm h.2 hU hW, by rw [hU]; exact h.1⟩, by rw [hU]; exact (hX.kept (h.2.2.1 b hbl hbA)).moved hW.alike⟩⟩
end GL
set_option maxHeartbeats 4000000 in
/-- cell(script, 0) -/
theorem m_X0_cell (l : Launch) (g : GG) (w v : GW) (b L : Nat) (xs : Nat → Int32) (hL : L ≤ 65536) (hbA : ¬ g.2.2.1 ≤ b) : Met l yX0_cell (ws_ yX0_cell cX0_cell 2 (some .int)) ({ frames := 1, cells := 0, slots := 0, locals := 60 } : Room) (va_Pc [.ref b, .int (nI 0)] (fun U => (GS g U U.heap ∧ GH g w v U.heap) ∧ va_X b L xs U U.heap)) (va_Qi (fun (r : Int32) (w' : GW) => r = (if 0 < L then xs 0 else 0) ∧ w' = w) (gB g v) (gA g)) 0 0 (gA g) := by
  refine Met.ofW (cc := cX0_cell) (maxL := 2) (ret := some .int) (by decide) rfl ?_
  intro p e s m args below meth c s₁ B hml hv
  obtain ⟨rfl, ⟨hG, hH⟩, hX⟩ := hv
  have hts := atoms_spec (ws := ws_ yX0_cell cX0_cell 2 (some .int)) B.pre
  have hts : ∀ w ∈ lw_all, w.before _ s = true := fun w h => hts w (List.mem_cons_of_mem _ h)
  have C : Cx g p s m ([.ref b, .int (nI 0)] : List Value).toArray meth c cX0_cell 2 RX0 (some .int) := ⟨B.exec, B.bytes, hml, findClass_of_methodNamed B.named, hts, B.returns, B.notSynchronized, hG⟩
  have h : SH g w v s s.heap [] := ⟨hH, va_S.rf⟩
  have hbl : b < s.heap.size := by
    obtain ⟨scr, h1, -⟩ := hX
    exact (Array.getElem?_eq_some_iff.mp h1).1
  obtain ⟨hx, hb, -⟩ := id C
  have hl := lv_entry ([.ref b, .int (nI 0)]) (n := 2) (Nat.le_of_ble_eq_true rfl)
  rw [lg_entry_eq]
  generalize (lg_sl ([.ref b, .int (nI 0)]) ++ List.replicate (2 - (lg_sl ([.ref b, .int (nI 0)])).length) Slot.unset).toArray = ls at hl ⊢
  have hl : lv_has ls 2 [(0, .ref b), (1, .int (nI 0))] := hl
  refine lv_iload_n hx hb dX0_cell_0 rfl (lv_at hl 1 rfl) ?_
  refine lv_aload_n hx hb dX0_cell_1 rfl (lv_at hl 0 rfl) ?_
  refine gx_slen C h hX hbl hbA dX0_cell_2 ?_
  refine lv_icmp_ge (tgt := 12) hx hb dX0_cell_3 (by decide) (fun c1 => ?_) (fun c1 => ?_)
  · have c1 : L ≤ 0 := (nI_leI (by omega) (by omega)).mp c1
    refine lv_iconst (v := (0)) hx hb dX0_cell_12 (by decide) ?_
    exact gr_i C h (ty := .int) rfl rfl ⟨by rw [if_neg (by omega)], rfl⟩ (Nat.le_refl _) (Nat.le_refl _) dX0_cell_13
  · have c1 : ¬ L ≤ 0 := fun q => c1 ((nI_leI (by omega) (by omega)).mpr q)
    refine lv_aload_n hx hb dX0_cell_6 rfl (lv_at hl 0 rfl) ?_
    refine lv_iload_n hx hb dX0_cell_7 rfl (lv_at hl 1 rfl) ?_
    refine gx_sld C h hX hbl hbA 0 rfl ⟨by omega, hL⟩ dX0_cell_8 ?_
    refine lv_goto (tgt := 13) hx hb dX0_cell_9 (by decide) ?_
    exact gr_i C h (ty := .int) rfl rfl ⟨by rw [if_pos (by omega)], rfl⟩ (Nat.le_refl _) (Nat.le_refl _) dX0_cell_13
