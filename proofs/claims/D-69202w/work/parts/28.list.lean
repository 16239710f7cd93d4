set_option maxRecDepth 100000
set_option maxHeartbeats 4000000 in
theorem m_J3_init (l : Launch) (g : GG) (w v : GW) (a : Nat) (h0 : w a = some (ob 6 [.int (nI 0), .null, .int (nI 0)]))  : Met l yJ3_init (ws_ yJ3_init cJ3_init 1 none) ({ frames := 3, cells := 0, slots := 0, locals := 180 } : Room) (gP g [.ref a] w v) (va_Qv (fun (w' : GW) => w' = gu w a (ob 6 [.int (nI 0), .ref g.2.2.2.1, .int (nI 0)])) (gB g v) (gA g)) 0 0 (gA g) := by
  refine gm_of (by decide) (Nat.le_of_ble_eq_true rfl) ?_
  intro p e s m below meth c ls C hnm h hl
  have C : Cx g p s m ([.ref a] : List Value).toArray meth c cJ3_init 1 RJ3 none := C
  obtain ⟨hx, hb, hml, hown, hts, hr, hlk, hG⟩ := id C
  have hl : lv_has ls 1 [(0, .ref a)] := hl
  refine lv_aload_n hx hb dJ3_init_0 rfl (lv_at hl 0 rfl) ?_
  refine gc_v (va_runI (As := []) (rest := []) C.fix (m_J2_init l g w v a h0) (cwI 0 hts (lw_meth q111) rfl rfl rfl (hts _ q46) (hts _ q109) (hts _ q110) rfl (by decide +kernel) ⟨Nat.le_of_ble_eq_true rfl, Nat.le_of_ble_eq_true rfl⟩) (gp_S C h _) rfl rfl hl.1 rfl (lv_room (Nat.le_of_ble_eq_true rfl)) dJ3_init_1 ⟨Nat.le_of_ble_eq_true rfl, Nat.le_of_ble_eq_true rfl⟩) h (fun w_2 H locs hp h => ?_)
  rw [hp] at h
  refine lv_aload_n hx hb dJ3_init_4 rfl (lv_at hl 0 rfl) ?_
  refine gx_gets C h q113 dJ3_init_5 ?_
  refine gx_put C h h0 (Cn := RJ3) (T := TJ3) (N := 3) (x := .ref g.2.2.2.1) rfl in_J3 tyJ3 tyJ3_ok nmJ3 1 (by decide) q115 rfl rfl rfl rfl (Nat.le_of_ble_eq_true rfl) dJ3_init_8 (fun H locs h => ?_)
  obtain ⟨w_3, ew_3⟩ : ∃ z : GW, z = gu w a (ob 6 [.int (nI 0), .ref g.2.2.2.1, .int (nI 0)]) := ⟨_, rfl⟩
  have h : SH g w_3 v s H locs := by rw [ew_3]; exact h
  have f_4 : w_3 a = some (ob 6 [.int (nI 0), .ref g.2.2.2.1, .int (nI 0)]) := by rw [ew_3]; exact gu_s
  exact gr_v C h (ew_3) (Nat.le_of_ble_eq_true rfl) (Nat.le_of_ble_eq_true rfl) dJ3_init_11
set_option maxHeartbeats 4000000 in
theorem m_J3_size (l : Launch) (g : GG) (w v : GW) (a E n : Nat) (f : Nat → Option Nat) (mc : Int32) (xs : List Nat) (hA : AL g w a E n f mc xs)  : Met l yJ3_size (ws_ yJ3_size cJ3_size 1 (some .int)) ({ frames := 1, cells := 0, slots := 0, locals := 60 } : Room) (gP g [.ref a] w v) (va_Qi (fun (r : Int32) (w' : GW) => r = nI xs.length ∧ w' = w) (gB g v) (gA g)) 0 0 (gA g) := by
  refine gm_of (by decide) (Nat.le_of_ble_eq_true rfl) ?_
  intro p e s m below meth c ls C hnm h hl
  have C : Cx g p s m ([.ref a] : List Value).toArray meth c cJ3_size 1 RJ3 (some .int) := C
  obtain ⟨hx, hb, hml, hown, hts, hr, hlk, hG⟩ := id C
  have hl : lv_has ls 1 [(0, .ref a)] := hl
  obtain ⟨h0, hE, hn1, hn2, hn3⟩ := id hA
  have hn9 := hA.n_le
  have haE : a ≠ E := g_ne h0 hE (by intro q; cases q)
  refine lv_aload_n hx hb dJ3_size_0 rfl (lv_at hl 0 rfl) ?_
  refine gx_get C h h0 (Cn := RJ3) (T := TJ3) (N := 3) rfl in_J3 2 (by decide) q118 rfl rfl dJ3_size_1 ?_
  exact gr_i C h (ty := .int) rfl (rfl) (⟨rfl, rfl⟩) (Nat.le_of_ble_eq_true rfl) (Nat.le_of_ble_eq_true rfl) dJ3_size_4
set_option maxHeartbeats 4000000 in
theorem m_J3_elementData (l : Launch) (g : GG) (w v : GW) (a E n : Nat) (f : Nat → Option Nat) (mc : Int32) (xs : List Nat) (hA : AL g w a E n f mc xs) (i x : Nat) (hi : xs[i]? = some x) : Met l yJ3_elementData (ws_ yJ3_elementData cJ3_elementData 2 (some (.object "java/lang/Object"))) ({ frames := 1, cells := 0, slots := 0, locals := 60 } : Room) (gP g [.ref a, .int (nI i)] w v) (va_Qq (fun (r : Option Nat) (w' : GW) => r = some x ∧ w' = w) (gB g v) (gA g)) 0 0 (gA g) := by
  refine gm_of (by decide) (Nat.le_of_ble_eq_true rfl) ?_
  intro p e s m below meth c ls C hnm h hl
  have C : Cx g p s m ([.ref a, .int (nI i)] : List Value).toArray meth c cJ3_elementData 2 RJ3 (some (.object "java/lang/Object")) := C
  obtain ⟨hx, hb, hml, hown, hts, hr, hlk, hG⟩ := id C
  have hl : lv_has ls 2 [(0, .ref a), (1, .int (nI i))] := hl
  obtain ⟨h0, hE, hn1, hn2, hn3⟩ := id hA
  have hn9 := hA.n_le
  have haE : a ≠ E := g_ne h0 hE (by intro q; cases q)
  have hil : i < xs.length := (List.getElem?_eq_some_iff.mp hi).1
  refine lv_aload_n hx hb dJ3_elementData_0 rfl (lv_at hl 0 rfl) ?_
  refine gx_get C h h0 (Cn := RJ3) (T := TJ3) (N := 3) rfl in_J3 1 (by decide) q115 rfl rfl dJ3_elementData_1 ?_
  refine lv_iload_n hx hb dJ3_elementData_4 rfl (lv_at hl 1 rfl) ?_
  refine gx_aald C h 5 rfl hE i (rfl) (by omega) dJ3_elementData_5 ?_
  exact gr_q C h (x := f i) (ty := (.object "java/lang/Object")) rfl (Or.inl ⟨_, rfl⟩) (⟨hn2 i x hi, rfl⟩) (Nat.le_of_ble_eq_true rfl) (Nat.le_of_ble_eq_true rfl) dJ3_elementData_6
set_option maxHeartbeats 4000000 in
theorem m_J19_checkIndex (l : Launch) (g : GG) (w v : GW) (i n : Nat) (hi : i < n) (hn : n ≤ 200) : Met l yJ19_checkIndex (ws_ yJ19_checkIndex cJ19_checkIndex 3 (some .int)) ({ frames := 1, cells := 0, slots := 0, locals := 60 } : Room) (gP g [.int (nI i), .int (nI n), .null] w v) (va_Qi (fun (r : Int32) (w' : GW) => w' = w) (gB g v) (gA g)) 0 0 (gA g) := by
  refine gm_of (by decide) (Nat.le_of_ble_eq_true rfl) ?_
  intro p e s m below meth c ls C hnm h hl
  have C : Cx g p s m ([.int (nI i), .int (nI n), .null] : List Value).toArray meth c cJ19_checkIndex 3 RJ19 (some .int) := C
  obtain ⟨hx, hb, hml, hown, hts, hr, hlk, hG⟩ := id C
  have hl : lv_has ls 3 [(0, .int (nI i)), (1, .int (nI n)), (2, .null)] := hl
  refine lv_iload_n hx hb dJ19_checkIndex_0 rfl (lv_at hl 0 rfl) ?_
  refine lv_if_lt (tgt := 9) hx hb dJ19_checkIndex_1 (by decide) (fun c1 => ?_) (fun c1 => ?_)
  · skip
    exact absurd c1 (nI_pos (by omega))
  · skip
    refine lv_iload_n hx hb dJ19_checkIndex_4 rfl (lv_at hl 0 rfl) ?_
    refine lv_iload_n hx hb dJ19_checkIndex_5 rfl (lv_at hl 1 rfl) ?_
    refine lv_icmp_lt (tgt := 16) hx hb dJ19_checkIndex_6 (by decide) (fun c2 => ?_) (fun c2 => ?_)
    · skip
      have c2 : i < n := (nI_ltI (by omega) (by omega)).mp c2
      refine lv_iload_n hx hb dJ19_checkIndex_16 rfl (lv_at hl 0 rfl) ?_
      exact gr_i C h (ty := .int) rfl (rfl) (rfl) (Nat.le_of_ble_eq_true rfl) (Nat.le_of_ble_eq_true rfl) dJ19_checkIndex_17
    · skip
      have c2 : ¬ (i < n) := fun q => c2 ((nI_ltI (by omega) (by omega)).mpr q)
      omega
set_option maxHeartbeats 4000000 in
theorem m_J18_checkIndex (l : Launch) (g : GG) (w v : GW) (i n : Nat) (hi : i < n) (hn : n ≤ 200) : Met l yJ18_checkIndex (ws_ yJ18_checkIndex cJ18_checkIndex 2 (some .int)) ({ frames := 2, cells := 0, slots := 0, locals := 120 } : Room) (gP g [.int (nI i), .int (nI n)] w v) (va_Qi (fun (r : Int32) (w' : GW) => w' = w) (gB g v) (gA g)) 0 0 (gA g) := by
  refine gm_of (by decide) (Nat.le_of_ble_eq_true rfl) ?_
  intro p e s m below meth c ls C hnm h hl
  have C : Cx g p s m ([.int (nI i), .int (nI n)] : List Value).toArray meth c cJ18_checkIndex 2 RJ18 (some .int) := C
  obtain ⟨hx, hb, hml, hown, hts, hr, hlk, hG⟩ := id C
  have hl : lv_has ls 2 [(0, .int (nI i)), (1, .int (nI n))] := hl
  refine lv_iload_n hx hb dJ18_checkIndex_0 rfl (lv_at hl 0 rfl) ?_
  refine lv_iload_n hx hb dJ18_checkIndex_1 rfl (lv_at hl 1 rfl) ?_
  refine lv_null hx hb dJ18_checkIndex_2 ?_
  refine gc_i (va_runS (As := [.int (nI i), .int (nI n), .null]) (rest := []) C.fix (m_J19_checkIndex l g w v i n hi hn) (va_cwS 3 hts (lw_S q614 q615 q69 q616) rfl rfl rfl (by decide +kernel) ⟨Nat.le_of_ble_eq_true rfl, Nat.le_of_ble_eq_true rfl⟩) (gp_S C h _) rfl rfl hl.1 rfl (lv_room (Nat.le_of_ble_eq_true rfl)) dJ18_checkIndex_3 ⟨Nat.le_of_ble_eq_true rfl, Nat.le_of_ble_eq_true rfl⟩) h (fun r_1 w_2 H locs hp h => ?_)
  exact gr_i C h (ty := .int) rfl (rfl) (hp) (Nat.le_of_ble_eq_true rfl) (Nat.le_of_ble_eq_true rfl) dJ18_checkIndex_6
set_option maxHeartbeats 4000000 in
theorem m_J3_get (l : Launch) (g : GG) (w v : GW) (a E n : Nat) (f : Nat → Option Nat) (mc : Int32) (xs : List Nat) (hA : AL g w a E n f mc xs) (i x : Nat) (hi : xs[i]? = some x) : Met l yJ3_get (ws_ yJ3_get cJ3_get 2 (some (.object "java/lang/Object"))) ({ frames := 3, cells := 0, slots := 0, locals := 180 } : Room) (gP g [.ref a, .int (nI i)] w v) (va_Qq (fun (r : Option Nat) (w' : GW) => r = some x ∧ w' = w) (gB g v) (gA g)) 0 0 (gA g) := by
  refine gm_of (by decide) (Nat.le_of_ble_eq_true rfl) ?_
  intro p e s m below meth c ls C hnm h hl
  have C : Cx g p s m ([.ref a, .int (nI i)] : List Value).toArray meth c cJ3_get 2 RJ3 (some (.object "java/lang/Object")) := C
  obtain ⟨hx, hb, hml, hown, hts, hr, hlk, hG⟩ := id C
  have hl : lv_has ls 2 [(0, .ref a), (1, .int (nI i))] := hl
  obtain ⟨h0, hE, hn1, hn2, hn3⟩ := id hA
  have hn9 := hA.n_le
  have haE : a ≠ E := g_ne h0 hE (by intro q; cases q)
  have hil : i < xs.length := (List.getElem?_eq_some_iff.mp hi).1
  refine lv_iload_n hx hb dJ3_get_0 rfl (lv_at hl 1 rfl) ?_
  refine lv_aload_n hx hb dJ3_get_1 rfl (lv_at hl 0 rfl) ?_
  refine gx_get C h h0 (Cn := RJ3) (T := TJ3) (N := 3) rfl in_J3 2 (by decide) q118 rfl rfl dJ3_get_2 ?_
  refine gc_i (va_runS (As := [.int (nI i), .int (nI xs.length)]) (rest := []) C.fix (m_J18_checkIndex l g w v i xs.length hil (by omega)) (va_cwS 2 hts (lw_S q611 q612 q68 q613) rfl rfl rfl (by decide +kernel) ⟨Nat.le_of_ble_eq_true rfl, Nat.le_of_ble_eq_true rfl⟩) (gp_S C h _) rfl rfl hl.1 rfl (lv_room (Nat.le_of_ble_eq_true rfl)) dJ3_get_5 ⟨Nat.le_of_ble_eq_true rfl, Nat.le_of_ble_eq_true rfl⟩) h (fun r_1 w_2 H locs hp h => ?_)
  rw [hp] at h
  refine lv_pop hx hb dJ3_get_8 rfl ?_
  refine lv_aload_n hx hb dJ3_get_9 rfl (lv_at hl 0 rfl) ?_
  refine lv_iload_n hx hb dJ3_get_10 rfl (lv_at hl 1 rfl) ?_
  refine gc_q (va_runV (As := [.int (nI i)]) (rest := []) C.fix (m_J3_elementData l g w v a E n f mc xs hA i x hi) (cwV 1 hts (lw_V q617 q618 q619 q47 q620) rfl rfl rfl (by decide +kernel) ⟨Nat.le_of_ble_eq_true rfl, Nat.le_of_ble_eq_true rfl⟩) (gp_V C h [.int (nI i)] (Cn := RJ3) (T := TJ3) (N := 3) rfl h0) rfl rfl hl.1 rfl (lv_room (Nat.le_of_ble_eq_true rfl)) dJ3_get_11 ⟨Nat.le_of_ble_eq_true rfl, Nat.le_of_ble_eq_true rfl⟩) h (fun r_3 w_4 H locs hp h => ?_)
  obtain ⟨er_r_3, ew_r_3⟩ := hp
  rw [er_r_3]
  rw [ew_r_3] at h
  exact gr_q C h (x := some x) (ty := (.object "java/lang/Object")) rfl (Or.inl ⟨_, rfl⟩) (⟨rfl, rfl⟩) (Nat.le_of_ble_eq_true rfl) (Nat.le_of_ble_eq_true rfl) dJ3_get_14
set_option maxHeartbeats 4000000 in
theorem m_J3_clear (l : Launch) (g : GG) (w v : GW) (a E n : Nat) (f : Nat → Option Nat) (mc : Int32) (xs : List Nat) (hA : AL g w a E n f mc xs)  : Met l yJ3_clear (ws_ yJ3_clear cJ3_clear 4 none) ({ frames := 1, cells := 0, slots := 0, locals := 60 } : Room) (gP g [.ref a] w v) (va_Qv (fun (w' : GW) => ∃ f' : Nat → Option Nat, w' a = some (ob 6 [.int (mc + nI 1), .ref E, .int (nI 0)]) ∧ w' E = some (eO g n f') ∧ ∀ b, b ≠ a → b ≠ E → w' b = w b) (gB g v) (gA g)) 0 0 (gA g) := by
  refine gm_of (by decide) (Nat.le_of_ble_eq_true rfl) ?_
  intro p e s m below meth c ls C hnm h hl
  have C : Cx g p s m ([.ref a] : List Value).toArray meth c cJ3_clear 4 RJ3 none := C
  obtain ⟨hx, hb, hml, hown, hts, hr, hlk, hG⟩ := id C
  have hl : lv_has ls 4 [(0, .ref a)] := hl
  obtain ⟨h0, hE, hn1, hn2, hn3⟩ := id hA
  have hn9 := hA.n_le
  have haE : a ≠ E := g_ne h0 hE (by intro q; cases q)
  refine lv_aload_n hx hb dJ3_clear_0 rfl (lv_at hl 0 rfl) ?_
  refine lv_dup hx hb dJ3_clear_1 rfl ?_
  refine gx_getS C h h0 (Cn := RJ3) (T := TJ3) (N := 3) rfl in_J3 0 (by decide) q122 q121 rfl dJ3_clear_2 ?_
  refine lv_iconst (v := nI 1) hx hb dJ3_clear_5 (by decide) ?_
  refine lv_iadd hx hb dJ3_clear_6 ?_
  refine gx_putS C h h0 (Cn := RJ3) (T := TJ3) (N := 3) (x := .int (mc + (nI 1))) rfl in_J3 tyJ3 tyJ3_ok nmJ3 0 (by decide) q122 q121 rfl rfl rfl (Nat.le_of_ble_eq_true rfl) dJ3_clear_7 (fun H locs h => ?_)
  obtain ⟨w_1, ew_1⟩ : ∃ z : GW, z = gu w a (ob 6 [.int (mc + (nI 1)), .ref E, .int (nI xs.length)]) := ⟨_, rfl⟩
  have h : SH g w_1 v s H locs := by rw [ew_1]; exact h
  have f_2 : w_1 a = some (ob 6 [.int (mc + (nI 1)), .ref E, .int (nI xs.length)]) := by rw [ew_1]; exact gu_s
  have f_3 : w_1 E = some (eO g n f) := by rw [ew_1]; exact (gu_n (Ne.symm haE)).trans hE
  refine lv_aload_n hx hb dJ3_clear_10 rfl (lv_at hl 0 rfl) ?_
  refine gx_get C h f_2 (Cn := RJ3) (T := TJ3) (N := 3) rfl in_J3 1 (by decide) q115 rfl rfl dJ3_clear_11 ?_
  refine lv_astore_n (lv' := [(1, .ref E), (0, .ref a)]) hx hb dJ3_clear_14 rfl hl (by decide) rfl (fun ls hl => ?_)
  refine lv_aload_n hx hb dJ3_clear_15 rfl (lv_at hl 1 rfl) ?_
  refine gx_get C h f_2 (Cn := RJ3) (T := TJ3) (N := 3) rfl in_J3 2 (by decide) q118 rfl rfl dJ3_clear_16 ?_
  refine lv_istore_n (lv' := [(2, .int (nI xs.length)), (1, .ref E), (0, .ref a)]) hx hb dJ3_clear_19 rfl hl (by decide) rfl (fun ls hl => ?_)
  refine lv_aload_n hx hb dJ3_clear_20 rfl (lv_at hl 2 rfl) ?_
  refine lv_iconst (v := nI 0) hx hb dJ3_clear_21 (by decide) ?_
  refine lv_dup_x1 hx hb dJ3_clear_22 rfl rfl ?_
  refine gx_put C h f_2 (Cn := RJ3) (T := TJ3) (N := 3) (x := .int (nI 0)) rfl in_J3 tyJ3 tyJ3_ok nmJ3 2 (by decide) q118 rfl rfl rfl rfl (Nat.le_of_ble_eq_true rfl) dJ3_clear_23 (fun H locs h => ?_)
  obtain ⟨w_4, ew_4⟩ : ∃ z : GW, z = gu w_1 a (ob 6 [.int (mc + (nI 1)), .ref E, .int (nI 0)]) := ⟨_, rfl⟩
  have h : SH g w_4 v s H locs := by rw [ew_4]; exact h
  have f_5 : w_4 a = some (ob 6 [.int (mc + (nI 1)), .ref E, .int (nI 0)]) := by rw [ew_4]; exact gu_s
  have f_6 : w_4 E = some (eO g n f) := by rw [ew_4]; exact (gu_n (Ne.symm haE)).trans f_3
  refine lv_istore_n (lv' := [(3, .int (nI 0)), (2, .int (nI xs.length)), (1, .ref E), (0, .ref a)]) hx hb dJ3_clear_26 rfl hl (by decide) rfl (fun ls hl => ?_)
  have loop : ∀ (n_ : Nat) (i : Nat) (f' : Nat → Option Nat) (w1 : GW) (H : Heap) (locs : List Loc) (ls : Array Slot), xs.length - i < n_ → (i ≤ xs.length) → (w1 a = some (ob 6 [.int (mc + nI 1), .ref E, .int (nI 0)])) → (w1 E = some (eO g n f')) → (∀ b, b ≠ a → b ≠ E → w1 b = w b) → SH g w1 v s H locs → lv_has ls 4 [(0, .ref a), (1, .ref E), (2, .int (nI xs.length)), (3, .int (nI i))] → W p l e ({ frames := 1, cells := 0, slots := 0, locals := 60 } : Room) s m ([.ref a] : List Value).toArray below meth c H locs 0 0 (MQ below (va_Qv (fun (w' : GW) => ∃ f' : Nat → Option Nat, w' a = some (ob 6 [.int (mc + nI 1), .ref E, .int (nI 0)]) ∧ w' E = some (eO g n f') ∧ ∀ b, b ≠ a → b ≠ E → w' b = w b) (gB g v) (gA g)) ([.ref a] : List Value).toArray s 0 0 (gA g)) (F0 m 27 ls []) := by
    intro n_
    induction n_ with
    | zero => intros; exact absurd ‹_ < 0› (Nat.not_lt_zero _)
    | succ n_ ih =>
      intro i f' w1 H locs ls hf hil g0 g1 g3  h hl
      refine lv_iload_n hx hb dJ3_clear_27 rfl (lv_at hl 3 rfl) ?_
      refine lv_iload_n hx hb dJ3_clear_28 rfl (lv_at hl 2 rfl) ?_
      refine lv_icmp_ge (tgt := 42) hx hb dJ3_clear_29 (by decide) (fun c1 => ?_) (fun c1 => ?_)
      · skip
        have c1 : xs.length ≤ i := (nI_leI (by omega) (by omega)).mp c1
        exact gr_v C h (⟨f', g0, g1, g3⟩) (Nat.le_of_ble_eq_true rfl) (Nat.le_of_ble_eq_true rfl) dJ3_clear_42
      · skip
        have c1 : ¬ (xs.length ≤ i) := fun q => c1 ((nI_leI (by omega) (by omega)).mpr q)
        refine lv_aload_n hx hb dJ3_clear_32 rfl (lv_at hl 1 rfl) ?_
        refine lv_iload_n hx hb dJ3_clear_33 rfl (lv_at hl 3 rfl) ?_
        refine lv_null hx hb dJ3_clear_34 ?_
        refine gx_aastN C h 5 rfl g1 i (rfl) (by omega) dJ3_clear_35 (fun H locs h => ?_)
        obtain ⟨w_7, ew_7⟩ : ∃ z : GW, z = gu w1 E (eO g n (va_up f' i none)) := ⟨_, rfl⟩
        have h : SH g w_7 v s H locs := by rw [ew_7]; exact h
        have f_8 : w_7 a = some (ob 6 [.int (mc + nI 1), .ref E, .int (nI 0)]) := by rw [ew_7]; exact (gu_n haE).trans g0
        have f_9 : w_7 E = some (eO g n (va_up f' i none)) := by rw [ew_7]; exact gu_s
        refine lv_iinc (v := nI (i + 1)) (lv' := [(3, .int (nI (i + 1))), (0, .ref a), (1, .ref E), (2, .int (nI xs.length))]) hx hb dJ3_clear_36 hl (k := 3) rfl (gi_inc _ 1) (by decide) rfl (fun ls hl => ?_)
        refine lv_goto (tgt := 27) hx hb dJ3_clear_39 (by decide) ?_
        exact ih (i + 1) (va_up f' i none) _ _ _ _ (by omega) (by omega) f_8 f_9 (fun b b1 b2 => by rw [ew_7, gu_n b2]; exact g3 b b1 b2)  h (lv_sub hl [1, 2, 3, 0] rfl)
  exact loop (xs.length + 1) 0 f _ _ _ _ (by omega) (by omega) f_5 f_6 (fun b b1 b2 => by rw [ew_4, gu_n b1, ew_1, gu_n b1]) h (lv_sub hl [3, 2, 1, 0] rfl)
set_option maxHeartbeats 4000000 in
theorem m_J3_grow_2 (l : Launch) (g : GG) (w v : GW) (a : Nat) (f : Nat → Option Nat) (mc : Int32) (h0 : w a = some (ob 6 [.int mc, .ref g.2.2.2.1, .int (nI 0)])) (hE : w g.2.2.2.1 = some (eO g 0 f)) : Met l yJ3_grow_2 (ws_ yJ3_grow_2 cJ3_grow_2 4 (some (.array (.object "java/lang/Object")))) ({ frames := 2, cells := 1, slots := 10, locals := 120 } : Room) (gP g [.ref a, .int (nI 1)] w v) (va_Qq (fun (r : Option Nat) (w' : GW) => ∃ E' : Nat, r = some E' ∧ w E' = none ∧ v E' = none ∧ w' = gu (gu w E' (eO g 10 (fun _ => none))) a (ob 6 [.int mc, .ref E', .int (nI 0)])) (gB g v) (gA g)) 1 10 (gA g) := by
  refine gm_of (by decide) (Nat.le_of_ble_eq_true rfl) ?_
  intro p e s m below meth c ls C hnm h hl
  have C : Cx g p s m ([.ref a, .int (nI 1)] : List Value).toArray meth c cJ3_grow_2 4 RJ3 (some (.array (.object "java/lang/Object"))) := C
  obtain ⟨hx, hb, hml, hown, hts, hr, hlk, hG⟩ := id C
  have hl : lv_has ls 4 [(0, .ref a), (1, .int (nI 1))] := hl
  refine lv_aload_n hx hb dJ3_grow_2_0 rfl (lv_at hl 0 rfl) ?_
  refine gx_get C h h0 (Cn := RJ3) (T := TJ3) (N := 3) rfl in_J3 1 (by decide) q115 rfl rfl dJ3_grow_2_1 ?_
  refine gx_alen C h (t := 5) rfl hE dJ3_grow_2_4 ?_
  refine lv_istore_n (lv' := [(2, .int (nI 0)), (0, .ref a), (1, .int (nI 1))]) hx hb dJ3_grow_2_5 rfl hl (by decide) rfl (fun ls hl => ?_)
  refine lv_iload_n hx hb dJ3_grow_2_6 rfl (lv_at hl 0 rfl) ?_
  refine lv_if_gt (tgt := 20) hx hb dJ3_grow_2_7 (by decide) (fun c1 => ?_) (fun c1 => ?_)
  · skip
    exact absurd c1 (by decide)
  · skip
    refine lv_aload_n hx hb dJ3_grow_2_10 rfl (lv_at hl 1 rfl) ?_
    refine gx_get C h h0 (Cn := RJ3) (T := TJ3) (N := 3) rfl in_J3 1 (by decide) q115 rfl rfl dJ3_grow_2_11 ?_
    refine gx_gets C h q113 dJ3_grow_2_14 ?_
    refine lv_acmp_eq (rx := some g.2.2.2.1) (ry := some g.2.2.2.1) (tgt := 45) hx hb dJ3_grow_2_17 (by decide) (fun c2 => ?_) (fun c2 => ?_)
    · skip
      refine lv_aload_n hx hb dJ3_grow_2_45 rfl (lv_at hl 1 rfl) ?_
      refine lv_bipush (v := nI 10) hx hb dJ3_grow_2_46 (by decide) ?_
      refine lv_iload_n hx hb dJ3_grow_2_48 rfl (lv_at hl 2 rfl) ?_
      refine gc_i (va_runS (As := [.int (nI 10), .int (nI 1)]) (rest := [.ref a]) C.fix (m_J4_max l g w v (nI 10) (nI 1)) (va_cwS 2 hts (lw_S q595 q527 q48 q528) rfl rfl rfl (by decide +kernel) ⟨Nat.le_of_ble_eq_true rfl, Nat.le_of_ble_eq_true rfl⟩) (gp_S C h _) rfl rfl hl.1 rfl (lv_room (Nat.le_of_ble_eq_true rfl)) dJ3_grow_2_49 ⟨Nat.le_of_ble_eq_true rfl, Nat.le_of_ble_eq_true rfl⟩) h (fun r_1 w_2 H locs hp h => ?_)
      obtain ⟨er_r_1, ew_r_1⟩ := hp
      rw [er_r_1]
      rw [ew_r_1] at h
      rw [show (if nI 10 < nI 1 then nI 1 else nI 10) = nI 10 from by decide]
      refine gx_newq C h 5 q596 hG.2.2.2.1.2 rfl (N' := 10) (rfl) (Nat.le_of_ble_eq_true rfl) (Nat.le_of_ble_eq_true rfl) (Nat.le_of_ble_eq_true rfl) dJ3_grow_2_52 (fun E1 H hn_3 hn_3v h => ?_)
      obtain ⟨w_4, ew_4⟩ : ∃ z : GW, z = gu w E1 (eO g 10 (fun _ => none)) := ⟨_, rfl⟩
      have h : SH g w_4 v s H locs := by rw [ew_4]; exact h
      have f_5 : w_4 a = some (ob 6 [.int mc, .ref g.2.2.2.1, .int (nI 0)]) := by rw [ew_4]; exact (gu_n (g_neN h0 hn_3)).trans h0
      have f_6 : w_4 g.2.2.2.1 = some (eO g 0 f) := by rw [ew_4]; exact (gu_n (g_neN hE hn_3)).trans hE
      have f_7 : w_4 E1 = some (eO g 10 (fun _ => none)) := by rw [ew_4]; exact gu_s
      refine lv_dup_x1 hx hb dJ3_grow_2_55 rfl rfl ?_
      refine gx_put C h f_5 (Cn := RJ3) (T := TJ3) (N := 3) (x := .ref E1) rfl in_J3 tyJ3 tyJ3_ok nmJ3 1 (by decide) q115 rfl rfl rfl rfl (Nat.le_of_ble_eq_true rfl) dJ3_grow_2_56 (fun H locs h => ?_)
      obtain ⟨w_8, ew_8⟩ : ∃ z : GW, z = gu w_4 a (ob 6 [.int mc, .ref E1, .int (nI 0)]) := ⟨_, rfl⟩
      have h : SH g w_8 v s H locs := by rw [ew_8]; exact h
      have f_9 : w_8 a = some (ob 6 [.int mc, .ref E1, .int (nI 0)]) := by rw [ew_8]; exact gu_s
      have f_10 : w_8 g.2.2.2.1 = some (eO g 0 f) := by rw [ew_8]; exact (gu_n (g_ne f_6 f_5 (by simp))).trans f_6
      have f_11 : w_8 E1 = some (eO g 10 (fun _ => none)) := by rw [ew_8]; exact (gu_n (Ne.symm (g_neN h0 hn_3))).trans f_7
      exact gr_q C h (x := some E1) (ty := (.array (.object "java/lang/Object"))) rfl (Or.inr ⟨_, rfl⟩) (⟨E1, rfl, hn_3, hn_3v, by rw [ew_8, ew_4]⟩) (Nat.le_of_ble_eq_true rfl) (Nat.le_of_ble_eq_true rfl) dJ3_grow_2_59
    · skip
      exact absurd rfl c2
set_option maxHeartbeats 4000000 in
theorem m_J3_grow (l : Launch) (g : GG) (w v : GW) (a : Nat) (f : Nat → Option Nat) (mc : Int32) (h0 : w a = some (ob 6 [.int mc, .ref g.2.2.2.1, .int (nI 0)])) (hE : w g.2.2.2.1 = some (eO g 0 f)) : Met l yJ3_grow (ws_ yJ3_grow cJ3_grow 1 (some (.array (.object "java/lang/Object")))) ({ frames := 3, cells := 1, slots := 10, locals := 180 } : Room) (gP g [.ref a] w v) (va_Qq (fun (r : Option Nat) (w' : GW) => ∃ E' : Nat, r = some E' ∧ w E' = none ∧ v E' = none ∧ w' = gu (gu w E' (eO g 10 (fun _ => none))) a (ob 6 [.int mc, .ref E', .int (nI 0)])) (gB g v) (gA g)) 1 10 (gA g) := by
  refine gm_of (by decide) (Nat.le_of_ble_eq_true rfl) ?_
  intro p e s m below meth c ls C hnm h hl
  have C : Cx g p s m ([.ref a] : List Value).toArray meth c cJ3_grow 1 RJ3 (some (.array (.object "java/lang/Object"))) := C
  obtain ⟨hx, hb, hml, hown, hts, hr, hlk, hG⟩ := id C
  have hl : lv_has ls 1 [(0, .ref a)] := hl
  refine lv_aload_n hx hb dJ3_grow_0 rfl (lv_at hl 0 rfl) ?_
  refine lv_aload_n hx hb dJ3_grow_1 rfl (lv_at hl 0 rfl) ?_
  refine gx_get C h h0 (Cn := RJ3) (T := TJ3) (N := 3) rfl in_J3 2 (by decide) q118 rfl rfl dJ3_grow_2 ?_
  refine lv_iconst (v := nI 1) hx hb dJ3_grow_5 (by decide) ?_
  refine gn_iadd hx hb dJ3_grow_6 ?_
  refine gc_q (va_runV (As := [.int (nI (0 + 1))]) (rest := []) C.fix (m_J3_grow_2 l g w v a f mc h0 hE) (cwV 1 hts (lw_V q582 q584 qs23 q47 q585) rfl rfl rfl (by decide +kernel) ⟨Nat.le_of_ble_eq_true rfl, Nat.le_of_ble_eq_true rfl⟩) (gp_V C h [.int (nI (0 + 1))] (Cn := RJ3) (T := TJ3) (N := 3) rfl h0) rfl rfl hl.1 rfl (lv_room (Nat.le_of_ble_eq_true rfl)) dJ3_grow_7 ⟨Nat.le_of_ble_eq_true rfl, Nat.le_of_ble_eq_true rfl⟩) h (fun r_1 w_2 H locs hp h => ?_)
  exact gr_q C h (x := r_1) (ty := (.array (.object "java/lang/Object"))) rfl (Or.inr ⟨_, rfl⟩) (hp) (Nat.le_of_ble_eq_true rfl) (Nat.le_of_ble_eq_true rfl) dJ3_grow_10
set_option maxHeartbeats 4000000 in
theorem m_J3_add_2 (l : Launch) (g : GG) (w v : GW) (a E n : Nat) (f : Nat → Option Nat) (mc : Int32) (xs : List Nat) (hA : AL g w a E n f mc xs) (x : Nat) (fsx : List Value) (ci : Nat) (rc : vw_C) (hc : vwCl[ci]? = some rc) (hca : Cond.castable rc.1 "java/lang/Object" ∈ lw_tbl) (hx_ : w x = some (.inr (ci, fsx))) (hlen : xs.length < 10) (hci : ci ≠ 6) : Met l yJ3_add_2 (ws_ yJ3_add_2 cJ3_add_2 4 none) ({ frames := 4, cells := 1, slots := 10, locals := 240 } : Room) (gP g [.ref a, .ref x, .ref E, .int (nI xs.length)] w v) (va_Qv (fun (w' : GW) => ∃ (E' : Nat) (f' : Nat → Option Nat), AL g w' a E' 10 f' mc (xs ++ [x]) ∧ (E' = E ∨ (w E' = none ∧ v E' = none)) ∧ ∀ b, b ≠ a → b ≠ E' → w' b = w b) (gB g v) (gA g)) 1 10 (gA g) := by
  refine gm_of (by decide) (Nat.le_of_ble_eq_true rfl) ?_
  intro p e s m below meth c ls C hnm h hl
  have C : Cx g p s m ([.ref a, .ref x, .ref E, .int (nI xs.length)] : List Value).toArray meth c cJ3_add_2 4 RJ3 none := C
  obtain ⟨hx, hb, hml, hown, hts, hr, hlk, hG⟩ := id C
  have hl : lv_has ls 4 [(0, .ref a), (1, .ref x), (2, .ref E), (3, .int (nI xs.length))] := hl
  obtain ⟨h0, hE, hn1, hn2, hn3⟩ := id hA
  have hn9 := hA.n_le
  have haE : a ≠ E := g_ne h0 hE (by intro q; cases q)
  have hxa : x ≠ a := g_ne hx_ h0 (by intro q; injection q with q; injection q with q; exact hci q)
  have hxE : x ≠ E := g_ne hx_ hE (by intro q; cases q)
  refine lv_iload_n hx hb dJ3_add_2_0 rfl (lv_at hl 3 rfl) ?_
  refine lv_aload_n hx hb dJ3_add_2_1 rfl (lv_at hl 2 rfl) ?_
  refine gx_alen C h (t := 5) rfl hE dJ3_add_2_2 ?_
  refine lv_icmp_ne (tgt := 11) hx hb dJ3_add_2_3 (by decide) (fun c1 => ?_) (fun c1 => ?_)
  · skip
    have c1 : ¬ (xs.length = n) := fun q => c1 ((nI_eq (by omega) (by omega)).mpr q)
    have hadd : ∀ (f0 : Nat → Option Nat), (∀ (i y : Nat), xs[i]? = some y → f0 i = some y) → ∀ (i y : Nat), (xs ++ [x])[i]? = some y → va_up f0 xs.length (some x) i = some y := by
      intro f0 hf0 i y hy
      by_cases hi : i < xs.length
      · rw [List.getElem?_append_left hi] at hy
        unfold va_up
        rw [if_neg (by omega)]
        exact hf0 i y hy
      · rw [List.getElem?_append_right (by omega)] at hy
        have hz : i - xs.length < 1 := (List.getElem?_eq_some_iff.mp hy).1
        have hi2 : i = xs.length := by omega
        subst hi2
        rw [Nat.sub_self] at hy
        cases hy
        simp [va_up]
    have hn10 : n = 10 := by omega
    subst hn10
    refine lv_aload_n hx hb dJ3_add_2_11 rfl (lv_at hl 2 rfl) ?_
    refine lv_iload_n hx hb dJ3_add_2_12 rfl (lv_at hl 3 rfl) ?_
    refine lv_aload_n hx hb dJ3_add_2_13 rfl (lv_at hl 1 rfl) ?_
    refine gx_aastO C h 5 (ci := ci) (r := rc) hc rfl hca hE hx_ xs.length rfl (by omega) dJ3_add_2_14 (fun H locs h => ?_)
    obtain ⟨w_1, ew_1⟩ : ∃ z : GW, z = gu w E (eO g 10 (va_up f xs.length (some x))) := ⟨_, rfl⟩
    have h : SH g w_1 v s H locs := by rw [ew_1]; exact h
    have f_2 : w_1 a = some (ob 6 [.int mc, .ref E, .int (nI xs.length)]) := by rw [ew_1]; exact (gu_n haE).trans h0
    have f_3 : w_1 E = some (eO g 10 (va_up f xs.length (some x))) := by rw [ew_1]; exact gu_s
    refine lv_aload_n hx hb dJ3_add_2_15 rfl (lv_at hl 0 rfl) ?_
    refine lv_iload_n hx hb dJ3_add_2_16 rfl (lv_at hl 3 rfl) ?_
    refine lv_iconst (v := nI 1) hx hb dJ3_add_2_17 (by decide) ?_
    refine gn_iadd hx hb dJ3_add_2_18 ?_
    refine gx_put C h f_2 (Cn := RJ3) (T := TJ3) (N := 3) (x := .int (nI (xs.length + 1))) rfl in_J3 tyJ3 tyJ3_ok nmJ3 2 (by decide) q118 rfl rfl rfl rfl (Nat.le_of_ble_eq_true rfl) dJ3_add_2_19 (fun H locs h => ?_)
    obtain ⟨w_4, ew_4⟩ : ∃ z : GW, z = gu w_1 a (ob 6 [.int mc, .ref E, .int (nI (xs.length + 1))]) := ⟨_, rfl⟩
    have h : SH g w_4 v s H locs := by rw [ew_4]; exact h
    have f_5 : w_4 a = some (ob 6 [.int mc, .ref E, .int (nI (xs.length + 1))]) := by rw [ew_4]; exact gu_s
    have f_6 : w_4 E = some (eO g 10 (va_up f xs.length (some x))) := by rw [ew_4]; exact (gu_n (Ne.symm haE)).trans f_3
    exact gr_v C h (⟨E, _, ⟨by rw [ew_4, gu_s]; simp, by rw [ew_4]; exact (gu_n (Ne.symm haE)).trans (by rw [ew_1]; exact gu_s), by simp; omega, hadd f hn2, Or.inr rfl⟩, Or.inl rfl, fun b b1 b2 => by rw [ew_4, gu_n b1, ew_1, gu_n b2]⟩) (Nat.le_of_ble_eq_true rfl) (Nat.le_of_ble_eq_true rfl) dJ3_add_2_22
  · skip
    have c1 : xs.length = n := (nI_eq (by omega) (by omega)).mp c1
    have hadd : ∀ (f0 : Nat → Option Nat), (∀ (i y : Nat), xs[i]? = some y → f0 i = some y) → ∀ (i y : Nat), (xs ++ [x])[i]? = some y → va_up f0 xs.length (some x) i = some y := by
      intro f0 hf0 i y hy
      by_cases hi : i < xs.length
      · rw [List.getElem?_append_left hi] at hy
        unfold va_up
        rw [if_neg (by omega)]
        exact hf0 i y hy
      · rw [List.getElem?_append_right (by omega)] at hy
        have hz : i - xs.length < 1 := (List.getElem?_eq_some_iff.mp hy).1
        have hi2 : i = xs.length := by omega
        subst hi2
        rw [Nat.sub_self] at hy
        cases hy
        simp [va_up]
    have hn0 : n = 0 := by omega
    subst hn0
    have hEe : E = g.2.2.2.1 := by simpa using hn3
    have hx0 : xs = [] := List.eq_nil_of_length_eq_zero (by omega)
    subst hEe
    subst hx0
    have hl : lv_has ls 4 [(0, .ref a), (1, .ref x), (2, .ref g.2.2.2.1), (3, .int (nI 0))] := hl
    refine lv_aload_n hx hb dJ3_add_2_6 rfl (lv_at hl 0 rfl) ?_
    refine gc_q (va_runV (As := []) (rest := []) C.fix (m_J3_grow l g w v a f mc h0 hE) (cwV 0 hts (lw_V q578 q580 qs22 q47 q581) rfl rfl rfl (by decide +kernel) ⟨Nat.le_of_ble_eq_true rfl, Nat.le_of_ble_eq_true rfl⟩) (gp_V C h [] (Cn := RJ3) (T := TJ3) (N := 3) rfl h0) rfl rfl hl.1 rfl (lv_room (Nat.le_of_ble_eq_true rfl)) dJ3_add_2_7 ⟨Nat.le_of_ble_eq_true rfl, Nat.le_of_ble_eq_true rfl⟩) h (fun r_7 w_8 H locs hp h => ?_)
    obtain ⟨E1, er, k1, k2, k3⟩ := hp
    rw [er]
    have fa : w_8 a = some (ob 6 [.int mc, .ref E1, .int (nI 0)]) := by rw [k3]; exact gu_s
    have fE : w_8 E1 = some (eO g 10 (fun _ => none)) := by rw [k3]; exact (gu_n (Ne.symm (g_neN h0 k1))).trans gu_s
    have fx : w_8 x = some (.inr (ci, fsx)) := by rw [k3]; exact (gu_n hxa).trans ((gu_n (g_neN hx_ k1)).trans hx_)
    refine lv_astore_n (lv' := [(2, .ref E1), (0, .ref a), (1, .ref x), (3, .int (nI 0))]) hx hb dJ3_add_2_10 rfl hl (by decide) rfl (fun ls hl => ?_)
    refine lv_aload_n hx hb dJ3_add_2_11 rfl (lv_at hl 0 rfl) ?_
    refine lv_iload_n hx hb dJ3_add_2_12 rfl (lv_at hl 3 rfl) ?_
    refine lv_aload_n hx hb dJ3_add_2_13 rfl (lv_at hl 2 rfl) ?_
    refine gx_aastO C h 5 (ci := ci) (r := rc) hc rfl hca fE fx 0 rfl (by omega) dJ3_add_2_14 (fun H locs h => ?_)
    obtain ⟨w_9, ew_9⟩ : ∃ z : GW, z = gu w_8 E1 (eO g 10 (va_up (fun _ => none) 0 (some x))) := ⟨_, rfl⟩
    have h : SH g w_9 v s H locs := by rw [ew_9]; exact h
    have f_10 : w_9 a = some (ob 6 [.int mc, .ref E1, .int (nI 0)]) := by rw [ew_9]; exact (gu_n (g_neN h0 k1)).trans fa
    have f_11 : w_9 E1 = some (eO g 10 (va_up (fun _ => none) 0 (some x))) := by rw [ew_9]; exact gu_s
    refine lv_aload_n hx hb dJ3_add_2_15 rfl (lv_at hl 1 rfl) ?_
    refine lv_iload_n hx hb dJ3_add_2_16 rfl (lv_at hl 3 rfl) ?_
    refine lv_iconst (v := nI 1) hx hb dJ3_add_2_17 (by decide) ?_
    refine gn_iadd hx hb dJ3_add_2_18 ?_
    refine gx_put C h f_10 (Cn := RJ3) (T := TJ3) (N := 3) (x := .int (nI (0 + 1))) rfl in_J3 tyJ3 tyJ3_ok nmJ3 2 (by decide) q118 rfl rfl rfl rfl (Nat.le_of_ble_eq_true rfl) dJ3_add_2_19 (fun H locs h => ?_)
    obtain ⟨w_12, ew_12⟩ : ∃ z : GW, z = gu w_9 a (ob 6 [.int mc, .ref E1, .int (nI (0 + 1))]) := ⟨_, rfl⟩
    have h : SH g w_12 v s H locs := by rw [ew_12]; exact h
    have f_13 : w_12 a = some (ob 6 [.int mc, .ref E1, .int (nI (0 + 1))]) := by rw [ew_12]; exact gu_s
    have f_14 : w_12 E1 = some (eO g 10 (va_up (fun _ => none) 0 (some x))) := by rw [ew_12]; exact (gu_n (Ne.symm (g_neN h0 k1))).trans f_11
    exact gr_v C h (⟨E1, _, ⟨by rw [ew_12, gu_s]; rfl, by rw [ew_12]; exact (gu_n (Ne.symm (g_neN h0 k1))).trans (by rw [ew_9]; exact gu_s), by simp, hadd (fun _ => none) (fun i y hy => by simp at hy), Or.inr rfl⟩, Or.inr ⟨k1, k2⟩, fun b b1 b2 => by rw [ew_12, gu_n b1, ew_9, gu_n b2, k3, gu_n b1, gu_n b2]⟩) (Nat.le_of_ble_eq_true rfl) (Nat.le_of_ble_eq_true rfl) dJ3_add_2_22
set_option maxHeartbeats 4000000 in
theorem m_J3_add (l : Launch) (g : GG) (w v : GW) (a E n : Nat) (f : Nat → Option Nat) (mc : Int32) (xs : List Nat) (hA : AL g w a E n f mc xs) (x : Nat) (fsx : List Value) (ci : Nat) (rc : vw_C) (hc : vwCl[ci]? = some rc) (hca : Cond.castable rc.1 "java/lang/Object" ∈ lw_tbl) (hx_ : w x = some (.inr (ci, fsx))) (hlen : xs.length < 10) (hci : ci ≠ 6) : Met l yJ3_add (ws_ yJ3_add cJ3_add 2 (some .boolean)) ({ frames := 5, cells := 1, slots := 10, locals := 300 } : Room) (gP g [.ref a, .ref x] w v) (va_Qi (fun (r : Int32) (w' : GW) => r = 1 ∧ ∃ (E' : Nat) (f' : Nat → Option Nat), AL g w' a E' 10 f' (mc + nI 1) (xs ++ [x]) ∧ (E' = E ∨ (w E' = none ∧ v E' = none)) ∧ ∀ b, b ≠ a → b ≠ E' → w' b = w b) (gB g v) (gA g)) 1 10 (gA g) := by
  refine gm_of (by decide) (Nat.le_of_ble_eq_true rfl) ?_
  intro p e s m below meth c ls C hnm h hl
  have C : Cx g p s m ([.ref a, .ref x] : List Value).toArray meth c cJ3_add 2 RJ3 (some .boolean) := C
  obtain ⟨hx, hb, hml, hown, hts, hr, hlk, hG⟩ := id C
  have hl : lv_has ls 2 [(0, .ref a), (1, .ref x)] := hl
  obtain ⟨h0, hE, hn1, hn2, hn3⟩ := id hA
  have hn9 := hA.n_le
  have haE : a ≠ E := g_ne h0 hE (by intro q; cases q)
  have hxa : x ≠ a := g_ne hx_ h0 (by intro q; injection q with q; injection q with q; exact hci q)
  refine lv_aload_n hx hb dJ3_add_0 rfl (lv_at hl 0 rfl) ?_
  refine lv_dup hx hb dJ3_add_1 rfl ?_
  refine gx_getS C h h0 (Cn := RJ3) (T := TJ3) (N := 3) rfl in_J3 0 (by decide) q122 q121 rfl dJ3_add_2 ?_
  refine lv_iconst (v := nI 1) hx hb dJ3_add_5 (by decide) ?_
  refine lv_iadd hx hb dJ3_add_6 ?_
  refine gx_putS C h h0 (Cn := RJ3) (T := TJ3) (N := 3) (x := .int (mc + (nI 1))) rfl in_J3 tyJ3 tyJ3_ok nmJ3 0 (by decide) q122 q121 rfl rfl rfl (Nat.le_of_ble_eq_true rfl) dJ3_add_7 (fun H locs h => ?_)
  obtain ⟨w_1, ew_1⟩ : ∃ z : GW, z = gu w a (ob 6 [.int (mc + (nI 1)), .ref E, .int (nI xs.length)]) := ⟨_, rfl⟩
  have h : SH g w_1 v s H locs := by rw [ew_1]; exact h
  have f_2 : w_1 a = some (ob 6 [.int (mc + (nI 1)), .ref E, .int (nI xs.length)]) := by rw [ew_1]; exact gu_s
  have f_3 : w_1 E = some (eO g n f) := by rw [ew_1]; exact (gu_n (Ne.symm haE)).trans hE
  refine lv_aload_n hx hb dJ3_add_10 rfl (lv_at hl 0 rfl) ?_
  refine lv_aload_n hx hb dJ3_add_11 rfl (lv_at hl 1 rfl) ?_
  refine lv_aload_n hx hb dJ3_add_12 rfl (lv_at hl 0 rfl) ?_
  refine gx_get C h f_2 (Cn := RJ3) (T := TJ3) (N := 3) rfl in_J3 1 (by decide) q115 rfl rfl dJ3_add_13 ?_
  refine lv_aload_n hx hb dJ3_add_16 rfl (lv_at hl 0 rfl) ?_
  refine gx_get C h f_2 (Cn := RJ3) (T := TJ3) (N := 3) rfl in_J3 2 (by decide) q118 rfl rfl dJ3_add_17 ?_
  have hA2 : AL g w_1 a E n f (mc + nI 1) xs := ⟨f_2, f_3, hn1, hn2, hn3⟩
  have hx2 : w_1 x = some (.inr (ci, fsx)) := by rw [ew_1, gu_n hxa]; exact hx_
  refine gc_v (va_runV (As := [.ref x, .ref E, .int (nI xs.length)]) (rest := []) C.fix (m_J3_add_2 l g w_1 v a E n f (mc + nI 1) xs hA2 x fsx ci rc hc hca hx2 hlen hci) (cwV 3 hts (lw_V q574 q576 qs21 q47 q577) rfl rfl rfl (by decide +kernel) ⟨Nat.le_of_ble_eq_true rfl, Nat.le_of_ble_eq_true rfl⟩) (gp_V C h [.ref x, .ref E, .int (nI xs.length)] (Cn := RJ3) (T := TJ3) (N := 3) rfl f_2) rfl rfl hl.1 rfl (lv_room (Nat.le_of_ble_eq_true rfl)) dJ3_add_20 ⟨Nat.le_of_ble_eq_true rfl, Nat.le_of_ble_eq_true rfl⟩) h (fun w_5 H locs hp h => ?_)
  obtain ⟨E1, f1, k1, k2, k3⟩ := hp
  have hE1 : E1 ≠ a := fun q => by have z := k1.1; rw [← q, k1.2.1] at z; cases z
  refine lv_iconst (v := bI true) hx hb dJ3_add_23 (by decide) ?_
  exact gr_i C h (ty := .boolean) rfl (rfl) (⟨rfl, E1, f1, k1, by rcases k2 with q | q; exact Or.inl q; exact Or.inr ⟨by have z := q.1; rw [ew_1, gu_n hE1] at z; exact z, q.2⟩, fun b b1 b2 => by rw [k3 b b1 b2, ew_1, gu_n b1]⟩) (Nat.le_of_ble_eq_true rfl) (Nat.le_of_ble_eq_true rfl) dJ3_add_24
set_option maxHeartbeats 4000000 in
theorem m_J3_fastRemove (l : Launch) (g : GG) (w v : GW) (a E : Nat) (f : Nat → Option Nat) (mc : Int32) (xs : List Nat) (hA : AL g w a E 10 f mc xs) (i : Nat) (ci : Nat) (rc : vw_C) (hc : vwCl[ci]? = some rc) (hca : Cond.castable rc.1 "java/lang/Object" ∈ lw_tbl) (hi : i < xs.length) (hel : ∀ y ∈ xs, ∃ fs, w y = some (.inr (ci, fs))) (hci : ci ≠ 6) : Met l yJ3_fastRemove (ws_ yJ3_fastRemove cJ3_fastRemove 4 none) ({ frames := 2, cells := 0, slots := 0, locals := 120 } : Room) (gP g [.ref a, .ref E, .int (nI i)] w v) (va_Qv (fun (w' : GW) => ∃ (f' : Nat → Option Nat) (mc' : Int32), AL g w' a E 10 f' mc' (xs.eraseIdx i) ∧ ∀ b, b ≠ a → b ≠ E → w' b = w b) (gB g v) (gA g)) 0 0 (gA g) := by
  refine gm_of (by decide) (Nat.le_of_ble_eq_true rfl) ?_
  intro p e s m below meth c ls C hnm h hl
  have C : Cx g p s m ([.ref a, .ref E, .int (nI i)] : List Value).toArray meth c cJ3_fastRemove 4 RJ3 none := C
  obtain ⟨hx, hb, hml, hown, hts, hr, hlk, hG⟩ := id C
  have hl : lv_has ls 4 [(0, .ref a), (1, .ref E), (2, .int (nI i))] := hl
  obtain ⟨h0, hE, hn1, hn2, hn3⟩ := id hA
  have haE : a ≠ E := g_ne h0 hE (by intro q; cases q)
  refine lv_aload_n hx hb dJ3_fastRemove_0 rfl (lv_at hl 0 rfl) ?_
  refine lv_dup hx hb dJ3_fastRemove_1 rfl ?_
  refine gx_getS C h h0 (Cn := RJ3) (T := TJ3) (N := 3) rfl in_J3 0 (by decide) q122 q121 rfl dJ3_fastRemove_2 ?_
  refine lv_iconst (v := nI 1) hx hb dJ3_fastRemove_5 (by decide) ?_
  refine lv_iadd hx hb dJ3_fastRemove_6 ?_
  refine gx_putS C h h0 (Cn := RJ3) (T := TJ3) (N := 3) (x := .int (mc + (nI 1))) rfl in_J3 tyJ3 tyJ3_ok nmJ3 0 (by decide) q122 q121 rfl rfl rfl (Nat.le_of_ble_eq_true rfl) dJ3_fastRemove_7 (fun H locs h => ?_)
  obtain ⟨w_1, ew_1⟩ : ∃ z : GW, z = gu w a (ob 6 [.int (mc + (nI 1)), .ref E, .int (nI xs.length)]) := ⟨_, rfl⟩
  have h : SH g w_1 v s H locs := by rw [ew_1]; exact h
  have f_2 : w_1 a = some (ob 6 [.int (mc + (nI 1)), .ref E, .int (nI xs.length)]) := by rw [ew_1]; exact gu_s
  have f_3 : w_1 E = some (eO g 10 f) := by rw [ew_1]; exact (gu_n (Ne.symm haE)).trans hE
  refine lv_aload_n hx hb dJ3_fastRemove_10 rfl (lv_at hl 0 rfl) ?_
  refine gx_get C h f_2 (Cn := RJ3) (T := TJ3) (N := 3) rfl in_J3 2 (by decide) q118 rfl rfl dJ3_fastRemove_11 ?_
  refine lv_iconst (v := nI 1) hx hb dJ3_fastRemove_14 (by decide) ?_
  refine gn_isub hx hb dJ3_fastRemove_15 (by omega) ?_
  refine lv_dup hx hb dJ3_fastRemove_16 rfl ?_
  refine lv_istore_n (lv' := [(3, .int (nI (xs.length - 1))), (0, .ref a), (1, .ref E), (2, .int (nI i))]) hx hb dJ3_fastRemove_17 rfl hl (by decide) rfl (fun ls hl => ?_)
  refine lv_iload_n hx hb dJ3_fastRemove_18 rfl (lv_at hl 3 rfl) ?_
  refine lv_icmp_le (tgt := 34) hx hb dJ3_fastRemove_19 (by decide) (fun c1 => ?_) (fun c1 => ?_)
  · skip
    have c1 : (xs.length - 1) ≤ i := (nI_leI (by omega) (by omega)).mp c1
    refine lv_aload_n hx hb dJ3_fastRemove_34 rfl (lv_at hl 2 rfl) ?_
    refine lv_aload_n hx hb dJ3_fastRemove_35 rfl (lv_at hl 1 rfl) ?_
    refine lv_iload_n hx hb dJ3_fastRemove_36 rfl (lv_at hl 0 rfl) ?_
    refine lv_dup_x1 hx hb dJ3_fastRemove_37 rfl rfl ?_
    refine gx_put C h f_2 (Cn := RJ3) (T := TJ3) (N := 3) (x := .int (nI (xs.length - 1))) rfl in_J3 tyJ3 tyJ3_ok nmJ3 2 (by decide) q118 rfl rfl rfl rfl (Nat.le_of_ble_eq_true rfl) dJ3_fastRemove_38 (fun H locs h => ?_)
    obtain ⟨w_4, ew_4⟩ : ∃ z : GW, z = gu w_1 a (ob 6 [.int (mc + (nI 1)), .ref E, .int (nI (xs.length - 1))]) := ⟨_, rfl⟩
    have h : SH g w_4 v s H locs := by rw [ew_4]; exact h
    have f_5 : w_4 a = some (ob 6 [.int (mc + (nI 1)), .ref E, .int (nI (xs.length - 1))]) := by rw [ew_4]; exact gu_s
    have f_6 : w_4 E = some (eO g 10 f) := by rw [ew_4]; exact (gu_n (Ne.symm haE)).trans f_3
    refine lv_null hx hb dJ3_fastRemove_41 ?_
    refine gx_aastN C h 5 rfl f_6 (xs.length - 1) (rfl) (by omega) dJ3_fastRemove_42 (fun H locs h => ?_)
    obtain ⟨w_7, ew_7⟩ : ∃ z : GW, z = gu w_4 E (eO g 10 (va_up f (xs.length - 1) none)) := ⟨_, rfl⟩
    have h : SH g w_7 v s H locs := by rw [ew_7]; exact h
    have f_8 : w_7 a = some (ob 6 [.int (mc + (nI 1)), .ref E, .int (nI (xs.length - 1))]) := by rw [ew_7]; exact (gu_n haE).trans f_5
    have f_9 : w_7 E = some (eO g 10 (va_up f (xs.length - 1) none)) := by rw [ew_7]; exact gu_s
    exact gr_v C h (⟨_, _, hA.rm hi (by rw [ew_7]; exact (gu_n haE).trans (by rw [ew_4]; exact gu_s)) (by rw [ew_7, gu_s]; unfold rmF; rw [if_neg (by omega)]), fun b b1 b2 => by rw [ew_7, gu_n b2, ew_4, gu_n b1, ew_1, gu_n b1]⟩) (Nat.le_of_ble_eq_true rfl) (Nat.le_of_ble_eq_true rfl) dJ3_fastRemove_43
  · skip
    have c1 : ¬ ((xs.length - 1) ≤ i) := fun q => c1 ((nI_leI (by omega) (by omega)).mpr q)
    refine lv_aload_n hx hb dJ3_fastRemove_22 rfl (lv_at hl 2 rfl) ?_
    refine lv_iload_n hx hb dJ3_fastRemove_23 rfl (lv_at hl 3 rfl) ?_
    refine lv_iconst (v := nI 1) hx hb dJ3_fastRemove_24 (by decide) ?_
    refine gn_iadd hx hb dJ3_fastRemove_25 ?_
    refine lv_aload_n hx hb dJ3_fastRemove_26 rfl (lv_at hl 2 rfl) ?_
    refine lv_iload_n hx hb dJ3_fastRemove_27 rfl (lv_at hl 3 rfl) ?_
    refine lv_iload_n hx hb dJ3_fastRemove_28 rfl (lv_at hl 0 rfl) ?_
    refine lv_iload_n hx hb dJ3_fastRemove_29 rfl (lv_at hl 3 rfl) ?_
    refine gn_isub hx hb dJ3_fastRemove_30 (by omega) ?_
    have hel2 : ∀ k y : Nat, k < xs.length - 1 - i → f (i + 1 + k) = some y → ∃ fs, w_1 y = some (.inr (ci, fs)) := by
      intro k y hk hy
      have hx_ : xs[i + 1 + k]? = some (xs[i + 1 + k]'(by omega)) := List.getElem?_eq_getElem (by omega)
      have := hn2 _ _ hx_
      rw [hy] at this
      cases this
      obtain ⟨fs, hfs⟩ := hel (xs[i + 1 + k]'(by omega)) (List.getElem_mem (by omega))
      exact ⟨fs, by rw [ew_1, gu_n (g_ne hfs h0 (by intro q; injection q with q; injection q with q; exact hci q))]; exact hfs⟩
    refine gx_copyO C h hl.1 q629 (ci := ci) (r := rc) hc hca f_3 f_3 (i + 1) i ((xs.length - 1) - i) (by omega) (by omega) (by omega) (hel2) (Nat.le_of_ble_eq_true rfl) (Nat.le_of_ble_eq_true rfl) dJ3_fastRemove_31 (fun H locs h => ?_)
    obtain ⟨w_10, ew_10⟩ : ∃ z : GW, z = gu w_1 E (eO g 10 (va_cpy f f (i + 1) i ((xs.length - 1) - i))) := ⟨_, rfl⟩
    have h : SH g w_10 v s H locs := by rw [ew_10]; exact h
    have f_11 : w_10 a = some (ob 6 [.int (mc + (nI 1)), .ref E, .int (nI xs.length)]) := by rw [ew_10]; exact (gu_n haE).trans f_2
    have f_12 : w_10 E = some (eO g 10 (va_cpy f f (i + 1) i ((xs.length - 1) - i))) := by rw [ew_10]; exact gu_s
    refine lv_aload_n hx hb dJ3_fastRemove_34 rfl (lv_at hl 2 rfl) ?_
    refine lv_aload_n hx hb dJ3_fastRemove_35 rfl (lv_at hl 1 rfl) ?_
    refine lv_iload_n hx hb dJ3_fastRemove_36 rfl (lv_at hl 0 rfl) ?_
    refine lv_dup_x1 hx hb dJ3_fastRemove_37 rfl rfl ?_
    refine gx_put C h f_11 (Cn := RJ3) (T := TJ3) (N := 3) (x := .int (nI (xs.length - 1))) rfl in_J3 tyJ3 tyJ3_ok nmJ3 2 (by decide) q118 rfl rfl rfl rfl (Nat.le_of_ble_eq_true rfl) dJ3_fastRemove_38 (fun H locs h => ?_)
    obtain ⟨w_13, ew_13⟩ : ∃ z : GW, z = gu w_10 a (ob 6 [.int (mc + (nI 1)), .ref E, .int (nI (xs.length - 1))]) := ⟨_, rfl⟩
    have h : SH g w_13 v s H locs := by rw [ew_13]; exact h
    have f_14 : w_13 a = some (ob 6 [.int (mc + (nI 1)), .ref E, .int (nI (xs.length - 1))]) := by rw [ew_13]; exact gu_s
    have f_15 : w_13 E = some (eO g 10 (va_cpy f f (i + 1) i ((xs.length - 1) - i))) := by rw [ew_13]; exact (gu_n (Ne.symm haE)).trans f_12
    refine lv_null hx hb dJ3_fastRemove_41 ?_
    refine gx_aastN C h 5 rfl f_15 (xs.length - 1) (rfl) (by omega) dJ3_fastRemove_42 (fun H locs h => ?_)
    obtain ⟨w_16, ew_16⟩ : ∃ z : GW, z = gu w_13 E (eO g 10 (va_up (va_cpy f f (i + 1) i ((xs.length - 1) - i)) (xs.length - 1) none)) := ⟨_, rfl⟩
    have h : SH g w_16 v s H locs := by rw [ew_16]; exact h
    have f_17 : w_16 a = some (ob 6 [.int (mc + (nI 1)), .ref E, .int (nI (xs.length - 1))]) := by rw [ew_16]; exact (gu_n haE).trans f_14
    have f_18 : w_16 E = some (eO g 10 (va_up (va_cpy f f (i + 1) i ((xs.length - 1) - i)) (xs.length - 1) none)) := by rw [ew_16]; exact gu_s
    exact gr_v C h (⟨_, _, hA.rm hi (by rw [ew_16]; exact (gu_n haE).trans (by rw [ew_13]; exact gu_s)) (by rw [ew_16, gu_s]; unfold rmF; rw [if_pos (by omega)]), fun b b1 b2 => by rw [ew_16, gu_n b2, ew_13, gu_n b1, ew_10, gu_n b2, ew_1, gu_n b1]⟩) (Nat.le_of_ble_eq_true rfl) (Nat.le_of_ble_eq_true rfl) dJ3_fastRemove_43
set_option maxHeartbeats 4000000 in
theorem m_J3_remove (l : Launch) (g : GG) (w v : GW) (a E : Nat) (f : Nat → Option Nat) (mc : Int32) (xs : List Nat) (hA : AL g w a E 10 f mc xs) (i : Nat) (x : Nat) (ci : Nat) (rc : vw_C) (hc : vwCl[ci]? = some rc) (hca : Cond.castable rc.1 "java/lang/Object" ∈ lw_tbl) (hi : i < xs.length) (hel : ∀ y ∈ xs, ∃ fs, w y = some (.inr (ci, fs))) (hci : ci ≠ 6) (hx_ : xs[i]? = some x) : Met l yJ3_remove (ws_ yJ3_remove cJ3_remove 4 (some (.object "java/lang/Object"))) ({ frames := 3, cells := 0, slots := 0, locals := 180 } : Room) (gP g [.ref a, .int (nI i)] w v) (va_Qq (fun (r : Option Nat) (w' : GW) => r = some x ∧ ∃ (f' : Nat → Option Nat) (mc' : Int32), AL g w' a E 10 f' mc' (xs.eraseIdx i) ∧ ∀ b, b ≠ a → b ≠ E → w' b = w b) (gB g v) (gA g)) 0 0 (gA g) := by
  refine gm_of (by decide) (Nat.le_of_ble_eq_true rfl) ?_
  intro p e s m below meth c ls C hnm h hl
  have C : Cx g p s m ([.ref a, .int (nI i)] : List Value).toArray meth c cJ3_remove 4 RJ3 (some (.object "java/lang/Object")) := C
  obtain ⟨hx, hb, hml, hown, hts, hr, hlk, hG⟩ := id C
  have hl : lv_has ls 4 [(0, .ref a), (1, .int (nI i))] := hl
  obtain ⟨h0, hE, hn1, hn2, hn3⟩ := id hA
  have haE : a ≠ E := g_ne h0 hE (by intro q; cases q)
  refine lv_iload_n hx hb dJ3_remove_0 rfl (lv_at hl 1 rfl) ?_
  refine lv_aload_n hx hb dJ3_remove_1 rfl (lv_at hl 0 rfl) ?_
  refine gx_get C h h0 (Cn := RJ3) (T := TJ3) (N := 3) rfl in_J3 2 (by decide) q118 rfl rfl dJ3_remove_2 ?_
  refine gc_i (va_runS (As := [.int (nI i), .int (nI xs.length)]) (rest := []) C.fix (m_J18_checkIndex l g w v i xs.length hi (by omega)) (va_cwS 2 hts (lw_S q611 q612 q68 q613) rfl rfl rfl (by decide +kernel) ⟨Nat.le_of_ble_eq_true rfl, Nat.le_of_ble_eq_true rfl⟩) (gp_S C h _) rfl rfl hl.1 rfl (lv_room (Nat.le_of_ble_eq_true rfl)) dJ3_remove_5 ⟨Nat.le_of_ble_eq_true rfl, Nat.le_of_ble_eq_true rfl⟩) h (fun r_1 w_2 H locs hp h => ?_)
  rw [hp] at h
  refine lv_pop hx hb dJ3_remove_8 rfl ?_
  refine lv_aload_n hx hb dJ3_remove_9 rfl (lv_at hl 0 rfl) ?_
  refine gx_get C h h0 (Cn := RJ3) (T := TJ3) (N := 3) rfl in_J3 1 (by decide) q115 rfl rfl dJ3_remove_10 ?_
  refine lv_astore_n (lv' := [(2, .ref E), (0, .ref a), (1, .int (nI i))]) hx hb dJ3_remove_13 rfl hl (by decide) rfl (fun ls hl => ?_)
  refine lv_aload_n hx hb dJ3_remove_14 rfl (lv_at hl 0 rfl) ?_
  refine lv_iload_n hx hb dJ3_remove_15 rfl (lv_at hl 2 rfl) ?_
  refine gx_aald C h 5 rfl hE i (rfl) (by omega) dJ3_remove_16 ?_
  rw [hn2 i x hx_]
  refine lv_astore_n (lv' := [(3, .ref x), (2, .ref E), (0, .ref a), (1, .int (nI i))]) hx hb dJ3_remove_17 rfl hl (by decide) rfl (fun ls hl => ?_)
  refine lv_aload_n hx hb dJ3_remove_18 rfl (lv_at hl 2 rfl) ?_
  refine lv_aload_n hx hb dJ3_remove_19 rfl (lv_at hl 1 rfl) ?_
  refine lv_iload_n hx hb dJ3_remove_20 rfl (lv_at hl 3 rfl) ?_
  refine gc_v (va_runV (As := [.ref E, .int (nI i)]) (rest := []) C.fix (m_J3_fastRemove l g w v a E f mc xs hA i ci rc hc hca hi hel hci) (cwV 2 hts (lw_V q625 q627 qs24 q47 q628) rfl rfl rfl (by decide +kernel) ⟨Nat.le_of_ble_eq_true rfl, Nat.le_of_ble_eq_true rfl⟩) (gp_V C h [.ref E, .int (nI i)] (Cn := RJ3) (T := TJ3) (N := 3) rfl h0) rfl rfl hl.1 rfl (lv_room (Nat.le_of_ble_eq_true rfl)) dJ3_remove_21 ⟨Nat.le_of_ble_eq_true rfl, Nat.le_of_ble_eq_true rfl⟩) h (fun w_4 H locs hp h => ?_)
  refine lv_aload_n hx hb dJ3_remove_24 rfl (lv_at hl 0 rfl) ?_
  exact gr_q C h (x := some x) (ty := (.object "java/lang/Object")) rfl (Or.inl ⟨_, rfl⟩) (⟨rfl, hp⟩) (Nat.le_of_ble_eq_true rfl) (Nat.le_of_ble_eq_true rfl) dJ3_remove_25
set_option maxHeartbeats 4000000 in
theorem m_J9_init (l : Launch) (g : GG) (w v : GW) (q a : Nat) (mc : Int32) (e1 s1 : Value) (hq : w q = some (ob 8 [.int (nI 0), .int (nI 0), .int (nI 0), .null])) (h0 : w a = some (ob 6 [.int mc, e1, s1])) : Met l yJ9_init (ws_ yJ9_init cJ9_init 2 none) ({ frames := 1, cells := 0, slots := 0, locals := 60 } : Room) (gP g [.ref q, .ref a] w v) (va_Qv (fun (w' : GW) => w' = gu w q (ob 8 [.int (nI 0), .int (-1), .int mc, .ref a])) (gB g v) (gA g)) 0 0 (gA g) := by
  refine gm_of (by decide) (Nat.le_of_ble_eq_true rfl) ?_
  intro p e s m below meth c ls C hnm h hl
  have C : Cx g p s m ([.ref q, .ref a] : List Value).toArray meth c cJ9_init 2 RJ9 none := C
  obtain ⟨hx, hb, hml, hown, hts, hr, hlk, hG⟩ := id C
  have hl : lv_has ls 2 [(0, .ref q), (1, .ref a)] := hl
  refine lv_aload_n hx hb dJ9_init_0 rfl (lv_at hl 0 rfl) ?_
  refine lv_aload_n hx hb dJ9_init_1 rfl (lv_at hl 1 rfl) ?_
  refine gx_putF C h hq (Cn := RJ9) (T := TJ9) (N := 4) (x := .ref a) rfl in_J9 tyJ9 tyJ9_ok nmJ9 3 (by decide) q415 rfl rfl hnm rfl rfl (Nat.le_of_ble_eq_true rfl) dJ9_init_2 (fun H locs h => ?_)
  obtain ⟨w_1, ew_1⟩ : ∃ z : GW, z = gu w q (ob 8 [.int (nI 0), .int (nI 0), .int (nI 0), .ref a]) := ⟨_, rfl⟩
  have h : SH g w_1 v s H locs := by rw [ew_1]; exact h
  have f_2 : w_1 q = some (ob 8 [.int (nI 0), .int (nI 0), .int (nI 0), .ref a]) := by rw [ew_1]; exact gu_s
  have f_3 : w_1 a = some (ob 6 [.int mc, e1, s1]) := by rw [ew_1]; exact (gu_n (g_ne h0 hq (by simp))).trans h0
  refine lv_aload_n hx hb dJ9_init_5 rfl (lv_at hl 0 rfl) ?_
  refine W.objInit hx hb hown (hts _ q411) (hts _ q76) (hts _ q77) rfl (by rw [hml]; exact hl.1) rfl dJ9_init_6 (Nat.le_of_ble_eq_true rfl) (Nat.le_of_ble_eq_true rfl) ?_
  refine W.eq (g2 := F0 m 9 ls []) rfl ?_
  refine lv_aload_n hx hb dJ9_init_9 rfl (lv_at hl 0 rfl) ?_
  refine lv_iconst (v := (-1)) hx hb dJ9_init_10 (by decide) ?_
  refine gx_put C h f_2 (Cn := RJ9) (T := TJ9) (N := 4) (x := .int (-1)) rfl in_J9 tyJ9 tyJ9_ok nmJ9 1 (by decide) q413 rfl rfl rfl rfl (Nat.le_of_ble_eq_true rfl) dJ9_init_11 (fun H locs h => ?_)
  obtain ⟨w_4, ew_4⟩ : ∃ z : GW, z = gu w_1 q (ob 8 [.int (nI 0), .int (-1), .int (nI 0), .ref a]) := ⟨_, rfl⟩
  have h : SH g w_4 v s H locs := by rw [ew_4]; exact h
  have f_5 : w_4 q = some (ob 8 [.int (nI 0), .int (-1), .int (nI 0), .ref a]) := by rw [ew_4]; exact gu_s
  have f_6 : w_4 a = some (ob 6 [.int mc, e1, s1]) := by rw [ew_4]; exact (gu_n (g_ne f_3 f_2 (by simp))).trans f_3
  refine lv_aload_n hx hb dJ9_init_14 rfl (lv_at hl 0 rfl) ?_
  refine lv_aload_n hx hb dJ9_init_15 rfl (lv_at hl 0 rfl) ?_
  refine gx_get C h f_5 (Cn := RJ9) (T := TJ9) (N := 4) rfl in_J9 3 (by decide) q415 rfl rfl dJ9_init_16 ?_
  refine gx_getS C h f_6 (Cn := RJ3) (T := TJ3) (N := 3) rfl in_J3 0 (by decide) q120 q121 rfl dJ9_init_19 ?_
  refine gx_put C h f_5 (Cn := RJ9) (T := TJ9) (N := 4) (x := .int mc) rfl in_J9 tyJ9 tyJ9_ok nmJ9 2 (by decide) q414 rfl rfl rfl rfl (Nat.le_of_ble_eq_true rfl) dJ9_init_22 (fun H locs h => ?_)
  obtain ⟨w_7, ew_7⟩ : ∃ z : GW, z = gu w_4 q (ob 8 [.int (nI 0), .int (-1), .int mc, .ref a]) := ⟨_, rfl⟩
  have h : SH g w_7 v s H locs := by rw [ew_7]; exact h
  have f_8 : w_7 q = some (ob 8 [.int (nI 0), .int (-1), .int mc, .ref a]) := by rw [ew_7]; exact gu_s
  have f_9 : w_7 a = some (ob 6 [.int mc, e1, s1]) := by rw [ew_7]; exact (gu_n (g_ne f_6 f_5 (by simp))).trans f_6
  exact gr_v C h (by rw [ew_7, ew_4, ew_1, gu_gu, gu_gu]) (Nat.le_of_ble_eq_true rfl) (Nat.le_of_ble_eq_true rfl) dJ9_init_25
set_option maxHeartbeats 4000000 in
theorem m_J3_iterator (l : Launch) (g : GG) (w v : GW) (a : Nat) (mc : Int32) (e1 s1 : Value) (h0 : w a = some (ob 6 [.int mc, e1, s1])) : Met l yJ3_iterator (ws_ yJ3_iterator cJ3_iterator 1 (some (.object "java/util/Iterator"))) ({ frames := 2, cells := 1, slots := 4, locals := 120 } : Room) (gP g [.ref a] w v) (va_Qq (fun (r : Option Nat) (w' : GW) => ∃ q : Nat, r = some q ∧ w q = none ∧ v q = none ∧ w' = gu w q (ob 8 [.int (nI 0), .int (-1), .int mc, .ref a])) (gB g v) (gA g)) 1 4 (gA g) := by
  refine gm_of (by decide) (Nat.le_of_ble_eq_true rfl) ?_
  intro p e s m below meth c ls C hnm h hl
  have C : Cx g p s m ([.ref a] : List Value).toArray meth c cJ3_iterator 1 RJ3 (some (.object "java/util/Iterator")) := C
  obtain ⟨hx, hb, hml, hown, hts, hr, hlk, hG⟩ := id C
  have hl : lv_has ls 1 [(0, .ref a)] := hl
  refine gx_new C h (ci := 8) (fs := [.int (nI 0), .int (nI 0), .int (nI 0), .null]) (Cn := RJ9) (T := TJ9) (N := 4) rfl in_J9 tyJ9 tyJ9_ok q406 q407 q58 (fun j hj => by rcases (show j = 0 ∨ j = 1 ∨ j = 2 ∨ j = 3 by omega) with rfl | rfl | rfl | rfl <;> rfl) (Nat.le_of_ble_eq_true rfl) (Nat.le_of_ble_eq_true rfl) dJ3_iterator_0 (fun q H hn_1 hn_1v h => ?_)
  obtain ⟨w_2, ew_2⟩ : ∃ z : GW, z = gu w q (ob 8 [.int (nI 0), .int (nI 0), .int (nI 0), .null]) := ⟨_, rfl⟩
  have h : SH g w_2 v s H [] := by rw [ew_2]; exact h
  have f_3 : w_2 a = some (ob 6 [.int mc, e1, s1]) := by rw [ew_2]; exact (gu_n (g_neN h0 hn_1)).trans h0
  have f_4 : w_2 q = some (ob 8 [.int (nI 0), .int (nI 0), .int (nI 0), .null]) := by rw [ew_2]; exact gu_s
  refine lv_dup hx hb dJ3_iterator_3 rfl ?_
  refine lv_aload_n hx hb dJ3_iterator_4 rfl (lv_at hl 0 rfl) ?_
  refine gc_v (va_runI (As := [.ref a]) (rest := [.ref q]) C.fix (m_J9_init l g w_2 v q a mc e1 s1 f_4 f_3) (cwI 1 hts (lw_meth q410) rfl rfl rfl (hts _ q58) (hts _ q408) (hts _ q409) rfl (by decide +kernel) ⟨Nat.le_of_ble_eq_true rfl, Nat.le_of_ble_eq_true rfl⟩) (gp_S C h _) rfl rfl hl.1 rfl (lv_room (Nat.le_of_ble_eq_true rfl)) dJ3_iterator_5 ⟨Nat.le_of_ble_eq_true rfl, Nat.le_of_ble_eq_true rfl⟩) h (fun w_6 H locs hp h => ?_)
  exact gr_q C h (x := some q) (ty := (.object "java/util/Iterator")) rfl (Or.inl ⟨_, rfl⟩) (⟨q, rfl, hn_1, hn_1v, by rw [hp, ew_2, gu_gu]⟩) (Nat.le_of_ble_eq_true rfl) (Nat.le_of_ble_eq_true rfl) dJ3_iterator_8
set_option maxHeartbeats 4000000 in
theorem m_J9_hasNext (l : Launch) (g : GG) (w v : GW) (q a cu len : Nat) (lr mc : Int32) (E n : Nat) (hq : w q = some (ob 8 [.int (nI cu), .int lr, .int mc, .ref a])) (h0 : w a = some (ob 6 [.int mc, .ref E, .int (nI len)])) (hb_ : cu ≤ len ∧ len ≤ 200) : Met l yJ9_hasNext (ws_ yJ9_hasNext cJ9_hasNext 1 (some .boolean)) ({ frames := 1, cells := 0, slots := 0, locals := 60 } : Room) (gP g [.ref q] w v) (va_Qi (fun (r : Int32) (w' : GW) => r = bI (decide (cu < len)) ∧ w' = w) (gB g v) (gA g)) 0 0 (gA g) := by
  refine gm_of (by decide) (Nat.le_of_ble_eq_true rfl) ?_
  intro p e s m below meth c ls C hnm h hl
  have C : Cx g p s m ([.ref q] : List Value).toArray meth c cJ9_hasNext 1 RJ9 (some .boolean) := C
  obtain ⟨hx, hb, hml, hown, hts, hr, hlk, hG⟩ := id C
  have hl : lv_has ls 1 [(0, .ref q)] := hl
  refine lv_aload_n hx hb dJ9_hasNext_0 rfl (lv_at hl 0 rfl) ?_
  refine gx_get C h hq (Cn := RJ9) (T := TJ9) (N := 4) rfl in_J9 0 (by decide) q412 rfl rfl dJ9_hasNext_1 ?_
  refine lv_aload_n hx hb dJ9_hasNext_4 rfl (lv_at hl 0 rfl) ?_
  refine gx_get C h hq (Cn := RJ9) (T := TJ9) (N := 4) rfl in_J9 3 (by decide) q415 rfl rfl dJ9_hasNext_5 ?_
  refine gx_getN C h h0 (Cn := RJ3) (T := TJ3) (N := 3) rfl in_J3 2 (by decide) q117 rfl rfl dJ9_hasNext_8 ?_
  refine lv_icmp_eq (tgt := 18) hx hb dJ9_hasNext_11 (by decide) (fun c1 => ?_) (fun c1 => ?_)
  · skip
    have c1 : cu = len := (nI_eq (by omega) (by omega)).mp c1
    refine lv_iconst (v := bI false) hx hb dJ9_hasNext_18 (by decide) ?_
    exact gr_i C h (ty := .boolean) rfl (bI_n _) (⟨by rw [decide_eq_false (by omega)], rfl⟩) (Nat.le_of_ble_eq_true rfl) (Nat.le_of_ble_eq_true rfl) dJ9_hasNext_19
  · skip
    have c1 : ¬ (cu = len) := fun q => c1 ((nI_eq (by omega) (by omega)).mpr q)
    refine lv_iconst (v := bI true) hx hb dJ9_hasNext_14 (by decide) ?_
    refine lv_goto (tgt := 19) hx hb dJ9_hasNext_15 (by decide) ?_
    exact gr_i C h (ty := .boolean) rfl (bI_n _) (⟨by rw [decide_eq_true (by omega)], rfl⟩) (Nat.le_of_ble_eq_true rfl) (Nat.le_of_ble_eq_true rfl) dJ9_hasNext_19
set_option maxHeartbeats 4000000 in
theorem m_J9_checkForComodification (l : Launch) (g : GG) (w v : GW) (q a cu len : Nat) (lr mc : Int32) (E n : Nat) (hq : w q = some (ob 8 [.int (nI cu), .int lr, .int mc, .ref a])) (h0 : w a = some (ob 6 [.int mc, .ref E, .int (nI len)])) (hb_ : cu ≤ len ∧ len ≤ 200) : Met l yJ9_checkForComodification (ws_ yJ9_checkForComodification cJ9_checkForComodification 1 none) ({ frames := 1, cells := 0, slots := 0, locals := 60 } : Room) (gP g [.ref q] w v) (va_Qv (fun (w' : GW) => w' = w) (gB g v) (gA g)) 0 0 (gA g) := by
  refine gm_of (by decide) (Nat.le_of_ble_eq_true rfl) ?_
  intro p e s m below meth c ls C hnm h hl
  have C : Cx g p s m ([.ref q] : List Value).toArray meth c cJ9_checkForComodification 1 RJ9 none := C
  obtain ⟨hx, hb, hml, hown, hts, hr, hlk, hG⟩ := id C
  have hl : lv_has ls 1 [(0, .ref q)] := hl
  refine lv_aload_n hx hb dJ9_checkForComodification_0 rfl (lv_at hl 0 rfl) ?_
  refine gx_get C h hq (Cn := RJ9) (T := TJ9) (N := 4) rfl in_J9 3 (by decide) q415 rfl rfl dJ9_checkForComodification_1 ?_
  refine gx_getS C h h0 (Cn := RJ3) (T := TJ3) (N := 3) rfl in_J3 0 (by decide) q120 q121 rfl dJ9_checkForComodification_4 ?_
  refine lv_aload_n hx hb dJ9_checkForComodification_7 rfl (lv_at hl 0 rfl) ?_
  refine gx_get C h hq (Cn := RJ9) (T := TJ9) (N := 4) rfl in_J9 2 (by decide) q414 rfl rfl dJ9_checkForComodification_8 ?_
  refine lv_icmp_eq (tgt := 22) hx hb dJ9_checkForComodification_11 (by decide) (fun c1 => ?_) (fun c1 => ?_)
  · skip
    exact gr_v C h (rfl) (Nat.le_of_ble_eq_true rfl) (Nat.le_of_ble_eq_true rfl) dJ9_checkForComodification_22
  · skip
    exact absurd rfl c1
set_option maxHeartbeats 4000000 in
theorem m_J9_next (l : Launch) (g : GG) (w v : GW) (q a cu len : Nat) (lr mc : Int32) (E n : Nat) (f : Nat → Option Nat) (x : Nat) (hq : w q = some (ob 8 [.int (nI cu), .int lr, .int mc, .ref a])) (h0 : w a = some (ob 6 [.int mc, .ref E, .int (nI len)])) (hb_ : cu ≤ len ∧ len ≤ 200) (hE : w E = some (eO g n f)) (hlt : cu < len ∧ len ≤ n ∧ n ≤ 200) (hx_ : f cu = some x) : Met l yJ9_next (ws_ yJ9_next cJ9_next 3 (some (.object "java/lang/Object"))) ({ frames := 2, cells := 0, slots := 0, locals := 120 } : Room) (gP g [.ref q] w v) (va_Qq (fun (r : Option Nat) (w' : GW) => r = some x ∧ w' = gu w q (ob 8 [.int (nI (cu + 1)), .int (nI cu), .int mc, .ref a])) (gB g v) (gA g)) 0 0 (gA g) := by
  refine gm_of (by decide) (Nat.le_of_ble_eq_true rfl) ?_
  intro p e s m below meth c ls C hnm h hl
  have C : Cx g p s m ([.ref q] : List Value).toArray meth c cJ9_next 3 RJ9 (some (.object "java/lang/Object")) := C
  obtain ⟨hx, hb, hml, hown, hts, hr, hlk, hG⟩ := id C
  have hl : lv_has ls 3 [(0, .ref q)] := hl
  refine lv_aload_n hx hb dJ9_next_0 rfl (lv_at hl 0 rfl) ?_
  refine gc_v (va_runV (As := []) (rest := []) C.fix (m_J9_checkForComodification l g w v q a cu len lr mc E n hq h0 hb_) (cwV 0 hts (lw_V q326 q327 q328 q58 q329) rfl rfl rfl (by decide +kernel) ⟨Nat.le_of_ble_eq_true rfl, Nat.le_of_ble_eq_true rfl⟩) (gp_V C h [] (Cn := RJ9) (T := TJ9) (N := 4) rfl hq) rfl rfl hl.1 rfl (lv_room (Nat.le_of_ble_eq_true rfl)) dJ9_next_1 ⟨Nat.le_of_ble_eq_true rfl, Nat.le_of_ble_eq_true rfl⟩) h (fun w_2 H locs hp h => ?_)
  rw [hp] at h
  refine lv_aload_n hx hb dJ9_next_4 rfl (lv_at hl 0 rfl) ?_
  refine gx_get C h hq (Cn := RJ9) (T := TJ9) (N := 4) rfl in_J9 0 (by decide) q412 rfl rfl dJ9_next_5 ?_
  refine lv_istore_n (lv' := [(1, .int (nI cu)), (0, .ref q)]) hx hb dJ9_next_8 rfl hl (by decide) rfl (fun ls hl => ?_)
  refine lv_iload_n hx hb dJ9_next_9 rfl (lv_at hl 0 rfl) ?_
  refine lv_aload_n hx hb dJ9_next_10 rfl (lv_at hl 1 rfl) ?_
  refine gx_get C h hq (Cn := RJ9) (T := TJ9) (N := 4) rfl in_J9 3 (by decide) q415 rfl rfl dJ9_next_11 ?_
  refine gx_getN C h h0 (Cn := RJ3) (T := TJ3) (N := 3) rfl in_J3 2 (by decide) q117 rfl rfl dJ9_next_14 ?_
  refine lv_icmp_lt (tgt := 28) hx hb dJ9_next_17 (by decide) (fun c1 => ?_) (fun c1 => ?_)
  · skip
    have c1 : cu < len := (nI_ltI (by omega) (by omega)).mp c1
    refine lv_aload_n hx hb dJ9_next_28 rfl (lv_at hl 1 rfl) ?_
    refine gx_get C h hq (Cn := RJ9) (T := TJ9) (N := 4) rfl in_J9 3 (by decide) q415 rfl rfl dJ9_next_29 ?_
    refine gx_get C h h0 (Cn := RJ3) (T := TJ3) (N := 3) rfl in_J3 1 (by decide) q116 rfl rfl dJ9_next_32 ?_
    refine lv_astore_n (lv' := [(2, .ref E), (1, .int (nI cu)), (0, .ref q)]) hx hb dJ9_next_35 rfl hl (by decide) rfl (fun ls hl => ?_)
    refine lv_iload_n hx hb dJ9_next_36 rfl (lv_at hl 1 rfl) ?_
    refine lv_aload_n hx hb dJ9_next_37 rfl (lv_at hl 0 rfl) ?_
    refine gx_alen C h (t := 5) rfl hE dJ9_next_38 ?_
    refine lv_icmp_lt (tgt := 50) hx hb dJ9_next_39 (by decide) (fun c2 => ?_) (fun c2 => ?_)
    · skip
      have c2 : cu < n := (nI_ltI (by omega) (by omega)).mp c2
      refine lv_aload_n hx hb dJ9_next_50 rfl (lv_at hl 2 rfl) ?_
      refine lv_iload_n hx hb dJ9_next_51 rfl (lv_at hl 1 rfl) ?_
      refine lv_iconst (v := nI 1) hx hb dJ9_next_52 (by decide) ?_
      refine gn_iadd hx hb dJ9_next_53 ?_
      refine gx_put C h hq (Cn := RJ9) (T := TJ9) (N := 4) (x := .int (nI (cu + 1))) rfl in_J9 tyJ9 tyJ9_ok nmJ9 0 (by decide) q412 rfl rfl rfl rfl (Nat.le_of_ble_eq_true rfl) dJ9_next_54 (fun H locs h => ?_)
      obtain ⟨w_3, ew_3⟩ : ∃ z : GW, z = gu w q (ob 8 [.int (nI (cu + 1)), .int lr, .int mc, .ref a]) := ⟨_, rfl⟩
      have h : SH g w_3 v s H locs := by rw [ew_3]; exact h
      have f_4 : w_3 q = some (ob 8 [.int (nI (cu + 1)), .int lr, .int mc, .ref a]) := by rw [ew_3]; exact gu_s
      have f_5 : w_3 a = some (ob 6 [.int mc, .ref E, .int (nI len)]) := by rw [ew_3]; exact (gu_n (g_ne h0 hq (by simp))).trans h0
      have f_6 : w_3 E = some (eO g n f) := by rw [ew_3]; exact (gu_n (g_ne hE hq (by simp))).trans hE
      refine lv_aload_n hx hb dJ9_next_57 rfl (lv_at hl 0 rfl) ?_
      refine lv_aload_n hx hb dJ9_next_58 rfl (lv_at hl 2 rfl) ?_
      refine lv_iload_n hx hb dJ9_next_59 rfl (lv_at hl 1 rfl) ?_
      refine lv_dup_x1 hx hb dJ9_next_60 rfl rfl ?_
      refine gx_put C h f_4 (Cn := RJ9) (T := TJ9) (N := 4) (x := .int (nI cu)) rfl in_J9 tyJ9 tyJ9_ok nmJ9 1 (by decide) q413 rfl rfl rfl rfl (Nat.le_of_ble_eq_true rfl) dJ9_next_61 (fun H locs h => ?_)
      obtain ⟨w_7, ew_7⟩ : ∃ z : GW, z = gu w_3 q (ob 8 [.int (nI (cu + 1)), .int (nI cu), .int mc, .ref a]) := ⟨_, rfl⟩
      have h : SH g w_7 v s H locs := by rw [ew_7]; exact h
      have f_8 : w_7 q = some (ob 8 [.int (nI (cu + 1)), .int (nI cu), .int mc, .ref a]) := by rw [ew_7]; exact gu_s
      have f_9 : w_7 a = some (ob 6 [.int mc, .ref E, .int (nI len)]) := by rw [ew_7]; exact (gu_n (g_ne f_5 f_4 (by simp))).trans f_5
      have f_10 : w_7 E = some (eO g n f) := by rw [ew_7]; exact (gu_n (g_ne f_6 f_4 (by simp))).trans f_6
      refine gx_aald C h 5 rfl f_10 cu (rfl) (by omega) dJ9_next_64 ?_
      rw [hx_]
      exact gr_q C h (x := some x) (ty := (.object "java/lang/Object")) rfl (Or.inl ⟨_, rfl⟩) (⟨rfl, by rw [ew_7, ew_3, gu_gu]⟩) (Nat.le_of_ble_eq_true rfl) (Nat.le_of_ble_eq_true rfl) dJ9_next_65
    · skip
      have c2 : ¬ (cu < n) := fun q => c2 ((nI_ltI (by omega) (by omega)).mpr q)
      omega
  · skip
    have c1 : ¬ (cu < len) := fun q => c1 ((nI_ltI (by omega) (by omega)).mpr q)
    omega
