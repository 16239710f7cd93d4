set_option maxRecDepth 100000
set_option maxHeartbeats 4000000 in
theorem m_J1_elementAt (l : Launch) (g : GG) (w v : GW) (E n : Nat) (f : Nat → Option Nat) (i : Nat) (hE : w E = some (eO g n f)) (hi : i < n) (hn : n ≤ 200) : Met l yJ1_elementAt (ws_ yJ1_elementAt cJ1_elementAt 2 (some (.object "java/lang/Object"))) ({ frames := 1, cells := 0, slots := 0, locals := 60 } : Room) (gP g [.ref E, .int (nI i)] w v) (va_Qq (fun (r : Option Nat) (w' : GW) => r = f i ∧ w' = w) (gB g v) (gA g)) 0 0 (gA g) := by
  refine gm_of (by decide) (Nat.le_of_ble_eq_true rfl) ?_
  intro p e s m below meth c ls C hnm h hl
  have C : Cx g p s m ([.ref E, .int (nI i)] : List Value).toArray meth c cJ1_elementAt 2 RJ1 (some (.object "java/lang/Object")) := C
  obtain ⟨hx, hb, hml, hown, hts, hr, hlk, hG⟩ := id C
  have hl : lv_has ls 2 [(0, .ref E), (1, .int (nI i))] := hl
  refine lv_aload_n hx hb dJ1_elementAt_0 rfl (lv_at hl 0 rfl) ?_
  refine lv_iload_n hx hb dJ1_elementAt_1 rfl (lv_at hl 1 rfl) ?_
  refine gx_aald C h 5 rfl hE i (rfl) (by omega) dJ1_elementAt_2 ?_
  exact gr_q C h (x := f i) (ty := (.object "java/lang/Object")) rfl (Or.inl ⟨_, rfl⟩) (⟨rfl, rfl⟩) (Nat.le_of_ble_eq_true rfl) (Nat.le_of_ble_eq_true rfl) dJ1_elementAt_3
set_option maxHeartbeats 4000000 in
theorem m_J1_nonNullElementAt (l : Launch) (g : GG) (w v : GW) (E n : Nat) (f : Nat → Option Nat) (i x : Nat) (hE : w E = some (eO g n f)) (hi : i < n) (hn : n ≤ 200) (hx_ : f i = some x) : Met l yJ1_nonNullElementAt (ws_ yJ1_nonNullElementAt cJ1_nonNullElementAt 3 (some (.object "java/lang/Object"))) ({ frames := 1, cells := 0, slots := 0, locals := 60 } : Room) (gP g [.ref E, .int (nI i)] w v) (va_Qq (fun (r : Option Nat) (w' : GW) => r = some x ∧ w' = w) (gB g v) (gA g)) 0 0 (gA g) := by
  refine gm_of (by decide) (Nat.le_of_ble_eq_true rfl) ?_
  intro p e s m below meth c ls C hnm h hl
  have C : Cx g p s m ([.ref E, .int (nI i)] : List Value).toArray meth c cJ1_nonNullElementAt 3 RJ1 (some (.object "java/lang/Object")) := C
  obtain ⟨hx, hb, hml, hown, hts, hr, hlk, hG⟩ := id C
  have hl : lv_has ls 3 [(0, .ref E), (1, .int (nI i))] := hl
  refine lv_aload_n hx hb dJ1_nonNullElementAt_0 rfl (lv_at hl 0 rfl) ?_
  refine lv_iload_n hx hb dJ1_nonNullElementAt_1 rfl (lv_at hl 1 rfl) ?_
  refine gx_aald C h 5 rfl hE i (rfl) (by omega) dJ1_nonNullElementAt_2 ?_
  rw [hx_]
  refine lv_astore_n (lv' := [(2, .ref x), (0, .ref E), (1, .int (nI i))]) hx hb dJ1_nonNullElementAt_3 rfl hl (by decide) rfl (fun ls hl => ?_)
  refine lv_aload_n hx hb dJ1_nonNullElementAt_4 rfl (lv_at hl 0 rfl) ?_
  refine lv_ifnonnull (tgt := 16) hx hb dJ1_nonNullElementAt_5 (by decide) ?_
  refine lv_aload_n hx hb dJ1_nonNullElementAt_16 rfl (lv_at hl 0 rfl) ?_
  exact gr_q C h (x := some x) (ty := (.object "java/lang/Object")) rfl (Or.inl ⟨_, rfl⟩) (⟨rfl, rfl⟩) (Nat.le_of_ble_eq_true rfl) (Nat.le_of_ble_eq_true rfl) dJ1_nonNullElementAt_17
set_option maxHeartbeats 4000000 in
theorem m_J1_size (l : Launch) (g : GG) (w v : GW) (a E n : Nat) (f : Nat → Option Nat) (hd : Nat) (xs : List Nat) (hD : DQ g w a E n f hd xs)  : Met l yJ1_size (ws_ yJ1_size cJ1_size 1 (some .int)) ({ frames := 2, cells := 0, slots := 0, locals := 120 } : Room) (gP g [.ref a] w v) (va_Qi (fun (r : Int32) (w' : GW) => r = nI xs.length ∧ w' = w) (gB g v) (gA g)) 0 0 (gA g) := by
  refine gm_of (by decide) (Nat.le_of_ble_eq_true rfl) ?_
  intro p e s m below meth c ls C hnm h hl
  have C : Cx g p s m ([.ref a] : List Value).toArray meth c cJ1_size 1 RJ1 (some .int) := C
  obtain ⟨hx, hb, hml, hown, hts, hr, hlk, hG⟩ := id C
  have hl : lv_has ls 1 [(0, .ref a)] := hl
  obtain ⟨h0, hE, hd1, hd2, hd3, hd4⟩ := id hD
  have htl : wr n (hd + xs.length) < n := wr_lt (by omega)
  refine lv_aload_n hx hb dJ1_size_0 rfl (lv_at hl 0 rfl) ?_
  refine gx_get C h h0 (Cn := RJ1) (T := TJ1) (N := 3) rfl in_J1 2 (by decide) q95 rfl rfl dJ1_size_1 ?_
  refine lv_aload_n hx hb dJ1_size_4 rfl (lv_at hl 0 rfl) ?_
  refine gx_get C h h0 (Cn := RJ1) (T := TJ1) (N := 3) rfl in_J1 1 (by decide) q94 rfl rfl dJ1_size_5 ?_
  refine lv_aload_n hx hb dJ1_size_8 rfl (lv_at hl 0 rfl) ?_
  refine gx_get C h h0 (Cn := RJ1) (T := TJ1) (N := 3) rfl in_J1 0 (by decide) q91 rfl rfl dJ1_size_9 ?_
  refine gx_alen C h (t := 5) rfl hE dJ1_size_12 ?_
  refine gc_i (va_runS (As := [.int (nI (wr n (hd + xs.length))), .int (nI hd), .int (nI n)]) (rest := []) C.fix (m_J1_sub l g w v (wr n (hd + xs.length)) hd n htl hd1 hd3) (va_cwS 3 hts (lw_S q276 q277 q45 q278) rfl rfl rfl (by decide +kernel) ⟨Nat.le_of_ble_eq_true rfl, Nat.le_of_ble_eq_true rfl⟩) (gp_S C h _) rfl rfl hl.1 rfl (lv_room (Nat.le_of_ble_eq_true rfl)) dJ1_size_13 ⟨Nat.le_of_ble_eq_true rfl, Nat.le_of_ble_eq_true rfl⟩) h (fun r_1 w_2 H locs hp h => ?_)
  obtain ⟨er_r_1, ew_r_1⟩ := hp
  rw [er_r_1]
  rw [ew_r_1] at h
  rw [hD.size_eq]
  exact gr_i C h (ty := .int) rfl (rfl) (⟨rfl, rfl⟩) (Nat.le_of_ble_eq_true rfl) (Nat.le_of_ble_eq_true rfl) dJ1_size_16
set_option maxHeartbeats 4000000 in
theorem m_J1_isEmpty (l : Launch) (g : GG) (w v : GW) (a E n : Nat) (f : Nat → Option Nat) (hd : Nat) (xs : List Nat) (hD : DQ g w a E n f hd xs)  : Met l yJ1_isEmpty (ws_ yJ1_isEmpty cJ1_isEmpty 1 (some .boolean)) ({ frames := 1, cells := 0, slots := 0, locals := 60 } : Room) (gP g [.ref a] w v) (va_Qi (fun (r : Int32) (w' : GW) => r = bI (decide (xs = [])) ∧ w' = w) (gB g v) (gA g)) 0 0 (gA g) := by
  refine gm_of (by decide) (Nat.le_of_ble_eq_true rfl) ?_
  intro p e s m below meth c ls C hnm h hl
  have C : Cx g p s m ([.ref a] : List Value).toArray meth c cJ1_isEmpty 1 RJ1 (some .boolean) := C
  obtain ⟨hx, hb, hml, hown, hts, hr, hlk, hG⟩ := id C
  have hl : lv_has ls 1 [(0, .ref a)] := hl
  obtain ⟨h0, hE, hd1, hd2, hd3, hd4⟩ := id hD
  have htl : wr n (hd + xs.length) < n := wr_lt (by omega)
  refine lv_aload_n hx hb dJ1_isEmpty_0 rfl (lv_at hl 0 rfl) ?_
  refine gx_get C h h0 (Cn := RJ1) (T := TJ1) (N := 3) rfl in_J1 1 (by decide) q94 rfl rfl dJ1_isEmpty_1 ?_
  refine lv_aload_n hx hb dJ1_isEmpty_4 rfl (lv_at hl 0 rfl) ?_
  refine gx_get C h h0 (Cn := RJ1) (T := TJ1) (N := 3) rfl in_J1 2 (by decide) q95 rfl rfl dJ1_isEmpty_5 ?_
  refine lv_icmp_ne (tgt := 15) hx hb dJ1_isEmpty_8 (by decide) (fun c1 => ?_) (fun c1 => ?_)
  · skip
    have c1 : ¬ (hd = (wr n (hd + xs.length))) := fun q => c1 ((nI_eq (by omega) (by omega)).mpr q)
    refine lv_iconst (v := bI false) hx hb dJ1_isEmpty_15 (by decide) ?_
    exact gr_i C h (ty := .boolean) rfl (bI_n _) (⟨by rw [decide_eq_false (fun q => c1 (by rw [q]; simp only [List.length_nil, Nat.add_zero]; unfold wr; rw [if_pos hd1]))], rfl⟩) (Nat.le_of_ble_eq_true rfl) (Nat.le_of_ble_eq_true rfl) dJ1_isEmpty_16
  · skip
    have c1 : hd = (wr n (hd + xs.length)) := (nI_eq (by omega) (by omega)).mp c1
    refine lv_iconst (v := bI true) hx hb dJ1_isEmpty_11 (by decide) ?_
    refine lv_goto (tgt := 16) hx hb dJ1_isEmpty_12 (by decide) ?_
    have hnil : xs = [] := List.eq_nil_of_length_eq_zero (by unfold wr at c1; split at c1 <;> omega)
    exact gr_i C h (ty := .boolean) rfl (bI_n _) (⟨by rw [decide_eq_true hnil], rfl⟩) (Nat.le_of_ble_eq_true rfl) (Nat.le_of_ble_eq_true rfl) dJ1_isEmpty_16
set_option maxHeartbeats 4000000 in
theorem m_J1_peekLast (l : Launch) (g : GG) (w v : GW) (a E n : Nat) (f : Nat → Option Nat) (hd : Nat) (xs : List Nat) (hD : DQ g w a E n f hd xs) (x : Nat) (hx_ : xs[xs.length - 1]? = some x) : Met l yJ1_peekLast (ws_ yJ1_peekLast cJ1_peekLast 2 (some (.object "java/lang/Object"))) ({ frames := 2, cells := 0, slots := 0, locals := 120 } : Room) (gP g [.ref a] w v) (va_Qq (fun (r : Option Nat) (w' : GW) => r = some x ∧ w' = w) (gB g v) (gA g)) 0 0 (gA g) := by
  refine gm_of (by decide) (Nat.le_of_ble_eq_true rfl) ?_
  intro p e s m below meth c ls C hnm h hl
  have C : Cx g p s m ([.ref a] : List Value).toArray meth c cJ1_peekLast 2 RJ1 (some (.object "java/lang/Object")) := C
  obtain ⟨hx, hb, hml, hown, hts, hr, hlk, hG⟩ := id C
  have hl : lv_has ls 2 [(0, .ref a)] := hl
  obtain ⟨h0, hE, hd1, hd2, hd3, hd4⟩ := id hD
  have htl : wr n (hd + xs.length) < n := wr_lt (by omega)
  have hpos : 0 < xs.length := by cases xs with | nil => simp at hx_ | cons y ys => simp
  refine lv_aload_n hx hb dJ1_peekLast_0 rfl (lv_at hl 0 rfl) ?_
  refine gx_get C h h0 (Cn := RJ1) (T := TJ1) (N := 3) rfl in_J1 0 (by decide) q91 rfl rfl dJ1_peekLast_1 ?_
  refine lv_dup hx hb dJ1_peekLast_4 rfl ?_
  refine lv_astore_n (lv' := [(1, .ref E), (0, .ref a)]) hx hb dJ1_peekLast_5 rfl hl (by decide) rfl (fun ls hl => ?_)
  refine lv_aload_n hx hb dJ1_peekLast_6 rfl (lv_at hl 1 rfl) ?_
  refine gx_get C h h0 (Cn := RJ1) (T := TJ1) (N := 3) rfl in_J1 2 (by decide) q95 rfl rfl dJ1_peekLast_7 ?_
  refine lv_aload_n hx hb dJ1_peekLast_10 rfl (lv_at hl 0 rfl) ?_
  refine gx_alen C h (t := 5) rfl hE dJ1_peekLast_11 ?_
  refine gc_i (va_runS (As := [.int (nI (wr n (hd + xs.length))), .int (nI n)]) (rest := [.ref E]) C.fix (m_J1_dec l g w v (wr n (hd + xs.length)) n htl hd3) (va_cwS 2 hts (lw_S q470 q471 q45 q472) rfl rfl rfl (by decide +kernel) ⟨Nat.le_of_ble_eq_true rfl, Nat.le_of_ble_eq_true rfl⟩) (gp_S C h _) rfl rfl hl.1 rfl (lv_room (Nat.le_of_ble_eq_true rfl)) dJ1_peekLast_12 ⟨Nat.le_of_ble_eq_true rfl, Nat.le_of_ble_eq_true rfl⟩) h (fun r_1 w_2 H locs hp h => ?_)
  obtain ⟨er_r_1, ew_r_1⟩ := hp
  rw [er_r_1]
  rw [ew_r_1] at h
  have hix : (if 0 < wr n (hd + xs.length) then wr n (hd + xs.length) - 1 else n - 1) = wr n (hd + (xs.length - 1)) := by unfold wr; split <;> split <;> (try split) <;> omega
  rw [hix]
  have hlt : wr n (hd + (xs.length - 1)) < n := wr_lt (by omega)
  refine gc_q (va_runS (As := [.ref E, .int (nI (wr n (hd + (xs.length - 1))))]) (rest := []) C.fix (m_J1_elementAt l g w v E n f (wr n (hd + (xs.length - 1))) hE hlt hd3) (va_cwS 2 hts (lw_S q473 q474 q45 q475) rfl rfl rfl (by decide +kernel) ⟨Nat.le_of_ble_eq_true rfl, Nat.le_of_ble_eq_true rfl⟩) (gp_S C h _) rfl rfl hl.1 rfl (lv_room (Nat.le_of_ble_eq_true rfl)) dJ1_peekLast_15 ⟨Nat.le_of_ble_eq_true rfl, Nat.le_of_ble_eq_true rfl⟩) h (fun r_3 w_4 H locs hp h => ?_)
  obtain ⟨er_r_3, ew_r_3⟩ := hp
  rw [er_r_3]
  rw [ew_r_3] at h
  exact gr_q C h (x := f (wr n (hd + (xs.length - 1)))) (ty := (.object "java/lang/Object")) rfl (Or.inl ⟨_, rfl⟩) (⟨hd4 _ _ hx_, rfl⟩) (Nat.le_of_ble_eq_true rfl) (Nat.le_of_ble_eq_true rfl) dJ1_peekLast_18
set_option maxHeartbeats 4000000 in
theorem m_J1_pollFirst (l : Launch) (g : GG) (w v : GW) (a E n : Nat) (f : Nat → Option Nat) (hd : Nat) (x : Nat) (xs : List Nat) (hD : DQ g w a E n f hd (x :: xs))  : Met l yJ1_pollFirst (ws_ yJ1_pollFirst cJ1_pollFirst 4 (some (.object "java/lang/Object"))) ({ frames := 2, cells := 0, slots := 0, locals := 120 } : Room) (gP g [.ref a] w v) (va_Qq (fun (r : Option Nat) (w' : GW) => r = some x ∧ w' = gu (gu w E (eO g n (va_up f hd none))) a (ob 5 [.ref E, .int (nI (wr n (hd + 1))), .int (nI (wr n (hd + (x :: xs).length)))])) (gB g v) (gA g)) 0 0 (gA g) := by
  refine gm_of (by decide) (Nat.le_of_ble_eq_true rfl) ?_
  intro p e s m below meth c ls C hnm h hl
  have C : Cx g p s m ([.ref a] : List Value).toArray meth c cJ1_pollFirst 4 RJ1 (some (.object "java/lang/Object")) := C
  obtain ⟨hx, hb, hml, hown, hts, hr, hlk, hG⟩ := id C
  have hl : lv_has ls 4 [(0, .ref a)] := hl
  obtain ⟨h0, hE, hd1, hd2, hd3, hd4⟩ := id hD
  have hx_ : f hd = some x := by have q := hd4 0 x rfl; rw [Nat.add_zero] at q; unfold wr at q; rw [if_pos hd1] at q; exact q
  refine lv_aload_n hx hb dJ1_pollFirst_0 rfl (lv_at hl 0 rfl) ?_
  refine gx_get C h h0 (Cn := RJ1) (T := TJ1) (N := 3) rfl in_J1 0 (by decide) q91 rfl rfl dJ1_pollFirst_1 ?_
  refine lv_dup hx hb dJ1_pollFirst_4 rfl ?_
  refine lv_astore_n (lv' := [(1, .ref E), (0, .ref a)]) hx hb dJ1_pollFirst_5 rfl hl (by decide) rfl (fun ls hl => ?_)
  refine lv_aload_n hx hb dJ1_pollFirst_6 rfl (lv_at hl 1 rfl) ?_
  refine gx_get C h h0 (Cn := RJ1) (T := TJ1) (N := 3) rfl in_J1 1 (by decide) q94 rfl rfl dJ1_pollFirst_7 ?_
  refine lv_dup hx hb dJ1_pollFirst_10 rfl ?_
  refine lv_istore_n (lv' := [(2, .int (nI hd)), (1, .ref E), (0, .ref a)]) hx hb dJ1_pollFirst_11 rfl hl (by decide) rfl (fun ls hl => ?_)
  refine gc_q (va_runS (As := [.ref E, .int (nI hd)]) (rest := []) C.fix (m_J1_elementAt l g w v E n f hd hE hd1 hd3) (va_cwS 2 hts (lw_S q473 q474 q45 q475) rfl rfl rfl (by decide +kernel) ⟨Nat.le_of_ble_eq_true rfl, Nat.le_of_ble_eq_true rfl⟩) (gp_S C h _) rfl rfl hl.1 rfl (lv_room (Nat.le_of_ble_eq_true rfl)) dJ1_pollFirst_12 ⟨Nat.le_of_ble_eq_true rfl, Nat.le_of_ble_eq_true rfl⟩) h (fun r_1 w_2 H locs hp h => ?_)
  obtain ⟨er_r_1, ew_r_1⟩ := hp
  rw [er_r_1]
  rw [ew_r_1] at h
  rw [hx_]
  refine lv_astore_n (lv' := [(3, .ref x), (2, .int (nI hd)), (1, .ref E), (0, .ref a)]) hx hb dJ1_pollFirst_15 rfl hl (by decide) rfl (fun ls hl => ?_)
  refine lv_aload_n hx hb dJ1_pollFirst_16 rfl (lv_at hl 0 rfl) ?_
  refine lv_ifnull hx hb dJ1_pollFirst_17 ?_
  refine lv_aload_n hx hb dJ1_pollFirst_20 rfl (lv_at hl 2 rfl) ?_
  refine lv_iload_n hx hb dJ1_pollFirst_21 rfl (lv_at hl 1 rfl) ?_
  refine lv_null hx hb dJ1_pollFirst_22 ?_
  refine gx_aastN C h 5 rfl hE hd (rfl) (by omega) dJ1_pollFirst_23 (fun H locs h => ?_)
  obtain ⟨w_3, ew_3⟩ : ∃ z : GW, z = gu w E (eO g n (va_up f hd none)) := ⟨_, rfl⟩
  have h : SH g w_3 v s H locs := by rw [ew_3]; exact h
  have f_4 : w_3 a = some (ob 5 [.ref E, .int (nI hd), .int (nI (wr n (hd + (x :: xs).length)))]) := by rw [ew_3]; exact (gu_n (g_ne h0 hE (by simp))).trans h0
  have f_5 : w_3 E = some (eO g n (va_up f hd none)) := by rw [ew_3]; exact gu_s
  refine lv_aload_n hx hb dJ1_pollFirst_24 rfl (lv_at hl 3 rfl) ?_
  refine lv_iload_n hx hb dJ1_pollFirst_25 rfl (lv_at hl 1 rfl) ?_
  refine lv_aload_n hx hb dJ1_pollFirst_26 rfl (lv_at hl 2 rfl) ?_
  refine gx_alen C h (t := 5) rfl f_5 dJ1_pollFirst_27 ?_
  refine gc_i (va_runS (As := [.int (nI hd), .int (nI n)]) (rest := [.ref a]) C.fix (m_J1_inc l g w_3 v hd n hd1 hd3) (va_cwS 2 hts (lw_S q169 q170 q45 q171) rfl rfl rfl (by decide +kernel) ⟨Nat.le_of_ble_eq_true rfl, Nat.le_of_ble_eq_true rfl⟩) (gp_S C h _) rfl rfl hl.1 rfl (lv_room (Nat.le_of_ble_eq_true rfl)) dJ1_pollFirst_28 ⟨Nat.le_of_ble_eq_true rfl, Nat.le_of_ble_eq_true rfl⟩) h (fun r_6 w_7 H locs hp h => ?_)
  obtain ⟨er_r_6, ew_r_6⟩ := hp
  rw [er_r_6]
  rw [ew_r_6] at h
  refine gx_put C h f_4 (Cn := RJ1) (T := TJ1) (N := 3) (x := .int (nI (wr n (hd + 1)))) rfl in_J1 tyJ1 tyJ1_ok nmJ1 1 (by decide) q94 rfl rfl rfl rfl (Nat.le_of_ble_eq_true rfl) dJ1_pollFirst_31 (fun H locs h => ?_)
  obtain ⟨w_8, ew_8⟩ : ∃ z : GW, z = gu w_3 a (ob 5 [.ref E, .int (nI (wr n (hd + 1))), .int (nI (wr n (hd + (x :: xs).length)))]) := ⟨_, rfl⟩
  have h : SH g w_8 v s H locs := by rw [ew_8]; exact h
  have f_9 : w_8 a = some (ob 5 [.ref E, .int (nI (wr n (hd + 1))), .int (nI (wr n (hd + (x :: xs).length)))]) := by rw [ew_8]; exact gu_s
  have f_10 : w_8 E = some (eO g n (va_up f hd none)) := by rw [ew_8]; exact (gu_n (g_ne f_5 f_4 (by simp))).trans f_5
  refine lv_aload_n hx hb dJ1_pollFirst_34 rfl (lv_at hl 0 rfl) ?_
  exact gr_q C h (x := some x) (ty := (.object "java/lang/Object")) rfl (Or.inl ⟨_, rfl⟩) (⟨rfl, by rw [ew_8, ew_3]⟩) (Nat.le_of_ble_eq_true rfl) (Nat.le_of_ble_eq_true rfl) dJ1_pollFirst_35
set_option maxHeartbeats 4000000 in
theorem m_J1_poll (l : Launch) (g : GG) (w v : GW) (a E n : Nat) (f : Nat → Option Nat) (hd : Nat) (x : Nat) (xs : List Nat) (hD : DQ g w a E n f hd (x :: xs))  : Met l yJ1_poll (ws_ yJ1_poll cJ1_poll 1 (some (.object "java/lang/Object"))) ({ frames := 3, cells := 0, slots := 0, locals := 180 } : Room) (gP g [.ref a] w v) (va_Qq (fun (r : Option Nat) (w' : GW) => r = some x ∧ w' = gu (gu w E (eO g n (va_up f hd none))) a (ob 5 [.ref E, .int (nI (wr n (hd + 1))), .int (nI (wr n (hd + (x :: xs).length)))])) (gB g v) (gA g)) 0 0 (gA g) := by
  refine gm_of (by decide) (Nat.le_of_ble_eq_true rfl) ?_
  intro p e s m below meth c ls C hnm h hl
  have C : Cx g p s m ([.ref a] : List Value).toArray meth c cJ1_poll 1 RJ1 (some (.object "java/lang/Object")) := C
  obtain ⟨hx, hb, hml, hown, hts, hr, hlk, hG⟩ := id C
  have hl : lv_has ls 1 [(0, .ref a)] := hl
  refine lv_aload_n hx hb dJ1_poll_0 rfl (lv_at hl 0 rfl) ?_
  refine gc_q (va_runV (As := []) (rest := []) C.fix (m_J1_pollFirst l g w v a E n f hd x xs hD) (cwV 0 hts (lw_V q513 q514 q515 q45 q516) rfl rfl rfl (by decide +kernel) ⟨Nat.le_of_ble_eq_true rfl, Nat.le_of_ble_eq_true rfl⟩) (gp_V C h [] (Cn := RJ1) (T := TJ1) (N := 3) rfl hD.1) rfl rfl hl.1 rfl (lv_room (Nat.le_of_ble_eq_true rfl)) dJ1_poll_1 ⟨Nat.le_of_ble_eq_true rfl, Nat.le_of_ble_eq_true rfl⟩) h (fun r_1 w_2 H locs hp h => ?_)
  obtain ⟨er, ew⟩ := hp
  exact gr_q C h (x := r_1) (ty := (.object "java/lang/Object")) rfl (Or.inl ⟨_, rfl⟩) (⟨er, ew⟩) (Nat.le_of_ble_eq_true rfl) (Nat.le_of_ble_eq_true rfl) dJ1_poll_4
set_option maxHeartbeats 4000000 in
theorem m_J1_circularClear (l : Launch) (g : GG) (w v : GW) (E n : Nat) (f : Nat → Option Nat) (i e0 : Nat) (hE : w E = some (eO g n f)) (hi : i < n) (he : e0 < n) (hn : n ≤ 200) : Met l yJ1_circularClear (ws_ yJ1_circularClear cJ1_circularClear 4 none) ({ frames := 1, cells := 0, slots := 0, locals := 60 } : Room) (gP g [.ref E, .int (nI i), .int (nI e0)] w v) (va_Qv (fun (w' : GW) => ∃ f' : Nat → Option Nat, w' = gu w E (eO g n f')) (gB g v) (gA g)) 0 0 (gA g) := by
  refine gm_of (by decide) (Nat.le_of_ble_eq_true rfl) ?_
  intro p e s m below meth c ls C hnm h hl
  have C : Cx g p s m ([.ref E, .int (nI i), .int (nI e0)] : List Value).toArray meth c cJ1_circularClear 4 RJ1 none := C
  obtain ⟨hx, hb, hml, hown, hts, hr, hlk, hG⟩ := id C
  have hl : lv_has ls 4 [(0, .ref E), (1, .int (nI i)), (2, .int (nI e0))] := hl
  have loop : ∀ (n_ : Nat) (j t0 : Nat) (q : Nat → Option Nat) (w1 : GW) (H : Heap) (locs : List Loc) (ls : Array Slot), (t0 - j) + (if t0 = e0 then 0 else e0 + 1) < n_ → (j ≤ n) → (t0 ≤ n) → (w1 = gu w E (eO g n q)) → SH g w1 v s H locs → lv_has ls 4 [(0, .ref E), (1, .int (nI j)), (2, .int (nI e0)), (3, .int (nI t0))] → W p l e ({ frames := 1, cells := 0, slots := 0, locals := 60 } : Room) s m ([.ref E, .int (nI i), .int (nI e0)] : List Value).toArray below meth c H locs 0 0 (MQ below (va_Qv (fun (w' : GW) => ∃ f' : Nat → Option Nat, w' = gu w E (eO g n f')) (gB g v) (gA g)) ([.ref E, .int (nI i), .int (nI e0)] : List Value).toArray s 0 0 (gA g)) (F0 m 12 ls []) := by
    intro n_
    induction n_ with
    | zero => intros; exact absurd ‹_ < 0› (Nat.not_lt_zero _)
    | succ n_ ih =>
      intro j t0 q w1 H locs ls hf hj ht hw  h hl
      have g1 : w1 E = some (eO g n q) := by rw [hw]; exact gu_s
      refine lv_iload_n hx hb dJ1_circularClear_12 rfl (lv_at hl 1 rfl) ?_
      refine lv_iload_n hx hb dJ1_circularClear_13 rfl (lv_at hl 3 rfl) ?_
      refine lv_icmp_ge (tgt := 27) hx hb dJ1_circularClear_14 (by decide) (fun c1 => ?_) (fun c1 => ?_)
      · skip
        have c1 : t0 ≤ j := (nI_leI (by omega) (by omega)).mp c1
        refine lv_iload_n hx hb dJ1_circularClear_27 rfl (lv_at hl 3 rfl) ?_
        refine lv_iload_n hx hb dJ1_circularClear_28 rfl (lv_at hl 2 rfl) ?_
        refine lv_icmp_ne (tgt := 35) hx hb dJ1_circularClear_29 (by decide) (fun c2 => ?_) (fun c2 => ?_)
        · skip
          have c2 : ¬ (t0 = e0) := fun q => c2 ((nI_eq (by omega) (by omega)).mpr q)
          refine lv_iconst (v := nI 0) hx hb dJ1_circularClear_35 (by decide) ?_
          refine lv_istore_n (lv' := [(1, .int (nI 0)), (0, .ref E), (2, .int (nI e0)), (3, .int (nI t0))]) hx hb dJ1_circularClear_36 rfl hl (by decide) rfl (fun ls hl => ?_)
          refine lv_iload_n hx hb dJ1_circularClear_37 rfl (lv_at hl 2 rfl) ?_
          refine lv_istore_n (lv' := [(3, .int (nI e0)), (1, .int (nI 0)), (0, .ref E), (2, .int (nI e0))]) hx hb dJ1_circularClear_38 rfl hl (by decide) rfl (fun ls hl => ?_)
          refine lv_goto (tgt := 12) hx hb dJ1_circularClear_39 (by decide) ?_
          exact ih 0 e0 q _ _ _ _ (by rw [if_neg c2] at hf; rw [if_pos rfl]; omega) (by omega) (by omega) hw  h (lv_sub hl [2, 1, 3, 0] rfl)
        · skip
          have c2 : t0 = e0 := (nI_eq (by omega) (by omega)).mp c2
          refine lv_goto (tgt := 42) hx hb dJ1_circularClear_32 (by decide) ?_
          exact gr_v C h (⟨q, hw⟩) (Nat.le_of_ble_eq_true rfl) (Nat.le_of_ble_eq_true rfl) dJ1_circularClear_42
      · skip
        have c1 : ¬ (t0 ≤ j) := fun q => c1 ((nI_leI (by omega) (by omega)).mpr q)
        refine lv_aload_n hx hb dJ1_circularClear_17 rfl (lv_at hl 0 rfl) ?_
        refine lv_iload_n hx hb dJ1_circularClear_18 rfl (lv_at hl 1 rfl) ?_
        refine lv_null hx hb dJ1_circularClear_19 ?_
        refine gx_aastN C h 5 rfl g1 j (rfl) (by omega) dJ1_circularClear_20 (fun H locs h => ?_)
        obtain ⟨w_1, ew_1⟩ : ∃ z : GW, z = gu w1 E (eO g n (va_up q j none)) := ⟨_, rfl⟩
        have h : SH g w_1 v s H locs := by rw [ew_1]; exact h
        have f_2 : w_1 E = some (eO g n (va_up q j none)) := by rw [ew_1]; exact gu_s
        refine lv_iinc (v := nI (j + 1)) (lv' := [(1, .int (nI (j + 1))), (0, .ref E), (2, .int (nI e0)), (3, .int (nI t0))]) hx hb dJ1_circularClear_21 hl (k := 1) rfl (gi_inc _ 1) (by decide) rfl (fun ls hl => ?_)
        refine lv_goto (tgt := 12) hx hb dJ1_circularClear_24 (by decide) ?_
        exact ih (j + 1) t0 (va_up q j none) _ _ _ _ (by omega) (by omega) (by omega) (by rw [ew_1, hw, gu_gu])  h (lv_sub hl [1, 0, 2, 3] rfl)
  refine lv_iload_n hx hb dJ1_circularClear_0 rfl (lv_at hl 1 rfl) ?_
  refine lv_iload_n hx hb dJ1_circularClear_1 rfl (lv_at hl 2 rfl) ?_
  refine lv_icmp_gt (tgt := 9) hx hb dJ1_circularClear_2 (by decide) (fun c1 => ?_) (fun c1 => ?_)
  · skip
    have c1 : e0 < i := (nI_ltI (by omega) (by omega)).mp c1
    refine lv_aload_n hx hb dJ1_circularClear_9 rfl (lv_at hl 0 rfl) ?_
    refine gx_alen C h (t := 5) rfl hE dJ1_circularClear_10 ?_
    refine lv_istore_n (lv' := [(3, .int (nI n)), (0, .ref E), (1, .int (nI i)), (2, .int (nI e0))]) hx hb dJ1_circularClear_11 rfl hl (by decide) rfl (fun ls hl => ?_)
    exact loop (n + e0 + 2) i n f _ _ _ _ (by split <;> omega) (by omega) (by omega) (by rw [gu_self hE]) h (lv_sub hl [1, 2, 3, 0] rfl)
  · skip
    have c1 : ¬ (e0 < i) := fun q => c1 ((nI_ltI (by omega) (by omega)).mpr q)
    refine lv_iload_n hx hb dJ1_circularClear_5 rfl (lv_at hl 2 rfl) ?_
    refine lv_goto (tgt := 11) hx hb dJ1_circularClear_6 (by decide) ?_
    refine lv_istore_n (lv' := [(3, .int (nI e0)), (0, .ref E), (1, .int (nI i)), (2, .int (nI e0))]) hx hb dJ1_circularClear_11 rfl hl (by decide) rfl (fun ls hl => ?_)
    exact loop (e0 + 2) i e0 f _ _ _ _ (by rw [if_pos rfl]; omega) (by omega) (by omega) (by rw [gu_self hE]) h (lv_sub hl [1, 2, 3, 0] rfl)
set_option maxHeartbeats 4000000 in
theorem m_J1_clear (l : Launch) (g : GG) (w v : GW) (a E n : Nat) (f : Nat → Option Nat) (hd : Nat) (xs : List Nat) (hD : DQ g w a E n f hd xs)  : Met l yJ1_clear (ws_ yJ1_clear cJ1_clear 1 none) ({ frames := 2, cells := 0, slots := 0, locals := 120 } : Room) (gP g [.ref a] w v) (va_Qv (fun (w' : GW) => ∃ f' : Nat → Option Nat, w' = gu (gu w E (eO g n f')) a (ob 5 [.ref E, .int (nI 0), .int (nI 0)])) (gB g v) (gA g)) 0 0 (gA g) := by
  refine gm_of (by decide) (Nat.le_of_ble_eq_true rfl) ?_
  intro p e s m below meth c ls C hnm h hl
  have C : Cx g p s m ([.ref a] : List Value).toArray meth c cJ1_clear 1 RJ1 none := C
  obtain ⟨hx, hb, hml, hown, hts, hr, hlk, hG⟩ := id C
  have hl : lv_has ls 1 [(0, .ref a)] := hl
  obtain ⟨h0, hE, hd1, hd2, hd3, hd4⟩ := id hD
  have htl : wr n (hd + xs.length) < n := wr_lt (by omega)
  refine lv_aload_n hx hb dJ1_clear_0 rfl (lv_at hl 0 rfl) ?_
  refine gx_get C h h0 (Cn := RJ1) (T := TJ1) (N := 3) rfl in_J1 0 (by decide) q91 rfl rfl dJ1_clear_1 ?_
  refine lv_aload_n hx hb dJ1_clear_4 rfl (lv_at hl 0 rfl) ?_
  refine gx_get C h h0 (Cn := RJ1) (T := TJ1) (N := 3) rfl in_J1 1 (by decide) q94 rfl rfl dJ1_clear_5 ?_
  refine lv_aload_n hx hb dJ1_clear_8 rfl (lv_at hl 0 rfl) ?_
  refine gx_get C h h0 (Cn := RJ1) (T := TJ1) (N := 3) rfl in_J1 2 (by decide) q95 rfl rfl dJ1_clear_9 ?_
  refine gc_v (va_runS (As := [.ref E, .int (nI hd), .int (nI (wr n (hd + xs.length)))]) (rest := []) C.fix (m_J1_circularClear l g w v E n f hd (wr n (hd + xs.length)) hE hd1 htl hd3) (va_cwS 3 hts (lw_S q158 q159 q45 q160) rfl rfl rfl (by decide +kernel) ⟨Nat.le_of_ble_eq_true rfl, Nat.le_of_ble_eq_true rfl⟩) (gp_S C h _) rfl rfl hl.1 rfl (lv_room (Nat.le_of_ble_eq_true rfl)) dJ1_clear_12 ⟨Nat.le_of_ble_eq_true rfl, Nat.le_of_ble_eq_true rfl⟩) h (fun w_2 H locs hp h => ?_)
  obtain ⟨f1, hp⟩ := hp
  have ew_3 : w_2 = gu w E (eO g n f1) := hp
  have f_4 : w_2 a = some (ob 5 [.ref E, .int (nI hd), .int (nI (wr n (hd + xs.length)))]) := by rw [ew_3]; exact (gu_n (g_ne h0 hE (by simp))).trans h0
  have f_5 : w_2 E = some (eO g n f1) := by rw [ew_3]; exact gu_s
  refine lv_aload_n hx hb dJ1_clear_15 rfl (lv_at hl 0 rfl) ?_
  refine lv_aload_n hx hb dJ1_clear_16 rfl (lv_at hl 0 rfl) ?_
  refine lv_iconst (v := nI 0) hx hb dJ1_clear_17 (by decide) ?_
  refine lv_dup_x1 hx hb dJ1_clear_18 rfl rfl ?_
  refine gx_put C h f_4 (Cn := RJ1) (T := TJ1) (N := 3) (x := .int (nI 0)) rfl in_J1 tyJ1 tyJ1_ok nmJ1 2 (by decide) q95 rfl rfl rfl rfl (Nat.le_of_ble_eq_true rfl) dJ1_clear_19 (fun H locs h => ?_)
  obtain ⟨w_6, ew_6⟩ : ∃ z : GW, z = gu w_2 a (ob 5 [.ref E, .int (nI hd), .int (nI 0)]) := ⟨_, rfl⟩
  have h : SH g w_6 v s H locs := by rw [ew_6]; exact h
  have f_7 : w_6 a = some (ob 5 [.ref E, .int (nI hd), .int (nI 0)]) := by rw [ew_6]; exact gu_s
  have f_8 : w_6 E = some (eO g n f1) := by rw [ew_6]; exact (gu_n (g_ne f_5 f_4 (by simp))).trans f_5
  refine gx_put C h f_7 (Cn := RJ1) (T := TJ1) (N := 3) (x := .int (nI 0)) rfl in_J1 tyJ1 tyJ1_ok nmJ1 1 (by decide) q94 rfl rfl rfl rfl (Nat.le_of_ble_eq_true rfl) dJ1_clear_22 (fun H locs h => ?_)
  obtain ⟨w_9, ew_9⟩ : ∃ z : GW, z = gu w_6 a (ob 5 [.ref E, .int (nI 0), .int (nI 0)]) := ⟨_, rfl⟩
  have h : SH g w_9 v s H locs := by rw [ew_9]; exact h
  have f_10 : w_9 a = some (ob 5 [.ref E, .int (nI 0), .int (nI 0)]) := by rw [ew_9]; exact gu_s
  have f_11 : w_9 E = some (eO g n f1) := by rw [ew_9]; exact (gu_n (g_ne f_8 f_7 (by simp))).trans f_8
  exact gr_v C h (⟨f1, by rw [ew_9, ew_6, gu_gu, ew_3]⟩) (Nat.le_of_ble_eq_true rfl) (Nat.le_of_ble_eq_true rfl) dJ1_clear_25
set_option maxHeartbeats 4000000 in
theorem m_J1_init (l : Launch) (g : GG) (w v : GW) (a : Nat) (h0 : w a = some (ob 5 [.null, .int (nI 0), .int (nI 0)]))  : Met l yJ1_init (ws_ yJ1_init cJ1_init 1 none) ({ frames := 2, cells := 1, slots := 17, locals := 120 } : Room) (gP g [.ref a] w v) (va_Qv (fun (w' : GW) => ∃ E : Nat, w E = none ∧ v E = none ∧ w' = gu (gu w E (eO g 17 (fun _ => none))) a (ob 5 [.ref E, .int (nI 0), .int (nI 0)])) (gB g v) (gA g)) 1 17 (gA g) := by
  refine gm_of (by decide) (Nat.le_of_ble_eq_true rfl) ?_
  intro p e s m below meth c ls C hnm h hl
  have C : Cx g p s m ([.ref a] : List Value).toArray meth c cJ1_init 1 RJ1 none := C
  obtain ⟨hx, hb, hml, hown, hts, hr, hlk, hG⟩ := id C
  have hl : lv_has ls 1 [(0, .ref a)] := hl
  refine lv_aload_n hx hb dJ1_init_0 rfl (lv_at hl 0 rfl) ?_
  refine gc_v (va_runI (As := []) (rest := []) C.fix (m_J0_init l g w v a) (cwI 0 hts (lw_meth q87) rfl rfl rfl (hts _ q44) (hts _ q85) (hts _ q86) rfl (by decide +kernel) ⟨Nat.le_of_ble_eq_true rfl, Nat.le_of_ble_eq_true rfl⟩) (gp_S C h _) rfl rfl hl.1 rfl (lv_room (Nat.le_of_ble_eq_true rfl)) dJ1_init_1 ⟨Nat.le_of_ble_eq_true rfl, Nat.le_of_ble_eq_true rfl⟩) h (fun w_2 H locs hp h => ?_)
  rw [hp] at h
  refine lv_aload_n hx hb dJ1_init_4 rfl (lv_at hl 0 rfl) ?_
  refine lv_bipush (v := nI 17) hx hb dJ1_init_5 (by decide) ?_
  refine gx_newq C h 5 q89 hG.2.2.2.1.2 rfl (N' := 17) (rfl) (Nat.le_of_ble_eq_true rfl) (Nat.le_of_ble_eq_true rfl) (Nat.le_of_ble_eq_true rfl) dJ1_init_7 (fun a_3 H hn_4 hn_4v h => ?_)
  obtain ⟨w_5, ew_5⟩ : ∃ z : GW, z = gu w a_3 (eO g 17 (fun _ => none)) := ⟨_, rfl⟩
  have h : SH g w_5 v s H locs := by rw [ew_5]; exact h
  have f_6 : w_5 a = some (ob 5 [.null, .int (nI 0), .int (nI 0)]) := by rw [ew_5]; exact (gu_n (g_neN h0 hn_4)).trans h0
  have f_7 : w_5 a_3 = some (eO g 17 (fun _ => none)) := by rw [ew_5]; exact gu_s
  refine gx_put C h f_6 (Cn := RJ1) (T := TJ1) (N := 3) (x := .ref a_3) rfl in_J1 tyJ1 tyJ1_ok nmJ1 0 (by decide) q91 rfl rfl rfl rfl (Nat.le_of_ble_eq_true rfl) dJ1_init_10 (fun H locs h => ?_)
  obtain ⟨w_8, ew_8⟩ : ∃ z : GW, z = gu w_5 a (ob 5 [.ref a_3, .int (nI 0), .int (nI 0)]) := ⟨_, rfl⟩
  have h : SH g w_8 v s H locs := by rw [ew_8]; exact h
  have f_9 : w_8 a = some (ob 5 [.ref a_3, .int (nI 0), .int (nI 0)]) := by rw [ew_8]; exact gu_s
  have f_10 : w_8 a_3 = some (eO g 17 (fun _ => none)) := by rw [ew_8]; exact (gu_n (Ne.symm (g_neN h0 hn_4))).trans f_7
  exact gr_v C h (⟨a_3, hn_4, hn_4v, by rw [ew_8, ew_5]⟩) (Nat.le_of_ble_eq_true rfl) (Nat.le_of_ble_eq_true rfl) dJ1_init_13
set_option maxHeartbeats 4000000 in
theorem m_J6_copyOf_2 (l : Launch) (g : GG) (w v : GW) (E n n' ci : Nat) (f : Nat → Option Nat) (rc : vw_C) (hc : vwCl[ci]? = some rc) (hca : Cond.castable rc.1 "java/lang/Object" ∈ lw_tbl) (hE : w E = some (eO g n f)) (hn : n ≤ n' ∧ n' ≤ 200 ∧ 0 < n) (hel : ∀ i y : Nat, i < n → f i = some y → ∃ fs, w y = some (.inr (ci, fs)))  : Met l yJ6_copyOf_2 (ws_ yJ6_copyOf_2 cJ6_copyOf_2 4 (some (.array (.object "java/lang/Object")))) ({ frames := 2, cells := 1, slots := 200, locals := 120 } : Room) (gP g [.ref E, .int (nI n'), .ref g.2.2.2.2] w v) (va_Qq (fun (r : Option Nat) (w' : GW) => ∃ E' : Nat, r = some E' ∧ w E' = none ∧ v E' = none ∧ w' = gu w E' (eO g n' (va_cpy f (fun _ => none) 0 0 n))) (gB g v) (gA g)) 1 200 (gA g) := by
  refine gm_of (by decide) (Nat.le_of_ble_eq_true rfl) ?_
  intro p e s m below meth c ls C hnm h hl
  have C : Cx g p s m ([.ref E, .int (nI n'), .ref g.2.2.2.2] : List Value).toArray meth c cJ6_copyOf_2 4 RJ6 (some (.array (.object "java/lang/Object"))) := C
  obtain ⟨hx, hb, hml, hown, hts, hr, hlk, hG⟩ := id C
  have hl : lv_has ls 4 [(0, .ref E), (1, .int (nI n')), (2, .ref g.2.2.2.2)] := hl
  refine lv_aload_n hx hb dJ6_copyOf_2_0 rfl (lv_at hl 2 rfl) ?_
  refine va_ldcM hx hb hown (hts _ q202) hG.2.2.2.2.2.2.1 dJ6_copyOf_2_1 ?_
  refine lv_acmp_ne (rx := some g.2.2.2.2) (ry := some g.2.2.2.2) (tgt := 13) hx hb dJ6_copyOf_2_3 (by decide) (fun c1 => ?_) (fun c1 => ?_)
  · skip
    exact absurd rfl c1
  · skip
    refine lv_iload_n hx hb dJ6_copyOf_2_6 rfl (lv_at hl 1 rfl) ?_
    refine gx_newq C h 5 q203 hG.2.2.2.1.2 rfl (N' := n') (rfl) (by omega) (Nat.le_of_ble_eq_true rfl) (by show 0 + n' ≤ 200; omega) dJ6_copyOf_2_7 (fun a_1 H hn_2 hn_2v h => ?_)
    obtain ⟨w_3, ew_3⟩ : ∃ z : GW, z = gu w a_1 (eO g n' (fun _ => none)) := ⟨_, rfl⟩
    have h : SH g w_3 v s H [] := by rw [ew_3]; exact h
    have f_4 : w_3 E = some (eO g n f) := by rw [ew_3]; exact (gu_n (g_neN hE hn_2)).trans hE
    have f_5 : w_3 a_1 = some (eO g n' (fun _ => none)) := by rw [ew_3]; exact gu_s
    refine lv_goto (tgt := 24) hx hb dJ6_copyOf_2_10 (by decide) ?_
    refine lv_astore_n (lv' := [(3, .ref a_1), (0, .ref E), (1, .int (nI n')), (2, .ref g.2.2.2.2)]) hx hb dJ6_copyOf_2_24 rfl hl (by decide) rfl (fun ls hl => ?_)
    refine lv_aload_n hx hb dJ6_copyOf_2_25 rfl (lv_at hl 1 rfl) ?_
    refine lv_iconst (v := nI 0) hx hb dJ6_copyOf_2_26 (by decide) ?_
    refine lv_aload_n hx hb dJ6_copyOf_2_27 rfl (lv_at hl 0 rfl) ?_
    refine lv_iconst (v := nI 0) hx hb dJ6_copyOf_2_28 (by decide) ?_
    refine lv_aload_n hx hb dJ6_copyOf_2_29 rfl (lv_at hl 1 rfl) ?_
    refine gx_alen C h (t := 5) rfl f_4 dJ6_copyOf_2_30 ?_
    refine lv_iload_n hx hb dJ6_copyOf_2_31 rfl (lv_at hl 2 rfl) ?_
    refine gc_i (va_runS (As := [.int (nI n), .int (nI n')]) (rest := [.int (nI 0), .ref a_1, .int (nI 0), .ref E]) C.fix (m_J4_min l g w_3 v (nI n) (nI n')) (va_cwS 2 hts (lw_S q204 q205 q48 q206) rfl rfl rfl (by decide +kernel) ⟨Nat.le_of_ble_eq_true rfl, Nat.le_of_ble_eq_true rfl⟩) (gp_S C h _) rfl rfl hl.1 rfl (lv_room (Nat.le_of_ble_eq_true rfl)) dJ6_copyOf_2_32 ⟨Nat.le_of_ble_eq_true rfl, by show 0 + n' + 0 ≤ 200; omega⟩) h (fun r_6 w_7 H locs hp h => ?_)
    obtain ⟨er_r_6, ew_r_6⟩ := hp
    rw [er_r_6]
    rw [ew_r_6] at h
    rw [if_neg (nI_nlt (a := n') (b := n) (by omega) (by omega))]
    refine gx_copyO C h hl.1 q207 (ci := ci) (r := rc) hc hca f_4 f_5 0 0 n (by omega) (by omega) (by omega) (fun i y hi hy => by rw [Nat.zero_add] at hy; obtain ⟨fs, hfs⟩ := hel i y hi hy; exact ⟨fs, by rw [ew_3]; exact (gu_n (g_neN hfs hn_2)).trans hfs⟩) (Nat.le_of_ble_eq_true rfl) (Nat.le_of_ble_eq_true rfl) dJ6_copyOf_2_35 (fun H locs h => ?_)
    obtain ⟨w_8, ew_8⟩ : ∃ z : GW, z = gu w_3 a_1 (eO g n' (va_cpy f (fun _ => none) 0 0 n)) := ⟨_, rfl⟩
    have h : SH g w_8 v s H locs := by rw [ew_8]; exact h
    have f_9 : w_8 E = some (eO g n f) := by rw [ew_8]; exact (gu_n (g_neN hE hn_2)).trans f_4
    have f_10 : w_8 a_1 = some (eO g n' (va_cpy f (fun _ => none) 0 0 n)) := by rw [ew_8]; exact gu_s
    refine lv_aload_n hx hb dJ6_copyOf_2_38 rfl (lv_at hl 0 rfl) ?_
    exact gr_q C h (x := some a_1) (ty := (.array (.object "java/lang/Object"))) rfl (Or.inr ⟨_, rfl⟩) (⟨a_1, rfl, hn_2, hn_2v, by rw [ew_8, ew_3, gu_gu]⟩) (Nat.le_of_ble_eq_true rfl) (by show 0 + n' + 0 ≤ 200; omega) dJ6_copyOf_2_39
set_option maxHeartbeats 4000000 in
theorem m_J6_copyOf (l : Launch) (g : GG) (w v : GW) (E n n' ci : Nat) (f : Nat → Option Nat) (rc : vw_C) (hc : vwCl[ci]? = some rc) (hca : Cond.castable rc.1 "java/lang/Object" ∈ lw_tbl) (hE : w E = some (eO g n f)) (hn : n ≤ n' ∧ n' ≤ 200 ∧ 0 < n) (hel : ∀ i y : Nat, i < n → f i = some y → ∃ fs, w y = some (.inr (ci, fs)))  : Met l yJ6_copyOf (ws_ yJ6_copyOf cJ6_copyOf 2 (some (.array (.object "java/lang/Object")))) ({ frames := 3, cells := 1, slots := 200, locals := 180 } : Room) (gP g [.ref E, .int (nI n')] w v) (va_Qq (fun (r : Option Nat) (w' : GW) => ∃ E' : Nat, r = some E' ∧ w E' = none ∧ v E' = none ∧ w' = gu w E' (eO g n' (va_cpy f (fun _ => none) 0 0 n))) (gB g v) (gA g)) 1 200 (gA g) := by
  refine gm_of (by decide) (Nat.le_of_ble_eq_true rfl) ?_
  intro p e s m below meth c ls C hnm h hl
  have C : Cx g p s m ([.ref E, .int (nI n')] : List Value).toArray meth c cJ6_copyOf 2 RJ6 (some (.array (.object "java/lang/Object"))) := C
  obtain ⟨hx, hb, hml, hown, hts, hr, hlk, hG⟩ := id C
  have hl : lv_has ls 2 [(0, .ref E), (1, .int (nI n'))] := hl
  refine lv_aload_n hx hb dJ6_copyOf_0 rfl (lv_at hl 0 rfl) ?_
  refine lv_iload_n hx hb dJ6_copyOf_1 rfl (lv_at hl 1 rfl) ?_
  refine lv_aload_n hx hb dJ6_copyOf_2 rfl (lv_at hl 0 rfl) ?_
  refine va_getC (C := "[Ljava/lang/Object;") hx hb (by rw [hml, hl.1]) hown (hts _ q185) (va_Nw.use rfl (hG.2.2.1 _ q961 rfl)) (hts _ q960) (hts _ q186) (hts _ q198) hG.2.2.2.2.2.2.1 (SH.recvO C h hE) (Nat.le_of_ble_eq_true rfl) (Nat.le_of_ble_eq_true rfl) dJ6_copyOf_3 ?_
  refine gc_q (va_runS (As := [.ref E, .int (nI n'), .ref g.2.2.2.2]) (rest := []) C.fix (m_J6_copyOf_2 l g w v E n n' ci f rc hc hca hE hn hel) (va_cwS 3 hts (lw_S q199 q200 q51 q201) rfl rfl rfl (by decide +kernel) ⟨Nat.le_of_ble_eq_true rfl, Nat.le_of_ble_eq_true rfl⟩) (gp_S C h _) rfl rfl hl.1 rfl (lv_room (Nat.le_of_ble_eq_true rfl)) dJ6_copyOf_6 ⟨Nat.le_of_ble_eq_true rfl, Nat.le_of_ble_eq_true rfl⟩) h (fun r_1 w_2 H locs hp h => ?_)
  obtain ⟨E1, er, k1, k2, k3⟩ := hp
  exact gr_q C h (x := r_1) (ty := (.array (.object "java/lang/Object"))) rfl (Or.inr ⟨_, rfl⟩) (⟨E1, er, k1, k2, k3⟩) (Nat.le_of_ble_eq_true rfl) (Nat.le_of_ble_eq_true rfl) dJ6_copyOf_9
