set_option maxRecDepth 100000
set_option maxHeartbeats 4000000 in
theorem m_J10_rotateLeft (l : Launch) (g : GG) (w v : GW) (x y : Int32)  : Met l yJ10_rotateLeft (ws_ yJ10_rotateLeft cJ10_rotateLeft 2 (some .int)) ({ frames := 1, cells := 0, slots := 0, locals := 60 } : Room) (gP g [.int x, .int y] w v) (va_Qi (fun (r : Int32) (w' : GW) => r = (x <<< (y &&& 31)) ||| (x.toUInt32 >>> ((-y).toUInt32 &&& Int32.toUInt32 31)).toInt32 ∧ w' = w) (gB g v) (gA g)) 0 0 (gA g) := by
  refine gm_of (by decide) (Nat.le_of_ble_eq_true rfl) ?_
  intro p e s m below meth c ls C hnm h hl
  have C : Cx g p s m ([.int x, .int y] : List Value).toArray meth c cJ10_rotateLeft 2 RJ10 (some .int) := C
  obtain ⟨hx, hb, hml, hown, hts, hr, hlk, hG⟩ := id C
  have hl : lv_has ls 2 [(0, .int x), (1, .int y)] := hl
  refine lv_iload_n hx hb dJ10_rotateLeft_0 rfl (lv_at hl 0 rfl) ?_
  refine lv_iload_n hx hb dJ10_rotateLeft_1 rfl (lv_at hl 1 rfl) ?_
  refine lv_ishl hx hb dJ10_rotateLeft_2 ?_
  refine lv_iload_n hx hb dJ10_rotateLeft_3 rfl (lv_at hl 0 rfl) ?_
  refine lv_iload_n hx hb dJ10_rotateLeft_4 rfl (lv_at hl 1 rfl) ?_
  refine lv_ineg hx hb dJ10_rotateLeft_5 ?_
  refine lv_iushr hx hb dJ10_rotateLeft_6 rfl ?_
  refine lv_ior hx hb dJ10_rotateLeft_7 ?_
  exact gr_i C h (ty := .int) rfl (rfl) (⟨rfl, rfl⟩) (Nat.le_of_ble_eq_true rfl) (Nat.le_of_ble_eq_true rfl) dJ10_rotateLeft_8
set_option maxHeartbeats 4000000 in
theorem m_X4_number (l : Launch) (g : GG) (w v : GW) (a b : Nat) (f : Nat → Int8) (h0 : w a = some (ob 1 [.ref b])) (h1 : w b = some (eB g 32 f)) (k : Nat) (hk : k + 4 ≤ 32) : Met l yX4_number (ws_ yX4_number cX4_number 2 (some .int)) ({ frames := 1, cells := 0, slots := 0, locals := 60 } : Room) (gP g [.ref a, .int (nI k)] w v) (va_Qi (fun (r : Int32) (w' : GW) => r = numB f k ∧ w' = w) (gB g v) (gA g)) 0 0 (gA g) := by
  refine gm_of (by decide) (Nat.le_of_ble_eq_true rfl) ?_
  intro p e s m below meth c ls C hnm h hl
  have C : Cx g p s m ([.ref a, .int (nI k)] : List Value).toArray meth c cX4_number 2 RX4 (some .int) := C
  obtain ⟨hx, hb, hml, hown, hts, hr, hlk, hG⟩ := id C
  have hl : lv_has ls 2 [(0, .ref a), (1, .int (nI k))] := hl
  refine lv_aload_n hx hb dX4_number_0 rfl (lv_at hl 0 rfl) ?_
  refine gx_get C h h0 (Cn := RX4) (T := TX4) (N := 1) rfl in_X4 0 (by decide) q348 rfl rfl dX4_number_1 ?_
  refine lv_iload_n hx hb dX4_number_4 rfl (lv_at hl 1 rfl) ?_
  refine gx_bald C h h1 k (rfl) (by omega) dX4_number_5 ?_
  refine lv_sipush (v := nI 255) hx hb dX4_number_6 (by decide) ?_
  refine lv_iand hx hb dX4_number_9 ?_
  refine lv_bipush (v := nI 24) hx hb dX4_number_10 (by decide) ?_
  refine lv_ishl hx hb dX4_number_12 ?_
  refine lv_aload_n hx hb dX4_number_13 rfl (lv_at hl 0 rfl) ?_
  refine gx_get C h h0 (Cn := RX4) (T := TX4) (N := 1) rfl in_X4 0 (by decide) q348 rfl rfl dX4_number_14 ?_
  refine lv_iload_n hx hb dX4_number_17 rfl (lv_at hl 1 rfl) ?_
  refine lv_iconst (v := nI 1) hx hb dX4_number_18 (by decide) ?_
  refine gn_iadd hx hb dX4_number_19 ?_
  refine gx_bald C h h1 (k + 1) (rfl) (by omega) dX4_number_20 ?_
  refine lv_sipush (v := nI 255) hx hb dX4_number_21 (by decide) ?_
  refine lv_iand hx hb dX4_number_24 ?_
  refine lv_bipush (v := nI 16) hx hb dX4_number_25 (by decide) ?_
  refine lv_ishl hx hb dX4_number_27 ?_
  refine lv_ior hx hb dX4_number_28 ?_
  refine lv_aload_n hx hb dX4_number_29 rfl (lv_at hl 0 rfl) ?_
  refine gx_get C h h0 (Cn := RX4) (T := TX4) (N := 1) rfl in_X4 0 (by decide) q348 rfl rfl dX4_number_30 ?_
  refine lv_iload_n hx hb dX4_number_33 rfl (lv_at hl 1 rfl) ?_
  refine lv_iconst (v := nI 2) hx hb dX4_number_34 (by decide) ?_
  refine gn_iadd hx hb dX4_number_35 ?_
  refine gx_bald C h h1 (k + 2) (rfl) (by omega) dX4_number_36 ?_
  refine lv_sipush (v := nI 255) hx hb dX4_number_37 (by decide) ?_
  refine lv_iand hx hb dX4_number_40 ?_
  refine lv_bipush (v := nI 8) hx hb dX4_number_41 (by decide) ?_
  refine lv_ishl hx hb dX4_number_43 ?_
  refine lv_ior hx hb dX4_number_44 ?_
  refine lv_aload_n hx hb dX4_number_45 rfl (lv_at hl 0 rfl) ?_
  refine gx_get C h h0 (Cn := RX4) (T := TX4) (N := 1) rfl in_X4 0 (by decide) q348 rfl rfl dX4_number_46 ?_
  refine lv_iload_n hx hb dX4_number_49 rfl (lv_at hl 1 rfl) ?_
  refine lv_iconst (v := nI 3) hx hb dX4_number_50 (by decide) ?_
  refine gn_iadd hx hb dX4_number_51 ?_
  refine gx_bald C h h1 (k + 3) (rfl) (by omega) dX4_number_52 ?_
  refine lv_sipush (v := nI 255) hx hb dX4_number_53 (by decide) ?_
  refine lv_iand hx hb dX4_number_56 ?_
  refine lv_ior hx hb dX4_number_57 ?_
  exact gr_i C h (ty := .int) rfl (rfl) (⟨rfl, rfl⟩) (Nat.le_of_ble_eq_true rfl) (Nat.le_of_ble_eq_true rfl) dX4_number_58
set_option maxHeartbeats 4000000 in
theorem m_X4_wide (l : Launch) (g : GG) (w v : GW) (a b : Nat) (f : Nat → Int8) (h0 : w a = some (ob 1 [.ref b])) (h1 : w b = some (eB g 32 f)) (k : Nat) (hk : k + 8 ≤ 32) : Met l yX4_wide (ws_ yX4_wide cX4_wide 2 (some .long)) ({ frames := 2, cells := 0, slots := 0, locals := 120 } : Room) (gP g [.ref a, .int (nI k)] w v) (va_Ql (fun (r : Int64) (w' : GW) => r = wideB f k ∧ w' = w) (gB g v) (gA g)) 0 0 (gA g) := by
  refine gm_of (by decide) (Nat.le_of_ble_eq_true rfl) ?_
  intro p e s m below meth c ls C hnm h hl
  have C : Cx g p s m ([.ref a, .int (nI k)] : List Value).toArray meth c cX4_wide 2 RX4 (some .long) := C
  obtain ⟨hx, hb, hml, hown, hts, hr, hlk, hG⟩ := id C
  have hl : lv_has ls 2 [(0, .ref a), (1, .int (nI k))] := hl
  refine lv_aload_n hx hb dX4_wide_0 rfl (lv_at hl 0 rfl) ?_
  refine lv_iload_n hx hb dX4_wide_1 rfl (lv_at hl 1 rfl) ?_
  refine gc_i (va_runV (As := [.int (nI k)]) (rest := []) C.fix (m_X4_number l g w v a b f h0 h1 k (by omega)) (cwV 1 hts (lw_V q370 q372 qs9 q55 q373) rfl rfl rfl (by decide +kernel) ⟨Nat.le_of_ble_eq_true rfl, Nat.le_of_ble_eq_true rfl⟩) (gp_V C h [.int (nI k)] (Cn := RX4) (T := TX4) (N := 1) rfl h0) rfl rfl hl.1 rfl (lv_room (Nat.le_of_ble_eq_true rfl)) dX4_wide_2 ⟨Nat.le_of_ble_eq_true rfl, Nat.le_of_ble_eq_true rfl⟩) h (fun r_1 w_2 H locs hp h => ?_)
  obtain ⟨er_r_1, ew_r_1⟩ := hp
  rw [er_r_1]
  rw [ew_r_1] at h
  refine lv_i2l hx hb dX4_wide_5 rfl ?_
  refine lv_bipush (v := nI 32) hx hb dX4_wide_6 (by decide) ?_
  refine lv_lshl hx hb dX4_wide_8 rfl ?_
  refine lv_aload_n hx hb dX4_wide_9 rfl (lv_at hl 0 rfl) ?_
  refine lv_iload_n hx hb dX4_wide_10 rfl (lv_at hl 1 rfl) ?_
  refine lv_iconst (v := nI 4) hx hb dX4_wide_11 (by decide) ?_
  refine gn_iadd hx hb dX4_wide_12 ?_
  refine gc_i (va_runV (As := [.int (nI (k + 4))]) (rest := [.long ((((numB f k)).toInt64) <<< ((nI 32).toInt64 &&& 63))]) C.fix (m_X4_number l g w v a b f h0 h1 (k + 4) (by omega)) (cwV 1 hts (lw_V q370 q372 qs9 q55 q373) rfl rfl rfl (by decide +kernel) ⟨Nat.le_of_ble_eq_true rfl, Nat.le_of_ble_eq_true rfl⟩) (gp_V C h [.int (nI (k + 4))] (Cn := RX4) (T := TX4) (N := 1) rfl h0) rfl rfl hl.1 rfl (lv_room (Nat.le_of_ble_eq_true rfl)) dX4_wide_13 ⟨Nat.le_of_ble_eq_true rfl, Nat.le_of_ble_eq_true rfl⟩) h (fun r_3 w_4 H locs hp h => ?_)
  obtain ⟨er_r_3, ew_r_3⟩ := hp
  rw [er_r_3]
  rw [ew_r_3] at h
  refine lv_i2l hx hb dX4_wide_16 rfl ?_
  refine lv_ldc2 (v := 4294967295) hx hb hown (hts _ q374) dX4_wide_17 ?_
  refine lv_land hx hb dX4_wide_20 ?_
  refine lv_lor hx hb dX4_wide_21 ?_
  exact gr_l C h (⟨rfl, rfl⟩) (Nat.le_of_ble_eq_true rfl) (Nat.le_of_ble_eq_true rfl) dX4_wide_22
set_option maxHeartbeats 4000000 in
theorem m_X4_value (l : Launch) (g : GG) (w v : GW) (a b : Nat) (f : Nat → Int8) (h0 : w a = some (ob 1 [.ref b])) (h1 : w b = some (eB g 32 f))  : Met l yX4_value (ws_ yX4_value cX4_value 1 (some .long)) ({ frames := 3, cells := 0, slots := 0, locals := 180 } : Room) (gP g [.ref a] w v) (va_Ql (fun (r : Int64) (w' : GW) => r = wideB f 8 ∧ w' = w) (gB g v) (gA g)) 0 0 (gA g) := by
  refine gm_of (by decide) (Nat.le_of_ble_eq_true rfl) ?_
  intro p e s m below meth c ls C hnm h hl
  have C : Cx g p s m ([.ref a] : List Value).toArray meth c cX4_value 1 RX4 (some .long) := C
  obtain ⟨hx, hb, hml, hown, hts, hr, hlk, hG⟩ := id C
  have hl : lv_has ls 1 [(0, .ref a)] := hl
  refine lv_aload_n hx hb dX4_value_0 rfl (lv_at hl 0 rfl) ?_
  refine lv_bipush (v := nI 8) hx hb dX4_value_1 (by decide) ?_
  refine gc_l (va_runV (As := [.int (nI 8)]) (rest := []) C.fix (m_X4_wide l g w v a b f h0 h1 8 (by omega)) (cwV 1 hts (lw_V q366 q368 qs8 q55 q369) rfl rfl rfl (by decide +kernel) ⟨Nat.le_of_ble_eq_true rfl, Nat.le_of_ble_eq_true rfl⟩) (gp_V C h [.int (nI 8)] (Cn := RX4) (T := TX4) (N := 1) rfl h0) rfl rfl hl.1 rfl (lv_room (Nat.le_of_ble_eq_true rfl)) dX4_value_3 ⟨Nat.le_of_ble_eq_true rfl, Nat.le_of_ble_eq_true rfl⟩) h (fun r_1 w_2 H locs hp h => ?_)
  obtain ⟨er_r_1, ew_r_1⟩ := hp
  rw [er_r_1]
  rw [ew_r_1] at h
  exact gr_l C h (⟨rfl, rfl⟩) (Nat.le_of_ble_eq_true rfl) (Nat.le_of_ble_eq_true rfl) dX4_value_6
set_option maxHeartbeats 4000000 in
theorem m_X4_kind (l : Launch) (g : GG) (w v : GW) (a b : Nat) (f : Nat → Int8) (h0 : w a = some (ob 1 [.ref b])) (h1 : w b = some (eB g 32 f))  : Met l yX4_kind (ws_ yX4_kind cX4_kind 1 (some .int)) ({ frames := 1, cells := 0, slots := 0, locals := 60 } : Room) (gP g [.ref a] w v) (va_Qi (fun (r : Int32) (w' : GW) => r = (f 4).toInt32 ∧ w' = w) (gB g v) (gA g)) 0 0 (gA g) := by
  refine gm_of (by decide) (Nat.le_of_ble_eq_true rfl) ?_
  intro p e s m below meth c ls C hnm h hl
  have C : Cx g p s m ([.ref a] : List Value).toArray meth c cX4_kind 1 RX4 (some .int) := C
  obtain ⟨hx, hb, hml, hown, hts, hr, hlk, hG⟩ := id C
  have hl : lv_has ls 1 [(0, .ref a)] := hl
  refine lv_aload_n hx hb dX4_kind_0 rfl (lv_at hl 0 rfl) ?_
  refine gx_get C h h0 (Cn := RX4) (T := TX4) (N := 1) rfl in_X4 0 (by decide) q348 rfl rfl dX4_kind_1 ?_
  refine lv_iconst (v := nI 4) hx hb dX4_kind_4 (by decide) ?_
  refine gx_bald C h h1 4 (rfl) (by omega) dX4_kind_5 ?_
  exact gr_i C h (ty := .int) rfl (rfl) (⟨rfl, rfl⟩) (Nat.le_of_ble_eq_true rfl) (Nat.le_of_ble_eq_true rfl) dX4_kind_6
set_option maxHeartbeats 4000000 in
theorem m_X4_page (l : Launch) (g : GG) (w v : GW) (a b : Nat) (f : Nat → Int8) (h0 : w a = some (ob 1 [.ref b])) (h1 : w b = some (eB g 32 f))  : Met l yX4_page (ws_ yX4_page cX4_page 1 (some .int)) ({ frames := 1, cells := 0, slots := 0, locals := 60 } : Room) (gP g [.ref a] w v) (va_Qi (fun (r : Int32) (w' : GW) => r = ub (f 5) ∧ w' = w) (gB g v) (gA g)) 0 0 (gA g) := by
  refine gm_of (by decide) (Nat.le_of_ble_eq_true rfl) ?_
  intro p e s m below meth c ls C hnm h hl
  have C : Cx g p s m ([.ref a] : List Value).toArray meth c cX4_page 1 RX4 (some .int) := C
  obtain ⟨hx, hb, hml, hown, hts, hr, hlk, hG⟩ := id C
  have hl : lv_has ls 1 [(0, .ref a)] := hl
  refine lv_aload_n hx hb dX4_page_0 rfl (lv_at hl 0 rfl) ?_
  refine gx_get C h h0 (Cn := RX4) (T := TX4) (N := 1) rfl in_X4 0 (by decide) q348 rfl rfl dX4_page_1 ?_
  refine lv_iconst (v := nI 5) hx hb dX4_page_4 (by decide) ?_
  refine gx_bald C h h1 5 (rfl) (by omega) dX4_page_5 ?_
  refine lv_sipush (v := nI 255) hx hb dX4_page_6 (by decide) ?_
  refine lv_iand hx hb dX4_page_9 ?_
  exact gr_i C h (ty := .int) rfl (rfl) (⟨rfl, rfl⟩) (Nat.le_of_ble_eq_true rfl) (Nat.le_of_ble_eq_true rfl) dX4_page_10
set_option maxHeartbeats 4000000 in
theorem m_X4_source (l : Launch) (g : GG) (w v : GW) (a b : Nat) (f : Nat → Int8) (h0 : w a = some (ob 1 [.ref b])) (h1 : w b = some (eB g 32 f))  : Met l yX4_source (ws_ yX4_source cX4_source 1 (some .int)) ({ frames := 1, cells := 0, slots := 0, locals := 60 } : Room) (gP g [.ref a] w v) (va_Qi (fun (r : Int32) (w' : GW) => r = ub (f 6) ∧ w' = w) (gB g v) (gA g)) 0 0 (gA g) := by
  refine gm_of (by decide) (Nat.le_of_ble_eq_true rfl) ?_
  intro p e s m below meth c ls C hnm h hl
  have C : Cx g p s m ([.ref a] : List Value).toArray meth c cX4_source 1 RX4 (some .int) := C
  obtain ⟨hx, hb, hml, hown, hts, hr, hlk, hG⟩ := id C
  have hl : lv_has ls 1 [(0, .ref a)] := hl
  refine lv_aload_n hx hb dX4_source_0 rfl (lv_at hl 0 rfl) ?_
  refine gx_get C h h0 (Cn := RX4) (T := TX4) (N := 1) rfl in_X4 0 (by decide) q348 rfl rfl dX4_source_1 ?_
  refine lv_bipush (v := nI 6) hx hb dX4_source_4 (by decide) ?_
  refine gx_bald C h h1 6 (rfl) (by omega) dX4_source_6 ?_
  refine lv_sipush (v := nI 255) hx hb dX4_source_7 (by decide) ?_
  refine lv_iand hx hb dX4_source_10 ?_
  exact gr_i C h (ty := .int) rfl (rfl) (⟨rfl, rfl⟩) (Nat.le_of_ble_eq_true rfl) (Nat.le_of_ble_eq_true rfl) dX4_source_11
set_option maxHeartbeats 4000000 in
theorem m_X4_set (l : Launch) (g : GG) (w v : GW) (a b : Nat) (f : Nat → Int8) (h0 : w a = some (ob 1 [.ref b])) (h1 : w b = some (eB g 32 f)) (k : Nat) (x : Int32) (hk : k + 4 ≤ 32) : Met l yX4_set (ws_ yX4_set cX4_set 4 none) ({ frames := 1, cells := 0, slots := 0, locals := 60 } : Room) (gP g [.ref a, .int (nI k), .int x] w v) (va_Qv (fun (w' : GW) => w' = gu w b (eB g 32 (setB f k x))) (gB g v) (gA g)) 0 0 (gA g) := by
  refine gm_of (by decide) (Nat.le_of_ble_eq_true rfl) ?_
  intro p e s m below meth c ls C hnm h hl
  have C : Cx g p s m ([.ref a, .int (nI k), .int x] : List Value).toArray meth c cX4_set 4 RX4 none := C
  obtain ⟨hx, hb, hml, hown, hts, hr, hlk, hG⟩ := id C
  have hl : lv_has ls 4 [(0, .ref a), (1, .int (nI k)), (2, .int x)] := hl
  refine lv_iconst (v := nI 0) hx hb dX4_set_0 (by decide) ?_
  refine lv_istore_n (lv' := [(3, .int (nI 0)), (0, .ref a), (1, .int (nI k)), (2, .int x)]) hx hb dX4_set_1 rfl hl (by decide) rfl (fun ls hl => ?_)
  have loop : ∀ (n_ : Nat) (i : Nat) (w1 : GW) (H : Heap) (locs : List Loc) (ls : Array Slot), 4 - i < n_ → (i ≤ 4) → (w1 = gu w b (eB g 32 (setK f k x i))) → SH g w1 v s H locs → lv_has ls 4 [(0, .ref a), (1, .int (nI k)), (2, .int x), (3, .int (nI i))] → W p l e ({ frames := 1, cells := 0, slots := 0, locals := 60 } : Room) s m ([.ref a, .int (nI k), .int x] : List Value).toArray below meth c H locs 0 0 (MQ below (va_Qv (fun (w' : GW) => w' = gu w b (eB g 32 (setB f k x))) (gB g v) (gA g)) ([.ref a, .int (nI k), .int x] : List Value).toArray s 0 0 (gA g)) (F0 m 2 ls []) := by
    intro n_
    induction n_ with
    | zero => intros; exact absurd ‹_ < 0› (Nat.not_lt_zero _)
    | succ n_ ih =>
      intro i w1 H locs ls hf hi hw  h hl
      have g0 : w1 a = some (ob 1 [.ref b]) := by rw [hw]; exact (gu_n (g_ne h0 h1 (by simp))).trans h0
      have g1 : w1 b = some (eB g 32 (setK f k x i)) := by rw [hw]; exact gu_s
      refine lv_iload_n hx hb dX4_set_2 rfl (lv_at hl 3 rfl) ?_
      refine lv_iconst (v := nI 4) hx hb dX4_set_3 (by decide) ?_
      refine lv_icmp_ge (tgt := 31) hx hb dX4_set_4 (by decide) (fun c1 => ?_) (fun c1 => ?_)
      · skip
        have c1 : 4 ≤ i := (nI_leI (by omega) (by omega)).mp c1
        have : i = 4 := by omega
        subst this
        exact gr_v C h (hw) (Nat.le_of_ble_eq_true rfl) (Nat.le_of_ble_eq_true rfl) dX4_set_31
      · skip
        have c1 : ¬ (4 ≤ i) := fun q => c1 ((nI_leI (by omega) (by omega)).mpr q)
        refine lv_aload_n hx hb dX4_set_7 rfl (lv_at hl 0 rfl) ?_
        refine gx_get C h g0 (Cn := RX4) (T := TX4) (N := 1) rfl in_X4 0 (by decide) q348 rfl rfl dX4_set_8 ?_
        refine lv_iload_n hx hb dX4_set_11 rfl (lv_at hl 1 rfl) ?_
        refine lv_iload_n hx hb dX4_set_12 rfl (lv_at hl 3 rfl) ?_
        refine gn_iadd hx hb dX4_set_13 ?_
        refine lv_iload_n hx hb dX4_set_14 rfl (lv_at hl 2 rfl) ?_
        refine lv_bipush (v := nI 24) hx hb dX4_set_15 (by decide) ?_
        refine lv_bipush (v := nI 8) hx hb dX4_set_17 (by decide) ?_
        refine lv_iload_n hx hb dX4_set_19 rfl (lv_at hl 3 rfl) ?_
        refine gn_imul hx hb dX4_set_20 ?_
        refine gn_isub hx hb dX4_set_21 (by omega) ?_
        refine lv_ishr hx hb dX4_set_22 ?_
        refine lv_i2b hx hb dX4_set_23 rfl ?_
        refine gx_bast C h g1 (k + i) (rfl) (by omega) dX4_set_24 (fun H locs h => ?_)
        obtain ⟨w_1, ew_1⟩ : ∃ z : GW, z = gu w1 b (eB g 32 (va_up (setK f k x i) (k + i) ((((x >>> ((nI (24 - (8 * i)) &&& 31)))).toInt8.toInt32)).toInt8)) := ⟨_, rfl⟩
        have h : SH g w_1 v s H locs := by rw [ew_1]; exact h
        have f_2 : w_1 a = some (ob 1 [.ref b]) := by rw [ew_1]; exact (gu_n (g_ne g0 g1 (by simp))).trans g0
        have f_3 : w_1 b = some (eB g 32 (va_up (setK f k x i) (k + i) ((((x >>> ((nI (24 - (8 * i)) &&& 31)))).toInt8.toInt32)).toInt8)) := by rw [ew_1]; exact gu_s
        refine lv_iinc (v := nI (i + 1)) (lv' := [(3, .int (nI (i + 1))), (0, .ref a), (1, .int (nI k)), (2, .int x)]) hx hb dX4_set_25 hl (k := 3) rfl (gi_inc _ 1) (by decide) rfl (fun ls hl => ?_)
        refine lv_goto (tgt := 2) hx hb dX4_set_28 (by decide) ?_
        exact ih (i + 1) _ _ _ _ (by omega) (by omega) (by rw [ew_1, hw, gu_gu, setK_s])  h (lv_sub hl [1, 2, 3, 0] rfl)
  exact loop 5 0 w _ _ _ (by omega) (by omega) (by rw [setK_0, gu_self h1]) h (lv_sub hl [1, 2, 3, 0] rfl)
set_option maxHeartbeats 4000000 in
theorem m_X4_setWide (l : Launch) (g : GG) (w v : GW) (a b : Nat) (f : Nat → Int8) (h0 : w a = some (ob 1 [.ref b])) (h1 : w b = some (eB g 32 f)) (k : Nat) (x : Int64) (hk : k + 8 ≤ 32) : Met l yX4_setWide (ws_ yX4_setWide cX4_setWide 4 none) ({ frames := 2, cells := 0, slots := 0, locals := 120 } : Room) (gP g [.ref a, .int (nI k), .long x] w v) (va_Qv (fun (w' : GW) => w' = gu w b (eB g 32 (setWB f k x))) (gB g v) (gA g)) 0 0 (gA g) := by
  refine gm_of (by decide) (Nat.le_of_ble_eq_true rfl) ?_
  intro p e s m below meth c ls C hnm h hl
  have C : Cx g p s m ([.ref a, .int (nI k), .long x] : List Value).toArray meth c cX4_setWide 4 RX4 none := C
  obtain ⟨hx, hb, hml, hown, hts, hr, hlk, hG⟩ := id C
  have hl : lv_has ls 4 [(0, .ref a), (1, .int (nI k)), (2, .long x)] := hl
  refine lv_aload_n hx hb dX4_setWide_0 rfl (lv_at hl 0 rfl) ?_
  refine lv_iload_n hx hb dX4_setWide_1 rfl (lv_at hl 1 rfl) ?_
  refine lv_lload_n hx hb dX4_setWide_2 rfl (lv_at hl 2 rfl) ?_
  refine lv_bipush (v := nI 32) hx hb dX4_setWide_3 (by decide) ?_
  refine lv_lshr hx hb dX4_setWide_5 rfl ?_
  refine lv_l2i hx hb dX4_setWide_6 rfl ?_
  refine gc_v (va_runV (As := [.int (nI k), .int ((x >>> ((nI 32).toInt64 &&& 63)).toInt32)]) (rest := []) C.fix (m_X4_set l g w v a b f h0 h1 k (x >>> ((nI 32).toInt64 &&& 63)).toInt32 (by omega)) (cwV 2 hts (lw_V q434 q436 qs15 q55 q437) rfl rfl rfl (by decide +kernel) ⟨Nat.le_of_ble_eq_true rfl, Nat.le_of_ble_eq_true rfl⟩) (gp_V C h [.int (nI k), .int ((x >>> ((nI 32).toInt64 &&& 63)).toInt32)] (Cn := RX4) (T := TX4) (N := 1) rfl h0) rfl rfl hl.1 rfl (lv_room (Nat.le_of_ble_eq_true rfl)) dX4_setWide_7 ⟨Nat.le_of_ble_eq_true rfl, Nat.le_of_ble_eq_true rfl⟩) h (fun w_2 H locs hp h => ?_)
  have ew_3 : w_2 = gu w b (eB g 32 (setB f k (x >>> ((nI 32).toInt64 &&& 63)).toInt32)) := hp
  have f_4 : w_2 a = some (ob 1 [.ref b]) := by rw [ew_3]; exact (gu_n (g_ne h0 h1 (by simp))).trans h0
  have f_5 : w_2 b = some (eB g 32 (setB f k (x >>> ((nI 32).toInt64 &&& 63)).toInt32)) := by rw [ew_3]; exact gu_s
  refine lv_aload_n hx hb dX4_setWide_10 rfl (lv_at hl 0 rfl) ?_
  refine lv_iload_n hx hb dX4_setWide_11 rfl (lv_at hl 1 rfl) ?_
  refine lv_iconst (v := nI 4) hx hb dX4_setWide_12 (by decide) ?_
  refine gn_iadd hx hb dX4_setWide_13 ?_
  refine lv_lload_n hx hb dX4_setWide_14 rfl (lv_at hl 2 rfl) ?_
  refine lv_l2i hx hb dX4_setWide_15 rfl ?_
  refine gc_v (va_runV (As := [.int (nI (k + 4)), .int x.toInt32]) (rest := []) C.fix (m_X4_set l g w_2 v a b (setB f k (x >>> ((nI 32).toInt64 &&& 63)).toInt32) f_4 f_5 (k + 4) x.toInt32 (by omega)) (cwV 2 hts (lw_V q434 q436 qs15 q55 q437) rfl rfl rfl (by decide +kernel) ⟨Nat.le_of_ble_eq_true rfl, Nat.le_of_ble_eq_true rfl⟩) (gp_V C h [.int (nI (k + 4)), .int x.toInt32] (Cn := RX4) (T := TX4) (N := 1) rfl f_4) rfl rfl hl.1 rfl (lv_room (Nat.le_of_ble_eq_true rfl)) dX4_setWide_16 ⟨Nat.le_of_ble_eq_true rfl, Nat.le_of_ble_eq_true rfl⟩) h (fun w_7 H locs hp h => ?_)
  have ew_8 : w_7 = gu w_2 b (eB g 32 (setWB f k x)) := hp
  have f_9 : w_7 a = some (ob 1 [.ref b]) := by rw [ew_8]; exact (gu_n (g_ne f_4 f_5 (by simp))).trans f_4
  have f_10 : w_7 b = some (eB g 32 (setWB f k x)) := by rw [ew_8]; exact gu_s
  exact gr_v C h (by rw [ew_8, ew_3, gu_gu]) (Nat.le_of_ble_eq_true rfl) (Nat.le_of_ble_eq_true rfl) dX4_setWide_19
set_option maxHeartbeats 4000000 in
theorem m_X4_sum (l : Launch) (g : GG) (w v : GW) (a b : Nat) (f : Nat → Int8) (h0 : w a = some (ob 1 [.ref b])) (h1 : w b = some (eB g 32 f))  : Met l yX4_sum (ws_ yX4_sum cX4_sum 3 (some .int)) ({ frames := 2, cells := 0, slots := 0, locals := 120 } : Room) (gP g [.ref a] w v) (va_Qi (fun (r : Int32) (w' : GW) => r = sumB f ∧ w' = w) (gB g v) (gA g)) 0 0 (gA g) := by
  refine gm_of (by decide) (Nat.le_of_ble_eq_true rfl) ?_
  intro p e s m below meth c ls C hnm h hl
  have C : Cx g p s m ([.ref a] : List Value).toArray meth c cX4_sum 3 RX4 (some .int) := C
  obtain ⟨hx, hb, hml, hown, hts, hr, hlk, hG⟩ := id C
  have hl : lv_has ls 3 [(0, .ref a)] := hl
  refine lv_iconst (v := nI 0) hx hb dX4_sum_0 (by decide) ?_
  refine lv_istore_n (lv' := [(1, .int (nI 0)), (0, .ref a)]) hx hb dX4_sum_1 rfl hl (by decide) rfl (fun ls hl => ?_)
  refine lv_iconst (v := nI 4) hx hb dX4_sum_2 (by decide) ?_
  refine lv_istore_n (lv' := [(2, .int (nI 4)), (1, .int (nI 0)), (0, .ref a)]) hx hb dX4_sum_3 rfl hl (by decide) rfl (fun ls hl => ?_)
  have loop : ∀ (n_ : Nat) (i : Nat) (w1 : GW) (H : Heap) (locs : List Loc) (ls : Array Slot), 28 - i < n_ → (i ≤ 28) → (w1 = w) → SH g w1 v s H locs → lv_has ls 3 [(0, .ref a), (1, .int (sumTo (fun j => ub (f j)) i)), (2, .int (nI (4 + i)))] → W p l e ({ frames := 2, cells := 0, slots := 0, locals := 120 } : Room) s m ([.ref a] : List Value).toArray below meth c H locs 0 0 (MQ below (va_Qi (fun (r : Int32) (w' : GW) => r = sumB f ∧ w' = w) (gB g v) (gA g)) ([.ref a] : List Value).toArray s 0 0 (gA g)) (F0 m 4 ls []) := by
    intro n_
    induction n_ with
    | zero => intros; exact absurd ‹_ < 0› (Nat.not_lt_zero _)
    | succ n_ ih =>
      intro i w1 H locs ls hf hi hw  h hl
      rw [hw] at h
      refine lv_iload_n hx hb dX4_sum_4 rfl (lv_at hl 2 rfl) ?_
      refine lv_bipush (v := nI 32) hx hb dX4_sum_5 (by decide) ?_
      refine lv_icmp_ge (tgt := 37) hx hb dX4_sum_7 (by decide) (fun c1 => ?_) (fun c1 => ?_)
      · skip
        have c1 : 32 ≤ (4 + i) := (nI_leI (by omega) (by omega)).mp c1
        refine lv_iload_n hx hb dX4_sum_37 rfl (lv_at hl 1 rfl) ?_
        have : i = 28 := by omega
        subst this
        exact gr_i C h (ty := .int) rfl (rfl) (⟨rfl, rfl⟩) (Nat.le_of_ble_eq_true rfl) (Nat.le_of_ble_eq_true rfl) dX4_sum_38
      · skip
        have c1 : ¬ (32 ≤ (4 + i)) := fun q => c1 ((nI_leI (by omega) (by omega)).mpr q)
        refine lv_iload_n hx hb dX4_sum_10 rfl (lv_at hl 1 rfl) ?_
        refine lv_aload_n hx hb dX4_sum_11 rfl (lv_at hl 0 rfl) ?_
        refine gx_get C h h0 (Cn := RX4) (T := TX4) (N := 1) rfl in_X4 0 (by decide) q348 rfl rfl dX4_sum_12 ?_
        refine lv_iload_n hx hb dX4_sum_15 rfl (lv_at hl 2 rfl) ?_
        refine gx_bald C h h1 (4 + i) (rfl) (by omega) dX4_sum_16 ?_
        refine lv_sipush (v := nI 255) hx hb dX4_sum_17 (by decide) ?_
        refine lv_iand hx hb dX4_sum_20 ?_
        refine lv_ixor hx hb dX4_sum_21 ?_
        refine lv_bipush (v := nI 11) hx hb dX4_sum_22 (by decide) ?_
        refine gc_i (va_runS (As := [.int (((sumTo (fun j => ub (f j)) i)) ^^^ (((((f (4 + i)).toInt32)) &&& (nI 255)))), .int (nI 11)]) (rest := []) C.fix (m_J10_rotateLeft l g w v ((sumTo (fun j => ub (f j)) i) ^^^ ub (f (4 + i))) (nI 11)) (va_cwS 2 hts (lw_S q454 q455 q59 q456) rfl rfl rfl (by decide +kernel) ⟨Nat.le_of_ble_eq_true rfl, Nat.le_of_ble_eq_true rfl⟩) (gp_S C h _) rfl rfl hl.1 rfl (lv_room (Nat.le_of_ble_eq_true rfl)) dX4_sum_24 ⟨Nat.le_of_ble_eq_true rfl, Nat.le_of_ble_eq_true rfl⟩) h (fun r_1 w_2 H locs hp h => ?_)
        obtain ⟨er_r_1, ew_r_1⟩ := hp
        rw [er_r_1]
        rw [ew_r_1] at h
        refine lv_ldc (v := -2048144777) hx hb hown (hts _ q457) dX4_sum_27 ?_
        refine lv_imul hx hb dX4_sum_29 ?_
        rw [rotl11]
        refine lv_istore_n (lv' := [(1, .int (sumTo (fun j => ub (f j)) (i + 1))), (0, .ref a), (2, .int (nI (4 + i)))]) hx hb dX4_sum_30 rfl hl (by decide) rfl (fun ls hl => ?_)
        refine lv_iinc (v := nI (4 + i + 1)) (lv' := [(2, .int (nI (4 + i + 1))), (1, .int (sumTo (fun j => ub (f j)) (i + 1))), (0, .ref a)]) hx hb dX4_sum_31 hl (k := 2) rfl (gi_inc _ 1) (by decide) rfl (fun ls hl => ?_)
        refine lv_goto (tgt := 4) hx hb dX4_sum_34 (by decide) ?_
        exact ih (i + 1) _ _ _ _ (by omega) (by omega) rfl  h (lv_sub hl [2, 1, 0] rfl)
  exact loop 29 0 w _ _ _ (by omega) (by omega) rfl h (lv_sub hl [2, 1, 0] rfl)
set_option maxHeartbeats 4000000 in
theorem m_X4_close (l : Launch) (g : GG) (w v : GW) (a b : Nat) (f : Nat → Int8) (h0 : w a = some (ob 1 [.ref b])) (h1 : w b = some (eB g 32 f))  : Met l yX4_close (ws_ yX4_close cX4_close 1 none) ({ frames := 3, cells := 0, slots := 0, locals := 180 } : Room) (gP g [.ref a] w v) (va_Qv (fun (w' : GW) => w' = gu w b (eB g 32 (closeB f))) (gB g v) (gA g)) 0 0 (gA g) := by
  refine gm_of (by decide) (Nat.le_of_ble_eq_true rfl) ?_
  intro p e s m below meth c ls C hnm h hl
  have C : Cx g p s m ([.ref a] : List Value).toArray meth c cX4_close 1 RX4 none := C
  obtain ⟨hx, hb, hml, hown, hts, hr, hlk, hG⟩ := id C
  have hl : lv_has ls 1 [(0, .ref a)] := hl
  refine lv_aload_n hx hb dX4_close_0 rfl (lv_at hl 0 rfl) ?_
  refine lv_iconst (v := nI 0) hx hb dX4_close_1 (by decide) ?_
  refine lv_aload_n hx hb dX4_close_2 rfl (lv_at hl 0 rfl) ?_
  refine gc_i (va_runV (As := []) (rest := [.int (nI 0), .ref a]) C.fix (m_X4_sum l g w v a b f h0 h1) (cwV 0 hts (lw_V q450 q452 qs16 q55 q453) rfl rfl rfl (by decide +kernel) ⟨Nat.le_of_ble_eq_true rfl, Nat.le_of_ble_eq_true rfl⟩) (gp_V C h [] (Cn := RX4) (T := TX4) (N := 1) rfl h0) rfl rfl hl.1 rfl (lv_room (Nat.le_of_ble_eq_true rfl)) dX4_close_3 ⟨Nat.le_of_ble_eq_true rfl, Nat.le_of_ble_eq_true rfl⟩) h (fun r_1 w_2 H locs hp h => ?_)
  obtain ⟨er_r_1, ew_r_1⟩ := hp
  rw [er_r_1]
  rw [ew_r_1] at h
  refine gc_v (va_runV (As := [.int (nI 0), .int (sumB f)]) (rest := []) C.fix (m_X4_set l g w v a b f h0 h1 0 (sumB f) (by omega)) (cwV 2 hts (lw_V q434 q436 qs15 q55 q437) rfl rfl rfl (by decide +kernel) ⟨Nat.le_of_ble_eq_true rfl, Nat.le_of_ble_eq_true rfl⟩) (gp_V C h [.int (nI 0), .int (sumB f)] (Cn := RX4) (T := TX4) (N := 1) rfl h0) rfl rfl hl.1 rfl (lv_room (Nat.le_of_ble_eq_true rfl)) dX4_close_6 ⟨Nat.le_of_ble_eq_true rfl, Nat.le_of_ble_eq_true rfl⟩) h (fun w_4 H locs hp h => ?_)
  have ew_5 : w_4 = gu w b (eB g 32 (closeB f)) := hp
  have f_6 : w_4 a = some (ob 1 [.ref b]) := by rw [ew_5]; exact (gu_n (g_ne h0 h1 (by simp))).trans h0
  have f_7 : w_4 b = some (eB g 32 (closeB f)) := by rw [ew_5]; exact gu_s
  exact gr_v C h (ew_5) (Nat.le_of_ble_eq_true rfl) (Nat.le_of_ble_eq_true rfl) dX4_close_9
set_option maxHeartbeats 4000000 in
theorem m_X4_isRight (l : Launch) (g : GG) (w v : GW) (a b : Nat) (f : Nat → Int8) (h0 : w a = some (ob 1 [.ref b])) (h1 : w b = some (eB g 32 f))  : Met l yX4_isRight (ws_ yX4_isRight cX4_isRight 1 (some .boolean)) ({ frames := 3, cells := 0, slots := 0, locals := 180 } : Room) (gP g [.ref a] w v) (va_Qi (fun (r : Int32) (w' : GW) => r = bI (rightB f) ∧ w' = w) (gB g v) (gA g)) 0 0 (gA g) := by
  refine gm_of (by decide) (Nat.le_of_ble_eq_true rfl) ?_
  intro p e s m below meth c ls C hnm h hl
  have C : Cx g p s m ([.ref a] : List Value).toArray meth c cX4_isRight 1 RX4 (some .boolean) := C
  obtain ⟨hx, hb, hml, hown, hts, hr, hlk, hG⟩ := id C
  have hl : lv_has ls 1 [(0, .ref a)] := hl
  refine lv_aload_n hx hb dX4_isRight_0 rfl (lv_at hl 0 rfl) ?_
  refine lv_iconst (v := nI 0) hx hb dX4_isRight_1 (by decide) ?_
  refine gc_i (va_runV (As := [.int (nI 0)]) (rest := []) C.fix (m_X4_number l g w v a b f h0 h1 0 (by omega)) (cwV 1 hts (lw_V q370 q372 qs9 q55 q373) rfl rfl rfl (by decide +kernel) ⟨Nat.le_of_ble_eq_true rfl, Nat.le_of_ble_eq_true rfl⟩) (gp_V C h [.int (nI 0)] (Cn := RX4) (T := TX4) (N := 1) rfl h0) rfl rfl hl.1 rfl (lv_room (Nat.le_of_ble_eq_true rfl)) dX4_isRight_2 ⟨Nat.le_of_ble_eq_true rfl, Nat.le_of_ble_eq_true rfl⟩) h (fun r_1 w_2 H locs hp h => ?_)
  obtain ⟨er_r_1, ew_r_1⟩ := hp
  rw [er_r_1]
  rw [ew_r_1] at h
  refine lv_aload_n hx hb dX4_isRight_5 rfl (lv_at hl 0 rfl) ?_
  refine gc_i (va_runV (As := []) (rest := [.int (numB f 0)]) C.fix (m_X4_sum l g w v a b f h0 h1) (cwV 0 hts (lw_V q450 q452 qs16 q55 q453) rfl rfl rfl (by decide +kernel) ⟨Nat.le_of_ble_eq_true rfl, Nat.le_of_ble_eq_true rfl⟩) (gp_V C h [] (Cn := RX4) (T := TX4) (N := 1) rfl h0) rfl rfl hl.1 rfl (lv_room (Nat.le_of_ble_eq_true rfl)) dX4_isRight_6 ⟨Nat.le_of_ble_eq_true rfl, Nat.le_of_ble_eq_true rfl⟩) h (fun r_3 w_4 H locs hp h => ?_)
  obtain ⟨er_r_3, ew_r_3⟩ := hp
  rw [er_r_3]
  rw [ew_r_3] at h
  refine lv_icmp_ne (tgt := 16) hx hb dX4_isRight_9 (by decide) (fun c1 => ?_) (fun c1 => ?_)
  · skip
    refine lv_iconst (v := bI false) hx hb dX4_isRight_16 (by decide) ?_
    exact gr_i C h (ty := .boolean) rfl (bI_n _) (⟨by rw [rightB, decide_eq_false c1], rfl⟩) (Nat.le_of_ble_eq_true rfl) (Nat.le_of_ble_eq_true rfl) dX4_isRight_17
  · skip
    refine lv_iconst (v := bI true) hx hb dX4_isRight_12 (by decide) ?_
    refine lv_goto (tgt := 17) hx hb dX4_isRight_13 (by decide) ?_
    exact gr_i C h (ty := .boolean) rfl (bI_n _) (⟨by rw [rightB, decide_eq_true c1], rfl⟩) (Nat.le_of_ble_eq_true rfl) (Nat.le_of_ble_eq_true rfl) dX4_isRight_17
set_option maxHeartbeats 4000000 in
theorem m_X4_init (l : Launch) (g : GG) (w v : GW) (a : Nat) (h0 : w a = some (ob 1 [.null]))  : Met l yX4_init (ws_ yX4_init cX4_init 1 none) ({ frames := 1, cells := 1, slots := 32, locals := 60 } : Room) (gP g [.ref a] w v) (va_Qv (fun (w' : GW) => ∃ b : Nat, w b = none ∧ v b = none ∧ w' = gu (gu w b (eB g 32 (fun _ => 0))) a (ob 1 [.ref b])) (gB g v) (gA g)) 1 32 (gA g) := by
  refine gm_of (by decide) (Nat.le_of_ble_eq_true rfl) ?_
  intro p e s m below meth c ls C hnm h hl
  have C : Cx g p s m ([.ref a] : List Value).toArray meth c cX4_init 1 RX4 none := C
  obtain ⟨hx, hb, hml, hown, hts, hr, hlk, hG⟩ := id C
  have hl : lv_has ls 1 [(0, .ref a)] := hl
  refine lv_aload_n hx hb dX4_init_0 rfl (lv_at hl 0 rfl) ?_
  refine W.objInit hx hb hown (hts _ q347) (hts _ q76) (hts _ q77) rfl (by rw [hml]; exact hl.1) rfl dX4_init_1 (Nat.le_of_ble_eq_true rfl) (Nat.le_of_ble_eq_true rfl) ?_
  refine W.eq (g2 := F0 m 4 ls []) rfl ?_
  refine lv_aload_n hx hb dX4_init_4 rfl (lv_at hl 0 rfl) ?_
  refine lv_bipush (v := nI 32) hx hb dX4_init_5 (by decide) ?_
  refine gx_newa C h 0 (atype := .byte) q149 (ty := .byte) rfl rfl (N' := 32) (x := .inl (fun j => ((fun _ => (0 : Int8)) j).toInt32)) (fun _ => rfl) (rfl) (Nat.le_of_ble_eq_true rfl) (Nat.le_of_ble_eq_true rfl) (Nat.le_of_ble_eq_true rfl) (Nat.le_of_ble_eq_true rfl) dX4_init_7 (fun a_1 H hn_2 hn_2v h => ?_)
  obtain ⟨w_3, ew_3⟩ : ∃ z : GW, z = gu w a_1 (eB g 32 (fun _ => 0)) := ⟨_, rfl⟩
  have h : SH g w_3 v s H [] := by rw [ew_3]; exact h
  have f_4 : w_3 a = some (ob 1 [.null]) := by rw [ew_3]; exact (gu_n (g_neN h0 hn_2)).trans h0
  have f_5 : w_3 a_1 = some (eB g 32 (fun _ => 0)) := by rw [ew_3]; exact gu_s
  refine gx_putF C h f_4 (Cn := RX4) (T := TX4) (N := 1) (x := .ref a_1) rfl in_X4 tyX4 tyX4_ok nmX4 0 (by decide) q348 rfl rfl hnm rfl rfl (Nat.le_of_ble_eq_true rfl) dX4_init_9 (fun H locs h => ?_)
  obtain ⟨w_6, ew_6⟩ : ∃ z : GW, z = gu w_3 a (ob 1 [.ref a_1]) := ⟨_, rfl⟩
  have h : SH g w_6 v s H locs := by rw [ew_6]; exact h
  have f_7 : w_6 a = some (ob 1 [.ref a_1]) := by rw [ew_6]; exact gu_s
  have f_8 : w_6 a_1 = some (eB g 32 (fun _ => 0)) := by rw [ew_6]; exact (gu_n (Ne.symm (g_neN h0 hn_2))).trans f_5
  exact gr_v C h (⟨a_1, hn_2, hn_2v, by rw [ew_6, ew_3]⟩) (Nat.le_of_ble_eq_true rfl) (Nat.le_of_ble_eq_true rfl) dX4_init_12
set_option maxHeartbeats 4000000 in
theorem m_X4_of (l : Launch) (g : GG) (w v : GW) (k pg so : Int32) (x : Int64) (tr : Int32)  : Met l yX4_of (ws_ yX4_of cX4_of 7 (some (.object "KnowDisk$Sector"))) ({ frames := 3, cells := 2, slots := 33, locals := 180 } : Room) (gP g [.int k, .int pg, .int so, .long x, .int tr] w v) (va_Qq (fun (r : Option Nat) (w' : GW) => ∃ a b : Nat, r = some a ∧ w a = none ∧ v a = none ∧ w b = none ∧ v b = none ∧ a ≠ b ∧ w' = gu (gu w b (eB g 32 (ofB k pg so x tr))) a (ob 1 [.ref b])) (gB g v) (gA g)) 2 33 (gA g) := by
  refine gm_of (by decide) (Nat.le_of_ble_eq_true rfl) ?_
  intro p e s m below meth c ls C hnm h hl
  have C : Cx g p s m ([.int k, .int pg, .int so, .long x, .int tr] : List Value).toArray meth c cX4_of 7 RX4 (some (.object "KnowDisk$Sector")) := C
  obtain ⟨hx, hb, hml, hown, hts, hr, hlk, hG⟩ := id C
  have hl : lv_has ls 7 [(0, .int k), (1, .int pg), (2, .int so), (3, .long x), (5, .int tr)] := hl
  refine gx_new C h (ci := 1) (fs := [.null]) (Cn := RX4) (T := TX4) (N := 1) rfl in_X4 tyX4 tyX4_ok q428 q343 q55 (fun j hj => by rcases (show j = 0 by omega) with rfl <;> rfl) (Nat.le_of_ble_eq_true rfl) (Nat.le_of_ble_eq_true rfl) dX4_of_0 (fun a H hn_1 hn_1v h => ?_)
  obtain ⟨w_2, ew_2⟩ : ∃ z : GW, z = gu w a (ob 1 [.null]) := ⟨_, rfl⟩
  have h : SH g w_2 v s H [] := by rw [ew_2]; exact h
  have f_3 : w_2 a = some (ob 1 [.null]) := by rw [ew_2]; exact gu_s
  refine lv_dup hx hb dX4_of_3 rfl ?_
  refine gc_v (va_runI (As := []) (rest := [.ref a]) C.fix (m_X4_init l g w_2 v a f_3) (cwI 0 hts (lw_meth q346) rfl rfl rfl (hts _ q55) (hts _ q429) (hts _ q345) rfl (by decide +kernel) ⟨Nat.le_of_ble_eq_true rfl, Nat.le_of_ble_eq_true rfl⟩) (gp_S C h _) rfl rfl hl.1 rfl (lv_room (Nat.le_of_ble_eq_true rfl)) dX4_of_4 ⟨Nat.le_of_ble_eq_true rfl, Nat.le_of_ble_eq_true rfl⟩) h (fun w_5 H locs hp h => ?_)
  obtain ⟨b, hb1, hb2, hb3⟩ := hp
  have hba : a ≠ b := g_neN f_3 hb1
  have fa : w_5 a = some (ob 1 [.ref b]) := by rw [hb3]; exact gu_s
  have fb : w_5 b = some (eB g 32 (fun _ => 0)) := by rw [hb3]; exact (gu_n (Ne.symm hba)).trans gu_s
  refine lv_astore (lv' := [(6, .ref a), (0, .int k), (1, .int pg), (2, .int so), (3, .long x), (5, .int tr)]) hx hb dX4_of_7 hl (by decide) rfl (fun ls hl => ?_)
  refine lv_aload hx hb dX4_of_9 (lv_at hl 0 rfl) ?_
  refine gx_get C h fa (Cn := RX4) (T := TX4) (N := 1) rfl in_X4 0 (by decide) q348 rfl rfl dX4_of_11 ?_
  refine lv_iconst (v := nI 4) hx hb dX4_of_14 (by decide) ?_
  refine lv_iload_n hx hb dX4_of_15 rfl (lv_at hl 1 rfl) ?_
  refine lv_i2b hx hb dX4_of_16 rfl ?_
  refine gx_bast C h fb 4 (rfl) (by omega) dX4_of_17 (fun H locs h => ?_)
  obtain ⟨w_6, ew_6⟩ : ∃ z : GW, z = gu w_5 b (eB g 32 (va_up (fun _ => 0) 4 k.toInt8.toInt32.toInt8)) := ⟨_, rfl⟩
  have h : SH g w_6 v s H locs := by rw [ew_6]; exact h
  have f_7 : w_6 a = some (ob 1 [.ref b]) := by rw [ew_6]; exact (gu_n (g_ne fa fb (by simp))).trans fa
  have f_8 : w_6 b = some (eB g 32 (va_up (fun _ => 0) 4 k.toInt8.toInt32.toInt8)) := by rw [ew_6]; exact gu_s
  refine lv_aload hx hb dX4_of_18 (lv_at hl 0 rfl) ?_
  refine gx_get C h f_7 (Cn := RX4) (T := TX4) (N := 1) rfl in_X4 0 (by decide) q348 rfl rfl dX4_of_20 ?_
  refine lv_iconst (v := nI 5) hx hb dX4_of_23 (by decide) ?_
  refine lv_iload_n hx hb dX4_of_24 rfl (lv_at hl 2 rfl) ?_
  refine lv_i2b hx hb dX4_of_25 rfl ?_
  refine gx_bast C h f_8 5 (rfl) (by omega) dX4_of_26 (fun H locs h => ?_)
  obtain ⟨w_9, ew_9⟩ : ∃ z : GW, z = gu w_6 b (eB g 32 (va_up (va_up (fun _ => 0) 4 k.toInt8.toInt32.toInt8) 5 pg.toInt8.toInt32.toInt8)) := ⟨_, rfl⟩
  have h : SH g w_9 v s H locs := by rw [ew_9]; exact h
  have f_10 : w_9 a = some (ob 1 [.ref b]) := by rw [ew_9]; exact (gu_n (g_ne f_7 f_8 (by simp))).trans f_7
  have f_11 : w_9 b = some (eB g 32 (va_up (va_up (fun _ => 0) 4 k.toInt8.toInt32.toInt8) 5 pg.toInt8.toInt32.toInt8)) := by rw [ew_9]; exact gu_s
  refine lv_aload hx hb dX4_of_27 (lv_at hl 0 rfl) ?_
  refine gx_get C h f_10 (Cn := RX4) (T := TX4) (N := 1) rfl in_X4 0 (by decide) q348 rfl rfl dX4_of_29 ?_
  refine lv_bipush (v := nI 6) hx hb dX4_of_32 (by decide) ?_
  refine lv_iload_n hx hb dX4_of_34 rfl (lv_at hl 3 rfl) ?_
  refine lv_i2b hx hb dX4_of_35 rfl ?_
  refine gx_bast C h f_11 6 (rfl) (by omega) dX4_of_36 (fun H locs h => ?_)
  obtain ⟨w_12, ew_12⟩ : ∃ z : GW, z = gu w_9 b (eB g 32 (va_up (va_up (va_up (fun _ => 0) 4 k.toInt8.toInt32.toInt8) 5 pg.toInt8.toInt32.toInt8) 6 so.toInt8.toInt32.toInt8)) := ⟨_, rfl⟩
  have h : SH g w_12 v s H locs := by rw [ew_12]; exact h
  have f_13 : w_12 a = some (ob 1 [.ref b]) := by rw [ew_12]; exact (gu_n (g_ne f_10 f_11 (by simp))).trans f_10
  have f_14 : w_12 b = some (eB g 32 (va_up (va_up (va_up (fun _ => 0) 4 k.toInt8.toInt32.toInt8) 5 pg.toInt8.toInt32.toInt8) 6 so.toInt8.toInt32.toInt8)) := by rw [ew_12]; exact gu_s
  refine lv_aload hx hb dX4_of_37 (lv_at hl 0 rfl) ?_
  refine lv_bipush (v := nI 8) hx hb dX4_of_39 (by decide) ?_
  refine lv_lload_n hx hb dX4_of_41 rfl (lv_at hl 4 rfl) ?_
  refine gc_v (va_runV (As := [.int (nI 8), .long x]) (rest := []) C.fix (m_X4_setWide l g w_12 v a b (va_up (va_up (va_up (fun _ => 0) 4 k.toInt8.toInt32.toInt8) 5 pg.toInt8.toInt32.toInt8) 6 so.toInt8.toInt32.toInt8) f_13 f_14 8 x (by omega)) (cwV 2 hts (lw_V q430 q432 qs14 q55 q433) rfl rfl rfl (by decide +kernel) ⟨Nat.le_of_ble_eq_true rfl, Nat.le_of_ble_eq_true rfl⟩) (gp_V C h [.int (nI 8), .long x] (Cn := RX4) (T := TX4) (N := 1) rfl f_13) rfl rfl hl.1 rfl (lv_room (Nat.le_of_ble_eq_true rfl)) dX4_of_42 ⟨Nat.le_of_ble_eq_true rfl, Nat.le_of_ble_eq_true rfl⟩) h (fun w_16 H locs hp h => ?_)
  have ew_17 : w_16 = gu w_12 b (eB g 32 (setWB (va_up (va_up (va_up (fun _ => 0) 4 k.toInt8.toInt32.toInt8) 5 pg.toInt8.toInt32.toInt8) 6 so.toInt8.toInt32.toInt8) 8 x)) := hp
  have f_18 : w_16 a = some (ob 1 [.ref b]) := by rw [ew_17]; exact (gu_n (g_ne f_13 f_14 (by simp))).trans f_13
  have f_19 : w_16 b = some (eB g 32 (setWB (va_up (va_up (va_up (fun _ => 0) 4 k.toInt8.toInt32.toInt8) 5 pg.toInt8.toInt32.toInt8) 6 so.toInt8.toInt32.toInt8) 8 x)) := by rw [ew_17]; exact gu_s
  refine lv_aload hx hb dX4_of_45 (lv_at hl 0 rfl) ?_
  refine lv_bipush (v := nI 16) hx hb dX4_of_47 (by decide) ?_
  refine lv_iload hx hb dX4_of_49 (lv_at hl 5 rfl) ?_
  refine gc_v (va_runV (As := [.int (nI 16), .int tr]) (rest := []) C.fix (m_X4_set l g w_16 v a b (setWB (va_up (va_up (va_up (fun _ => 0) 4 k.toInt8.toInt32.toInt8) 5 pg.toInt8.toInt32.toInt8) 6 so.toInt8.toInt32.toInt8) 8 x) f_18 f_19 16 tr (by omega)) (cwV 2 hts (lw_V q434 q436 qs15 q55 q437) rfl rfl rfl (by decide +kernel) ⟨Nat.le_of_ble_eq_true rfl, Nat.le_of_ble_eq_true rfl⟩) (gp_V C h [.int (nI 16), .int tr] (Cn := RX4) (T := TX4) (N := 1) rfl f_18) rfl rfl hl.1 rfl (lv_room (Nat.le_of_ble_eq_true rfl)) dX4_of_51 ⟨Nat.le_of_ble_eq_true rfl, Nat.le_of_ble_eq_true rfl⟩) h (fun w_21 H locs hp h => ?_)
  have ew_22 : w_21 = gu w_16 b (eB g 32 (setB (setWB (va_up (va_up (va_up (fun _ => 0) 4 k.toInt8.toInt32.toInt8) 5 pg.toInt8.toInt32.toInt8) 6 so.toInt8.toInt32.toInt8) 8 x) 16 tr)) := hp
  have f_23 : w_21 a = some (ob 1 [.ref b]) := by rw [ew_22]; exact (gu_n (g_ne f_18 f_19 (by simp))).trans f_18
  have f_24 : w_21 b = some (eB g 32 (setB (setWB (va_up (va_up (va_up (fun _ => 0) 4 k.toInt8.toInt32.toInt8) 5 pg.toInt8.toInt32.toInt8) 6 so.toInt8.toInt32.toInt8) 8 x) 16 tr)) := by rw [ew_22]; exact gu_s
  refine lv_aload hx hb dX4_of_54 (lv_at hl 0 rfl) ?_
  have hwb : w b = none := by have q := hb1; rw [ew_2, gu_n (Ne.symm hba)] at q; exact q
  refine gr_q C h (x := some a) (ty := (.object "KnowDisk$Sector")) rfl (Or.inl ⟨_, rfl⟩) (⟨a, b, rfl, hn_1, hn_1v, hwb, hb2, hba, ?_⟩) (Nat.le_of_ble_eq_true rfl) (Nat.le_of_ble_eq_true rfl) dX4_of_56
  rw [ew_22, ew_17, ew_12, ew_9, ew_6, hb3, ew_2]
  funext q
  by_cases q1 : q = a
  · subst q1; simp [gu, hba]
  · by_cases q2 : q = b
    · subst q2; simp [gu, q1, ofB]
    · simp [gu, q1, q2]
