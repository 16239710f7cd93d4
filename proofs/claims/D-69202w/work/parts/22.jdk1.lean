set_option maxRecDepth 100000
theorem subAdd {i j n : Nat} (h : j ≤ i + n) : nI i - nI j + nI n = nI (i + n - j) := by
  rw [← pk_sub h, ← nI_add]
  apply Int32.toBitVec_inj.mp
  simp only [Int32.toBitVec_add, Int32.toBitVec_sub]
  generalize (nI i).toBitVec = x
  generalize (nI j).toBitVec = y
  generalize (nI n).toBitVec = z
  rw [BitVec.sub_eq_add_neg, BitVec.sub_eq_add_neg, BitVec.add_assoc, BitVec.add_assoc, BitVec.add_comm (-y) z]
set_option maxHeartbeats 4000000 in
theorem m_J5_init (l : Launch) (g : GG) (w v : GW) (a : Nat)  : Met l yJ5_init (ws_ yJ5_init cJ5_init 1 none) ({ frames := 1, cells := 0, slots := 0, locals := 60 } : Room) (gP g [.ref a] w v) (va_Qv (fun (w' : GW) => w' = w) (gB g v) (gA g)) 0 0 (gA g) := by
  refine gm_of (by decide) (Nat.le_of_ble_eq_true rfl) ?_
  intro p e s m below meth c ls C hnm h hl
  have C : Cx g p s m ([.ref a] : List Value).toArray meth c cJ5_init 1 RJ5 none := C
  obtain ⟨hx, hb, hml, hown, hts, hr, hlk, hG⟩ := id C
  have hl : lv_has ls 1 [(0, .ref a)] := hl
  refine lv_aload_n hx hb dJ5_init_0 rfl (lv_at hl 0 rfl) ?_
  refine W.objInit hx hb hown (hts _ q141) (hts _ q76) (hts _ q77) rfl (by rw [hml]; exact hl.1) rfl dJ5_init_1 (Nat.le_of_ble_eq_true rfl) (Nat.le_of_ble_eq_true rfl) ?_
  refine W.eq (g2 := F0 m 4 ls []) rfl ?_
  exact gr_v C h (rfl) (Nat.le_of_ble_eq_true rfl) (Nat.le_of_ble_eq_true rfl) dJ5_init_4
set_option maxHeartbeats 4000000 in
theorem m_J0_init (l : Launch) (g : GG) (w v : GW) (a : Nat)  : Met l yJ0_init (ws_ yJ0_init cJ0_init 1 none) ({ frames := 1, cells := 0, slots := 0, locals := 60 } : Room) (gP g [.ref a] w v) (va_Qv (fun (w' : GW) => w' = w) (gB g v) (gA g)) 0 0 (gA g) := by
  refine gm_of (by decide) (Nat.le_of_ble_eq_true rfl) ?_
  intro p e s m below meth c ls C hnm h hl
  have C : Cx g p s m ([.ref a] : List Value).toArray meth c cJ0_init 1 RJ0 none := C
  obtain ⟨hx, hb, hml, hown, hts, hr, hlk, hG⟩ := id C
  have hl : lv_has ls 1 [(0, .ref a)] := hl
  refine lv_aload_n hx hb dJ0_init_0 rfl (lv_at hl 0 rfl) ?_
  refine W.objInit hx hb hown (hts _ q88) (hts _ q76) (hts _ q77) rfl (by rw [hml]; exact hl.1) rfl dJ0_init_1 (Nat.le_of_ble_eq_true rfl) (Nat.le_of_ble_eq_true rfl) ?_
  refine W.eq (g2 := F0 m 4 ls []) rfl ?_
  exact gr_v C h (rfl) (Nat.le_of_ble_eq_true rfl) (Nat.le_of_ble_eq_true rfl) dJ0_init_4
set_option maxHeartbeats 4000000 in
theorem m_J2_init (l : Launch) (g : GG) (w v : GW) (a : Nat) (h0 : w a = some (ob 6 [.int (nI 0), .null, .int (nI 0)]))  : Met l yJ2_init (ws_ yJ2_init cJ2_init 1 none) ({ frames := 2, cells := 0, slots := 0, locals := 120 } : Room) (gP g [.ref a] w v) (va_Qv (fun (w' : GW) => w' = w) (gB g v) (gA g)) 0 0 (gA g) := by
  refine gm_of (by decide) (Nat.le_of_ble_eq_true rfl) ?_
  intro p e s m below meth c ls C hnm h hl
  have C : Cx g p s m ([.ref a] : List Value).toArray meth c cJ2_init 1 RJ2 none := C
  obtain ⟨hx, hb, hml, hown, hts, hr, hlk, hG⟩ := id C
  have hl : lv_has ls 1 [(0, .ref a)] := hl
  refine lv_aload_n hx hb dJ2_init_0 rfl (lv_at hl 0 rfl) ?_
  refine gc_v (va_runI (As := []) (rest := []) C.fix (m_J0_init l g w v a) (cwI 0 hts (lw_meth q87) rfl rfl rfl (hts _ q44) (hts _ q112) (hts _ q86) rfl (by decide +kernel) ⟨Nat.le_of_ble_eq_true rfl, Nat.le_of_ble_eq_true rfl⟩) (gp_S C h _) rfl rfl hl.1 rfl (lv_room (Nat.le_of_ble_eq_true rfl)) dJ2_init_1 ⟨Nat.le_of_ble_eq_true rfl, Nat.le_of_ble_eq_true rfl⟩) h (fun w_2 H locs hp h => ?_)
  rw [hp] at h
  refine lv_aload_n hx hb dJ2_init_4 rfl (lv_at hl 0 rfl) ?_
  refine lv_iconst (v := nI 0) hx hb dJ2_init_5 (by decide) ?_
  refine gx_put C h h0 (Cn := RJ3) (T := TJ3) (N := 3) (x := .int (nI 0)) rfl in_J3 tyJ3 tyJ3_ok nmJ3 0 (by decide) q119 rfl rfl rfl rfl (Nat.le_of_ble_eq_true rfl) dJ2_init_6 (fun H locs h => ?_)
  obtain ⟨w_3, ew_3⟩ : ∃ z : GW, z = gu w a (ob 6 [.int (nI 0), .null, .int (nI 0)]) := ⟨_, rfl⟩
  have h : SH g w_3 v s H locs := by rw [ew_3]; exact h
  have f_4 : w_3 a = some (ob 6 [.int (nI 0), .null, .int (nI 0)]) := by rw [ew_3]; exact gu_s
  exact gr_v C h (by rw [ew_3, gu_self h0]) (Nat.le_of_ble_eq_true rfl) (Nat.le_of_ble_eq_true rfl) dJ2_init_9
set_option maxHeartbeats 4000000 in
theorem m_J4_min (l : Launch) (g : GG) (w v : GW) (x y : Int32)  : Met l yJ4_min (ws_ yJ4_min cJ4_min 2 (some .int)) ({ frames := 1, cells := 0, slots := 0, locals := 60 } : Room) (gP g [.int x, .int y] w v) (va_Qi (fun (r : Int32) (w' : GW) => r = (if y < x then y else x) ∧ w' = w) (gB g v) (gA g)) 0 0 (gA g) := by
  refine gm_ofF (by decide +kernel) (Nat.le_of_ble_eq_true rfl) ?_
  intro p e s m below meth c ls C hnm h hl
  have C : Cx g p s m ([.int x, .int y] : List Value).toArray meth c cJ4_min 2 RJ4 (some .int) := C
  obtain ⟨hx, hb, hml, hown, hts, hr, hlk, hG⟩ := id C
  have hl : lv_has ls 2 [(0, .int x), (1, .int y)] := hl
  refine lv_iload_n hx hb dJ4_min_0 rfl (lv_at hl 0 rfl) ?_
  refine lv_iload_n hx hb dJ4_min_1 rfl (lv_at hl 1 rfl) ?_
  refine lv_icmp_gt (tgt := 9) hx hb dJ4_min_2 (by decide) (fun c1 => ?_) (fun c1 => ?_)
  · skip
    refine lv_iload_n hx hb dJ4_min_9 rfl (lv_at hl 1 rfl) ?_
    exact gr_i C h (ty := .int) rfl (rfl) (⟨by rw [if_pos c1], rfl⟩) (Nat.le_of_ble_eq_true rfl) (Nat.le_of_ble_eq_true rfl) dJ4_min_10
  · skip
    refine lv_iload_n hx hb dJ4_min_5 rfl (lv_at hl 0 rfl) ?_
    refine lv_goto (tgt := 10) hx hb dJ4_min_6 (by decide) ?_
    exact gr_i C h (ty := .int) rfl (rfl) (⟨by rw [if_neg c1], rfl⟩) (Nat.le_of_ble_eq_true rfl) (Nat.le_of_ble_eq_true rfl) dJ4_min_10
set_option maxHeartbeats 4000000 in
theorem m_J4_max (l : Launch) (g : GG) (w v : GW) (x y : Int32)  : Met l yJ4_max (ws_ yJ4_max cJ4_max 2 (some .int)) ({ frames := 1, cells := 0, slots := 0, locals := 60 } : Room) (gP g [.int x, .int y] w v) (va_Qi (fun (r : Int32) (w' : GW) => r = (if x < y then y else x) ∧ w' = w) (gB g v) (gA g)) 0 0 (gA g) := by
  refine gm_ofF (by decide +kernel) (Nat.le_of_ble_eq_true rfl) ?_
  intro p e s m below meth c ls C hnm h hl
  have C : Cx g p s m ([.int x, .int y] : List Value).toArray meth c cJ4_max 2 RJ4 (some .int) := C
  obtain ⟨hx, hb, hml, hown, hts, hr, hlk, hG⟩ := id C
  have hl : lv_has ls 2 [(0, .int x), (1, .int y)] := hl
  refine lv_iload_n hx hb dJ4_max_0 rfl (lv_at hl 0 rfl) ?_
  refine lv_iload_n hx hb dJ4_max_1 rfl (lv_at hl 1 rfl) ?_
  refine lv_icmp_lt (tgt := 9) hx hb dJ4_max_2 (by decide) (fun c1 => ?_) (fun c1 => ?_)
  · skip
    refine lv_iload_n hx hb dJ4_max_9 rfl (lv_at hl 1 rfl) ?_
    exact gr_i C h (ty := .int) rfl (rfl) (⟨by rw [if_pos c1], rfl⟩) (Nat.le_of_ble_eq_true rfl) (Nat.le_of_ble_eq_true rfl) dJ4_max_10
  · skip
    refine lv_iload_n hx hb dJ4_max_5 rfl (lv_at hl 0 rfl) ?_
    refine lv_goto (tgt := 10) hx hb dJ4_max_6 (by decide) ?_
    exact gr_i C h (ty := .int) rfl (rfl) (⟨by rw [if_neg c1], rfl⟩) (Nat.le_of_ble_eq_true rfl) (Nat.le_of_ble_eq_true rfl) dJ4_max_10
set_option maxHeartbeats 4000000 in
theorem m_J4_floorMod (l : Launch) (g : GG) (w v : GW) (x y : Int32) (hy : ¬ y = 0)  : Met l yJ4_floorMod (ws_ yJ4_floorMod cJ4_floorMod 3 (some .int)) ({ frames := 1, cells := 0, slots := 0, locals := 60 } : Room) (gP g [.int x, .int y] w v) (va_Qi (fun (r : Int32) (w' : GW) => r = (if 0 ≤ x ^^^ y then x - x / y * y else if x - x / y * y = 0 then x - x / y * y else x - x / y * y + y) ∧ w' = w) (gB g v) (gA g)) 0 0 (gA g) := by
  refine gm_ofF (by decide +kernel) (Nat.le_of_ble_eq_true rfl) ?_
  intro p e s m below meth c ls C hnm h hl
  have C : Cx g p s m ([.int x, .int y] : List Value).toArray meth c cJ4_floorMod 3 RJ4 (some .int) := C
  obtain ⟨hx, hb, hml, hown, hts, hr, hlk, hG⟩ := id C
  have hl : lv_has ls 3 [(0, .int x), (1, .int y)] := hl
  refine lv_iload_n hx hb dJ4_floorMod_0 rfl (lv_at hl 0 rfl) ?_
  refine lv_iload_n hx hb dJ4_floorMod_1 rfl (lv_at hl 1 rfl) ?_
  refine lv_irem hx hb dJ4_floorMod_2 (hy) ?_
  refine lv_istore_n (lv' := [(2, .int (x - x / y * y)), (0, .int x), (1, .int y)]) hx hb dJ4_floorMod_3 rfl hl (by decide) rfl (fun ls hl => ?_)
  refine lv_iload_n hx hb dJ4_floorMod_4 rfl (lv_at hl 1 rfl) ?_
  refine lv_iload_n hx hb dJ4_floorMod_5 rfl (lv_at hl 2 rfl) ?_
  refine lv_ixor hx hb dJ4_floorMod_6 ?_
  refine lv_if_ge (tgt := 18) hx hb dJ4_floorMod_7 (by decide) (fun c1 => ?_) (fun c1 => ?_)
  · skip
    refine lv_iload_n hx hb dJ4_floorMod_18 rfl (lv_at hl 0 rfl) ?_
    exact gr_i C h (ty := .int) rfl (rfl) (⟨by rw [if_pos c1], rfl⟩) (Nat.le_of_ble_eq_true rfl) (Nat.le_of_ble_eq_true rfl) dJ4_floorMod_19
  · skip
    refine lv_iload_n hx hb dJ4_floorMod_10 rfl (lv_at hl 0 rfl) ?_
    refine lv_if_eq (tgt := 18) hx hb dJ4_floorMod_11 (by decide) (fun c2 => ?_) (fun c2 => ?_)
    · skip
      refine lv_iload_n hx hb dJ4_floorMod_18 rfl (lv_at hl 0 rfl) ?_
      exact gr_i C h (ty := .int) rfl (rfl) (⟨by rw [if_neg c1, if_pos c2], rfl⟩) (Nat.le_of_ble_eq_true rfl) (Nat.le_of_ble_eq_true rfl) dJ4_floorMod_19
    · skip
      refine lv_iload_n hx hb dJ4_floorMod_14 rfl (lv_at hl 0 rfl) ?_
      refine lv_iload_n hx hb dJ4_floorMod_15 rfl (lv_at hl 2 rfl) ?_
      refine lv_iadd hx hb dJ4_floorMod_16 ?_
      exact gr_i C h (ty := .int) rfl (rfl) (⟨by rw [if_neg c1, if_neg c2], rfl⟩) (Nat.le_of_ble_eq_true rfl) (Nat.le_of_ble_eq_true rfl) dJ4_floorMod_17
set_option maxHeartbeats 4000000 in
theorem m_J1_inc (l : Launch) (g : GG) (w v : GW) (i n : Nat) (hi : i < n) (hn : n ≤ 200) : Met l yJ1_inc (ws_ yJ1_inc cJ1_inc 2 (some .int)) ({ frames := 1, cells := 0, slots := 0, locals := 60 } : Room) (gP g [.int (nI i), .int (nI n)] w v) (va_Qi (fun (r : Int32) (w' : GW) => r = nI (wr n (i + 1)) ∧ w' = w) (gB g v) (gA g)) 0 0 (gA g) := by
  refine gm_of (by decide) (Nat.le_of_ble_eq_true rfl) ?_
  intro p e s m below meth c ls C hnm h hl
  have C : Cx g p s m ([.int (nI i), .int (nI n)] : List Value).toArray meth c cJ1_inc 2 RJ1 (some .int) := C
  obtain ⟨hx, hb, hml, hown, hts, hr, hlk, hG⟩ := id C
  have hl : lv_has ls 2 [(0, .int (nI i)), (1, .int (nI n))] := hl
  refine lv_iinc (v := nI (i + 1)) (lv' := [(0, .int (nI (i + 1))), (1, .int (nI n))]) hx hb dJ1_inc_0 hl (k := 0) rfl (gi_inc _ 1) (by decide) rfl (fun ls hl => ?_)
  refine lv_iload_n hx hb dJ1_inc_3 rfl (lv_at hl 0 rfl) ?_
  refine lv_iload_n hx hb dJ1_inc_4 rfl (lv_at hl 1 rfl) ?_
  refine lv_icmp_lt (tgt := 10) hx hb dJ1_inc_5 (by decide) (fun c1 => ?_) (fun c1 => ?_)
  · skip
    have c1 : (i + 1) < n := (nI_ltI (by omega) (by omega)).mp c1
    refine lv_iload_n hx hb dJ1_inc_10 rfl (lv_at hl 0 rfl) ?_
    exact gr_i C h (ty := .int) rfl (rfl) (⟨by unfold wr; rw [if_pos c1], rfl⟩) (Nat.le_of_ble_eq_true rfl) (Nat.le_of_ble_eq_true rfl) dJ1_inc_11
  · skip
    have c1 : ¬ ((i + 1) < n) := fun q => c1 ((nI_ltI (by omega) (by omega)).mpr q)
    refine lv_iconst (v := nI 0) hx hb dJ1_inc_8 (by decide) ?_
    refine lv_istore_n (lv' := [(0, .int (nI 0)), (1, .int (nI n))]) hx hb dJ1_inc_9 rfl hl (by decide) rfl (fun ls hl => ?_)
    refine lv_iload_n hx hb dJ1_inc_10 rfl (lv_at hl 0 rfl) ?_
    exact gr_i C h (ty := .int) rfl (rfl) (⟨by unfold wr; rw [if_neg c1]; congr 1; omega, rfl⟩) (Nat.le_of_ble_eq_true rfl) (Nat.le_of_ble_eq_true rfl) dJ1_inc_11
set_option maxHeartbeats 4000000 in
theorem m_J1_dec (l : Launch) (g : GG) (w v : GW) (i n : Nat) (hi : i < n) (hn : n ≤ 200) : Met l yJ1_dec (ws_ yJ1_dec cJ1_dec 2 (some .int)) ({ frames := 1, cells := 0, slots := 0, locals := 60 } : Room) (gP g [.int (nI i), .int (nI n)] w v) (va_Qi (fun (r : Int32) (w' : GW) => r = nI (if 0 < i then i - 1 else n - 1) ∧ w' = w) (gB g v) (gA g)) 0 0 (gA g) := by
  refine gm_of (by decide) (Nat.le_of_ble_eq_true rfl) ?_
  intro p e s m below meth c ls C hnm h hl
  have C : Cx g p s m ([.int (nI i), .int (nI n)] : List Value).toArray meth c cJ1_dec 2 RJ1 (some .int) := C
  obtain ⟨hx, hb, hml, hown, hts, hr, hlk, hG⟩ := id C
  have hl : lv_has ls 2 [(0, .int (nI i)), (1, .int (nI n))] := hl
  by_cases c0 : 0 < i
  · skip
    refine lv_iinc (v := nI (i - 1)) (lv' := [(0, .int (nI (i - 1))), (1, .int (nI n))]) hx hb dJ1_dec_0 hl (k := 0) rfl (nI_m1 c0) (by decide) rfl (fun ls hl => ?_)
    refine lv_iload_n hx hb dJ1_dec_3 rfl (lv_at hl 0 rfl) ?_
    refine lv_if_ge (tgt := 11) hx hb dJ1_dec_4 (by decide) (fun c1 => ?_) (fun c1 => ?_)
    · skip
      refine lv_iload_n hx hb dJ1_dec_11 rfl (lv_at hl 0 rfl) ?_
      exact gr_i C h (ty := .int) rfl (rfl) (⟨by rw [if_pos c0], rfl⟩) (Nat.le_of_ble_eq_true rfl) (Nat.le_of_ble_eq_true rfl) dJ1_dec_12
    · skip
      exact absurd (nI_pos' (by omega)) c1
  · skip
    have : i = 0 := by omega
    subst this
    refine lv_iinc (v := (nI 0 + (-1))) (lv' := [(0, .int (nI 0 + (-1))), (1, .int (nI n))]) hx hb dJ1_dec_0 hl (k := 0) rfl (rfl) (by decide) rfl (fun ls hl => ?_)
    refine lv_iload_n hx hb dJ1_dec_3 rfl (lv_at hl 0 rfl) ?_
    refine lv_if_ge (tgt := 11) hx hb dJ1_dec_4 (by decide) (fun c1 => ?_) (fun c1 => ?_)
    · skip
      exact absurd c1 (by decide)
    · skip
      refine lv_iload_n hx hb dJ1_dec_7 rfl (lv_at hl 1 rfl) ?_
      refine lv_iconst (v := nI 1) hx hb dJ1_dec_8 (by decide) ?_
      refine gn_isub hx hb dJ1_dec_9 (by omega) ?_
      refine lv_istore_n (lv' := [(0, .int (nI (n - 1))), (1, .int (nI n))]) hx hb dJ1_dec_10 rfl hl (by decide) rfl (fun ls hl => ?_)
      refine lv_iload_n hx hb dJ1_dec_11 rfl (lv_at hl 0 rfl) ?_
      exact gr_i C h (ty := .int) rfl (rfl) (⟨rfl, rfl⟩) (Nat.le_of_ble_eq_true rfl) (Nat.le_of_ble_eq_true rfl) dJ1_dec_12
set_option maxHeartbeats 4000000 in
theorem m_J1_sub (l : Launch) (g : GG) (w v : GW) (i j n : Nat) (hi : i < n) (hj : j < n) (hn : n ≤ 200) : Met l yJ1_sub (ws_ yJ1_sub cJ1_sub 3 (some .int)) ({ frames := 1, cells := 0, slots := 0, locals := 60 } : Room) (gP g [.int (nI i), .int (nI j), .int (nI n)] w v) (va_Qi (fun (r : Int32) (w' : GW) => r = nI (if j ≤ i then i - j else i + n - j) ∧ w' = w) (gB g v) (gA g)) 0 0 (gA g) := by
  refine gm_of (by decide) (Nat.le_of_ble_eq_true rfl) ?_
  intro p e s m below meth c ls C hnm h hl
  have C : Cx g p s m ([.int (nI i), .int (nI j), .int (nI n)] : List Value).toArray meth c cJ1_sub 3 RJ1 (some .int) := C
  obtain ⟨hx, hb, hml, hown, hts, hr, hlk, hG⟩ := id C
  have hl : lv_has ls 3 [(0, .int (nI i)), (1, .int (nI j)), (2, .int (nI n))] := hl
  by_cases c0 : j ≤ i
  · skip
    refine lv_iload_n hx hb dJ1_sub_0 rfl (lv_at hl 0 rfl) ?_
    refine lv_iload_n hx hb dJ1_sub_1 rfl (lv_at hl 1 rfl) ?_
    refine gn_isub hx hb dJ1_sub_2 (c0) ?_
    refine lv_dup hx hb dJ1_sub_3 rfl ?_
    refine lv_istore_n (lv' := [(0, .int (nI (i - j))), (1, .int (nI j)), (2, .int (nI n))]) hx hb dJ1_sub_4 rfl hl (by decide) rfl (fun ls hl => ?_)
    refine lv_if_ge (tgt := 12) hx hb dJ1_sub_5 (by decide) (fun c1 => ?_) (fun c1 => ?_)
    · skip
      refine lv_iload_n hx hb dJ1_sub_12 rfl (lv_at hl 0 rfl) ?_
      exact gr_i C h (ty := .int) rfl (rfl) (⟨by rw [if_pos c0], rfl⟩) (Nat.le_of_ble_eq_true rfl) (Nat.le_of_ble_eq_true rfl) dJ1_sub_13
    · skip
      exact absurd (nI_pos' (by omega)) c1
  · skip
    refine lv_iload_n hx hb dJ1_sub_0 rfl (lv_at hl 0 rfl) ?_
    refine lv_iload_n hx hb dJ1_sub_1 rfl (lv_at hl 1 rfl) ?_
    refine lv_isub hx hb dJ1_sub_2 ?_
    refine lv_dup hx hb dJ1_sub_3 rfl ?_
    refine lv_istore_n (lv' := [(0, .int ((nI i) - (nI j))), (1, .int (nI j)), (2, .int (nI n))]) hx hb dJ1_sub_4 rfl hl (by decide) rfl (fun ls hl => ?_)
    refine lv_if_ge (tgt := 12) hx hb dJ1_sub_5 (by decide) (fun c1 => ?_) (fun c1 => ?_)
    · skip
      exact absurd (Int32.not_lt.mpr c1) (fun q => q (pk_sneg (by omega) (by omega)))
    · skip
      refine lv_iload_n hx hb dJ1_sub_8 rfl (lv_at hl 0 rfl) ?_
      refine lv_iload_n hx hb dJ1_sub_9 rfl (lv_at hl 2 rfl) ?_
      refine lv_iadd hx hb dJ1_sub_10 ?_
      refine lv_istore_n (lv' := [(0, .int ((((nI i) - (nI j))) + (nI n))), (1, .int (nI j)), (2, .int (nI n))]) hx hb dJ1_sub_11 rfl hl (by decide) rfl (fun ls hl => ?_)
      refine lv_iload_n hx hb dJ1_sub_12 rfl (lv_at hl 0 rfl) ?_
      exact gr_i C h (ty := .int) rfl (rfl) (⟨by rw [if_neg c0, subAdd (by omega)], rfl⟩) (Nat.le_of_ble_eq_true rfl) (Nat.le_of_ble_eq_true rfl) dJ1_sub_13
