set_option maxRecDepth 100000
theorem and1_cases (y : Int64) : y &&& 1 = 0 ∨ y &&& 1 = 1 := by
  have h : (y &&& 1).toBitVec = 0#64 ∨ (y &&& 1).toBitVec = 1#64 := by
    have e : (y &&& 1).toBitVec = y.toBitVec &&& 1#64 := rfl
    rw [e]
    rcases hb : y.toBitVec.getLsbD 0 with _ | _
    · left
      apply BitVec.eq_of_getLsbD_eq
      intro i hi
      rw [BitVec.getLsbD_and]
      by_cases h0 : i = 0
      · subst h0; rw [hb]; rfl
      · have : (1#64).getLsbD i = false := by simp [BitVec.getLsbD_one, h0]
        simp [this]
    · right
      apply BitVec.eq_of_getLsbD_eq
      intro i hi
      rw [BitVec.getLsbD_and]
      by_cases h0 : i = 0
      · subst h0; rw [hb]; rfl
      · have : (1#64).getLsbD i = false := by simp [BitVec.getLsbD_one, h0]
        simp [this]
  rcases h with h | h
  · left; exact Int64.toBitVec_inj.mp h
  · right; exact Int64.toBitVec_inj.mp h
theorem cntB_s (P : Nat → Bool) (a n : Nat) : cntB P a (n + 1) = cntB P a n + (if P (a + n) then 1 else 0) := rfl
theorem cnt_step (x : Int64) (i : Nat) : nI (cntB (bitL x) 0 i) + (x >>> ((nI i).toInt64 &&& 63) &&& 1).toInt32 = nI (cntB (bitL x) 0 (i + 1)) := by
  rw [cntB_s, Nat.zero_add, ← nI_add]
  rcases and1_cases (x >>> ((nI i).toInt64 &&& 63)) with h | h
  · have hb : bitL x i = false := by unfold bitL; rw [h]; decide
    rw [h, hb]
    rfl
  · have hb : bitL x i = true := by unfold bitL; rw [h]; decide
    rw [h, hb]
    rfl
set_option maxHeartbeats 4000000 in
theorem m_X3_number (l : Launch) (g : GG) (w v : GW) (a n : Nat) (f : Nat → Int32) (h0 : w a = some (eI g n f)) (hn : n ≤ 38400) (k : Nat) (hk : k + 4 ≤ n) : Met l yX3_number (ws_ yX3_number cX3_number 2 (some .int)) ({ frames := 1, cells := 0, slots := 0, locals := 60 } : Room) (gP g [.ref a, .int (nI k)] w v) (va_Qi (fun (r : Int32) (w' : GW) => r = numI f k ∧ w' = w) (gB g v) (gA g)) 0 0 (gA g) := by
  refine gm_of (by decide) (Nat.le_of_ble_eq_true rfl) ?_
  intro p e s m below meth c ls C hnm h hl
  have C : Cx g p s m ([.ref a, .int (nI k)] : List Value).toArray meth c cX3_number 2 RX3 (some .int) := C
  obtain ⟨hx, hb, hml, hown, hts, hr, hlk, hG⟩ := id C
  have hl : lv_has ls 2 [(0, .ref a), (1, .int (nI k))] := hl
  refine lv_aload_n hx hb dX3_number_0 rfl (lv_at hl 0 rfl) ?_
  refine lv_iload_n hx hb dX3_number_1 rfl (lv_at hl 1 rfl) ?_
  refine gx_iald C h h0 k (rfl) (by omega) dX3_number_2 ?_
  refine lv_bipush (v := nI 24) hx hb dX3_number_3 (by decide) ?_
  refine lv_ishl hx hb dX3_number_5 ?_
  refine lv_aload_n hx hb dX3_number_6 rfl (lv_at hl 0 rfl) ?_
  refine lv_iload_n hx hb dX3_number_7 rfl (lv_at hl 1 rfl) ?_
  refine lv_iconst (v := nI 1) hx hb dX3_number_8 (by decide) ?_
  refine gn_iadd hx hb dX3_number_9 ?_
  refine gx_iald C h h0 (k + 1) (rfl) (by omega) dX3_number_10 ?_
  refine lv_bipush (v := nI 16) hx hb dX3_number_11 (by decide) ?_
  refine lv_ishl hx hb dX3_number_13 ?_
  refine lv_ior hx hb dX3_number_14 ?_
  refine lv_aload_n hx hb dX3_number_15 rfl (lv_at hl 0 rfl) ?_
  refine lv_iload_n hx hb dX3_number_16 rfl (lv_at hl 1 rfl) ?_
  refine lv_iconst (v := nI 2) hx hb dX3_number_17 (by decide) ?_
  refine gn_iadd hx hb dX3_number_18 ?_
  refine gx_iald C h h0 (k + 2) (rfl) (by omega) dX3_number_19 ?_
  refine lv_bipush (v := nI 8) hx hb dX3_number_20 (by decide) ?_
  refine lv_ishl hx hb dX3_number_22 ?_
  refine lv_ior hx hb dX3_number_23 ?_
  refine lv_aload_n hx hb dX3_number_24 rfl (lv_at hl 0 rfl) ?_
  refine lv_iload_n hx hb dX3_number_25 rfl (lv_at hl 1 rfl) ?_
  refine lv_iconst (v := nI 3) hx hb dX3_number_26 (by decide) ?_
  refine gn_iadd hx hb dX3_number_27 ?_
  refine gx_iald C h h0 (k + 3) (rfl) (by omega) dX3_number_28 ?_
  refine lv_ior hx hb dX3_number_29 ?_
  exact gr_i C h (ty := .int) rfl (rfl) (⟨rfl, rfl⟩) (Nat.le_of_ble_eq_true rfl) (Nat.le_of_ble_eq_true rfl) dX3_number_30
set_option maxHeartbeats 4000000 in
theorem m_X3_wide (l : Launch) (g : GG) (w v : GW) (a n : Nat) (f : Nat → Int32) (h0 : w a = some (eI g n f)) (hn : n ≤ 38400) (k : Nat) (hk : k + 8 ≤ n) : Met l yX3_wide (ws_ yX3_wide cX3_wide 2 (some .long)) ({ frames := 2, cells := 0, slots := 0, locals := 120 } : Room) (gP g [.ref a, .int (nI k)] w v) (va_Ql (fun (r : Int64) (w' : GW) => r = wideI f k ∧ w' = w) (gB g v) (gA g)) 0 0 (gA g) := by
  refine gm_of (by decide) (Nat.le_of_ble_eq_true rfl) ?_
  intro p e s m below meth c ls C hnm h hl
  have C : Cx g p s m ([.ref a, .int (nI k)] : List Value).toArray meth c cX3_wide 2 RX3 (some .long) := C
  obtain ⟨hx, hb, hml, hown, hts, hr, hlk, hG⟩ := id C
  have hl : lv_has ls 2 [(0, .ref a), (1, .int (nI k))] := hl
  refine lv_aload_n hx hb dX3_wide_0 rfl (lv_at hl 0 rfl) ?_
  refine lv_iload_n hx hb dX3_wide_1 rfl (lv_at hl 1 rfl) ?_
  refine gc_i (va_runS (As := [.ref a, .int (nI k)]) (rest := []) C.fix (m_X3_number l g w v a n f h0 hn k (by omega)) (va_cwS 2 hts (lw_S q828 q829 q53 q830) rfl rfl rfl (by decide +kernel) ⟨Nat.le_of_ble_eq_true rfl, Nat.le_of_ble_eq_true rfl⟩) (gp_S C h _) rfl rfl hl.1 rfl (lv_room (Nat.le_of_ble_eq_true rfl)) dX3_wide_2 ⟨Nat.le_of_ble_eq_true rfl, Nat.le_of_ble_eq_true rfl⟩) h (fun r_1 w_2 H locs hp h => ?_)
  obtain ⟨er_r_1, ew_r_1⟩ := hp
  rw [er_r_1]
  rw [ew_r_1] at h
  refine lv_i2l hx hb dX3_wide_5 rfl ?_
  refine lv_bipush (v := nI 32) hx hb dX3_wide_6 (by decide) ?_
  refine lv_lshl hx hb dX3_wide_8 rfl ?_
  refine lv_aload_n hx hb dX3_wide_9 rfl (lv_at hl 0 rfl) ?_
  refine lv_iload_n hx hb dX3_wide_10 rfl (lv_at hl 1 rfl) ?_
  refine lv_iconst (v := nI 4) hx hb dX3_wide_11 (by decide) ?_
  refine gn_iadd hx hb dX3_wide_12 ?_
  refine gc_i (va_runS (As := [.ref a, .int (nI (k + 4))]) (rest := [.long ((((numI f k)).toInt64) <<< ((nI 32).toInt64 &&& 63))]) C.fix (m_X3_number l g w v a n f h0 hn (k + 4) (by omega)) (va_cwS 2 hts (lw_S q828 q829 q53 q830) rfl rfl rfl (by decide +kernel) ⟨Nat.le_of_ble_eq_true rfl, Nat.le_of_ble_eq_true rfl⟩) (gp_S C h _) rfl rfl hl.1 rfl (lv_room (Nat.le_of_ble_eq_true rfl)) dX3_wide_13 ⟨Nat.le_of_ble_eq_true rfl, Nat.le_of_ble_eq_true rfl⟩) h (fun r_3 w_4 H locs hp h => ?_)
  obtain ⟨er_r_3, ew_r_3⟩ := hp
  rw [er_r_3]
  rw [ew_r_3] at h
  refine lv_i2l hx hb dX3_wide_16 rfl ?_
  refine lv_ldc2 (v := 4294967295) hx hb hown (hts _ q831) dX3_wide_17 ?_
  refine lv_land hx hb dX3_wide_20 ?_
  refine lv_lor hx hb dX3_wide_21 ?_
  exact gr_l C h (⟨rfl, rfl⟩) (Nat.le_of_ble_eq_true rfl) (Nat.le_of_ble_eq_true rfl) dX3_wide_22
set_option maxHeartbeats 4000000 in
theorem m_X3_set (l : Launch) (g : GG) (w v : GW) (a n : Nat) (f : Nat → Int32) (h0 : w a = some (eI g n f)) (hn : n ≤ 38400) (k : Nat) (x : Int32) (hk : k + 4 ≤ n) : Met l yX3_set (ws_ yX3_set cX3_set 4 none) ({ frames := 1, cells := 0, slots := 0, locals := 60 } : Room) (gP g [.ref a, .int (nI k), .int x] w v) (va_Qv (fun (w' : GW) => w' = gu w a (eI g n (setI f k x))) (gB g v) (gA g)) 0 0 (gA g) := by
  refine gm_of (by decide) (Nat.le_of_ble_eq_true rfl) ?_
  intro p e s m below meth c ls C hnm h hl
  have C : Cx g p s m ([.ref a, .int (nI k), .int x] : List Value).toArray meth c cX3_set 4 RX3 none := C
  obtain ⟨hx, hb, hml, hown, hts, hr, hlk, hG⟩ := id C
  have hl : lv_has ls 4 [(0, .ref a), (1, .int (nI k)), (2, .int x)] := hl
  refine lv_iconst (v := nI 0) hx hb dX3_set_0 (by decide) ?_
  refine lv_istore_n (lv' := [(3, .int (nI 0)), (0, .ref a), (1, .int (nI k)), (2, .int x)]) hx hb dX3_set_1 rfl hl (by decide) rfl (fun ls hl => ?_)
  have loop : ∀ (n_ : Nat) (i : Nat) (w1 : GW) (H : Heap) (locs : List Loc) (ls : Array Slot), 4 - i < n_ → (i ≤ 4) → (w1 = gu w a (eI g n (setKI f k x i))) → SH g w1 v s H locs → lv_has ls 4 [(0, .ref a), (1, .int (nI k)), (2, .int x), (3, .int (nI i))] → W p l e ({ frames := 1, cells := 0, slots := 0, locals := 60 } : Room) s m ([.ref a, .int (nI k), .int x] : List Value).toArray below meth c H locs 0 0 (MQ below (va_Qv (fun (w' : GW) => w' = gu w a (eI g n (setI f k x))) (gB g v) (gA g)) ([.ref a, .int (nI k), .int x] : List Value).toArray s 0 0 (gA g)) (F0 m 2 ls []) := by
    intro n_
    induction n_ with
    | zero => intros; exact absurd ‹_ < 0› (Nat.not_lt_zero _)
    | succ n_ ih =>
      intro i w1 H locs ls hf hi hw  h hl
      have g1 : w1 a = some (eI g n (setKI f k x i)) := by rw [hw]; exact gu_s
      refine lv_iload_n hx hb dX3_set_2 rfl (lv_at hl 3 rfl) ?_
      refine lv_iconst (v := nI 4) hx hb dX3_set_3 (by decide) ?_
      refine lv_icmp_ge (tgt := 31) hx hb dX3_set_4 (by decide) (fun c1 => ?_) (fun c1 => ?_)
      · skip
        have c1 : 4 ≤ i := (nI_leI (by omega) (by omega)).mp c1
        have : i = 4 := by omega
        subst this
        exact gr_v C h (hw) (Nat.le_of_ble_eq_true rfl) (Nat.le_of_ble_eq_true rfl) dX3_set_31
      · skip
        have c1 : ¬ (4 ≤ i) := fun q => c1 ((nI_leI (by omega) (by omega)).mpr q)
        refine lv_aload_n hx hb dX3_set_7 rfl (lv_at hl 0 rfl) ?_
        refine lv_iload_n hx hb dX3_set_8 rfl (lv_at hl 1 rfl) ?_
        refine lv_iload_n hx hb dX3_set_9 rfl (lv_at hl 3 rfl) ?_
        refine gn_iadd hx hb dX3_set_10 ?_
        refine lv_iload_n hx hb dX3_set_11 rfl (lv_at hl 2 rfl) ?_
        refine lv_bipush (v := nI 24) hx hb dX3_set_12 (by decide) ?_
        refine lv_bipush (v := nI 8) hx hb dX3_set_14 (by decide) ?_
        refine lv_iload_n hx hb dX3_set_16 rfl (lv_at hl 3 rfl) ?_
        refine gn_imul hx hb dX3_set_17 ?_
        refine gn_isub hx hb dX3_set_18 (by omega) ?_
        refine lv_ishr hx hb dX3_set_19 ?_
        refine lv_sipush (v := nI 255) hx hb dX3_set_20 (by decide) ?_
        refine lv_iand hx hb dX3_set_23 ?_
        refine gx_iast C h g1 (k + i) (rfl) (by omega) dX3_set_24 (fun H locs h => ?_)
        obtain ⟨w_1, ew_1⟩ : ∃ z : GW, z = gu w1 a (eI g n (upd (setKI f k x i) (k + i) ((((x >>> ((nI (24 - (8 * i)) &&& 31)))) &&& (nI 255))))) := ⟨_, rfl⟩
        have h : SH g w_1 v s H locs := by rw [ew_1]; exact h
        have f_2 : w_1 a = some (eI g n (upd (setKI f k x i) (k + i) ((((x >>> ((nI (24 - (8 * i)) &&& 31)))) &&& (nI 255))))) := by rw [ew_1]; exact gu_s
        refine lv_iinc (v := nI (i + 1)) (lv' := [(3, .int (nI (i + 1))), (0, .ref a), (1, .int (nI k)), (2, .int x)]) hx hb dX3_set_25 hl (k := 3) rfl (gi_inc _ 1) (by decide) rfl (fun ls hl => ?_)
        refine lv_goto (tgt := 2) hx hb dX3_set_28 (by decide) ?_
        exact ih (i + 1) _ _ _ _ (by omega) (by omega) (by rw [ew_1, hw, gu_gu, setKI_s])  h (lv_sub hl [1, 2, 3, 0] rfl)
  exact loop 5 0 w _ _ _ (by omega) (by omega) (by rw [setKI_0, gu_self h0]) h (lv_sub hl [1, 2, 3, 0] rfl)
set_option maxHeartbeats 4000000 in
theorem m_X3_setWide (l : Launch) (g : GG) (w v : GW) (a n : Nat) (f : Nat → Int32) (h0 : w a = some (eI g n f)) (hn : n ≤ 38400) (k : Nat) (x : Int64) (hk : k + 8 ≤ n) : Met l yX3_setWide (ws_ yX3_setWide cX3_setWide 4 none) ({ frames := 2, cells := 0, slots := 0, locals := 120 } : Room) (gP g [.ref a, .int (nI k), .long x] w v) (va_Qv (fun (w' : GW) => w' = gu w a (eI g n (setWI f k x))) (gB g v) (gA g)) 0 0 (gA g) := by
  refine gm_of (by decide) (Nat.le_of_ble_eq_true rfl) ?_
  intro p e s m below meth c ls C hnm h hl
  have C : Cx g p s m ([.ref a, .int (nI k), .long x] : List Value).toArray meth c cX3_setWide 4 RX3 none := C
  obtain ⟨hx, hb, hml, hown, hts, hr, hlk, hG⟩ := id C
  have hl : lv_has ls 4 [(0, .ref a), (1, .int (nI k)), (2, .long x)] := hl
  refine lv_aload_n hx hb dX3_setWide_0 rfl (lv_at hl 0 rfl) ?_
  refine lv_iload_n hx hb dX3_setWide_1 rfl (lv_at hl 1 rfl) ?_
  refine lv_lload_n hx hb dX3_setWide_2 rfl (lv_at hl 2 rfl) ?_
  refine lv_bipush (v := nI 32) hx hb dX3_setWide_3 (by decide) ?_
  refine lv_lshr hx hb dX3_setWide_5 rfl ?_
  refine lv_l2i hx hb dX3_setWide_6 rfl ?_
  refine gc_v (va_runS (As := [.ref a, .int (nI k), .int ((x >>> ((nI 32).toInt64 &&& 63)).toInt32)]) (rest := []) C.fix (m_X3_set l g w v a n f h0 hn k (x >>> ((nI 32).toInt64 &&& 63)).toInt32 (by omega)) (va_cwS 3 hts (lw_S q859 q860 q53 q861) rfl rfl rfl (by decide +kernel) ⟨Nat.le_of_ble_eq_true rfl, Nat.le_of_ble_eq_true rfl⟩) (gp_S C h _) rfl rfl hl.1 rfl (lv_room (Nat.le_of_ble_eq_true rfl)) dX3_setWide_7 ⟨Nat.le_of_ble_eq_true rfl, Nat.le_of_ble_eq_true rfl⟩) h (fun w_2 H locs hp h => ?_)
  have ew_3 : w_2 = gu w a (eI g n (setI f k (x >>> ((nI 32).toInt64 &&& 63)).toInt32)) := hp
  have f_4 : w_2 a = some (eI g n (setI f k (x >>> ((nI 32).toInt64 &&& 63)).toInt32)) := by rw [ew_3]; exact gu_s
  refine lv_aload_n hx hb dX3_setWide_10 rfl (lv_at hl 0 rfl) ?_
  refine lv_iload_n hx hb dX3_setWide_11 rfl (lv_at hl 1 rfl) ?_
  refine lv_iconst (v := nI 4) hx hb dX3_setWide_12 (by decide) ?_
  refine gn_iadd hx hb dX3_setWide_13 ?_
  refine lv_lload_n hx hb dX3_setWide_14 rfl (lv_at hl 2 rfl) ?_
  refine lv_l2i hx hb dX3_setWide_15 rfl ?_
  refine gc_v (va_runS (As := [.ref a, .int (nI (k + 4)), .int x.toInt32]) (rest := []) C.fix (m_X3_set l g w_2 v a n (setI f k (x >>> ((nI 32).toInt64 &&& 63)).toInt32) f_4 hn (k + 4) x.toInt32 (by omega)) (va_cwS 3 hts (lw_S q859 q860 q53 q861) rfl rfl rfl (by decide +kernel) ⟨Nat.le_of_ble_eq_true rfl, Nat.le_of_ble_eq_true rfl⟩) (gp_S C h _) rfl rfl hl.1 rfl (lv_room (Nat.le_of_ble_eq_true rfl)) dX3_setWide_16 ⟨Nat.le_of_ble_eq_true rfl, Nat.le_of_ble_eq_true rfl⟩) h (fun w_6 H locs hp h => ?_)
  have ew_7 : w_6 = gu w_2 a (eI g n (setWI f k x)) := hp
  have f_8 : w_6 a = some (eI g n (setWI f k x)) := by rw [ew_7]; exact gu_s
  exact gr_v C h (by rw [ew_7, ew_3, gu_gu]) (Nat.le_of_ble_eq_true rfl) (Nat.le_of_ble_eq_true rfl) dX3_setWide_19
set_option maxHeartbeats 4000000 in
theorem m_X3_sum (l : Launch) (g : GG) (w v : GW) (a n : Nat) (f : Nat → Int32) (h0 : w a = some (eI g n f)) (hn : n ≤ 38400) (k : Nat) (hk : 32 * k + 32 ≤ n) : Met l yX3_sum (ws_ yX3_sum cX3_sum 5 (some .int)) ({ frames := 1, cells := 0, slots := 0, locals := 60 } : Room) (gP g [.ref a, .int (nI k)] w v) (va_Qi (fun (r : Int32) (w' : GW) => r = sumI (fun i => f (32 * k + i)) ∧ w' = w) (gB g v) (gA g)) 0 0 (gA g) := by
  refine gm_of (by decide) (Nat.le_of_ble_eq_true rfl) ?_
  intro p e s m below meth c ls C hnm h hl
  have C : Cx g p s m ([.ref a, .int (nI k)] : List Value).toArray meth c cX3_sum 5 RX3 (some .int) := C
  obtain ⟨hx, hb, hml, hown, hts, hr, hlk, hG⟩ := id C
  have hl : lv_has ls 5 [(0, .ref a), (1, .int (nI k))] := hl
  refine lv_iconst (v := nI 0) hx hb dX3_sum_0 (by decide) ?_
  refine lv_istore_n (lv' := [(2, .int (nI 0)), (0, .ref a), (1, .int (nI k))]) hx hb dX3_sum_1 rfl hl (by decide) rfl (fun ls hl => ?_)
  refine lv_iconst (v := nI 4) hx hb dX3_sum_2 (by decide) ?_
  refine lv_istore_n (lv' := [(3, .int (nI 4)), (2, .int (nI 0)), (0, .ref a), (1, .int (nI k))]) hx hb dX3_sum_3 rfl hl (by decide) rfl (fun ls hl => ?_)
  have loop : ∀ (n_ : Nat) (i : Nat) (w1 : GW) (H : Heap) (locs : List Loc) (ls : Array Slot), 28 - i < n_ → (i ≤ 28) → (w1 = w) → SH g w1 v s H locs → lv_has ls 5 [(0, .ref a), (1, .int (nI k)), (2, .int (sumTo (fun i => f (32 * k + i)) i)), (3, .int (nI (4 + i)))] → W p l e ({ frames := 1, cells := 0, slots := 0, locals := 60 } : Room) s m ([.ref a, .int (nI k)] : List Value).toArray below meth c H locs 0 0 (MQ below (va_Qi (fun (r : Int32) (w' : GW) => r = sumI (fun i => f (32 * k + i)) ∧ w' = w) (gB g v) (gA g)) ([.ref a, .int (nI k)] : List Value).toArray s 0 0 (gA g)) (F0 m 4 ls []) := by
    intro n_
    induction n_ with
    | zero => intros; exact absurd ‹_ < 0› (Nat.not_lt_zero _)
    | succ n_ ih =>
      intro i w1 H locs ls hf hi hw  h hl
      rw [hw] at h
      refine lv_iload_n hx hb dX3_sum_4 rfl (lv_at hl 3 rfl) ?_
      refine lv_bipush (v := nI 32) hx hb dX3_sum_5 (by decide) ?_
      refine lv_icmp_ge (tgt := 43) hx hb dX3_sum_7 (by decide) (fun c1 => ?_) (fun c1 => ?_)
      · skip
        have c1 : 32 ≤ (4 + i) := (nI_leI (by omega) (by omega)).mp c1
        refine lv_iload_n hx hb dX3_sum_43 rfl (lv_at hl 2 rfl) ?_
        have : i = 28 := by omega
        subst this
        exact gr_i C h (ty := .int) rfl (rfl) (⟨rfl, rfl⟩) (Nat.le_of_ble_eq_true rfl) (Nat.le_of_ble_eq_true rfl) dX3_sum_44
      · skip
        have c1 : ¬ (32 ≤ (4 + i)) := fun q => c1 ((nI_leI (by omega) (by omega)).mpr q)
        refine lv_iload_n hx hb dX3_sum_10 rfl (lv_at hl 2 rfl) ?_
        refine lv_aload_n hx hb dX3_sum_11 rfl (lv_at hl 0 rfl) ?_
        refine lv_bipush (v := nI 32) hx hb dX3_sum_12 (by decide) ?_
        refine lv_iload_n hx hb dX3_sum_14 rfl (lv_at hl 1 rfl) ?_
        refine gn_imul hx hb dX3_sum_15 ?_
        refine lv_iload_n hx hb dX3_sum_16 rfl (lv_at hl 3 rfl) ?_
        refine gn_iadd hx hb dX3_sum_17 ?_
        refine gx_iald C h h0 ((32 * k) + (4 + i)) (rfl) (by omega) dX3_sum_18 ?_
        refine lv_ixor hx hb dX3_sum_19 ?_
        refine lv_istore (lv' := [(4, .int (((sumTo (fun i => f (32 * k + i)) i)) ^^^ ((f ((32 * k) + (4 + i)))))), (0, .ref a), (1, .int (nI k)), (2, .int (sumTo (fun i => f (32 * k + i)) i)), (3, .int (nI (4 + i)))]) hx hb dX3_sum_20 hl (by decide) rfl (fun ls hl => ?_)
        refine lv_iload hx hb dX3_sum_22 (lv_at hl 0 rfl) ?_
        refine lv_bipush (v := nI 11) hx hb dX3_sum_24 (by decide) ?_
        refine lv_ishl hx hb dX3_sum_26 ?_
        refine lv_iload hx hb dX3_sum_27 (lv_at hl 0 rfl) ?_
        refine lv_bipush (v := nI 21) hx hb dX3_sum_29 (by decide) ?_
        refine lv_iushr hx hb dX3_sum_31 rfl ?_
        refine lv_ior hx hb dX3_sum_32 ?_
        refine lv_ldc (v := -2048144777) hx hb hown (hts _ q868) dX3_sum_33 ?_
        refine lv_imul hx hb dX3_sum_35 ?_
        refine lv_istore_n (lv' := [(2, .int (((((((((sumTo (fun i => f (32 * k + i)) i)) ^^^ ((f ((32 * k) + (4 + i)))))) <<< ((nI 11 &&& 31)))) ||| (((((((sumTo (fun i => f (32 * k + i)) i)) ^^^ ((f ((32 * k) + (4 + i)))))).toUInt32 >>> ((nI 21).toUInt32 &&& Int32.toUInt32 31)).toInt32)))) * ((-2048144777)))), (4, .int (((sumTo (fun i => f (32 * k + i)) i)) ^^^ ((f ((32 * k) + (4 + i)))))), (0, .ref a), (1, .int (nI k)), (3, .int (nI (4 + i)))]) hx hb dX3_sum_36 rfl hl (by decide) rfl (fun ls hl => ?_)
        refine lv_iinc (v := nI (4 + i + 1)) (lv' := [(3, .int (nI (4 + i + 1))), (2, .int (((((((((sumTo (fun i => f (32 * k + i)) i)) ^^^ ((f ((32 * k) + (4 + i)))))) <<< ((nI 11 &&& 31)))) ||| (((((((sumTo (fun i => f (32 * k + i)) i)) ^^^ ((f ((32 * k) + (4 + i)))))).toUInt32 >>> ((nI 21).toUInt32 &&& Int32.toUInt32 31)).toInt32)))) * ((-2048144777)))), (4, .int (((sumTo (fun i => f (32 * k + i)) i)) ^^^ ((f ((32 * k) + (4 + i)))))), (0, .ref a), (1, .int (nI k))]) hx hb dX3_sum_37 hl (k := 4) rfl (gi_inc _ 1) (by decide) rfl (fun ls hl => ?_)
        refine lv_goto (tgt := 4) hx hb dX3_sum_40 (by decide) ?_
        have hl : lv_has ls 5 [(3, .int (nI (4 + (i + 1)))), (2, .int (sumTo (fun i => f (32 * k + i)) (i + 1))), (4, .int (((sumTo (fun i => f (32 * k + i)) i)) ^^^ ((f ((32 * k) + (4 + i)))))), (0, .ref a), (1, .int (nI k))] := by exact hl
        exact ih (i + 1) _ _ _ _ (by omega) (by omega) rfl  h (lv_sub hl [3, 4, 1, 0] rfl)
  exact loop 29 0 w _ _ _ (by omega) (by omega) rfl h (lv_sub hl [2, 3, 1, 0] rfl)
set_option maxHeartbeats 4000000 in
theorem m_X3_close (l : Launch) (g : GG) (w v : GW) (a n : Nat) (f : Nat → Int32) (h0 : w a = some (eI g n f)) (hn : n ≤ 38400) (k : Nat) (hk : 32 * k + 32 ≤ n) : Met l yX3_close (ws_ yX3_close cX3_close 2 none) ({ frames := 2, cells := 0, slots := 0, locals := 120 } : Room) (gP g [.ref a, .int (nI k)] w v) (va_Qv (fun (w' : GW) => w' = gu w a (eI g n (closeI f k))) (gB g v) (gA g)) 0 0 (gA g) := by
  refine gm_of (by decide) (Nat.le_of_ble_eq_true rfl) ?_
  intro p e s m below meth c ls C hnm h hl
  have C : Cx g p s m ([.ref a, .int (nI k)] : List Value).toArray meth c cX3_close 2 RX3 none := C
  obtain ⟨hx, hb, hml, hown, hts, hr, hlk, hG⟩ := id C
  have hl : lv_has ls 2 [(0, .ref a), (1, .int (nI k))] := hl
  refine lv_aload_n hx hb dX3_close_0 rfl (lv_at hl 0 rfl) ?_
  refine lv_bipush (v := nI 32) hx hb dX3_close_1 (by decide) ?_
  refine lv_iload_n hx hb dX3_close_3 rfl (lv_at hl 1 rfl) ?_
  refine gn_imul hx hb dX3_close_4 ?_
  refine lv_aload_n hx hb dX3_close_5 rfl (lv_at hl 0 rfl) ?_
  refine lv_iload_n hx hb dX3_close_6 rfl (lv_at hl 1 rfl) ?_
  refine gc_i (va_runS (As := [.ref a, .int (nI k)]) (rest := [.int (nI (32 * k)), .ref a]) C.fix (m_X3_sum l g w v a n f h0 hn k hk) (va_cwS 2 hts (lw_S q865 q866 q53 q867) rfl rfl rfl (by decide +kernel) ⟨Nat.le_of_ble_eq_true rfl, Nat.le_of_ble_eq_true rfl⟩) (gp_S C h _) rfl rfl hl.1 rfl (lv_room (Nat.le_of_ble_eq_true rfl)) dX3_close_7 ⟨Nat.le_of_ble_eq_true rfl, Nat.le_of_ble_eq_true rfl⟩) h (fun r_1 w_2 H locs hp h => ?_)
  obtain ⟨er_r_1, ew_r_1⟩ := hp
  rw [er_r_1]
  rw [ew_r_1] at h
  refine gc_v (va_runS (As := [.ref a, .int (nI (32 * k)), .int (sumI (fun i => f (32 * k + i)))]) (rest := []) C.fix (m_X3_set l g w v a n f h0 hn (32 * k) (sumI (fun i => f (32 * k + i))) (by omega)) (va_cwS 3 hts (lw_S q859 q860 q53 q861) rfl rfl rfl (by decide +kernel) ⟨Nat.le_of_ble_eq_true rfl, Nat.le_of_ble_eq_true rfl⟩) (gp_S C h _) rfl rfl hl.1 rfl (lv_room (Nat.le_of_ble_eq_true rfl)) dX3_close_10 ⟨Nat.le_of_ble_eq_true rfl, Nat.le_of_ble_eq_true rfl⟩) h (fun w_4 H locs hp h => ?_)
  have ew_5 : w_4 = gu w a (eI g n (closeI f k)) := hp
  have f_6 : w_4 a = some (eI g n (closeI f k)) := by rw [ew_5]; exact gu_s
  exact gr_v C h (ew_5) (Nat.le_of_ble_eq_true rfl) (Nat.le_of_ble_eq_true rfl) dX3_close_13
set_option maxHeartbeats 4000000 in
theorem m_X3_isRight (l : Launch) (g : GG) (w v : GW) (a n : Nat) (f : Nat → Int32) (h0 : w a = some (eI g n f)) (hn : n ≤ 38400) (k : Nat) (hk : 32 * k + 32 ≤ n) : Met l yX3_isRight (ws_ yX3_isRight cX3_isRight 2 (some .boolean)) ({ frames := 2, cells := 0, slots := 0, locals := 120 } : Room) (gP g [.ref a, .int (nI k)] w v) (va_Qi (fun (r : Int32) (w' : GW) => r = bI (rightI f k) ∧ w' = w) (gB g v) (gA g)) 0 0 (gA g) := by
  refine gm_of (by decide) (Nat.le_of_ble_eq_true rfl) ?_
  intro p e s m below meth c ls C hnm h hl
  have C : Cx g p s m ([.ref a, .int (nI k)] : List Value).toArray meth c cX3_isRight 2 RX3 (some .boolean) := C
  obtain ⟨hx, hb, hml, hown, hts, hr, hlk, hG⟩ := id C
  have hl : lv_has ls 2 [(0, .ref a), (1, .int (nI k))] := hl
  refine lv_aload_n hx hb dX3_isRight_0 rfl (lv_at hl 0 rfl) ?_
  refine lv_bipush (v := nI 32) hx hb dX3_isRight_1 (by decide) ?_
  refine lv_iload_n hx hb dX3_isRight_3 rfl (lv_at hl 1 rfl) ?_
  refine gn_imul hx hb dX3_isRight_4 ?_
  refine gc_i (va_runS (As := [.ref a, .int (nI (32 * k))]) (rest := []) C.fix (m_X3_number l g w v a n f h0 hn (32 * k) (by omega)) (va_cwS 2 hts (lw_S q828 q829 q53 q830) rfl rfl rfl (by decide +kernel) ⟨Nat.le_of_ble_eq_true rfl, Nat.le_of_ble_eq_true rfl⟩) (gp_S C h _) rfl rfl hl.1 rfl (lv_room (Nat.le_of_ble_eq_true rfl)) dX3_isRight_5 ⟨Nat.le_of_ble_eq_true rfl, Nat.le_of_ble_eq_true rfl⟩) h (fun r_1 w_2 H locs hp h => ?_)
  obtain ⟨er_r_1, ew_r_1⟩ := hp
  rw [er_r_1]
  rw [ew_r_1] at h
  refine lv_aload_n hx hb dX3_isRight_8 rfl (lv_at hl 0 rfl) ?_
  refine lv_iload_n hx hb dX3_isRight_9 rfl (lv_at hl 1 rfl) ?_
  refine gc_i (va_runS (As := [.ref a, .int (nI k)]) (rest := [.int (numI f (32 * k))]) C.fix (m_X3_sum l g w v a n f h0 hn k hk) (va_cwS 2 hts (lw_S q865 q866 q53 q867) rfl rfl rfl (by decide +kernel) ⟨Nat.le_of_ble_eq_true rfl, Nat.le_of_ble_eq_true rfl⟩) (gp_S C h _) rfl rfl hl.1 rfl (lv_room (Nat.le_of_ble_eq_true rfl)) dX3_isRight_10 ⟨Nat.le_of_ble_eq_true rfl, Nat.le_of_ble_eq_true rfl⟩) h (fun r_3 w_4 H locs hp h => ?_)
  obtain ⟨er_r_3, ew_r_3⟩ := hp
  rw [er_r_3]
  rw [ew_r_3] at h
  refine lv_icmp_ne (tgt := 20) hx hb dX3_isRight_13 (by decide) (fun c1 => ?_) (fun c1 => ?_)
  · skip
    refine lv_iconst (v := bI false) hx hb dX3_isRight_20 (by decide) ?_
    exact gr_i C h (ty := .boolean) rfl (bI_n _) (⟨by rw [rightI, decide_eq_false c1], rfl⟩) (Nat.le_of_ble_eq_true rfl) (Nat.le_of_ble_eq_true rfl) dX3_isRight_21
  · skip
    refine lv_iconst (v := bI true) hx hb dX3_isRight_16 (by decide) ?_
    refine lv_goto (tgt := 21) hx hb dX3_isRight_17 (by decide) ?_
    exact gr_i C h (ty := .boolean) rfl (bI_n _) (⟨by rw [rightI, decide_eq_true c1], rfl⟩) (Nat.le_of_ble_eq_true rfl) (Nat.le_of_ble_eq_true rfl) dX3_isRight_21
set_option maxHeartbeats 4000000 in
theorem m_X3_turned (l : Launch) (g : GG) (w v : GW) (x : Int64)  : Met l yX3_turned (ws_ yX3_turned cX3_turned 2 (some .long)) ({ frames := 1, cells := 0, slots := 0, locals := 60 } : Room) (gP g [.long x] w v) (va_Ql (fun (r : Int64) (w' : GW) => r = turnL x ∧ w' = w) (gB g v) (gA g)) 0 0 (gA g) := by
  refine gm_of (by decide) (Nat.le_of_ble_eq_true rfl) ?_
  intro p e s m below meth c ls C hnm h hl
  have C : Cx g p s m ([.long x] : List Value).toArray meth c cX3_turned 2 RX3 (some .long) := C
  obtain ⟨hx, hb, hml, hown, hts, hr, hlk, hG⟩ := id C
  have hl : lv_has ls 2 [(0, .long x)] := hl
  refine lv_lload_n hx hb dX3_turned_0 rfl (lv_at hl 0 rfl) ?_
  refine lv_bipush (v := nI 9) hx hb dX3_turned_1 (by decide) ?_
  refine lv_lshl hx hb dX3_turned_3 rfl ?_
  refine lv_lload_n hx hb dX3_turned_4 rfl (lv_at hl 0 rfl) ?_
  refine lv_bipush (v := nI 55) hx hb dX3_turned_5 (by decide) ?_
  refine lv_lushr hx hb dX3_turned_7 rfl ?_
  refine lv_lor hx hb dX3_turned_8 ?_
  refine lv_ldc2 (v := 25214903917) hx hb hown (hts _ q835) dX3_turned_9 ?_
  refine lv_lxor hx hb dX3_turned_12 ?_
  exact gr_l C h (⟨rfl, rfl⟩) (Nat.le_of_ble_eq_true rfl) (Nat.le_of_ble_eq_true rfl) dX3_turned_13
set_option maxHeartbeats 4000000 in
theorem m_X3_bits (l : Launch) (g : GG) (w v : GW) (x : Int64)  : Met l yX3_bits (ws_ yX3_bits cX3_bits 4 (some .int)) ({ frames := 1, cells := 0, slots := 0, locals := 60 } : Room) (gP g [.long x] w v) (va_Qi (fun (r : Int32) (w' : GW) => r = nI (cntB (bitL x) 0 64) ∧ w' = w) (gB g v) (gA g)) 0 0 (gA g) := by
  refine gm_of (by decide) (Nat.le_of_ble_eq_true rfl) ?_
  intro p e s m below meth c ls C hnm h hl
  have C : Cx g p s m ([.long x] : List Value).toArray meth c cX3_bits 4 RX3 (some .int) := C
  obtain ⟨hx, hb, hml, hown, hts, hr, hlk, hG⟩ := id C
  have hl : lv_has ls 4 [(0, .long x)] := hl
  refine lv_iconst (v := nI 0) hx hb dX3_bits_0 (by decide) ?_
  refine lv_istore_n (lv' := [(2, .int (nI 0)), (0, .long x)]) hx hb dX3_bits_1 rfl hl (by decide) rfl (fun ls hl => ?_)
  refine lv_iconst (v := nI 0) hx hb dX3_bits_2 (by decide) ?_
  refine lv_istore_n (lv' := [(3, .int (nI 0)), (2, .int (nI 0)), (0, .long x)]) hx hb dX3_bits_3 rfl hl (by decide) rfl (fun ls hl => ?_)
  have loop : ∀ (n_ : Nat) (i : Nat) (w1 : GW) (H : Heap) (locs : List Loc) (ls : Array Slot), 64 - i < n_ → (i ≤ 64) → (w1 = w) → SH g w1 v s H locs → lv_has ls 4 [(0, .long x), (2, .int (nI (cntB (bitL x) 0 i))), (3, .int (nI i))] → W p l e ({ frames := 1, cells := 0, slots := 0, locals := 60 } : Room) s m ([.long x] : List Value).toArray below meth c H locs 0 0 (MQ below (va_Qi (fun (r : Int32) (w' : GW) => r = nI (cntB (bitL x) 0 64) ∧ w' = w) (gB g v) (gA g)) ([.long x] : List Value).toArray s 0 0 (gA g)) (F0 m 4 ls []) := by
    intro n_
    induction n_ with
    | zero => intros; exact absurd ‹_ < 0› (Nat.not_lt_zero _)
    | succ n_ ih =>
      intro i w1 H locs ls hf hi hw  h hl
      rw [hw] at h
      refine lv_iload_n hx hb dX3_bits_4 rfl (lv_at hl 2 rfl) ?_
      refine lv_bipush (v := nI 64) hx hb dX3_bits_5 (by decide) ?_
      refine lv_icmp_ge (tgt := 25) hx hb dX3_bits_7 (by decide) (fun c1 => ?_) (fun c1 => ?_)
      · skip
        have c1 : 64 ≤ i := (nI_leI (by omega) (by omega)).mp c1
        refine lv_iload_n hx hb dX3_bits_25 rfl (lv_at hl 1 rfl) ?_
        have : i = 64 := by omega
        subst this
        exact gr_i C h (ty := .int) rfl (rfl) (⟨rfl, rfl⟩) (Nat.le_of_ble_eq_true rfl) (Nat.le_of_ble_eq_true rfl) dX3_bits_26
      · skip
        have c1 : ¬ (64 ≤ i) := fun q => c1 ((nI_leI (by omega) (by omega)).mpr q)
        refine lv_iload_n hx hb dX3_bits_10 rfl (lv_at hl 1 rfl) ?_
        refine lv_lload_n hx hb dX3_bits_11 rfl (lv_at hl 0 rfl) ?_
        refine lv_iload_n hx hb dX3_bits_12 rfl (lv_at hl 2 rfl) ?_
        refine lv_lshr hx hb dX3_bits_13 rfl ?_
        refine lv_lconst (v := 1) hx hb dX3_bits_14 (by decide) ?_
        refine lv_land hx hb dX3_bits_15 ?_
        refine lv_l2i hx hb dX3_bits_16 rfl ?_
        refine lv_iadd hx hb dX3_bits_17 ?_
        rw [show nI (cntB (bitL x) 0 i) + (x >>> ((nI i).toInt64 &&& 63) &&& 1).toInt32 = nI (cntB (bitL x) 0 (i + 1)) from cnt_step x i]
        refine lv_istore_n (lv' := [(2, .int (nI (cntB (bitL x) 0 (i + 1)))), (0, .long x), (3, .int (nI i))]) hx hb dX3_bits_18 rfl hl (by decide) rfl (fun ls hl => ?_)
        refine lv_iinc (v := nI (i + 1)) (lv' := [(3, .int (nI (i + 1))), (2, .int (nI (cntB (bitL x) 0 (i + 1)))), (0, .long x)]) hx hb dX3_bits_19 hl (k := 2) rfl (gi_inc _ 1) (by decide) rfl (fun ls hl => ?_)
        refine lv_goto (tgt := 4) hx hb dX3_bits_22 (by decide) ?_
        exact ih (i + 1) _ _ _ _ (by omega) (by omega) rfl  h (lv_sub hl [2, 1, 0] rfl)
  exact loop 65 0 w _ _ _ (by omega) (by omega) rfl h (lv_sub hl [2, 1, 0] rfl)
