set_option maxRecDepth 100000
theorem or_t {a : Bool} {P : Nat → Bool} {n : Nat} (h : (a || anyB P n) = true) : (a || anyB P (n + 1)) = true := by
  show (a || (anyB P n || P n)) = true
  revert h; cases a <;> cases anyB P n <;> simp
theorem or_p {a : Bool} {P : Nat → Bool} {n : Nat} (h : P n = true) : (a || anyB P (n + 1)) = true := by
  show (a || (anyB P n || P n)) = true
  rw [h]; cases a <;> cases anyB P n <;> rfl
theorem or_f {a : Bool} {P : Nat → Bool} {n : Nat} (h : (a || anyB P n) = false) (h2 : P n = false) : (a || anyB P (n + 1)) = false := by
  show (a || (anyB P n || P n)) = false
  rw [h2]; revert h; cases a <;> cases anyB P n <;> simp
theorem bitL_f {x : Int64} {k : Nat} (h : ¬ lg_cmp (x >>> ((nI k).toInt64 &&& 63) &&& 1) 1 = 0) : bitL x k = false := decide_eq_false (fun q => h ((lg_cmp_eq _ _).mpr q))
theorem bitL_t {x : Int64} {k : Nat} (h : lg_cmp (x >>> ((nI k).toInt64 &&& 63) &&& 1) 1 = 0) : bitL x k = true := decide_eq_true ((lg_cmp_eq _ _).mp h)
set_option maxHeartbeats 4000000 in
theorem m_X3_byteOf (l : Launch) (g : GG) (w v : GW) (ad : Nat → Nat) (cn : Nat) (ru fu ch th : Bool) (fi be ne ke : Nat) (h0 : w (ad 0) = some (mo ad cn ru fu ch th fi be ne ke)) (z : Nat → Bool) (hZ : w (ad 4) = some (eZ g 64 z)) (fO : Nat → Int32) (hO : w (ad 3) = some (eI g 2048 fO)) (fL : Nat → Int32) (hL : w (ad 2) = some (eI g 2048 fL)) (k i : Nat) (hk : k < 64) (hi : i < 32) : Met l yX3_byteOf (ws_ yX3_byteOf cX3_byteOf 3 (some .int)) ({ frames := 1, cells := 0, slots := 0, locals := 60 } : Room) (gP g [.ref (ad 0), .int (nI k), .int (nI i)] w v) (va_Qi (fun (r : Int32) (w' : GW) => r = (if z k then fO (32 * k + i) else fL (32 * k + i)) ∧ w' = w) (gB g v) (gA g)) 0 0 (gA g) := by
  refine gm_of (by decide) (Nat.le_of_ble_eq_true rfl) ?_
  intro p e s m below meth c ls C hnm h hl
  have C : Cx g p s m ([.ref (ad 0), .int (nI k), .int (nI i)] : List Value).toArray meth c cX3_byteOf 3 RX3 (some .int) := C
  obtain ⟨hx, hb, hml, hown, hts, hr, hlk, hG⟩ := id C
  have hl : lv_has ls 3 [(0, .ref (ad 0)), (1, .int (nI k)), (2, .int (nI i))] := hl
  refine lv_aload_n hx hb dX3_byteOf_0 rfl (lv_at hl 0 rfl) ?_
  refine gx_get C h h0 (Cn := RX3) (T := TX3) (N := 22) rfl in_X3 6 (by decide) q738 rfl rfl dX3_byteOf_1 ?_
  refine lv_iload_n hx hb dX3_byteOf_4 rfl (lv_at hl 1 rfl) ?_
  refine gx_zald C h hZ k (rfl) (by omega) dX3_byteOf_5 ?_
  refine lv_if_eq (tgt := 23) hx hb dX3_byteOf_6 (by decide) (fun c1 => ?_) (fun c1 => ?_)
  · skip
    have c1 : z k = false := bI_eq0.mp c1
    refine lv_aload_n hx hb dX3_byteOf_23 rfl (lv_at hl 0 rfl) ?_
    refine gx_get C h h0 (Cn := RX3) (T := TX3) (N := 22) rfl in_X3 4 (by decide) q736 rfl rfl dX3_byteOf_24 ?_
    refine lv_bipush (v := nI 32) hx hb dX3_byteOf_27 (by decide) ?_
    refine lv_iload_n hx hb dX3_byteOf_29 rfl (lv_at hl 1 rfl) ?_
    refine gn_imul hx hb dX3_byteOf_30 ?_
    refine lv_iload_n hx hb dX3_byteOf_31 rfl (lv_at hl 2 rfl) ?_
    refine gn_iadd hx hb dX3_byteOf_32 ?_
    refine gx_iald C h hL ((32 * k) + i) (rfl) (by omega) dX3_byteOf_33 ?_
    exact gr_i C h (ty := .int) rfl (rfl) (⟨by rw [c1]; rfl, rfl⟩) (Nat.le_of_ble_eq_true rfl) (Nat.le_of_ble_eq_true rfl) dX3_byteOf_34
  · skip
    have c1 : z k = true := bI_ne0.mp c1
    refine lv_aload_n hx hb dX3_byteOf_9 rfl (lv_at hl 0 rfl) ?_
    refine gx_get C h h0 (Cn := RX3) (T := TX3) (N := 22) rfl in_X3 5 (by decide) q737 rfl rfl dX3_byteOf_10 ?_
    refine lv_bipush (v := nI 32) hx hb dX3_byteOf_13 (by decide) ?_
    refine lv_iload_n hx hb dX3_byteOf_15 rfl (lv_at hl 1 rfl) ?_
    refine gn_imul hx hb dX3_byteOf_16 ?_
    refine lv_iload_n hx hb dX3_byteOf_17 rfl (lv_at hl 2 rfl) ?_
    refine gn_iadd hx hb dX3_byteOf_18 ?_
    refine gx_iald C h hO ((32 * k) + i) (rfl) (by omega) dX3_byteOf_19 ?_
    refine lv_goto (tgt := 34) hx hb dX3_byteOf_20 (by decide) ?_
    exact gr_i C h (ty := .int) rfl (rfl) (⟨by rw [c1]; rfl, rfl⟩) (Nat.le_of_ble_eq_true rfl) (Nat.le_of_ble_eq_true rfl) dX3_byteOf_34
set_option maxHeartbeats 4000000 in
theorem m_X3_valueOf (l : Launch) (g : GG) (w v : GW) (ad : Nat → Nat) (cn : Nat) (ru fu ch th : Bool) (fi be ne ke : Nat) (h0 : w (ad 0) = some (mo ad cn ru fu ch th fi be ne ke)) (z : Nat → Bool) (hZ : w (ad 4) = some (eZ g 64 z)) (fO : Nat → Int32) (hO : w (ad 3) = some (eI g 2048 fO)) (fL : Nat → Int32) (hL : w (ad 2) = some (eI g 2048 fL)) (k : Nat) (hk : k < 64) : Met l yX3_valueOf (ws_ yX3_valueOf cX3_valueOf 2 (some .long)) ({ frames := 3, cells := 0, slots := 0, locals := 180 } : Room) (gP g [.ref (ad 0), .int (nI k)] w v) (va_Ql (fun (r : Int64) (w' : GW) => r = (if z k then wideI fO (32 * k + 8) else wideI fL (32 * k + 8)) ∧ w' = w) (gB g v) (gA g)) 0 0 (gA g) := by
  refine gm_of (by decide) (Nat.le_of_ble_eq_true rfl) ?_
  intro p e s m below meth c ls C hnm h hl
  have C : Cx g p s m ([.ref (ad 0), .int (nI k)] : List Value).toArray meth c cX3_valueOf 2 RX3 (some .long) := C
  obtain ⟨hx, hb, hml, hown, hts, hr, hlk, hG⟩ := id C
  have hl : lv_has ls 2 [(0, .ref (ad 0)), (1, .int (nI k))] := hl
  refine lv_aload_n hx hb dX3_valueOf_0 rfl (lv_at hl 0 rfl) ?_
  refine gx_get C h h0 (Cn := RX3) (T := TX3) (N := 22) rfl in_X3 6 (by decide) q738 rfl rfl dX3_valueOf_1 ?_
  refine lv_iload_n hx hb dX3_valueOf_4 rfl (lv_at hl 1 rfl) ?_
  refine gx_zald C h hZ k (rfl) (by omega) dX3_valueOf_5 ?_
  refine lv_if_eq (tgt := 26) hx hb dX3_valueOf_6 (by decide) (fun c1 => ?_) (fun c1 => ?_)
  · skip
    have c1 : z k = false := bI_eq0.mp c1
    refine lv_aload_n hx hb dX3_valueOf_26 rfl (lv_at hl 0 rfl) ?_
    refine gx_get C h h0 (Cn := RX3) (T := TX3) (N := 22) rfl in_X3 4 (by decide) q736 rfl rfl dX3_valueOf_27 ?_
    refine lv_bipush (v := nI 32) hx hb dX3_valueOf_30 (by decide) ?_
    refine lv_iload_n hx hb dX3_valueOf_32 rfl (lv_at hl 1 rfl) ?_
    refine gn_imul hx hb dX3_valueOf_33 ?_
    refine lv_bipush (v := nI 8) hx hb dX3_valueOf_34 (by decide) ?_
    refine gn_iadd hx hb dX3_valueOf_36 ?_
    refine gc_l (va_runS (As := [.ref (ad 2), .int (nI ((32 * k) + 8))]) (rest := []) C.fix (m_X3_wide l g w v (ad 2) 2048 fL hL (by omega) (32 * k + 8) (by omega)) (va_cwS 2 hts (lw_S q825 q826 q53 q827) rfl rfl rfl (by decide +kernel) ⟨Nat.le_of_ble_eq_true rfl, Nat.le_of_ble_eq_true rfl⟩) (gp_S C h _) rfl rfl hl.1 rfl (lv_room (Nat.le_of_ble_eq_true rfl)) dX3_valueOf_37 ⟨Nat.le_of_ble_eq_true rfl, Nat.le_of_ble_eq_true rfl⟩) h (fun r_1 w_2 H locs hp h => ?_)
    obtain ⟨er_r_1, ew_r_1⟩ := hp
    rw [er_r_1]
    rw [ew_r_1] at h
    exact gr_l C h (⟨by rw [c1]; rfl, rfl⟩) (Nat.le_of_ble_eq_true rfl) (Nat.le_of_ble_eq_true rfl) dX3_valueOf_40
  · skip
    have c1 : z k = true := bI_ne0.mp c1
    refine lv_aload_n hx hb dX3_valueOf_9 rfl (lv_at hl 0 rfl) ?_
    refine gx_get C h h0 (Cn := RX3) (T := TX3) (N := 22) rfl in_X3 5 (by decide) q737 rfl rfl dX3_valueOf_10 ?_
    refine lv_bipush (v := nI 32) hx hb dX3_valueOf_13 (by decide) ?_
    refine lv_iload_n hx hb dX3_valueOf_15 rfl (lv_at hl 1 rfl) ?_
    refine gn_imul hx hb dX3_valueOf_16 ?_
    refine lv_bipush (v := nI 8) hx hb dX3_valueOf_17 (by decide) ?_
    refine gn_iadd hx hb dX3_valueOf_19 ?_
    refine gc_l (va_runS (As := [.ref (ad 3), .int (nI ((32 * k) + 8))]) (rest := []) C.fix (m_X3_wide l g w v (ad 3) 2048 fO hO (by omega) (32 * k + 8) (by omega)) (va_cwS 2 hts (lw_S q825 q826 q53 q827) rfl rfl rfl (by decide +kernel) ⟨Nat.le_of_ble_eq_true rfl, Nat.le_of_ble_eq_true rfl⟩) (gp_S C h _) rfl rfl hl.1 rfl (lv_room (Nat.le_of_ble_eq_true rfl)) dX3_valueOf_20 ⟨Nat.le_of_ble_eq_true rfl, Nat.le_of_ble_eq_true rfl⟩) h (fun r_3 w_4 H locs hp h => ?_)
    obtain ⟨er_r_3, ew_r_3⟩ := hp
    rw [er_r_3]
    rw [ew_r_3] at h
    refine lv_goto (tgt := 40) hx hb dX3_valueOf_23 (by decide) ?_
    exact gr_l C h (⟨by rw [c1]; rfl, rfl⟩) (Nat.le_of_ble_eq_true rfl) (Nat.le_of_ble_eq_true rfl) dX3_valueOf_40
set_option maxHeartbeats 4000000 in
theorem m_X3_kindOf (l : Launch) (g : GG) (w v : GW) (ad : Nat → Nat) (cn : Nat) (ru fu ch th : Bool) (fi be ne ke : Nat) (h0 : w (ad 0) = some (mo ad cn ru fu ch th fi be ne ke)) (z : Nat → Bool) (hZ : w (ad 4) = some (eZ g 64 z)) (fO : Nat → Int32) (hO : w (ad 3) = some (eI g 2048 fO)) (fL : Nat → Int32) (hL : w (ad 2) = some (eI g 2048 fL)) (k : Nat) (hk : k < 64) : Met l yX3_kindOf (ws_ yX3_kindOf cX3_kindOf 3 (some .int)) ({ frames := 2, cells := 0, slots := 0, locals := 120 } : Room) (gP g [.ref (ad 0), .int (nI k)] w v) (va_Qi (fun (r : Int32) (w' : GW) => r = (if (if z k then fO (32 * k + 4) else fL (32 * k + 4)) ≤ nI 127 then (if z k then fO (32 * k + 4) else fL (32 * k + 4)) else (if z k then fO (32 * k + 4) else fL (32 * k + 4)) - nI 256) ∧ w' = w) (gB g v) (gA g)) 0 0 (gA g) := by
  refine gm_of (by decide) (Nat.le_of_ble_eq_true rfl) ?_
  intro p e s m below meth c ls C hnm h hl
  have C : Cx g p s m ([.ref (ad 0), .int (nI k)] : List Value).toArray meth c cX3_kindOf 3 RX3 (some .int) := C
  obtain ⟨hx, hb, hml, hown, hts, hr, hlk, hG⟩ := id C
  have hl : lv_has ls 3 [(0, .ref (ad 0)), (1, .int (nI k))] := hl
  refine lv_aload_n hx hb dX3_kindOf_0 rfl (lv_at hl 0 rfl) ?_
  refine lv_iload_n hx hb dX3_kindOf_1 rfl (lv_at hl 1 rfl) ?_
  refine lv_iconst (v := nI 4) hx hb dX3_kindOf_2 (by decide) ?_
  refine gc_i (va_runV (As := [.int (nI k), .int (nI 4)]) (rest := []) C.fix (m_X3_byteOf l g w v ad cn ru fu ch th fi be ne ke h0 z hZ fO hO fL hL k 4 hk (by omega)) (cwV 2 hts (lw_V q813 q815 qs29 q53 q816) rfl rfl rfl (by decide +kernel) ⟨Nat.le_of_ble_eq_true rfl, Nat.le_of_ble_eq_true rfl⟩) (gp_V C h [.int (nI k), .int (nI 4)] (Cn := RX3) (T := TX3) (N := 22) rfl h0) rfl rfl hl.1 rfl (lv_room (Nat.le_of_ble_eq_true rfl)) dX3_kindOf_3 ⟨Nat.le_of_ble_eq_true rfl, Nat.le_of_ble_eq_true rfl⟩) h (fun r_1 w_2 H locs hp h => ?_)
  obtain ⟨er_r_1, ew_r_1⟩ := hp
  rw [er_r_1]
  rw [ew_r_1] at h
  refine lv_istore_n (lv' := [(2, .int ((if z k then fO (32 * k + 4) else fL (32 * k + 4)))), (0, .ref (ad 0)), (1, .int (nI k))]) hx hb dX3_kindOf_6 rfl hl (by decide) rfl (fun ls hl => ?_)
  refine lv_iload_n hx hb dX3_kindOf_7 rfl (lv_at hl 0 rfl) ?_
  refine lv_bipush (v := nI 127) hx hb dX3_kindOf_8 (by decide) ?_
  refine lv_icmp_le (tgt := 21) hx hb dX3_kindOf_10 (by decide) (fun c1 => ?_) (fun c1 => ?_)
  · skip
    refine lv_iload_n hx hb dX3_kindOf_21 rfl (lv_at hl 0 rfl) ?_
    exact gr_i C h (ty := .int) rfl (rfl) (⟨by rw [if_pos c1], rfl⟩) (Nat.le_of_ble_eq_true rfl) (Nat.le_of_ble_eq_true rfl) dX3_kindOf_22
  · skip
    refine lv_iload_n hx hb dX3_kindOf_13 rfl (lv_at hl 0 rfl) ?_
    refine lv_sipush (v := nI 256) hx hb dX3_kindOf_14 (by decide) ?_
    refine lv_isub hx hb dX3_kindOf_17 ?_
    refine lv_goto (tgt := 22) hx hb dX3_kindOf_18 (by decide) ?_
    exact gr_i C h (ty := .int) rfl (rfl) (⟨by rw [if_neg c1], rfl⟩) (Nat.le_of_ble_eq_true rfl) (Nat.le_of_ble_eq_true rfl) dX3_kindOf_22
set_option maxHeartbeats 4000000 in
theorem m_X3_isPage (l : Launch) (g : GG) (w v : GW) (ad : Nat → Nat) (cn : Nat) (ru fu ch th : Bool) (fi be ne ke : Nat) (h0 : w (ad 0) = some (mo ad cn ru fu ch th fi be ne ke)) (fP : Nat → Int32) (hP : w (ad 5) = some (eI g 30 fP)) (x : Int32)  : Met l yX3_isPage (ws_ yX3_isPage cX3_isPage 2 (some .boolean)) ({ frames := 1, cells := 0, slots := 0, locals := 60 } : Room) (gP g [.ref (ad 0), .int x] w v) (va_Qi (fun (r : Int32) (w' : GW) => r = bI (isPgI fP x) ∧ w' = w) (gB g v) (gA g)) 0 0 (gA g) := by
  refine gm_of (by decide) (Nat.le_of_ble_eq_true rfl) ?_
  intro p e s m below meth c ls C hnm h hl
  have C : Cx g p s m ([.ref (ad 0), .int x] : List Value).toArray meth c cX3_isPage 2 RX3 (some .boolean) := C
  obtain ⟨hx, hb, hml, hown, hts, hr, hlk, hG⟩ := id C
  have hl : lv_has ls 2 [(0, .ref (ad 0)), (1, .int x)] := hl
  refine lv_iload_n hx hb dX3_isPage_0 rfl (lv_at hl 1 rfl) ?_
  refine lv_if_lt (tgt := 24) hx hb dX3_isPage_1 (by decide) (fun c1 => ?_) (fun c1 => ?_)
  · skip
    refine lv_iconst (v := bI false) hx hb dX3_isPage_24 (by decide) ?_
    exact gr_i C h (ty := .boolean) rfl (bI_n _) (⟨by rw [isPgI, decide_eq_false (fun q => q.1 c1)], rfl⟩) (Nat.le_of_ble_eq_true rfl) (Nat.le_of_ble_eq_true rfl) dX3_isPage_25
  · skip
    refine lv_iload_n hx hb dX3_isPage_4 rfl (lv_at hl 1 rfl) ?_
    refine lv_bipush (v := nI 30) hx hb dX3_isPage_5 (by decide) ?_
    refine lv_icmp_ge (tgt := 24) hx hb dX3_isPage_7 (by decide) (fun c2 => ?_) (fun c2 => ?_)
    · skip
      refine lv_iconst (v := bI false) hx hb dX3_isPage_24 (by decide) ?_
      exact gr_i C h (ty := .boolean) rfl (bI_n _) (⟨by rw [isPgI, decide_eq_false (fun q => q.2.1 c2)], rfl⟩) (Nat.le_of_ble_eq_true rfl) (Nat.le_of_ble_eq_true rfl) dX3_isPage_25
    · skip
      obtain ⟨j, hj, hxj⟩ : ∃ j : Nat, j < 30 ∧ x = nI j := (pk_ix x (n := 30) (by omega)).elim (fun q => absurd q c1) (fun q => q.elim (fun q => absurd q c2) id)
      have hcl : x.toNatClampNeg = j := by rw [hxj]; exact nI_clamp (by omega)
      refine lv_aload_n hx hb dX3_isPage_10 rfl (lv_at hl 0 rfl) ?_
      refine gx_get C h h0 (Cn := RX3) (T := TX3) (N := 22) rfl in_X3 7 (by decide) q739 rfl rfl dX3_isPage_11 ?_
      refine lv_iload_n hx hb dX3_isPage_14 rfl (lv_at hl 1 rfl) ?_
      refine gx_iald C h hP j (hxj) (by omega) dX3_isPage_15 ?_
      refine lv_iconst (v := (-1)) hx hb dX3_isPage_16 (by decide) ?_
      refine lv_icmp_eq (tgt := 24) hx hb dX3_isPage_17 (by decide) (fun c3 => ?_) (fun c3 => ?_)
      · skip
        refine lv_iconst (v := bI false) hx hb dX3_isPage_24 (by decide) ?_
        exact gr_i C h (ty := .boolean) rfl (bI_n _) (⟨by rw [isPgI, decide_eq_false (fun q => q.2.2 (by rw [hcl]; exact c3))], rfl⟩) (Nat.le_of_ble_eq_true rfl) (Nat.le_of_ble_eq_true rfl) dX3_isPage_25
      · skip
        refine lv_iconst (v := bI true) hx hb dX3_isPage_20 (by decide) ?_
        refine lv_goto (tgt := 25) hx hb dX3_isPage_21 (by decide) ?_
        exact gr_i C h (ty := .boolean) rfl (bI_n _) (⟨by rw [isPgI, decide_eq_true ⟨c1, c2, by rw [hcl]; exact c3⟩], rfl⟩) (Nat.le_of_ble_eq_true rfl) (Nat.le_of_ble_eq_true rfl) dX3_isPage_25
set_option maxHeartbeats 4000000 in
theorem m_X3_isOpen (l : Launch) (g : GG) (w v : GW) (ad : Nat → Nat) (cn : Nat) (ru fu ch th : Bool) (fi be ne ke : Nat) (h0 : w (ad 0) = some (mo ad cn ru fu ch th fi be ne ke)) (fP : Nat → Int32) (hP : w (ad 5) = some (eI g 30 fP)) (k : Nat) (hk : k < 64) : Met l yX3_isOpen (ws_ yX3_isOpen cX3_isOpen 4 (some .boolean)) ({ frames := 1, cells := 0, slots := 0, locals := 60 } : Room) (gP g [.ref (ad 0), .int (nI k)] w v) (va_Qi (fun (r : Int32) (w' : GW) => r = bI (opM fP k) ∧ w' = w) (gB g v) (gA g)) 0 0 (gA g) := by
  refine gm_of (by decide) (Nat.le_of_ble_eq_true rfl) ?_
  intro p e s m below meth c ls C hnm h hl
  have C : Cx g p s m ([.ref (ad 0), .int (nI k)] : List Value).toArray meth c cX3_isOpen 4 RX3 (some .boolean) := C
  obtain ⟨hx, hb, hml, hown, hts, hr, hlk, hG⟩ := id C
  have hl : lv_has ls 4 [(0, .ref (ad 0)), (1, .int (nI k))] := hl
  refine lv_iconst (v := bI false) hx hb dX3_isOpen_0 (by decide) ?_
  refine lv_istore_n (lv' := [(2, .int (bI false)), (0, .ref (ad 0)), (1, .int (nI k))]) hx hb dX3_isOpen_1 rfl hl (by decide) rfl (fun ls hl => ?_)
  refine lv_iconst (v := nI 0) hx hb dX3_isOpen_2 (by decide) ?_
  refine lv_istore_n (lv' := [(3, .int (nI 0)), (2, .int (bI false)), (0, .ref (ad 0)), (1, .int (nI k))]) hx hb dX3_isOpen_3 rfl hl (by decide) rfl (fun ls hl => ?_)
  have loop : ∀ (n_ : Nat) (i : Nat) (w1 : GW) (H : Heap) (locs : List Loc) (ls : Array Slot), 30 - i < n_ → (i ≤ 30) → (w1 = w) → SH g w1 v s H locs → lv_has ls 4 [(0, .ref (ad 0)), (1, .int (nI k)), (2, .int (bI (anyB (fun p => decide (fP p = nI k)) i))), (3, .int (nI i))] → W p l e ({ frames := 1, cells := 0, slots := 0, locals := 60 } : Room) s m ([.ref (ad 0), .int (nI k)] : List Value).toArray below meth c H locs 0 0 (MQ below (va_Qi (fun (r : Int32) (w' : GW) => r = bI (opM fP k) ∧ w' = w) (gB g v) (gA g)) ([.ref (ad 0), .int (nI k)] : List Value).toArray s 0 0 (gA g)) (F0 m 4 ls []) := by
    intro n_
    induction n_ with
    | zero => intros; exact absurd ‹_ < 0› (Nat.not_lt_zero _)
    | succ n_ ih =>
      intro i w1 H locs ls hf hi hw  h hl
      rw [hw] at h
      refine lv_iload_n hx hb dX3_isOpen_4 rfl (lv_at hl 3 rfl) ?_
      refine lv_bipush (v := nI 30) hx hb dX3_isOpen_5 (by decide) ?_
      refine lv_icmp_ge (tgt := 36) hx hb dX3_isOpen_7 (by decide) (fun c1 => ?_) (fun c1 => ?_)
      · skip
        have c1 : 30 ≤ i := (nI_leI (by omega) (by omega)).mp c1
        refine lv_iload_n hx hb dX3_isOpen_36 rfl (lv_at hl 2 rfl) ?_
        have : i = 30 := by omega
        subst this
        exact gr_i C h (ty := .boolean) rfl (bI_n _) (⟨rfl, rfl⟩) (Nat.le_of_ble_eq_true rfl) (Nat.le_of_ble_eq_true rfl) dX3_isOpen_37
      · skip
        have c1 : ¬ (30 ≤ i) := fun q => c1 ((nI_leI (by omega) (by omega)).mpr q)
        refine lv_iload_n hx hb dX3_isOpen_10 rfl (lv_at hl 2 rfl) ?_
        refine lv_if_ne (tgt := 24) hx hb dX3_isOpen_11 (by decide) (fun c2 => ?_) (fun c2 => ?_)
        · skip
          have c2 : anyB (fun p => decide (fP p = nI k)) i = true := bI_ne0.mp c2
          refine lv_iconst (v := bI true) hx hb dX3_isOpen_24 (by decide) ?_
          refine lv_goto (tgt := 29) hx hb dX3_isOpen_25 (by decide) ?_
          refine lv_istore_n (lv' := [(2, .int (bI true)), (0, .ref (ad 0)), (1, .int (nI k)), (3, .int (nI i))]) hx hb dX3_isOpen_29 rfl hl (by decide) rfl (fun ls hl => ?_)
          refine lv_iinc (v := nI (i + 1)) (lv' := [(3, .int (nI (i + 1))), (2, .int (bI true)), (0, .ref (ad 0)), (1, .int (nI k))]) hx hb dX3_isOpen_30 hl (k := 3) rfl (gi_inc _ 1) (by decide) rfl (fun ls hl => ?_)
          refine lv_goto (tgt := 4) hx hb dX3_isOpen_33 (by decide) ?_
          have hl : lv_has ls 4 [(3, .int (nI (i + 1))), (2, .int (bI (anyB (fun p => decide (fP p = nI k)) (i + 1)))), (0, .ref (ad 0)), (1, .int (nI k))] := by rw [anyB_t c2]; exact hl
          exact ih (i + 1) _ _ _ _ (by omega) (by omega) rfl  h (lv_sub hl [2, 3, 1, 0] rfl)
        · skip
          have c2 : anyB (fun p => decide (fP p = nI k)) i = false := bI_eq0.mp c2
          refine lv_aload_n hx hb dX3_isOpen_14 rfl (lv_at hl 0 rfl) ?_
          refine gx_get C h h0 (Cn := RX3) (T := TX3) (N := 22) rfl in_X3 7 (by decide) q739 rfl rfl dX3_isOpen_15 ?_
          refine lv_iload_n hx hb dX3_isOpen_18 rfl (lv_at hl 3 rfl) ?_
          refine gx_iald C h hP i (rfl) (by omega) dX3_isOpen_19 ?_
          refine lv_iload_n hx hb dX3_isOpen_20 rfl (lv_at hl 1 rfl) ?_
          refine lv_icmp_ne (tgt := 28) hx hb dX3_isOpen_21 (by decide) (fun c3 => ?_) (fun c3 => ?_)
          · skip
            refine lv_iconst (v := bI false) hx hb dX3_isOpen_28 (by decide) ?_
            refine lv_istore_n (lv' := [(2, .int (bI false)), (0, .ref (ad 0)), (1, .int (nI k)), (3, .int (nI i))]) hx hb dX3_isOpen_29 rfl hl (by decide) rfl (fun ls hl => ?_)
            refine lv_iinc (v := nI (i + 1)) (lv' := [(3, .int (nI (i + 1))), (2, .int (bI false)), (0, .ref (ad 0)), (1, .int (nI k))]) hx hb dX3_isOpen_30 hl (k := 3) rfl (gi_inc _ 1) (by decide) rfl (fun ls hl => ?_)
            refine lv_goto (tgt := 4) hx hb dX3_isOpen_33 (by decide) ?_
            have hl : lv_has ls 4 [(3, .int (nI (i + 1))), (2, .int (bI (anyB (fun p => decide (fP p = nI k)) (i + 1)))), (0, .ref (ad 0)), (1, .int (nI k))] := by rw [anyB_f c2 (decide_eq_false c3)]; exact hl
            exact ih (i + 1) _ _ _ _ (by omega) (by omega) rfl  h (lv_sub hl [2, 3, 1, 0] rfl)
          · skip
            refine lv_iconst (v := bI true) hx hb dX3_isOpen_24 (by decide) ?_
            refine lv_goto (tgt := 29) hx hb dX3_isOpen_25 (by decide) ?_
            refine lv_istore_n (lv' := [(2, .int (bI true)), (0, .ref (ad 0)), (1, .int (nI k)), (3, .int (nI i))]) hx hb dX3_isOpen_29 rfl hl (by decide) rfl (fun ls hl => ?_)
            refine lv_iinc (v := nI (i + 1)) (lv' := [(3, .int (nI (i + 1))), (2, .int (bI true)), (0, .ref (ad 0)), (1, .int (nI k))]) hx hb dX3_isOpen_30 hl (k := 3) rfl (gi_inc _ 1) (by decide) rfl (fun ls hl => ?_)
            refine lv_goto (tgt := 4) hx hb dX3_isOpen_33 (by decide) ?_
            have hl : lv_has ls 4 [(3, .int (nI (i + 1))), (2, .int (bI (anyB (fun p => decide (fP p = nI k)) (i + 1)))), (0, .ref (ad 0)), (1, .int (nI k))] := by rw [anyB_p (decide_eq_true c3)]; exact hl
            exact ih (i + 1) _ _ _ _ (by omega) (by omega) rfl  h (lv_sub hl [2, 3, 1, 0] rfl)
  exact loop 31 0 w _ _ _ (by omega) (by omega) rfl h (lv_sub hl [2, 3, 1, 0] rfl)
set_option maxHeartbeats 4000000 in
theorem m_X3_isWaiting (l : Launch) (g : GG) (w v : GW) (ad : Nat → Nat) (cn : Nat) (ru fu ch th : Bool) (fi be ne ke : Nat) (h0 : w (ad 0) = some (mo ad cn ru fu ch th fi be ne ke)) (fT : Nat → Int32) (hT : w (ad 6) = some (eI g 1200 fT)) (k : Nat) (hk : k < 64) (hfb : fi ≤ be ∧ be ≤ 1200) : Met l yX3_isWaiting (ws_ yX3_isWaiting cX3_isWaiting 4 (some .boolean)) ({ frames := 1, cells := 0, slots := 0, locals := 60 } : Room) (gP g [.ref (ad 0), .int (nI k)] w v) (va_Qi (fun (r : Int32) (w' : GW) => r = bI (waM fT fi be k) ∧ w' = w) (gB g v) (gA g)) 0 0 (gA g) := by
  refine gm_of (by decide) (Nat.le_of_ble_eq_true rfl) ?_
  intro p e s m below meth c ls C hnm h hl
  have C : Cx g p s m ([.ref (ad 0), .int (nI k)] : List Value).toArray meth c cX3_isWaiting 4 RX3 (some .boolean) := C
  obtain ⟨hx, hb, hml, hown, hts, hr, hlk, hG⟩ := id C
  have hl : lv_has ls 4 [(0, .ref (ad 0)), (1, .int (nI k))] := hl
  refine lv_iconst (v := bI false) hx hb dX3_isWaiting_0 (by decide) ?_
  refine lv_istore_n (lv' := [(2, .int (bI false)), (0, .ref (ad 0)), (1, .int (nI k))]) hx hb dX3_isWaiting_1 rfl hl (by decide) rfl (fun ls hl => ?_)
  refine lv_aload_n hx hb dX3_isWaiting_2 rfl (lv_at hl 1 rfl) ?_
  refine gx_get C h h0 (Cn := RX3) (T := TX3) (N := 22) rfl in_X3 11 (by decide) q743 rfl rfl dX3_isWaiting_3 ?_
  refine lv_istore_n (lv' := [(3, .int (nI fi)), (2, .int (bI false)), (0, .ref (ad 0)), (1, .int (nI k))]) hx hb dX3_isWaiting_6 rfl hl (by decide) rfl (fun ls hl => ?_)
  have loop : ∀ (n_ : Nat) (i : Nat) (w1 : GW) (H : Heap) (locs : List Loc) (ls : Array Slot), (be - fi) - i < n_ → (i ≤ be - fi) → (w1 = w) → SH g w1 v s H locs → lv_has ls 4 [(0, .ref (ad 0)), (1, .int (nI k)), (2, .int (bI (anyB (fun i => decide (fT (fi + i) = nI k)) i))), (3, .int (nI (fi + i)))] → W p l e ({ frames := 1, cells := 0, slots := 0, locals := 60 } : Room) s m ([.ref (ad 0), .int (nI k)] : List Value).toArray below meth c H locs 0 0 (MQ below (va_Qi (fun (r : Int32) (w' : GW) => r = bI (waM fT fi be k) ∧ w' = w) (gB g v) (gA g)) ([.ref (ad 0), .int (nI k)] : List Value).toArray s 0 0 (gA g)) (F0 m 7 ls []) := by
    intro n_
    induction n_ with
    | zero => intros; exact absurd ‹_ < 0› (Nat.not_lt_zero _)
    | succ n_ ih =>
      intro i w1 H locs ls hf hi hw  h hl
      rw [hw] at h
      refine lv_iload_n hx hb dX3_isWaiting_7 rfl (lv_at hl 3 rfl) ?_
      refine lv_aload_n hx hb dX3_isWaiting_8 rfl (lv_at hl 0 rfl) ?_
      refine gx_get C h h0 (Cn := RX3) (T := TX3) (N := 22) rfl in_X3 12 (by decide) q744 rfl rfl dX3_isWaiting_9 ?_
      refine lv_icmp_ge (tgt := 41) hx hb dX3_isWaiting_12 (by decide) (fun c1 => ?_) (fun c1 => ?_)
      · skip
        have c1 : be ≤ (fi + i) := (nI_leI (by omega) (by omega)).mp c1
        refine lv_iload_n hx hb dX3_isWaiting_41 rfl (lv_at hl 2 rfl) ?_
        have : i = be - fi := by omega
        subst this
        exact gr_i C h (ty := .boolean) rfl (bI_n _) (⟨rfl, rfl⟩) (Nat.le_of_ble_eq_true rfl) (Nat.le_of_ble_eq_true rfl) dX3_isWaiting_42
      · skip
        have c1 : ¬ (be ≤ (fi + i)) := fun q => c1 ((nI_leI (by omega) (by omega)).mpr q)
        refine lv_iload_n hx hb dX3_isWaiting_15 rfl (lv_at hl 2 rfl) ?_
        refine lv_if_ne (tgt := 29) hx hb dX3_isWaiting_16 (by decide) (fun c2 => ?_) (fun c2 => ?_)
        · skip
          have c2 : anyB (fun i => decide (fT (fi + i) = nI k)) i = true := bI_ne0.mp c2
          refine lv_iconst (v := bI true) hx hb dX3_isWaiting_29 (by decide) ?_
          refine lv_goto (tgt := 34) hx hb dX3_isWaiting_30 (by decide) ?_
          refine lv_istore_n (lv' := [(2, .int (bI true)), (0, .ref (ad 0)), (1, .int (nI k)), (3, .int (nI (fi + i)))]) hx hb dX3_isWaiting_34 rfl hl (by decide) rfl (fun ls hl => ?_)
          refine lv_iinc (v := nI (fi + i + 1)) (lv' := [(3, .int (nI (fi + i + 1))), (2, .int (bI true)), (0, .ref (ad 0)), (1, .int (nI k))]) hx hb dX3_isWaiting_35 hl (k := 3) rfl (gi_inc _ 1) (by decide) rfl (fun ls hl => ?_)
          refine lv_goto (tgt := 7) hx hb dX3_isWaiting_38 (by decide) ?_
          have hl : lv_has ls 4 [(3, .int (nI (fi + (i + 1)))), (2, .int (bI (anyB (fun i => decide (fT (fi + i) = nI k)) (i + 1)))), (0, .ref (ad 0)), (1, .int (nI k))] := by rw [anyB_t c2]; exact hl
          exact ih (i + 1) _ _ _ _ (by omega) (by omega) rfl  h (lv_sub hl [2, 3, 1, 0] rfl)
        · skip
          have c2 : anyB (fun i => decide (fT (fi + i) = nI k)) i = false := bI_eq0.mp c2
          refine lv_aload_n hx hb dX3_isWaiting_19 rfl (lv_at hl 0 rfl) ?_
          refine gx_get C h h0 (Cn := RX3) (T := TX3) (N := 22) rfl in_X3 9 (by decide) q741 rfl rfl dX3_isWaiting_20 ?_
          refine lv_iload_n hx hb dX3_isWaiting_23 rfl (lv_at hl 3 rfl) ?_
          refine gx_iald C h hT (fi + i) (rfl) (by omega) dX3_isWaiting_24 ?_
          refine lv_iload_n hx hb dX3_isWaiting_25 rfl (lv_at hl 1 rfl) ?_
          refine lv_icmp_ne (tgt := 33) hx hb dX3_isWaiting_26 (by decide) (fun c3 => ?_) (fun c3 => ?_)
          · skip
            refine lv_iconst (v := bI false) hx hb dX3_isWaiting_33 (by decide) ?_
            refine lv_istore_n (lv' := [(2, .int (bI false)), (0, .ref (ad 0)), (1, .int (nI k)), (3, .int (nI (fi + i)))]) hx hb dX3_isWaiting_34 rfl hl (by decide) rfl (fun ls hl => ?_)
            refine lv_iinc (v := nI (fi + i + 1)) (lv' := [(3, .int (nI (fi + i + 1))), (2, .int (bI false)), (0, .ref (ad 0)), (1, .int (nI k))]) hx hb dX3_isWaiting_35 hl (k := 3) rfl (gi_inc _ 1) (by decide) rfl (fun ls hl => ?_)
            refine lv_goto (tgt := 7) hx hb dX3_isWaiting_38 (by decide) ?_
            have hl : lv_has ls 4 [(3, .int (nI (fi + (i + 1)))), (2, .int (bI (anyB (fun i => decide (fT (fi + i) = nI k)) (i + 1)))), (0, .ref (ad 0)), (1, .int (nI k))] := by rw [anyB_f c2 (decide_eq_false c3)]; exact hl
            exact ih (i + 1) _ _ _ _ (by omega) (by omega) rfl  h (lv_sub hl [2, 3, 1, 0] rfl)
          · skip
            refine lv_iconst (v := bI true) hx hb dX3_isWaiting_29 (by decide) ?_
            refine lv_goto (tgt := 34) hx hb dX3_isWaiting_30 (by decide) ?_
            refine lv_istore_n (lv' := [(2, .int (bI true)), (0, .ref (ad 0)), (1, .int (nI k)), (3, .int (nI (fi + i)))]) hx hb dX3_isWaiting_34 rfl hl (by decide) rfl (fun ls hl => ?_)
            refine lv_iinc (v := nI (fi + i + 1)) (lv' := [(3, .int (nI (fi + i + 1))), (2, .int (bI true)), (0, .ref (ad 0)), (1, .int (nI k))]) hx hb dX3_isWaiting_35 hl (k := 3) rfl (gi_inc _ 1) (by decide) rfl (fun ls hl => ?_)
            refine lv_goto (tgt := 7) hx hb dX3_isWaiting_38 (by decide) ?_
            have hl : lv_has ls 4 [(3, .int (nI (fi + (i + 1)))), (2, .int (bI (anyB (fun i => decide (fT (fi + i) = nI k)) (i + 1)))), (0, .ref (ad 0)), (1, .int (nI k))] := by rw [anyB_p (decide_eq_true c3)]; exact hl
            exact ih (i + 1) _ _ _ _ (by omega) (by omega) rfl  h (lv_sub hl [2, 3, 1, 0] rfl)
  exact loop (be - fi + 1) 0 w _ _ _ (by omega) (by omega) rfl h (lv_sub hl [2, 3, 1, 0] rfl)
set_option maxHeartbeats 4000000 in
theorem m_X3_isHeld (l : Launch) (g : GG) (w v : GW) (ad : Nat → Nat) (cn : Nat) (ru fu ch th : Bool) (fi be ne ke : Nat) (h0 : w (ad 0) = some (mo ad cn ru fu ch th fi be ne ke)) (fP : Nat → Int32) (hP : w (ad 5) = some (eI g 30 fP)) (fT : Nat → Int32) (hT : w (ad 6) = some (eI g 1200 fT)) (fS : Nat → Int64) (hS : w (ad 9) = some (eL g 1200 fS)) (fK : Nat → Int64) (hK : w (ad 11) = some (eL g 4 fK)) (k : Nat) (hk : k < 64) (hfb : fi ≤ be ∧ be ≤ 1200) (hne : ne < 1200) (hke : ke ≤ 4) : Met l yX3_isHeld (ws_ yX3_isHeld cX3_isHeld 4 (some .boolean)) ({ frames := 2, cells := 0, slots := 0, locals := 120 } : Room) (gP g [.ref (ad 0), .int (nI k)] w v) (va_Qi (fun (r : Int32) (w' : GW) => r = bI (heM fP fT fS fK fi be ne ke k) ∧ w' = w) (gB g v) (gA g)) 0 0 (gA g) := by
  refine gm_of (by decide) (Nat.le_of_ble_eq_true rfl) ?_
  intro p e s m below meth c ls C hnm h hl
  have C : Cx g p s m ([.ref (ad 0), .int (nI k)] : List Value).toArray meth c cX3_isHeld 4 RX3 (some .boolean) := C
  obtain ⟨hx, hb, hml, hown, hts, hr, hlk, hG⟩ := id C
  have hl : lv_has ls 4 [(0, .ref (ad 0)), (1, .int (nI k))] := hl
  have loop2 : ∀ (n_ : Nat) (i : Nat) (w1 : GW) (H : Heap) (locs : List Loc) (ls : Array Slot), ke - i < n_ → (i ≤ ke) → (w1 = w) → SH g w1 v s H locs → lv_has ls 4 [(0, .ref (ad 0)), (1, .int (nI k)), (2, .int (bI ((((opM fP k || waM fT fi be k) || anyB (fun s => bitL (fS s) k) (ne + 1)) || anyB (fun s => bitL (fK s) k) i)))), (3, .int (nI i))] → W p l e ({ frames := 2, cells := 0, slots := 0, locals := 120 } : Room) s m ([.ref (ad 0), .int (nI k)] : List Value).toArray below meth c H locs 0 0 (MQ below (va_Qi (fun (r : Int32) (w' : GW) => r = bI (heM fP fT fS fK fi be ne ke k) ∧ w' = w) (gB g v) (gA g)) ([.ref (ad 0), .int (nI k)] : List Value).toArray s 0 0 (gA g)) (F0 m 68 ls []) := by
    intro n_
    induction n_ with
    | zero => intros; exact absurd ‹_ < 0› (Nat.not_lt_zero _)
    | succ n_ ih =>
      intro i w1 H locs ls hf hi hw  h hl
      rw [hw] at h
      refine lv_iload_n hx hb dX3_isHeld_68 rfl (lv_at hl 3 rfl) ?_
      refine lv_aload_n hx hb dX3_isHeld_69 rfl (lv_at hl 0 rfl) ?_
      refine gx_get C h h0 (Cn := RX3) (T := TX3) (N := 22) rfl in_X3 19 (by decide) q751 rfl rfl dX3_isHeld_70 ?_
      refine lv_icmp_ge (tgt := 107) hx hb dX3_isHeld_73 (by decide) (fun c1 => ?_) (fun c1 => ?_)
      · skip
        have c1 : ke ≤ i := (nI_leI (by omega) (by omega)).mp c1
        refine lv_iload_n hx hb dX3_isHeld_107 rfl (lv_at hl 2 rfl) ?_
        have : i = ke := by omega
        subst this
        exact gr_i C h (ty := .boolean) rfl (bI_n _) (⟨rfl, rfl⟩) (Nat.le_of_ble_eq_true rfl) (Nat.le_of_ble_eq_true rfl) dX3_isHeld_108
      · skip
        have c1 : ¬ (ke ≤ i) := fun q => c1 ((nI_leI (by omega) (by omega)).mpr q)
        refine lv_iload_n hx hb dX3_isHeld_76 rfl (lv_at hl 2 rfl) ?_
        refine lv_if_ne (tgt := 95) hx hb dX3_isHeld_77 (by decide) (fun c2 => ?_) (fun c2 => ?_)
        · skip
          have c2 : (((opM fP k || waM fT fi be k) || anyB (fun s => bitL (fS s) k) (ne + 1)) || anyB (fun s => bitL (fK s) k) i) = true := bI_ne0.mp c2
          refine lv_iconst (v := bI true) hx hb dX3_isHeld_95 (by decide) ?_
          refine lv_goto (tgt := 100) hx hb dX3_isHeld_96 (by decide) ?_
          refine lv_istore_n (lv' := [(2, .int (bI true)), (0, .ref (ad 0)), (1, .int (nI k)), (3, .int (nI i))]) hx hb dX3_isHeld_100 rfl hl (by decide) rfl (fun ls hl => ?_)
          refine lv_iinc (v := nI (i + 1)) (lv' := [(3, .int (nI (i + 1))), (2, .int (bI true)), (0, .ref (ad 0)), (1, .int (nI k))]) hx hb dX3_isHeld_101 hl (k := 3) rfl (gi_inc _ 1) (by decide) rfl (fun ls hl => ?_)
          refine lv_goto (tgt := 68) hx hb dX3_isHeld_104 (by decide) ?_
          have hl : lv_has ls 4 [(3, .int (nI (i + 1))), (2, .int (bI ((((opM fP k || waM fT fi be k) || anyB (fun s => bitL (fS s) k) (ne + 1)) || anyB (fun s => bitL (fK s) k) (i + 1))))), (0, .ref (ad 0)), (1, .int (nI k))] := by rw [or_t c2]; exact hl
          exact ih (i + 1) _ _ _ _ (by omega) (by omega) rfl  h (lv_sub hl [2, 3, 1, 0] rfl)
        · skip
          have c2 : (((opM fP k || waM fT fi be k) || anyB (fun s => bitL (fS s) k) (ne + 1)) || anyB (fun s => bitL (fK s) k) i) = false := bI_eq0.mp c2
          refine lv_aload_n hx hb dX3_isHeld_80 rfl (lv_at hl 0 rfl) ?_
          refine gx_get C h h0 (Cn := RX3) (T := TX3) (N := 22) rfl in_X3 18 (by decide) q750 rfl rfl dX3_isHeld_81 ?_
          refine lv_iload_n hx hb dX3_isHeld_84 rfl (lv_at hl 3 rfl) ?_
          refine gx_lald C h hK i (rfl) (by omega) dX3_isHeld_85 ?_
          refine lv_iload_n hx hb dX3_isHeld_86 rfl (lv_at hl 1 rfl) ?_
          refine lv_lshr hx hb dX3_isHeld_87 rfl ?_
          refine lv_lconst (v := 1) hx hb dX3_isHeld_88 (by decide) ?_
          refine lv_land hx hb dX3_isHeld_89 ?_
          refine lv_lconst (v := 1) hx hb dX3_isHeld_90 (by decide) ?_
          refine W.lcmp hx hb dX3_isHeld_91 ?_
          refine lv_if_ne (tgt := 99) hx hb dX3_isHeld_92 (by decide) (fun c3 => ?_) (fun c3 => ?_)
          · skip
            refine lv_iconst (v := bI false) hx hb dX3_isHeld_99 (by decide) ?_
            refine lv_istore_n (lv' := [(2, .int (bI false)), (0, .ref (ad 0)), (1, .int (nI k)), (3, .int (nI i))]) hx hb dX3_isHeld_100 rfl hl (by decide) rfl (fun ls hl => ?_)
            refine lv_iinc (v := nI (i + 1)) (lv' := [(3, .int (nI (i + 1))), (2, .int (bI false)), (0, .ref (ad 0)), (1, .int (nI k))]) hx hb dX3_isHeld_101 hl (k := 3) rfl (gi_inc _ 1) (by decide) rfl (fun ls hl => ?_)
            refine lv_goto (tgt := 68) hx hb dX3_isHeld_104 (by decide) ?_
            have hl : lv_has ls 4 [(3, .int (nI (i + 1))), (2, .int (bI ((((opM fP k || waM fT fi be k) || anyB (fun s => bitL (fS s) k) (ne + 1)) || anyB (fun s => bitL (fK s) k) (i + 1))))), (0, .ref (ad 0)), (1, .int (nI k))] := by rw [or_f c2 (bitL_f c3)]; exact hl
            exact ih (i + 1) _ _ _ _ (by omega) (by omega) rfl  h (lv_sub hl [2, 3, 1, 0] rfl)
          · skip
            refine lv_iconst (v := bI true) hx hb dX3_isHeld_95 (by decide) ?_
            refine lv_goto (tgt := 100) hx hb dX3_isHeld_96 (by decide) ?_
            refine lv_istore_n (lv' := [(2, .int (bI true)), (0, .ref (ad 0)), (1, .int (nI k)), (3, .int (nI i))]) hx hb dX3_isHeld_100 rfl hl (by decide) rfl (fun ls hl => ?_)
            refine lv_iinc (v := nI (i + 1)) (lv' := [(3, .int (nI (i + 1))), (2, .int (bI true)), (0, .ref (ad 0)), (1, .int (nI k))]) hx hb dX3_isHeld_101 hl (k := 3) rfl (gi_inc _ 1) (by decide) rfl (fun ls hl => ?_)
            refine lv_goto (tgt := 68) hx hb dX3_isHeld_104 (by decide) ?_
            have hl : lv_has ls 4 [(3, .int (nI (i + 1))), (2, .int (bI ((((opM fP k || waM fT fi be k) || anyB (fun s => bitL (fS s) k) (ne + 1)) || anyB (fun s => bitL (fK s) k) (i + 1))))), (0, .ref (ad 0)), (1, .int (nI k))] := by rw [or_p (P := (fun s => bitL (fK s) k)) (n := i) (bitL_t c3)]; exact hl
            exact ih (i + 1) _ _ _ _ (by omega) (by omega) rfl  h (lv_sub hl [2, 3, 1, 0] rfl)
  have loop1 : ∀ (n_ : Nat) (i : Nat) (w1 : GW) (H : Heap) (locs : List Loc) (ls : Array Slot), (ne + 1) - i < n_ → (i ≤ ne + 1) → (w1 = w) → SH g w1 v s H locs → lv_has ls 4 [(0, .ref (ad 0)), (1, .int (nI k)), (2, .int (bI (((opM fP k || waM fT fi be k) || anyB (fun s => bitL (fS s) k) i)))), (3, .int (nI i))] → W p l e ({ frames := 2, cells := 0, slots := 0, locals := 120 } : Room) s m ([.ref (ad 0), .int (nI k)] : List Value).toArray below meth c H locs 0 0 (MQ below (va_Qi (fun (r : Int32) (w' : GW) => r = bI (heM fP fT fS fK fi be ne ke k) ∧ w' = w) (gB g v) (gA g)) ([.ref (ad 0), .int (nI k)] : List Value).toArray s 0 0 (gA g)) (F0 m 27 ls []) := by
    intro n_
    induction n_ with
    | zero => intros; exact absurd ‹_ < 0› (Nat.not_lt_zero _)
    | succ n_ ih =>
      intro i w1 H locs ls hf hi hw  h hl
      rw [hw] at h
      refine lv_iload_n hx hb dX3_isHeld_27 rfl (lv_at hl 3 rfl) ?_
      refine lv_aload_n hx hb dX3_isHeld_28 rfl (lv_at hl 0 rfl) ?_
      refine gx_get C h h0 (Cn := RX3) (T := TX3) (N := 22) rfl in_X3 16 (by decide) q748 rfl rfl dX3_isHeld_29 ?_
      refine lv_icmp_gt (tgt := 66) hx hb dX3_isHeld_32 (by decide) (fun c1 => ?_) (fun c1 => ?_)
      · skip
        have c1 : ne < i := (nI_ltI (by omega) (by omega)).mp c1
        have hie : i = ne + 1 := by omega
        refine lv_iconst (v := nI 0) hx hb dX3_isHeld_66 (by decide) ?_
        refine lv_istore_n (lv' := [(3, .int (nI 0)), (0, .ref (ad 0)), (1, .int (nI k)), (2, .int (bI (((opM fP k || waM fT fi be k) || anyB (fun s => bitL (fS s) k) i))))]) hx hb dX3_isHeld_67 rfl hl (by decide) rfl (fun ls hl => ?_)
        have hl : lv_has ls 4 [(3, .int (nI 0)), (0, .ref (ad 0)), (1, .int (nI k)), (2, .int (bI ((((opM fP k || waM fT fi be k) || anyB (fun s => bitL (fS s) k) (ne + 1)) || anyB (fun s => bitL (fK s) k) 0))))] := by rw [show (((opM fP k || waM fT fi be k) || anyB (fun s => bitL (fS s) k) (ne + 1)) || anyB (fun s => bitL (fK s) k) 0) = ((opM fP k || waM fT fi be k) || anyB (fun s => bitL (fS s) k) i) from by rw [hie]; exact Bool.or_false _]; exact hl
        exact loop2 (ke + 1) 0 w _ _ _ (by omega) (by omega) rfl h (lv_sub hl [1, 2, 3, 0] rfl)
      · skip
        have c1 : ¬ (ne < i) := fun q => c1 ((nI_ltI (by omega) (by omega)).mpr q)
        refine lv_iload_n hx hb dX3_isHeld_35 rfl (lv_at hl 2 rfl) ?_
        refine lv_if_ne (tgt := 54) hx hb dX3_isHeld_36 (by decide) (fun c2 => ?_) (fun c2 => ?_)
        · skip
          have c2 : ((opM fP k || waM fT fi be k) || anyB (fun s => bitL (fS s) k) i) = true := bI_ne0.mp c2
          refine lv_iconst (v := bI true) hx hb dX3_isHeld_54 (by decide) ?_
          refine lv_goto (tgt := 59) hx hb dX3_isHeld_55 (by decide) ?_
          refine lv_istore_n (lv' := [(2, .int (bI true)), (0, .ref (ad 0)), (1, .int (nI k)), (3, .int (nI i))]) hx hb dX3_isHeld_59 rfl hl (by decide) rfl (fun ls hl => ?_)
          refine lv_iinc (v := nI (i + 1)) (lv' := [(3, .int (nI (i + 1))), (2, .int (bI true)), (0, .ref (ad 0)), (1, .int (nI k))]) hx hb dX3_isHeld_60 hl (k := 3) rfl (gi_inc _ 1) (by decide) rfl (fun ls hl => ?_)
          refine lv_goto (tgt := 27) hx hb dX3_isHeld_63 (by decide) ?_
          have hl : lv_has ls 4 [(3, .int (nI (i + 1))), (2, .int (bI (((opM fP k || waM fT fi be k) || anyB (fun s => bitL (fS s) k) (i + 1))))), (0, .ref (ad 0)), (1, .int (nI k))] := by rw [or_t c2]; exact hl
          exact ih (i + 1) _ _ _ _ (by omega) (by omega) rfl  h (lv_sub hl [2, 3, 1, 0] rfl)
        · skip
          have c2 : ((opM fP k || waM fT fi be k) || anyB (fun s => bitL (fS s) k) i) = false := bI_eq0.mp c2
          refine lv_aload_n hx hb dX3_isHeld_39 rfl (lv_at hl 0 rfl) ?_
          refine gx_get C h h0 (Cn := RX3) (T := TX3) (N := 22) rfl in_X3 14 (by decide) q746 rfl rfl dX3_isHeld_40 ?_
          refine lv_iload_n hx hb dX3_isHeld_43 rfl (lv_at hl 3 rfl) ?_
          refine gx_lald C h hS i (rfl) (by omega) dX3_isHeld_44 ?_
          refine lv_iload_n hx hb dX3_isHeld_45 rfl (lv_at hl 1 rfl) ?_
          refine lv_lshr hx hb dX3_isHeld_46 rfl ?_
          refine lv_lconst (v := 1) hx hb dX3_isHeld_47 (by decide) ?_
          refine lv_land hx hb dX3_isHeld_48 ?_
          refine lv_lconst (v := 1) hx hb dX3_isHeld_49 (by decide) ?_
          refine W.lcmp hx hb dX3_isHeld_50 ?_
          refine lv_if_ne (tgt := 58) hx hb dX3_isHeld_51 (by decide) (fun c3 => ?_) (fun c3 => ?_)
          · skip
            refine lv_iconst (v := bI false) hx hb dX3_isHeld_58 (by decide) ?_
            refine lv_istore_n (lv' := [(2, .int (bI false)), (0, .ref (ad 0)), (1, .int (nI k)), (3, .int (nI i))]) hx hb dX3_isHeld_59 rfl hl (by decide) rfl (fun ls hl => ?_)
            refine lv_iinc (v := nI (i + 1)) (lv' := [(3, .int (nI (i + 1))), (2, .int (bI false)), (0, .ref (ad 0)), (1, .int (nI k))]) hx hb dX3_isHeld_60 hl (k := 3) rfl (gi_inc _ 1) (by decide) rfl (fun ls hl => ?_)
            refine lv_goto (tgt := 27) hx hb dX3_isHeld_63 (by decide) ?_
            have hl : lv_has ls 4 [(3, .int (nI (i + 1))), (2, .int (bI (((opM fP k || waM fT fi be k) || anyB (fun s => bitL (fS s) k) (i + 1))))), (0, .ref (ad 0)), (1, .int (nI k))] := by rw [or_f c2 (bitL_f c3)]; exact hl
            exact ih (i + 1) _ _ _ _ (by omega) (by omega) rfl  h (lv_sub hl [2, 3, 1, 0] rfl)
          · skip
            refine lv_iconst (v := bI true) hx hb dX3_isHeld_54 (by decide) ?_
            refine lv_goto (tgt := 59) hx hb dX3_isHeld_55 (by decide) ?_
            refine lv_istore_n (lv' := [(2, .int (bI true)), (0, .ref (ad 0)), (1, .int (nI k)), (3, .int (nI i))]) hx hb dX3_isHeld_59 rfl hl (by decide) rfl (fun ls hl => ?_)
            refine lv_iinc (v := nI (i + 1)) (lv' := [(3, .int (nI (i + 1))), (2, .int (bI true)), (0, .ref (ad 0)), (1, .int (nI k))]) hx hb dX3_isHeld_60 hl (k := 3) rfl (gi_inc _ 1) (by decide) rfl (fun ls hl => ?_)
            refine lv_goto (tgt := 27) hx hb dX3_isHeld_63 (by decide) ?_
            have hl : lv_has ls 4 [(3, .int (nI (i + 1))), (2, .int (bI (((opM fP k || waM fT fi be k) || anyB (fun s => bitL (fS s) k) (i + 1))))), (0, .ref (ad 0)), (1, .int (nI k))] := by rw [or_p (P := (fun s => bitL (fS s) k)) (n := i) (bitL_t c3)]; exact hl
            exact ih (i + 1) _ _ _ _ (by omega) (by omega) rfl  h (lv_sub hl [2, 3, 1, 0] rfl)
  refine lv_aload_n hx hb dX3_isHeld_0 rfl (lv_at hl 0 rfl) ?_
  refine lv_iload_n hx hb dX3_isHeld_1 rfl (lv_at hl 1 rfl) ?_
  refine gc_i (va_runV (As := [.int (nI k)]) (rest := []) C.fix (m_X3_isOpen l g w v ad cn ru fu ch th fi be ne ke h0 fP hP k hk) (cwV 1 hts (lw_V q848 q850 qs35 q53 q851) rfl rfl rfl (by decide +kernel) ⟨Nat.le_of_ble_eq_true rfl, Nat.le_of_ble_eq_true rfl⟩) (gp_V C h [.int (nI k)] (Cn := RX3) (T := TX3) (N := 22) rfl h0) rfl rfl hl.1 rfl (lv_room (Nat.le_of_ble_eq_true rfl)) dX3_isHeld_2 ⟨Nat.le_of_ble_eq_true rfl, Nat.le_of_ble_eq_true rfl⟩) h (fun r_1 w_2 H locs hp h => ?_)
  obtain ⟨er_r_1, ew_r_1⟩ := hp
  rw [er_r_1]
  rw [ew_r_1] at h
  refine lv_if_ne (tgt := 16) hx hb dX3_isHeld_5 (by decide) (fun c1 => ?_) (fun c1 => ?_)
  · skip
    have c1 : opM fP k = true := bI_ne0.mp c1
    refine lv_iconst (v := bI true) hx hb dX3_isHeld_16 (by decide) ?_
    refine lv_goto (tgt := 21) hx hb dX3_isHeld_17 (by decide) ?_
    refine lv_istore_n (lv' := [(2, .int (bI true)), (0, .ref (ad 0)), (1, .int (nI k))]) hx hb dX3_isHeld_21 rfl hl (by decide) rfl (fun ls hl => ?_)
    refine lv_aload_n hx hb dX3_isHeld_22 rfl (lv_at hl 1 rfl) ?_
    refine gx_get C h h0 (Cn := RX3) (T := TX3) (N := 22) rfl in_X3 15 (by decide) q747 rfl rfl dX3_isHeld_23 ?_
    refine lv_istore_n (lv' := [(3, .int (nI 0)), (2, .int (bI true)), (0, .ref (ad 0)), (1, .int (nI k))]) hx hb dX3_isHeld_26 rfl hl (by decide) rfl (fun ls hl => ?_)
    have hl : lv_has ls 4 [(3, .int (nI 0)), (2, .int (bI (((opM fP k || waM fT fi be k) || anyB (fun s => bitL (fS s) k) 0)))), (0, .ref (ad 0)), (1, .int (nI k))] := by rw [show ((opM fP k || waM fT fi be k) || anyB (fun s => bitL (fS s) k) 0) = true from by rw [c1]; rfl]; exact hl
    exact loop1 (ne + 2) 0 w _ _ _ (by omega) (by omega) rfl h (lv_sub hl [2, 3, 1, 0] rfl)
  · skip
    have c1 : opM fP k = false := bI_eq0.mp c1
    refine lv_aload_n hx hb dX3_isHeld_8 rfl (lv_at hl 0 rfl) ?_
    refine lv_iload_n hx hb dX3_isHeld_9 rfl (lv_at hl 1 rfl) ?_
    refine gc_i (va_runV (As := [.int (nI k)]) (rest := []) C.fix (m_X3_isWaiting l g w v ad cn ru fu ch th fi be ne ke h0 fT hT k hk hfb) (cwV 1 hts (lw_V q852 q854 qs36 q53 q855) rfl rfl rfl (by decide +kernel) ⟨Nat.le_of_ble_eq_true rfl, Nat.le_of_ble_eq_true rfl⟩) (gp_V C h [.int (nI k)] (Cn := RX3) (T := TX3) (N := 22) rfl h0) rfl rfl hl.1 rfl (lv_room (Nat.le_of_ble_eq_true rfl)) dX3_isHeld_10 ⟨Nat.le_of_ble_eq_true rfl, Nat.le_of_ble_eq_true rfl⟩) h (fun r_3 w_4 H locs hp h => ?_)
    obtain ⟨er_r_3, ew_r_3⟩ := hp
    rw [er_r_3]
    rw [ew_r_3] at h
    refine lv_if_eq (tgt := 20) hx hb dX3_isHeld_13 (by decide) (fun c2 => ?_) (fun c2 => ?_)
    · skip
      have c2 : waM fT fi be k = false := bI_eq0.mp c2
      refine lv_iconst (v := bI false) hx hb dX3_isHeld_20 (by decide) ?_
      refine lv_istore_n (lv' := [(2, .int (bI false)), (0, .ref (ad 0)), (1, .int (nI k))]) hx hb dX3_isHeld_21 rfl hl (by decide) rfl (fun ls hl => ?_)
      refine lv_aload_n hx hb dX3_isHeld_22 rfl (lv_at hl 1 rfl) ?_
      refine gx_get C h h0 (Cn := RX3) (T := TX3) (N := 22) rfl in_X3 15 (by decide) q747 rfl rfl dX3_isHeld_23 ?_
      refine lv_istore_n (lv' := [(3, .int (nI 0)), (2, .int (bI false)), (0, .ref (ad 0)), (1, .int (nI k))]) hx hb dX3_isHeld_26 rfl hl (by decide) rfl (fun ls hl => ?_)
      have hl : lv_has ls 4 [(3, .int (nI 0)), (2, .int (bI (((opM fP k || waM fT fi be k) || anyB (fun s => bitL (fS s) k) 0)))), (0, .ref (ad 0)), (1, .int (nI k))] := by rw [show ((opM fP k || waM fT fi be k) || anyB (fun s => bitL (fS s) k) 0) = false from by rw [c1, c2]; rfl]; exact hl
      exact loop1 (ne + 2) 0 w _ _ _ (by omega) (by omega) rfl h (lv_sub hl [2, 3, 1, 0] rfl)
    · skip
      have c2 : waM fT fi be k = true := bI_ne0.mp c2
      refine lv_iconst (v := bI true) hx hb dX3_isHeld_16 (by decide) ?_
      refine lv_goto (tgt := 21) hx hb dX3_isHeld_17 (by decide) ?_
      refine lv_istore_n (lv' := [(2, .int (bI true)), (0, .ref (ad 0)), (1, .int (nI k))]) hx hb dX3_isHeld_21 rfl hl (by decide) rfl (fun ls hl => ?_)
      refine lv_aload_n hx hb dX3_isHeld_22 rfl (lv_at hl 1 rfl) ?_
      refine gx_get C h h0 (Cn := RX3) (T := TX3) (N := 22) rfl in_X3 15 (by decide) q747 rfl rfl dX3_isHeld_23 ?_
      refine lv_istore_n (lv' := [(3, .int (nI 0)), (2, .int (bI true)), (0, .ref (ad 0)), (1, .int (nI k))]) hx hb dX3_isHeld_26 rfl hl (by decide) rfl (fun ls hl => ?_)
      have hl : lv_has ls 4 [(3, .int (nI 0)), (2, .int (bI (((opM fP k || waM fT fi be k) || anyB (fun s => bitL (fS s) k) 0)))), (0, .ref (ad 0)), (1, .int (nI k))] := by rw [show ((opM fP k || waM fT fi be k) || anyB (fun s => bitL (fS s) k) 0) = true from by rw [c1, c2]; rfl]; exact hl
      exact loop1 (ne + 2) 0 w _ _ _ (by omega) (by omega) rfl h (lv_sub hl [2, 3, 1, 0] rfl)
set_option maxHeartbeats 4000000 in
theorem m_X3_freeSector (l : Launch) (g : GG) (w v : GW) (ad : Nat → Nat) (cn : Nat) (ru fu ch th : Bool) (fi be ne ke : Nat) (h0 : w (ad 0) = some (mo ad cn ru fu ch th fi be ne ke)) (fP : Nat → Int32) (hP : w (ad 5) = some (eI g 30 fP)) (fT : Nat → Int32) (hT : w (ad 6) = some (eI g 1200 fT)) (fS : Nat → Int64) (hS : w (ad 9) = some (eL g 1200 fS)) (fK : Nat → Int64) (hK : w (ad 11) = some (eL g 4 fK)) (hfb : fi ≤ be ∧ be ≤ 1200) (hne : ne < 1200) (hke : ke ≤ 4) (hcn : 2 ≤ cn ∧ cn ≤ 64) : Met l yX3_freeSector (ws_ yX3_freeSector cX3_freeSector 2 (some .int)) ({ frames := 3, cells := 0, slots := 0, locals := 180 } : Room) (gP g [.ref (ad 0)] w v) (va_Qi (fun (r : Int32) (w' : GW) => r = (if lf (heM fP fT fS fK fi be ne ke) (cn - 2) 2 < cn then nI (lf (heM fP fT fS fK fi be ne ke) (cn - 2) 2) else -1) ∧ w' = w) (gB g v) (gA g)) 0 0 (gA g) := by
  refine gm_of (by decide) (Nat.le_of_ble_eq_true rfl) ?_
  intro p e s m below meth c ls C hnm h hl
  have C : Cx g p s m ([.ref (ad 0)] : List Value).toArray meth c cX3_freeSector 2 RX3 (some .int) := C
  obtain ⟨hx, hb, hml, hown, hts, hr, hlk, hG⟩ := id C
  have hl : lv_has ls 2 [(0, .ref (ad 0))] := hl
  refine lv_iconst (v := nI 2) hx hb dX3_freeSector_0 (by decide) ?_
  refine lv_istore_n (lv' := [(1, .int (nI 2)), (0, .ref (ad 0))]) hx hb dX3_freeSector_1 rfl hl (by decide) rfl (fun ls hl => ?_)
  have loop : ∀ (n_ : Nat) (k : Nat) (w1 : GW) (H : Heap) (locs : List Loc) (ls : Array Slot), cn - k < n_ → (2 ≤ k ∧ k ≤ cn) → (lf (heM fP fT fS fK fi be ne ke) (cn - k) k = lf (heM fP fT fS fK fi be ne ke) (cn - 2) 2) → (w1 = w) → SH g w1 v s H locs → lv_has ls 2 [(0, .ref (ad 0)), (1, .int (nI k))] → W p l e ({ frames := 3, cells := 0, slots := 0, locals := 180 } : Room) s m ([.ref (ad 0)] : List Value).toArray below meth c H locs 0 0 (MQ below (va_Qi (fun (r : Int32) (w' : GW) => r = (if lf (heM fP fT fS fK fi be ne ke) (cn - 2) 2 < cn then nI (lf (heM fP fT fS fK fi be ne ke) (cn - 2) 2) else -1) ∧ w' = w) (gB g v) (gA g)) ([.ref (ad 0)] : List Value).toArray s 0 0 (gA g)) (F0 m 2 ls []) := by
    intro n_
    induction n_ with
    | zero => intros; exact absurd ‹_ < 0› (Nat.not_lt_zero _)
    | succ n_ ih =>
      intro k w1 H locs ls hf hk hlf hw  h hl
      rw [hw] at h
      refine lv_iload_n hx hb dX3_freeSector_2 rfl (lv_at hl 1 rfl) ?_
      refine lv_aload_n hx hb dX3_freeSector_3 rfl (lv_at hl 0 rfl) ?_
      refine gx_get C h h0 (Cn := RX3) (T := TX3) (N := 22) rfl in_X3 0 (by decide) q732 rfl rfl dX3_freeSector_4 ?_
      refine lv_icmp_ge (tgt := 24) hx hb dX3_freeSector_7 (by decide) (fun c1 => ?_) (fun c1 => ?_)
      · skip
        have c1 : cn ≤ k := (nI_leI (by omega) (by omega)).mp c1
        have hkc : k = cn := by omega
        rw [hkc, Nat.sub_self] at hlf
        refine lv_iload_n hx hb dX3_freeSector_24 rfl (lv_at hl 1 rfl) ?_
        refine lv_aload_n hx hb dX3_freeSector_25 rfl (lv_at hl 0 rfl) ?_
        refine gx_get C h h0 (Cn := RX3) (T := TX3) (N := 22) rfl in_X3 0 (by decide) q732 rfl rfl dX3_freeSector_26 ?_
        refine lv_icmp_ge (tgt := 36) hx hb dX3_freeSector_29 (by decide) (fun c2 => ?_) (fun c2 => ?_)
        · skip
          have c2 : cn ≤ k := (nI_leI (by omega) (by omega)).mp c2
          refine lv_iconst (v := (-1)) hx hb dX3_freeSector_36 (by decide) ?_
          exact gr_i C h (ty := .int) rfl (rfl) (⟨by rw [← hlf]; unfold lf; rw [if_neg (Nat.lt_irrefl _)], rfl⟩) (Nat.le_of_ble_eq_true rfl) (Nat.le_of_ble_eq_true rfl) dX3_freeSector_37
        · skip
          have c2 : ¬ (cn ≤ k) := fun q => c2 ((nI_leI (by omega) (by omega)).mpr q)
          omega
      · skip
        have c1 : ¬ (cn ≤ k) := fun q => c1 ((nI_leI (by omega) (by omega)).mpr q)
        refine lv_aload_n hx hb dX3_freeSector_10 rfl (lv_at hl 0 rfl) ?_
        refine lv_iload_n hx hb dX3_freeSector_11 rfl (lv_at hl 1 rfl) ?_
        refine gc_i (va_runV (As := [.int (nI k)]) (rest := []) C.fix (m_X3_isHeld l g w v ad cn ru fu ch th fi be ne ke h0 fP hP fT hT fS hS fK hK k (by omega) hfb hne hke) (cwV 1 hts (lw_V q844 q846 qs34 q53 q847) rfl rfl rfl (by decide +kernel) ⟨Nat.le_of_ble_eq_true rfl, Nat.le_of_ble_eq_true rfl⟩) (gp_V C h [.int (nI k)] (Cn := RX3) (T := TX3) (N := 22) rfl h0) rfl rfl hl.1 rfl (lv_room (Nat.le_of_ble_eq_true rfl)) dX3_freeSector_12 ⟨Nat.le_of_ble_eq_true rfl, Nat.le_of_ble_eq_true rfl⟩) h (fun r_1 w_2 H locs hp h => ?_)
        obtain ⟨er_r_1, ew_r_1⟩ := hp
        rw [er_r_1]
        rw [ew_r_1] at h
        obtain ⟨q, hq⟩ : ∃ q, cn - k = q + 1 := ⟨cn - k - 1, by omega⟩
        rw [hq] at hlf
        refine lv_if_eq (tgt := 24) hx hb dX3_freeSector_15 (by decide) (fun c2 => ?_) (fun c2 => ?_)
        · skip
          have c2 : (heM fP fT fS fK fi be ne ke) k = false := bI_eq0.mp c2
          rw [lf_f c2] at hlf
          refine lv_iload_n hx hb dX3_freeSector_24 rfl (lv_at hl 1 rfl) ?_
          refine lv_aload_n hx hb dX3_freeSector_25 rfl (lv_at hl 0 rfl) ?_
          refine gx_get C h h0 (Cn := RX3) (T := TX3) (N := 22) rfl in_X3 0 (by decide) q732 rfl rfl dX3_freeSector_26 ?_
          refine lv_icmp_ge (tgt := 36) hx hb dX3_freeSector_29 (by decide) (fun c3 => ?_) (fun c3 => ?_)
          · skip
            have c3 : cn ≤ k := (nI_leI (by omega) (by omega)).mp c3
            omega
          · skip
            have c3 : ¬ (cn ≤ k) := fun q => c3 ((nI_leI (by omega) (by omega)).mpr q)
            refine lv_iload_n hx hb dX3_freeSector_32 rfl (lv_at hl 1 rfl) ?_
            refine lv_goto (tgt := 37) hx hb dX3_freeSector_33 (by decide) ?_
            exact gr_i C h (ty := .int) rfl (rfl) (⟨by rw [← hlf, if_pos (by omega)], rfl⟩) (Nat.le_of_ble_eq_true rfl) (Nat.le_of_ble_eq_true rfl) dX3_freeSector_37
        · skip
          have c2 : (heM fP fT fS fK fi be ne ke) k = true := bI_ne0.mp c2
          rw [lf_t c2] at hlf
          refine lv_iinc (v := nI (k + 1)) (lv' := [(1, .int (nI (k + 1))), (0, .ref (ad 0))]) hx hb dX3_freeSector_18 hl (k := 1) rfl (gi_inc _ 1) (by decide) rfl (fun ls hl => ?_)
          refine lv_goto (tgt := 2) hx hb dX3_freeSector_21 (by decide) ?_
          exact ih (k + 1) _ _ _ _ (by omega) (by omega) (by rw [← hlf]; congr 1; omega) rfl  h (lv_sub hl [1, 0] rfl)
  exact loop (cn + 1) 2 w _ _ _ (by omega) (by omega) rfl rfl h (lv_sub hl [1, 0] rfl)
set_option maxHeartbeats 4000000 in
theorem m_X3_freePage (l : Launch) (g : GG) (w v : GW) (ad : Nat → Nat) (cn : Nat) (ru fu ch th : Bool) (fi be ne ke : Nat) (h0 : w (ad 0) = some (mo ad cn ru fu ch th fi be ne ke)) (fP : Nat → Int32) (hP : w (ad 5) = some (eI g 30 fP))  : Met l yX3_freePage (ws_ yX3_freePage cX3_freePage 2 (some .int)) ({ frames := 1, cells := 0, slots := 0, locals := 60 } : Room) (gP g [.ref (ad 0)] w v) (va_Qi (fun (r : Int32) (w' : GW) => r = (if lf (fun p => decide (¬ fP p = -1)) 30 0 < 30 then nI (lf (fun p => decide (¬ fP p = -1)) 30 0) else -1) ∧ w' = w) (gB g v) (gA g)) 0 0 (gA g) := by
  refine gm_of (by decide) (Nat.le_of_ble_eq_true rfl) ?_
  intro p e s m below meth c ls C hnm h hl
  have C : Cx g p s m ([.ref (ad 0)] : List Value).toArray meth c cX3_freePage 2 RX3 (some .int) := C
  obtain ⟨hx, hb, hml, hown, hts, hr, hlk, hG⟩ := id C
  have hl : lv_has ls 2 [(0, .ref (ad 0))] := hl
  refine lv_iconst (v := nI 0) hx hb dX3_freePage_0 (by decide) ?_
  refine lv_istore_n (lv' := [(1, .int (nI 0)), (0, .ref (ad 0))]) hx hb dX3_freePage_1 rfl hl (by decide) rfl (fun ls hl => ?_)
  have loop : ∀ (n_ : Nat) (k : Nat) (w1 : GW) (H : Heap) (locs : List Loc) (ls : Array Slot), 30 - k < n_ → (k ≤ 30) → (lf (fun p => decide (¬ fP p = -1)) (30 - k) k = lf (fun p => decide (¬ fP p = -1)) 30 0) → (w1 = w) → SH g w1 v s H locs → lv_has ls 2 [(0, .ref (ad 0)), (1, .int (nI k))] → W p l e ({ frames := 1, cells := 0, slots := 0, locals := 60 } : Room) s m ([.ref (ad 0)] : List Value).toArray below meth c H locs 0 0 (MQ below (va_Qi (fun (r : Int32) (w' : GW) => r = (if lf (fun p => decide (¬ fP p = -1)) 30 0 < 30 then nI (lf (fun p => decide (¬ fP p = -1)) 30 0) else -1) ∧ w' = w) (gB g v) (gA g)) ([.ref (ad 0)] : List Value).toArray s 0 0 (gA g)) (F0 m 2 ls []) := by
    intro n_
    induction n_ with
    | zero => intros; exact absurd ‹_ < 0› (Nat.not_lt_zero _)
    | succ n_ ih =>
      intro k w1 H locs ls hf hk hlf hw  h hl
      rw [hw] at h
      refine lv_iload_n hx hb dX3_freePage_2 rfl (lv_at hl 1 rfl) ?_
      refine lv_bipush (v := nI 30) hx hb dX3_freePage_3 (by decide) ?_
      refine lv_icmp_ge (tgt := 24) hx hb dX3_freePage_5 (by decide) (fun c1 => ?_) (fun c1 => ?_)
      · skip
        have c1 : 30 ≤ k := (nI_leI (by omega) (by omega)).mp c1
        have hk30 : k = 30 := by omega
        rw [hk30] at hlf
        refine lv_iload_n hx hb dX3_freePage_24 rfl (lv_at hl 1 rfl) ?_
        refine lv_bipush (v := nI 30) hx hb dX3_freePage_25 (by decide) ?_
        refine lv_icmp_ge (tgt := 34) hx hb dX3_freePage_27 (by decide) (fun c2 => ?_) (fun c2 => ?_)
        · skip
          have c2 : 30 ≤ k := (nI_leI (by omega) (by omega)).mp c2
          refine lv_iconst (v := (-1)) hx hb dX3_freePage_34 (by decide) ?_
          exact gr_i C h (ty := .int) rfl (rfl) (⟨by rw [← hlf]; rfl, rfl⟩) (Nat.le_of_ble_eq_true rfl) (Nat.le_of_ble_eq_true rfl) dX3_freePage_35
        · skip
          have c2 : ¬ (30 ≤ k) := fun q => c2 ((nI_leI (by omega) (by omega)).mpr q)
          omega
      · skip
        have c1 : ¬ (30 ≤ k) := fun q => c1 ((nI_leI (by omega) (by omega)).mpr q)
        obtain ⟨q, hq⟩ : ∃ q, 30 - k = q + 1 := ⟨30 - k - 1, by omega⟩
        rw [hq] at hlf
        refine lv_aload_n hx hb dX3_freePage_8 rfl (lv_at hl 0 rfl) ?_
        refine gx_get C h h0 (Cn := RX3) (T := TX3) (N := 22) rfl in_X3 7 (by decide) q739 rfl rfl dX3_freePage_9 ?_
        refine lv_iload_n hx hb dX3_freePage_12 rfl (lv_at hl 1 rfl) ?_
        refine gx_iald C h hP k (rfl) (by omega) dX3_freePage_13 ?_
        refine lv_iconst (v := (-1)) hx hb dX3_freePage_14 (by decide) ?_
        refine lv_icmp_eq (tgt := 24) hx hb dX3_freePage_15 (by decide) (fun c2 => ?_) (fun c2 => ?_)
        · skip
          rw [lf_f (decide_eq_false (fun q => q c2))] at hlf
          refine lv_iload_n hx hb dX3_freePage_24 rfl (lv_at hl 1 rfl) ?_
          refine lv_bipush (v := nI 30) hx hb dX3_freePage_25 (by decide) ?_
          refine lv_icmp_ge (tgt := 34) hx hb dX3_freePage_27 (by decide) (fun c3 => ?_) (fun c3 => ?_)
          · skip
            have c3 : 30 ≤ k := (nI_leI (by omega) (by omega)).mp c3
            omega
          · skip
            have c3 : ¬ (30 ≤ k) := fun q => c3 ((nI_leI (by omega) (by omega)).mpr q)
            refine lv_iload_n hx hb dX3_freePage_30 rfl (lv_at hl 1 rfl) ?_
            refine lv_goto (tgt := 35) hx hb dX3_freePage_31 (by decide) ?_
            exact gr_i C h (ty := .int) rfl (rfl) (⟨by rw [← hlf, if_pos (by omega)], rfl⟩) (Nat.le_of_ble_eq_true rfl) (Nat.le_of_ble_eq_true rfl) dX3_freePage_35
        · skip
          rw [lf_t (decide_eq_true c2)] at hlf
          refine lv_iinc (v := nI (k + 1)) (lv' := [(1, .int (nI (k + 1))), (0, .ref (ad 0))]) hx hb dX3_freePage_18 hl (k := 1) rfl (gi_inc _ 1) (by decide) rfl (fun ls hl => ?_)
          refine lv_goto (tgt := 2) hx hb dX3_freePage_21 (by decide) ?_
          exact ih (k + 1) _ _ _ _ (by omega) (by omega) (by rw [← hlf]; congr 1; omega) rfl  h (lv_sub hl [1, 0] rfl)
  exact loop 31 0 w _ _ _ (by omega) (by omega) rfl rfl h (lv_sub hl [1, 0] rfl)
set_option maxHeartbeats 4000000 in
theorem m_X3_heldCount (l : Launch) (g : GG) (w v : GW) (ad : Nat → Nat) (cn : Nat) (ru fu ch th : Bool) (fi be ne ke : Nat) (h0 : w (ad 0) = some (mo ad cn ru fu ch th fi be ne ke)) (fP : Nat → Int32) (hP : w (ad 5) = some (eI g 30 fP)) (fT : Nat → Int32) (hT : w (ad 6) = some (eI g 1200 fT)) (fS : Nat → Int64) (hS : w (ad 9) = some (eL g 1200 fS)) (fK : Nat → Int64) (hK : w (ad 11) = some (eL g 4 fK)) (hfb : fi ≤ be ∧ be ≤ 1200) (hne : ne < 1200) (hke : ke ≤ 4) : Met l yX3_heldCount (ws_ yX3_heldCount cX3_heldCount 3 (some .int)) ({ frames := 3, cells := 0, slots := 0, locals := 180 } : Room) (gP g [.ref (ad 0)] w v) (va_Qi (fun (r : Int32) (w' : GW) => r = nI (cntB (heM fP fT fS fK fi be ne ke) 2 62) ∧ w' = w) (gB g v) (gA g)) 0 0 (gA g) := by
  refine gm_of (by decide) (Nat.le_of_ble_eq_true rfl) ?_
  intro p e s m below meth c ls C hnm h hl
  have C : Cx g p s m ([.ref (ad 0)] : List Value).toArray meth c cX3_heldCount 3 RX3 (some .int) := C
  obtain ⟨hx, hb, hml, hown, hts, hr, hlk, hG⟩ := id C
  have hl : lv_has ls 3 [(0, .ref (ad 0))] := hl
  refine lv_iconst (v := nI 0) hx hb dX3_heldCount_0 (by decide) ?_
  refine lv_istore_n (lv' := [(1, .int (nI 0)), (0, .ref (ad 0))]) hx hb dX3_heldCount_1 rfl hl (by decide) rfl (fun ls hl => ?_)
  refine lv_iconst (v := nI 2) hx hb dX3_heldCount_2 (by decide) ?_
  refine lv_istore_n (lv' := [(2, .int (nI 2)), (1, .int (nI 0)), (0, .ref (ad 0))]) hx hb dX3_heldCount_3 rfl hl (by decide) rfl (fun ls hl => ?_)
  have loop : ∀ (n_ : Nat) (i : Nat) (w1 : GW) (H : Heap) (locs : List Loc) (ls : Array Slot), 62 - i < n_ → (i ≤ 62) → (w1 = w) → SH g w1 v s H locs → lv_has ls 3 [(0, .ref (ad 0)), (1, .int (nI (cntB (heM fP fT fS fK fi be ne ke) 2 i))), (2, .int (nI (2 + i)))] → W p l e ({ frames := 3, cells := 0, slots := 0, locals := 180 } : Room) s m ([.ref (ad 0)] : List Value).toArray below meth c H locs 0 0 (MQ below (va_Qi (fun (r : Int32) (w' : GW) => r = nI (cntB (heM fP fT fS fK fi be ne ke) 2 62) ∧ w' = w) (gB g v) (gA g)) ([.ref (ad 0)] : List Value).toArray s 0 0 (gA g)) (F0 m 4 ls []) := by
    intro n_
    induction n_ with
    | zero => intros; exact absurd ‹_ < 0› (Nat.not_lt_zero _)
    | succ n_ ih =>
      intro i w1 H locs ls hf hi hw  h hl
      rw [hw] at h
      refine lv_iload_n hx hb dX3_heldCount_4 rfl (lv_at hl 2 rfl) ?_
      refine lv_bipush (v := nI 64) hx hb dX3_heldCount_5 (by decide) ?_
      refine lv_icmp_ge (tgt := 32) hx hb dX3_heldCount_7 (by decide) (fun c1 => ?_) (fun c1 => ?_)
      · skip
        have c1 : 64 ≤ (2 + i) := (nI_leI (by omega) (by omega)).mp c1
        refine lv_iload_n hx hb dX3_heldCount_32 rfl (lv_at hl 1 rfl) ?_
        have : i = 62 := by omega
        subst this
        exact gr_i C h (ty := .int) rfl (rfl) (⟨rfl, rfl⟩) (Nat.le_of_ble_eq_true rfl) (Nat.le_of_ble_eq_true rfl) dX3_heldCount_33
      · skip
        have c1 : ¬ (64 ≤ (2 + i)) := fun q => c1 ((nI_leI (by omega) (by omega)).mpr q)
        refine lv_iload_n hx hb dX3_heldCount_10 rfl (lv_at hl 1 rfl) ?_
        refine lv_aload_n hx hb dX3_heldCount_11 rfl (lv_at hl 0 rfl) ?_
        refine lv_iload_n hx hb dX3_heldCount_12 rfl (lv_at hl 2 rfl) ?_
        refine gc_i (va_runV (As := [.int (nI (2 + i))]) (rest := [.int (nI (cntB (heM fP fT fS fK fi be ne ke) 2 i))]) C.fix (m_X3_isHeld l g w v ad cn ru fu ch th fi be ne ke h0 fP hP fT hT fS hS fK hK (2 + i) (by omega) hfb hne hke) (cwV 1 hts (lw_V q844 q846 qs34 q53 q847) rfl rfl rfl (by decide +kernel) ⟨Nat.le_of_ble_eq_true rfl, Nat.le_of_ble_eq_true rfl⟩) (gp_V C h [.int (nI (2 + i))] (Cn := RX3) (T := TX3) (N := 22) rfl h0) rfl rfl hl.1 rfl (lv_room (Nat.le_of_ble_eq_true rfl)) dX3_heldCount_13 ⟨Nat.le_of_ble_eq_true rfl, Nat.le_of_ble_eq_true rfl⟩) h (fun r_1 w_2 H locs hp h => ?_)
        obtain ⟨er_r_1, ew_r_1⟩ := hp
        rw [er_r_1]
        rw [ew_r_1] at h
        refine lv_if_eq (tgt := 23) hx hb dX3_heldCount_16 (by decide) (fun c2 => ?_) (fun c2 => ?_)
        · skip
          have c2 : (heM fP fT fS fK fi be ne ke) (2 + i) = false := bI_eq0.mp c2
          refine lv_iconst (v := nI 0) hx hb dX3_heldCount_23 (by decide) ?_
          refine gn_iadd hx hb dX3_heldCount_24 ?_
          refine lv_istore_n (lv' := [(1, .int (nI ((cntB (heM fP fT fS fK fi be ne ke) 2 i) + 0))), (0, .ref (ad 0)), (2, .int (nI (2 + i)))]) hx hb dX3_heldCount_25 rfl hl (by decide) rfl (fun ls hl => ?_)
          refine lv_iinc (v := nI (2 + i + 1)) (lv' := [(2, .int (nI (2 + i + 1))), (1, .int (nI ((cntB (heM fP fT fS fK fi be ne ke) 2 i) + 0))), (0, .ref (ad 0))]) hx hb dX3_heldCount_26 hl (k := 2) rfl (gi_inc _ 1) (by decide) rfl (fun ls hl => ?_)
          refine lv_goto (tgt := 4) hx hb dX3_heldCount_29 (by decide) ?_
          have hl : lv_has ls 3 [(2, .int (nI (2 + (i + 1)))), (1, .int (nI (cntB (heM fP fT fS fK fi be ne ke) 2 (i + 1)))), (0, .ref (ad 0))] := by rw [cntB_s, c2]; exact hl
          exact ih (i + 1) _ _ _ _ (by omega) (by omega) rfl  h (lv_sub hl [2, 1, 0] rfl)
        · skip
          have c2 : (heM fP fT fS fK fi be ne ke) (2 + i) = true := bI_ne0.mp c2
          refine lv_iconst (v := nI 1) hx hb dX3_heldCount_19 (by decide) ?_
          refine lv_goto (tgt := 24) hx hb dX3_heldCount_20 (by decide) ?_
          refine gn_iadd hx hb dX3_heldCount_24 ?_
          refine lv_istore_n (lv' := [(1, .int (nI ((cntB (heM fP fT fS fK fi be ne ke) 2 i) + 1))), (0, .ref (ad 0)), (2, .int (nI (2 + i)))]) hx hb dX3_heldCount_25 rfl hl (by decide) rfl (fun ls hl => ?_)
          refine lv_iinc (v := nI (2 + i + 1)) (lv' := [(2, .int (nI (2 + i + 1))), (1, .int (nI ((cntB (heM fP fT fS fK fi be ne ke) 2 i) + 1))), (0, .ref (ad 0))]) hx hb dX3_heldCount_26 hl (k := 2) rfl (gi_inc _ 1) (by decide) rfl (fun ls hl => ?_)
          refine lv_goto (tgt := 4) hx hb dX3_heldCount_29 (by decide) ?_
          have hl : lv_has ls 3 [(2, .int (nI (2 + (i + 1)))), (1, .int (nI (cntB (heM fP fT fS fK fi be ne ke) 2 (i + 1)))), (0, .ref (ad 0))] := by rw [cntB_s, c2]; exact hl
          exact ih (i + 1) _ _ _ _ (by omega) (by omega) rfl  h (lv_sub hl [2, 1, 0] rfl)
  exact loop 63 0 w _ _ _ (by omega) (by omega) rfl h (lv_sub hl [2, 1, 0] rfl)
set_option maxHeartbeats 4000000 in
theorem m_X3_thrown (l : Launch) (g : GG) (w v : GW) (ad : Nat → Nat) (cn : Nat) (ru fu ch th : Bool) (fi be ne ke : Nat) (h0 : w (ad 0) = some (mo ad cn ru fu ch th fi be ne ke))  : Met l yX3_thrown (ws_ yX3_thrown cX3_thrown 1 (some .int)) ({ frames := 1, cells := 0, slots := 0, locals := 60 } : Room) (gP g [.ref (ad 0)] w v) (va_Qi (fun (r : Int32) (w' : GW) => r = bI th ∧ w' = w) (gB g v) (gA g)) 0 0 (gA g) := by
  refine gm_of (by decide) (Nat.le_of_ble_eq_true rfl) ?_
  intro p e s m below meth c ls C hnm h hl
  have C : Cx g p s m ([.ref (ad 0)] : List Value).toArray meth c cX3_thrown 1 RX3 (some .int) := C
  obtain ⟨hx, hb, hml, hown, hts, hr, hlk, hG⟩ := id C
  have hl : lv_has ls 1 [(0, .ref (ad 0))] := hl
  refine lv_aload_n hx hb dX3_thrown_0 rfl (lv_at hl 0 rfl) ?_
  refine gx_get C h h0 (Cn := RX3) (T := TX3) (N := 22) rfl in_X3 20 (by decide) q752 rfl rfl dX3_thrown_1 ?_
  refine lv_if_eq (tgt := 11) hx hb dX3_thrown_4 (by decide) (fun c1 => ?_) (fun c1 => ?_)
  · skip
    have c1 : th = false := bI_eq0.mp c1
    refine lv_iconst (v := nI 0) hx hb dX3_thrown_11 (by decide) ?_
    exact gr_i C h (ty := .int) rfl (rfl) (⟨by rw [c1]; rfl, rfl⟩) (Nat.le_of_ble_eq_true rfl) (Nat.le_of_ble_eq_true rfl) dX3_thrown_12
  · skip
    have c1 : th = true := bI_ne0.mp c1
    refine lv_iconst (v := nI 1) hx hb dX3_thrown_7 (by decide) ?_
    refine lv_goto (tgt := 12) hx hb dX3_thrown_8 (by decide) ?_
    exact gr_i C h (ty := .int) rfl (rfl) (⟨by rw [c1]; rfl, rfl⟩) (Nat.le_of_ble_eq_true rfl) (Nat.le_of_ble_eq_true rfl) dX3_thrown_12
set_option maxHeartbeats 4000000 in
theorem m_X3_full (l : Launch) (g : GG) (w v : GW) (ad : Nat → Nat) (cn : Nat) (ru fu ch th : Bool) (fi be ne ke : Nat) (h0 : w (ad 0) = some (mo ad cn ru fu ch th fi be ne ke)) (b : Bool)  : Met l yX3_full (ws_ yX3_full cX3_full 3 (some .boolean)) ({ frames := 1, cells := 0, slots := 0, locals := 60 } : Room) (gP g [.ref (ad 0), .int (bI b)] w v) (va_Qi (fun (r : Int32) (w' : GW) => r = bI fu ∧ w' = gu w (ad 0) (mo ad cn ru b ch th fi be ne ke)) (gB g v) (gA g)) 0 0 (gA g) := by
  refine gm_of (by decide) (Nat.le_of_ble_eq_true rfl) ?_
  intro p e s m below meth c ls C hnm h hl
  have C : Cx g p s m ([.ref (ad 0), .int (bI b)] : List Value).toArray meth c cX3_full 3 RX3 (some .boolean) := C
  obtain ⟨hx, hb, hml, hown, hts, hr, hlk, hG⟩ := id C
  have hl : lv_has ls 3 [(0, .ref (ad 0)), (1, .int (bI b))] := hl
  refine lv_aload_n hx hb dX3_full_0 rfl (lv_at hl 0 rfl) ?_
  refine gx_get C h h0 (Cn := RX3) (T := TX3) (N := 22) rfl in_X3 2 (by decide) q734 rfl rfl dX3_full_1 ?_
  refine lv_istore_n (lv' := [(2, .int (bI fu)), (0, .ref (ad 0)), (1, .int (bI b))]) hx hb dX3_full_4 rfl hl (by decide) rfl (fun ls hl => ?_)
  refine lv_aload_n hx hb dX3_full_5 rfl (lv_at hl 1 rfl) ?_
  refine lv_iload_n hx hb dX3_full_6 rfl (lv_at hl 2 rfl) ?_
  refine gx_put C h h0 (Cn := RX3) (T := TX3) (N := 22) (x := .int (bI b)) rfl in_X3 tyX3 tyX3_ok nmX3 2 (by decide) q734 rfl rfl (bI_n _) (bI_f _) (Nat.le_of_ble_eq_true rfl) dX3_full_7 (fun H locs h => ?_)
  obtain ⟨w_1, ew_1⟩ : ∃ z : GW, z = gu w (ad 0) (ob 4 [.int (nI cn), .int (bI ru), .int (bI b), .ref (ad 1), .ref (ad 2), .ref (ad 3), .ref (ad 4), .ref (ad 5), .int (bI ch), .ref (ad 6), .ref (ad 7), .int (nI fi), .int (nI be), .ref (ad 8), .ref (ad 9), .int (nI 0), .int (nI ne), .ref (ad 10), .ref (ad 11), .int (nI ke), .int (bI th), .ref (ad 12)]) := ⟨_, rfl⟩
  have h : SH g w_1 v s H locs := by rw [ew_1]; exact h
  have f_2 : w_1 (ad 0) = some (ob 4 [.int (nI cn), .int (bI ru), .int (bI b), .ref (ad 1), .ref (ad 2), .ref (ad 3), .ref (ad 4), .ref (ad 5), .int (bI ch), .ref (ad 6), .ref (ad 7), .int (nI fi), .int (nI be), .ref (ad 8), .ref (ad 9), .int (nI 0), .int (nI ne), .ref (ad 10), .ref (ad 11), .int (nI ke), .int (bI th), .ref (ad 12)]) := by rw [ew_1]; exact gu_s
  refine lv_iload_n hx hb dX3_full_10 rfl (lv_at hl 0 rfl) ?_
  exact gr_i C h (ty := .boolean) rfl (bI_n _) (⟨rfl, ew_1⟩) (Nat.le_of_ble_eq_true rfl) (Nat.le_of_ble_eq_true rfl) dX3_full_11
