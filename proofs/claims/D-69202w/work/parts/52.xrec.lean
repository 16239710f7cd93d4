set_option maxRecDepth 100000
theorem nat_low {N c : Nat} (h1 : N.testBit c = true) (h2 : ∀ j, j < c → N.testBit j = false) : ∃ m, N = 2 ^ (c + 1) * m + 2 ^ c := by
  refine ⟨N / 2 ^ (c + 1), ?_⟩
  have e : N % 2 ^ (c + 1) = 2 ^ c := by
    apply Nat.eq_of_testBit_eq
    intro j
    rw [Nat.testBit_mod_two_pow, Nat.testBit_two_pow]
    by_cases q : j < c
    · rw [h2 j q, Bool.and_false, decide_eq_false (by omega)]
    · by_cases q2 : j = c
      · subst q2; rw [h1, decide_eq_true (by omega), decide_eq_true rfl]; rfl
      · rw [decide_eq_false (by omega), decide_eq_false (by omega)]; rfl
  have := Nat.div_add_mod N (2 ^ (c + 1))
  omega
theorem nat_pred {N c : Nat} (h1 : N.testBit c = true) (h2 : ∀ j, j < c → N.testBit j = false) (j : Nat) : (N - 1).testBit j = (decide (j < c) || (decide (c < j) && N.testBit j)) := by
  obtain ⟨m, rfl⟩ := nat_low h1 h2
  have hp : 0 < 2 ^ c := Nat.two_pow_pos c
  have hlt : 2 ^ c < 2 ^ (c + 1) := by rw [Nat.pow_succ]; omega
  rw [show 2 ^ (c + 1) * m + 2 ^ c - 1 = 2 ^ (c + 1) * m + (2 ^ c - 1) by omega, Nat.testBit_two_pow_mul_add _ (by omega), Nat.testBit_two_pow_mul_add _ hlt]
  by_cases q : j < c + 1
  · rw [if_pos q, Nat.testBit_two_pow_sub_one, decide_eq_false (show ¬ c < j by omega)]
    simp
  · rw [if_neg q, if_neg q, decide_eq_false (show ¬ j < c by omega), decide_eq_true (show c < j by omega)]
    simp
theorem bv_pred {k : Nat} (x : BitVec k) {c : Nat} (hc : c < k) (h1 : x.getLsbD c = true) (h2 : ∀ j, j < c → x.getLsbD j = false) (j : Nat) (hj : j < k) : (x - 1#k).getLsbD j = (decide (j < c) || (decide (c < j) && x.getLsbD j)) := by
  have hN : 0 < x.toNat := by
    rcases Nat.eq_zero_or_pos x.toNat with q | q
    · have : x.getLsbD c = (0 : Nat).testBit c := by show x.toNat.testBit c = _; rw [q]
      rw [h1] at this
      simp at this
    · exact q
  have hk : 1 < 2 ^ k := Nat.one_lt_two_pow (by omega)
  have e : (x - 1#k).toNat = x.toNat - 1 := by
    rw [BitVec.toNat_sub, BitVec.toNat_ofNat, Nat.mod_eq_of_lt hk]
    have := x.isLt
    rw [show 2 ^ k - 1 + x.toNat = (x.toNat - 1) + 2 ^ k by omega, Nat.add_mod_right, Nat.mod_eq_of_lt (by omega)]
  show (x - 1#k).toNat.testBit j = _
  rw [e]
  exact nat_pred h1 h2 j
theorem low32 {x : Int32} {c : Nat} (hc : c < 32) (h1 : bit32 x c = true) (h2 : ∀ j, j < c → bit32 x j = false) : (x ^^^ (-1)) &&& (x - nI 1) = nI (2 ^ c - 1) := by
  apply Int32.toBitVec_inj.mp
  apply BitVec.eq_of_getLsbD_eq
  intro i hi
  have e1 : (x - nI 1).toBitVec = x.toBitVec - 1#32 := rfl
  have e2 : (nI (2 ^ c - 1)).toBitVec.getLsbD i = decide (i < c) := by
    show (BitVec.ofNat 32 (2 ^ c - 1)).getLsbD i = _
    rw [BitVec.getLsbD_ofNat, Nat.testBit_two_pow_sub_one]
    simp [hi]
  rw [Int32.toBitVec_and, BitVec.getLsbD_and, e1, bv_pred x.toBitVec hc h1 h2 i hi, e2, Int32.toBitVec_xor, BitVec.getLsbD_xor]
  have e3 : (-1 : Int32).toBitVec.getLsbD i = true := by
    have : (-1 : Int32).toBitVec = BitVec.allOnes 32 := by decide
    rw [this, BitVec.getLsbD_allOnes]; simpa using hi
  rw [e3]
  by_cases q : i < c
  · have := h2 i q
    unfold bit32 at this
    rw [this, decide_eq_true q]; rfl
  · rw [decide_eq_false q]
    cases x.toBitVec.getLsbD i <;> simp
theorem lo_bit (x : Int64) {j : Nat} (hj : j < 32) : bit32 x.toInt32 j = bitL x j := by
  rw [bitL_bv x (by omega)]
  unfold bit32
  show (x.toBitVec.signExtend 32).getLsbD j = _
  rw [BitVec.getLsbD_signExtend]
  simp [hj]
  intro h
  omega
theorem hi_bit (x : Int64) {j : Nat} (hj : j < 32) : bit32 (x.toUInt64 >>> ((nI 32).toInt64.toUInt64 &&& Int64.toUInt64 63)).toInt64.toInt32 j = bitL x (32 + j) := by
  rw [lo_bit _ hj, bitL_bv _ (by omega), bitL_bv _ (by omega)]
  show (x.toBitVec >>> ((((nI 32).toInt64.toUInt64 &&& Int64.toUInt64 63) % 64).toBitVec)).getLsbD j = _
  rw [show (((nI 32).toInt64.toUInt64 &&& Int64.toUInt64 63) % 64).toBitVec = 32#64 by decide]
  rw [BitVec.ushiftRight_eq', BitVec.getLsbD_ushiftRight]
  rfl
theorem b32_ext {x y : Int32} (h : ∀ j, j < 32 → bit32 x j = bit32 y j) : x = y := Int32.toBitVec_inj.mp (BitVec.eq_of_getLsbD_eq (fun i hi => h i hi))
theorem lo_lt {x : Int64} {c : Nat} (hc : c < 64) (h2 : ∀ j, j < c → bitL x j = false) (h : ¬ x.toInt32 = 0) : c < 32 := by
  apply Classical.byContradiction
  intro q
  apply h
  apply b32_ext
  intro j hj
  rw [lo_bit x hj, h2 j (by omega)]
  exact BitVec.getLsbD_zero.symm
theorem lo_ge {x : Int64} {c : Nat} (h1 : bitL x c = true) (h : x.toInt32 = 0) : 32 ≤ c := by
  apply Classical.byContradiction
  intro q
  have := lo_bit x (j := c) (by omega)
  rw [h, h1] at this
  have e : bit32 0 c = false := BitVec.getLsbD_zero
  rw [e] at this
  cases this
def bc1 (x : Int64) : Int64 := x - ((x.toUInt64 >>> ((nI 1).toInt64.toUInt64 &&& Int64.toUInt64 63)).toInt64 &&& 6148914691236517205)
def bc2 (x : Int64) : Int64 := (x &&& 3689348814741910323) + ((x.toUInt64 >>> ((nI 2).toInt64.toUInt64 &&& Int64.toUInt64 63)).toInt64 &&& 3689348814741910323)
def bc3 (x : Int64) : Int64 := (x + (x.toUInt64 >>> ((nI 4).toInt64.toUInt64 &&& Int64.toUInt64 63)).toInt64) &&& 1085102592571150095
def bc4 (x : Int64) : Int64 := x + (x.toUInt64 >>> ((nI 8).toInt64.toUInt64 &&& Int64.toUInt64 63)).toInt64
def bc5 (x : Int64) : Int64 := x + (x.toUInt64 >>> ((nI 16).toInt64.toUInt64 &&& Int64.toUInt64 63)).toInt64
def bc6 (x : Int64) : Int64 := x + (x.toUInt64 >>> ((nI 32).toInt64.toUInt64 &&& Int64.toUInt64 63)).toInt64
def bcF (x : Int64) : Int32 := (bc6 (bc5 (bc4 (bc3 (bc2 (bc1 x)))))).toInt32 &&& nI 127
set_option maxHeartbeats 4000000 in
theorem m_X2_init (l : Launch) (g : GG) (w v : GW) (a : Nat) (n : Int32) (x : Int64) (h0 : w a = some (ob 2 [.int (nI 0), .long 0])) : Met l yX2_init (ws_ yX2_init cX2_init 4 none) ({ frames := 2, cells := 0, slots := 0, locals := 120 } : Room) (gP g [.ref a, .int n, .long x] w v) (va_Qv (fun (w' : GW) => w' = gu w a (ob 2 [.int n, .long x])) (gB g v) (gA g)) 0 0 (gA g) := by
  refine gm_of (by decide) (Nat.le_of_ble_eq_true rfl) ?_
  intro p e s m below meth c ls C hnm h hl
  have C : Cx g p s m ([.ref a, .int n, .long x] : List Value).toArray meth c cX2_init 4 RX2 none := C
  obtain ⟨hx, hb, hml, hown, hts, hr, hlk, hG⟩ := id C
  have hl : lv_has ls 4 [(0, .ref a), (1, .int n), (2, .long x)] := hl
  refine lv_aload_n hx hb dX2_init_0 rfl (lv_at hl 0 rfl) ?_
  refine gc_v (va_runI (As := []) (rest := []) C.fix (m_J5_init l g w v a) (cwI 0 hts (lw_meth q140) rfl rfl rfl (hts _ q49) (hts _ q138) (hts _ q139) rfl (by decide +kernel) ⟨Nat.le_of_ble_eq_true rfl, Nat.le_of_ble_eq_true rfl⟩) (gp_S C h _) rfl rfl hl.1 rfl (lv_room (Nat.le_of_ble_eq_true rfl)) dX2_init_1 ⟨Nat.le_of_ble_eq_true rfl, Nat.le_of_ble_eq_true rfl⟩) h (fun w_2 H locs hp h => ?_)
  rw [hp] at h
  refine lv_aload_n hx hb dX2_init_4 rfl (lv_at hl 0 rfl) ?_
  refine lv_iload_n hx hb dX2_init_5 rfl (lv_at hl 1 rfl) ?_
  refine gx_putF C h h0 (Cn := RX2) (T := TX2) (N := 2) (x := .int n) rfl in_X2 tyX2 tyX2_ok nmX2 0 (by decide) q142 rfl rfl hnm rfl rfl (Nat.le_of_ble_eq_true rfl) dX2_init_6 (fun H locs h => ?_)
  obtain ⟨w_3, ew_3⟩ : ∃ z_ : GW, z_ = gu w a (ob 2 [.int n, .long 0]) := ⟨_, rfl⟩
  have h : SH g w_3 v s H locs := by rw [ew_3]; exact h
  have f_4 : w_3 a = some (ob 2 [.int n, .long 0]) := by rw [ew_3]; exact gu_s
  refine lv_aload_n hx hb dX2_init_9 rfl (lv_at hl 0 rfl) ?_
  refine lv_lload_n hx hb dX2_init_10 rfl (lv_at hl 2 rfl) ?_
  refine gx_putF C h f_4 (Cn := RX2) (T := TX2) (N := 2) (x := .long x) rfl in_X2 tyX2 tyX2_ok nmX2 1 (by decide) q143 rfl rfl hnm rfl rfl (Nat.le_of_ble_eq_true rfl) dX2_init_11 (fun H locs h => ?_)
  obtain ⟨w_5, ew_5⟩ : ∃ z_ : GW, z_ = gu w_3 a (ob 2 [.int n, .long x]) := ⟨_, rfl⟩
  have h : SH g w_5 v s H locs := by rw [ew_5]; exact h
  have f_6 : w_5 a = some (ob 2 [.int n, .long x]) := by rw [ew_5]; exact gu_s
  exact gr_v C h (by rw [ew_5, ew_3, gu_gu]) (Nat.le_of_ble_eq_true rfl) (Nat.le_of_ble_eq_true rfl) dX2_init_14
set_option maxHeartbeats 4000000 in
theorem m_X2_number (l : Launch) (g : GG) (w v : GW) (a : Nat) (n : Int32) (x : Int64) (h0 : w a = some (ob 2 [.int n, .long x])) : Met l yX2_number (ws_ yX2_number cX2_number 1 (some .int)) ({ frames := 1, cells := 0, slots := 0, locals := 60 } : Room) (gP g [.ref a] w v) (va_Qi (fun (r : Int32) (w' : GW) => r = n ∧ w' = w) (gB g v) (gA g)) 0 0 (gA g) := by
  refine gm_of (by decide) (Nat.le_of_ble_eq_true rfl) ?_
  intro p e s m below meth c ls C hnm h hl
  have C : Cx g p s m ([.ref a] : List Value).toArray meth c cX2_number 1 RX2 (some .int) := C
  obtain ⟨hx, hb, hml, hown, hts, hr, hlk, hG⟩ := id C
  have hl : lv_has ls 1 [(0, .ref a)] := hl
  refine lv_aload_n hx hb dX2_number_0 rfl (lv_at hl 0 rfl) ?_
  refine gx_get C h h0 (Cn := RX2) (T := TX2) (N := 2) rfl in_X2 0 (by decide) q142 rfl rfl dX2_number_1 ?_
  exact gr_i C h (ty := .int) rfl (rfl) (⟨rfl, rfl⟩) (Nat.le_of_ble_eq_true rfl) (Nat.le_of_ble_eq_true rfl) dX2_number_4
set_option maxHeartbeats 4000000 in
theorem m_X2_sectors (l : Launch) (g : GG) (w v : GW) (a : Nat) (n : Int32) (x : Int64) (h0 : w a = some (ob 2 [.int n, .long x])) : Met l yX2_sectors (ws_ yX2_sectors cX2_sectors 1 (some .long)) ({ frames := 1, cells := 0, slots := 0, locals := 60 } : Room) (gP g [.ref a] w v) (va_Ql (fun (r : Int64) (w' : GW) => r = x ∧ w' = w) (gB g v) (gA g)) 0 0 (gA g) := by
  refine gm_of (by decide) (Nat.le_of_ble_eq_true rfl) ?_
  intro p e s m below meth c ls C hnm h hl
  have C : Cx g p s m ([.ref a] : List Value).toArray meth c cX2_sectors 1 RX2 (some .long) := C
  obtain ⟨hx, hb, hml, hown, hts, hr, hlk, hG⟩ := id C
  have hl : lv_has ls 1 [(0, .ref a)] := hl
  refine lv_aload_n hx hb dX2_sectors_0 rfl (lv_at hl 0 rfl) ?_
  refine gx_get C h h0 (Cn := RX2) (T := TX2) (N := 2) rfl in_X2 1 (by decide) q143 rfl rfl dX2_sectors_1 ?_
  exact gr_l C h (⟨rfl, rfl⟩) (Nat.le_of_ble_eq_true rfl) (Nat.le_of_ble_eq_true rfl) dX2_sectors_4
set_option maxHeartbeats 4000000 in
theorem m_X5_init (l : Launch) (g : GG) (w v : GW) (a : Nat) (n : Int32) (b : Nat) (h0 : w a = some (ob 3 [.int (nI 0), .null])) : Met l yX5_init (ws_ yX5_init cX5_init 3 none) ({ frames := 2, cells := 0, slots := 0, locals := 120 } : Room) (gP g [.ref a, .int n, .ref b] w v) (va_Qv (fun (w' : GW) => w' = gu w a (ob 3 [.int n, .ref b])) (gB g v) (gA g)) 0 0 (gA g) := by
  refine gm_of (by decide) (Nat.le_of_ble_eq_true rfl) ?_
  intro p e s m below meth c ls C hnm h hl
  have C : Cx g p s m ([.ref a, .int n, .ref b] : List Value).toArray meth c cX5_init 3 RX5 none := C
  obtain ⟨hx, hb, hml, hown, hts, hr, hlk, hG⟩ := id C
  have hl : lv_has ls 3 [(0, .ref a), (1, .int n), (2, .ref b)] := hl
  refine lv_aload_n hx hb dX5_init_0 rfl (lv_at hl 0 rfl) ?_
  refine gc_v (va_runI (As := []) (rest := []) C.fix (m_J5_init l g w v a) (cwI 0 hts (lw_meth q140) rfl rfl rfl (hts _ q49) (hts _ q491) (hts _ q139) rfl (by decide +kernel) ⟨Nat.le_of_ble_eq_true rfl, Nat.le_of_ble_eq_true rfl⟩) (gp_S C h _) rfl rfl hl.1 rfl (lv_room (Nat.le_of_ble_eq_true rfl)) dX5_init_1 ⟨Nat.le_of_ble_eq_true rfl, Nat.le_of_ble_eq_true rfl⟩) h (fun w_2 H locs hp h => ?_)
  rw [hp] at h
  refine lv_aload_n hx hb dX5_init_4 rfl (lv_at hl 0 rfl) ?_
  refine lv_iload_n hx hb dX5_init_5 rfl (lv_at hl 1 rfl) ?_
  refine gx_putF C h h0 (Cn := RX5) (T := TX5) (N := 2) (x := .int n) rfl in_X5 tyX5 tyX5_ok nmX5 0 (by decide) q492 rfl rfl hnm rfl rfl (Nat.le_of_ble_eq_true rfl) dX5_init_6 (fun H locs h => ?_)
  obtain ⟨w_3, ew_3⟩ : ∃ z_ : GW, z_ = gu w a (ob 3 [.int n, .null]) := ⟨_, rfl⟩
  have h : SH g w_3 v s H locs := by rw [ew_3]; exact h
  have f_4 : w_3 a = some (ob 3 [.int n, .null]) := by rw [ew_3]; exact gu_s
  refine lv_aload_n hx hb dX5_init_9 rfl (lv_at hl 0 rfl) ?_
  refine lv_aload_n hx hb dX5_init_10 rfl (lv_at hl 2 rfl) ?_
  refine gx_putF C h f_4 (Cn := RX5) (T := TX5) (N := 2) (x := .ref b) rfl in_X5 tyX5 tyX5_ok nmX5 1 (by decide) q493 rfl rfl hnm rfl rfl (Nat.le_of_ble_eq_true rfl) dX5_init_11 (fun H locs h => ?_)
  obtain ⟨w_5, ew_5⟩ : ∃ z_ : GW, z_ = gu w_3 a (ob 3 [.int n, .ref b]) := ⟨_, rfl⟩
  have h : SH g w_5 v s H locs := by rw [ew_5]; exact h
  have f_6 : w_5 a = some (ob 3 [.int n, .ref b]) := by rw [ew_5]; exact gu_s
  exact gr_v C h (by rw [ew_5, ew_3, gu_gu]) (Nat.le_of_ble_eq_true rfl) (Nat.le_of_ble_eq_true rfl) dX5_init_14
set_option maxHeartbeats 4000000 in
theorem m_X5_to (l : Launch) (g : GG) (w v : GW) (a : Nat) (n : Int32) (b : Nat) (h0 : w a = some (ob 3 [.int n, .ref b])) : Met l yX5_to (ws_ yX5_to cX5_to 1 (some .int)) ({ frames := 1, cells := 0, slots := 0, locals := 60 } : Room) (gP g [.ref a] w v) (va_Qi (fun (r : Int32) (w' : GW) => r = n ∧ w' = w) (gB g v) (gA g)) 0 0 (gA g) := by
  refine gm_of (by decide) (Nat.le_of_ble_eq_true rfl) ?_
  intro p e s m below meth c ls C hnm h hl
  have C : Cx g p s m ([.ref a] : List Value).toArray meth c cX5_to 1 RX5 (some .int) := C
  obtain ⟨hx, hb, hml, hown, hts, hr, hlk, hG⟩ := id C
  have hl : lv_has ls 1 [(0, .ref a)] := hl
  refine lv_aload_n hx hb dX5_to_0 rfl (lv_at hl 0 rfl) ?_
  refine gx_get C h h0 (Cn := RX5) (T := TX5) (N := 2) rfl in_X5 0 (by decide) q492 rfl rfl dX5_to_1 ?_
  exact gr_i C h (ty := .int) rfl (rfl) (⟨rfl, rfl⟩) (Nat.le_of_ble_eq_true rfl) (Nat.le_of_ble_eq_true rfl) dX5_to_4
set_option maxHeartbeats 4000000 in
theorem m_X5_sector (l : Launch) (g : GG) (w v : GW) (a : Nat) (n : Int32) (b : Nat) (h0 : w a = some (ob 3 [.int n, .ref b])) : Met l yX5_sector (ws_ yX5_sector cX5_sector 1 (some (.object "KnowDisk$Sector"))) ({ frames := 1, cells := 0, slots := 0, locals := 60 } : Room) (gP g [.ref a] w v) (va_Qq (fun (r : Option Nat) (w' : GW) => r = some b ∧ w' = w) (gB g v) (gA g)) 0 0 (gA g) := by
  refine gm_of (by decide) (Nat.le_of_ble_eq_true rfl) ?_
  intro p e s m below meth c ls C hnm h hl
  have C : Cx g p s m ([.ref a] : List Value).toArray meth c cX5_sector 1 RX5 (some (.object "KnowDisk$Sector")) := C
  obtain ⟨hx, hb, hml, hown, hts, hr, hlk, hG⟩ := id C
  have hl : lv_has ls 1 [(0, .ref a)] := hl
  refine lv_aload_n hx hb dX5_sector_0 rfl (lv_at hl 0 rfl) ?_
  refine gx_get C h h0 (Cn := RX5) (T := TX5) (N := 2) rfl in_X5 1 (by decide) q493 rfl rfl dX5_sector_1 ?_
  exact gr_q C h (x := some b) (ty := (.object "KnowDisk$Sector")) rfl (Or.inl ⟨_, rfl⟩) (⟨rfl, rfl⟩) (Nat.le_of_ble_eq_true rfl) (Nat.le_of_ble_eq_true rfl) dX5_sector_4
set_option maxHeartbeats 4000000 in
theorem m_J10_numberOfTrailingZeros (l : Launch) (g : GG) (w v : GW) (x : Int32) (cb : Nat) (hc : cb < 32) (h1 : bit32 x cb = true) (h2 : ∀ j, j < cb → bit32 x j = false) : Met l yJ10_numberOfTrailingZeros (ws_ yJ10_numberOfTrailingZeros cJ10_numberOfTrailingZeros 2 (some .int)) ({ frames := 1, cells := 0, slots := 0, locals := 60 } : Room) (gP g [.int x] w v) (va_Qi (fun (r : Int32) (w' : GW) => r = nI cb ∧ w' = w) (gB g v) (gA g)) 0 0 (gA g) := by
  refine gm_of (by decide) (Nat.le_of_ble_eq_true rfl) ?_
  intro p e s m below meth c ls C hnm h hl
  have C : Cx g p s m ([.int x] : List Value).toArray meth c cJ10_numberOfTrailingZeros 2 RJ10 (some .int) := C
  obtain ⟨hx, hb, hml, hown, hts, hr, hlk, hG⟩ := id C
  have hl : lv_has ls 2 [(0, .int x)] := hl
  refine lv_iload_n hx hb dJ10_numberOfTrailingZeros_0 rfl (lv_at hl 0 rfl) ?_
  refine lv_iconst (v := (-1)) hx hb dJ10_numberOfTrailingZeros_1 (by decide) ?_
  refine lv_ixor hx hb dJ10_numberOfTrailingZeros_2 ?_
  refine lv_iload_n hx hb dJ10_numberOfTrailingZeros_3 rfl (lv_at hl 0 rfl) ?_
  refine lv_iconst (v := nI 1) hx hb dJ10_numberOfTrailingZeros_4 (by decide) ?_
  refine lv_isub hx hb dJ10_numberOfTrailingZeros_5 ?_
  refine lv_iand hx hb dJ10_numberOfTrailingZeros_6 ?_
  rw [low32 hc h1 h2]
  have hpc : 2 ^ cb ≤ 2 ^ 31 := Nat.pow_le_pow_right (by omega) (by omega)
  refine lv_istore_n (lv' := [(0, .int (nI (2 ^ cb - 1)))]) hx hb dJ10_numberOfTrailingZeros_7 rfl hl (by decide) rfl (fun ls hl => ?_)
  refine lv_iload_n hx hb dJ10_numberOfTrailingZeros_8 rfl (lv_at hl 0 rfl) ?_
  refine lv_if_gt (tgt := 17) hx hb dJ10_numberOfTrailingZeros_9 (by decide) (fun c1 => ?_) (fun c1 => ?_)
  · skip
    have hc0 : 0 < cb := Nat.pos_of_ne_zero (fun q => by subst q; exact absurd c1 (by decide))
    refine lv_iconst (v := nI 1) hx hb dJ10_numberOfTrailingZeros_17 (by decide) ?_
    refine lv_istore_n (lv' := [(1, .int (nI 1)), (0, .int (nI (2 ^ cb - 1)))]) hx hb dJ10_numberOfTrailingZeros_18 rfl hl (by decide) rfl (fun ls hl => ?_)
    refine lv_iload_n hx hb dJ10_numberOfTrailingZeros_19 rfl (lv_at hl 1 rfl) ?_
    refine lv_ldcw (v := 65536) hx hb hown (hts _ q545) dJ10_numberOfTrailingZeros_20 ?_
    refine W.eq (congrArg (fun z_ => F0 m 23 ls [.int z_, .int (nI (2 ^ cb - 1))]) (show (65536 : Int32) = nI 65536 from by decide)) ?_
    refine lv_icmp_le (tgt := 34) hx hb dJ10_numberOfTrailingZeros_23 (by decide) (fun k0 => ?_) (fun k0 => ?_)
    · skip
      have k0 : (2 ^ cb - 1) ≤ 65536 := (nI_leI (by omega) (by omega)).mp k0
      refine lv_iload_n hx hb dJ10_numberOfTrailingZeros_34 rfl (lv_at hl 1 rfl) ?_
      refine lv_sipush (v := nI 256) hx hb dJ10_numberOfTrailingZeros_35 (by decide) ?_
      refine lv_icmp_le (tgt := 49) hx hb dJ10_numberOfTrailingZeros_38 (by decide) (fun k1 => ?_) (fun k1 => ?_)
      · skip
        have k1 : (2 ^ cb - 1) ≤ 256 := (nI_leI (by omega) (by omega)).mp k1
        refine lv_iload_n hx hb dJ10_numberOfTrailingZeros_49 rfl (lv_at hl 1 rfl) ?_
        refine lv_bipush (v := nI 16) hx hb dJ10_numberOfTrailingZeros_50 (by decide) ?_
        refine lv_icmp_le (tgt := 62) hx hb dJ10_numberOfTrailingZeros_52 (by decide) (fun k2 => ?_) (fun k2 => ?_)
        · skip
          have k2 : (2 ^ cb - 1) ≤ 16 := (nI_leI (by omega) (by omega)).mp k2
          refine lv_iload_n hx hb dJ10_numberOfTrailingZeros_62 rfl (lv_at hl 1 rfl) ?_
          refine lv_iconst (v := nI 4) hx hb dJ10_numberOfTrailingZeros_63 (by decide) ?_
          refine lv_icmp_le (tgt := 74) hx hb dJ10_numberOfTrailingZeros_64 (by decide) (fun k3 => ?_) (fun k3 => ?_)
          · skip
            have k3 : (2 ^ cb - 1) ≤ 4 := (nI_leI (by omega) (by omega)).mp k3
            refine lv_iload_n hx hb dJ10_numberOfTrailingZeros_74 rfl (lv_at hl 0 rfl) ?_
            refine lv_iload_n hx hb dJ10_numberOfTrailingZeros_75 rfl (lv_at hl 1 rfl) ?_
            refine lv_iconst (v := nI 1) hx hb dJ10_numberOfTrailingZeros_76 (by decide) ?_
            refine lv_iushr hx hb dJ10_numberOfTrailingZeros_77 rfl ?_
            rw [pk_ushrN (n := 2 ^ cb - 1) (by omega) (nI 1) 1 (by decide)]
            refine gn_iadd hx hb dJ10_numberOfTrailingZeros_78 ?_
            exact gr_i C h (ty := .int) rfl (rfl) (⟨congrArg nI ((by decide +kernel : ∀ cb : Fin 32, 0 < cb.val → (2 ^ cb.val - 1) ≤ 65536 → (2 ^ cb.val - 1) ≤ 256 → (2 ^ cb.val - 1) ≤ 16 → (2 ^ cb.val - 1) ≤ 4 → 1 + ((2 ^ cb.val - 1) / 2 ^ 1) = cb.val) ⟨cb, hc⟩ hc0 k0 k1 k2 k3), rfl⟩) (Nat.le_of_ble_eq_true rfl) (Nat.le_of_ble_eq_true rfl) dJ10_numberOfTrailingZeros_79
          · skip
            have k3 : ¬ ((2 ^ cb - 1) ≤ 4) := fun q => k3 ((nI_leI (by omega) (by omega)).mpr q)
            refine lv_iinc (v := nI (1 + 2)) (lv' := [(1, .int (nI (1 + 2))), (0, .int (nI (2 ^ cb - 1)))]) hx hb dJ10_numberOfTrailingZeros_67 hl (k := 0) rfl (gi_inc _ 2) (by decide) rfl (fun ls hl => ?_)
            refine lv_iload_n hx hb dJ10_numberOfTrailingZeros_70 rfl (lv_at hl 1 rfl) ?_
            refine lv_iconst (v := nI 2) hx hb dJ10_numberOfTrailingZeros_71 (by decide) ?_
            refine lv_iushr hx hb dJ10_numberOfTrailingZeros_72 rfl ?_
            rw [pk_ushrN (n := 2 ^ cb - 1) (by omega) (nI 2) 2 (by decide)]
            refine lv_istore_n (lv' := [(0, .int (nI ((2 ^ cb - 1) / 2 ^ 2))), (1, .int (nI (1 + 2)))]) hx hb dJ10_numberOfTrailingZeros_73 rfl hl (by decide) rfl (fun ls hl => ?_)
            refine lv_iload_n hx hb dJ10_numberOfTrailingZeros_74 rfl (lv_at hl 1 rfl) ?_
            refine lv_iload_n hx hb dJ10_numberOfTrailingZeros_75 rfl (lv_at hl 0 rfl) ?_
            refine lv_iconst (v := nI 1) hx hb dJ10_numberOfTrailingZeros_76 (by decide) ?_
            refine lv_iushr hx hb dJ10_numberOfTrailingZeros_77 rfl ?_
            rw [pk_ushrN (n := (2 ^ cb - 1) / 2 ^ 2) (by omega) (nI 1) 1 (by decide)]
            refine gn_iadd hx hb dJ10_numberOfTrailingZeros_78 ?_
            exact gr_i C h (ty := .int) rfl (rfl) (⟨congrArg nI ((by decide +kernel : ∀ cb : Fin 32, 0 < cb.val → (2 ^ cb.val - 1) ≤ 65536 → (2 ^ cb.val - 1) ≤ 256 → (2 ^ cb.val - 1) ≤ 16 → ¬ ((2 ^ cb.val - 1) ≤ 4) → (1 + 2) + (((2 ^ cb.val - 1) / 2 ^ 2) / 2 ^ 1) = cb.val) ⟨cb, hc⟩ hc0 k0 k1 k2 k3), rfl⟩) (Nat.le_of_ble_eq_true rfl) (Nat.le_of_ble_eq_true rfl) dJ10_numberOfTrailingZeros_79
        · skip
          have k2 : ¬ ((2 ^ cb - 1) ≤ 16) := fun q => k2 ((nI_leI (by omega) (by omega)).mpr q)
          refine lv_iinc (v := nI (1 + 4)) (lv' := [(1, .int (nI (1 + 4))), (0, .int (nI (2 ^ cb - 1)))]) hx hb dJ10_numberOfTrailingZeros_55 hl (k := 0) rfl (gi_inc _ 4) (by decide) rfl (fun ls hl => ?_)
          refine lv_iload_n hx hb dJ10_numberOfTrailingZeros_58 rfl (lv_at hl 1 rfl) ?_
          refine lv_iconst (v := nI 4) hx hb dJ10_numberOfTrailingZeros_59 (by decide) ?_
          refine lv_iushr hx hb dJ10_numberOfTrailingZeros_60 rfl ?_
          rw [pk_ushrN (n := 2 ^ cb - 1) (by omega) (nI 4) 4 (by decide)]
          refine lv_istore_n (lv' := [(0, .int (nI ((2 ^ cb - 1) / 2 ^ 4))), (1, .int (nI (1 + 4)))]) hx hb dJ10_numberOfTrailingZeros_61 rfl hl (by decide) rfl (fun ls hl => ?_)
          refine lv_iload_n hx hb dJ10_numberOfTrailingZeros_62 rfl (lv_at hl 0 rfl) ?_
          refine lv_iconst (v := nI 4) hx hb dJ10_numberOfTrailingZeros_63 (by decide) ?_
          refine lv_icmp_le (tgt := 74) hx hb dJ10_numberOfTrailingZeros_64 (by decide) (fun k3 => ?_) (fun k3 => ?_)
          · skip
            have k3 : ((2 ^ cb - 1) / 2 ^ 4) ≤ 4 := (nI_leI (by omega) (by omega)).mp k3
            refine lv_iload_n hx hb dJ10_numberOfTrailingZeros_74 rfl (lv_at hl 1 rfl) ?_
            refine lv_iload_n hx hb dJ10_numberOfTrailingZeros_75 rfl (lv_at hl 0 rfl) ?_
            refine lv_iconst (v := nI 1) hx hb dJ10_numberOfTrailingZeros_76 (by decide) ?_
            refine lv_iushr hx hb dJ10_numberOfTrailingZeros_77 rfl ?_
            rw [pk_ushrN (n := (2 ^ cb - 1) / 2 ^ 4) (by omega) (nI 1) 1 (by decide)]
            refine gn_iadd hx hb dJ10_numberOfTrailingZeros_78 ?_
            exact gr_i C h (ty := .int) rfl (rfl) (⟨congrArg nI ((by decide +kernel : ∀ cb : Fin 32, 0 < cb.val → (2 ^ cb.val - 1) ≤ 65536 → (2 ^ cb.val - 1) ≤ 256 → ¬ ((2 ^ cb.val - 1) ≤ 16) → ((2 ^ cb.val - 1) / 2 ^ 4) ≤ 4 → (1 + 4) + (((2 ^ cb.val - 1) / 2 ^ 4) / 2 ^ 1) = cb.val) ⟨cb, hc⟩ hc0 k0 k1 k2 k3), rfl⟩) (Nat.le_of_ble_eq_true rfl) (Nat.le_of_ble_eq_true rfl) dJ10_numberOfTrailingZeros_79
          · skip
            have k3 : ¬ (((2 ^ cb - 1) / 2 ^ 4) ≤ 4) := fun q => k3 ((nI_leI (by omega) (by omega)).mpr q)
            refine lv_iinc (v := nI (1 + 4 + 2)) (lv' := [(1, .int (nI (1 + 4 + 2))), (0, .int (nI ((2 ^ cb - 1) / 2 ^ 4)))]) hx hb dJ10_numberOfTrailingZeros_67 hl (k := 1) rfl (gi_inc _ 2) (by decide) rfl (fun ls hl => ?_)
            refine lv_iload_n hx hb dJ10_numberOfTrailingZeros_70 rfl (lv_at hl 1 rfl) ?_
            refine lv_iconst (v := nI 2) hx hb dJ10_numberOfTrailingZeros_71 (by decide) ?_
            refine lv_iushr hx hb dJ10_numberOfTrailingZeros_72 rfl ?_
            rw [pk_ushrN (n := (2 ^ cb - 1) / 2 ^ 4) (by omega) (nI 2) 2 (by decide)]
            refine lv_istore_n (lv' := [(0, .int (nI (((2 ^ cb - 1) / 2 ^ 4) / 2 ^ 2))), (1, .int (nI (1 + 4 + 2)))]) hx hb dJ10_numberOfTrailingZeros_73 rfl hl (by decide) rfl (fun ls hl => ?_)
            refine lv_iload_n hx hb dJ10_numberOfTrailingZeros_74 rfl (lv_at hl 1 rfl) ?_
            refine lv_iload_n hx hb dJ10_numberOfTrailingZeros_75 rfl (lv_at hl 0 rfl) ?_
            refine lv_iconst (v := nI 1) hx hb dJ10_numberOfTrailingZeros_76 (by decide) ?_
            refine lv_iushr hx hb dJ10_numberOfTrailingZeros_77 rfl ?_
            rw [pk_ushrN (n := ((2 ^ cb - 1) / 2 ^ 4) / 2 ^ 2) (by omega) (nI 1) 1 (by decide)]
            refine gn_iadd hx hb dJ10_numberOfTrailingZeros_78 ?_
            exact gr_i C h (ty := .int) rfl (rfl) (⟨congrArg nI ((by decide +kernel : ∀ cb : Fin 32, 0 < cb.val → (2 ^ cb.val - 1) ≤ 65536 → (2 ^ cb.val - 1) ≤ 256 → ¬ ((2 ^ cb.val - 1) ≤ 16) → ¬ (((2 ^ cb.val - 1) / 2 ^ 4) ≤ 4) → (1 + 4 + 2) + ((((2 ^ cb.val - 1) / 2 ^ 4) / 2 ^ 2) / 2 ^ 1) = cb.val) ⟨cb, hc⟩ hc0 k0 k1 k2 k3), rfl⟩) (Nat.le_of_ble_eq_true rfl) (Nat.le_of_ble_eq_true rfl) dJ10_numberOfTrailingZeros_79
      · skip
        have k1 : ¬ ((2 ^ cb - 1) ≤ 256) := fun q => k1 ((nI_leI (by omega) (by omega)).mpr q)
        refine lv_iinc (v := nI (1 + 8)) (lv' := [(1, .int (nI (1 + 8))), (0, .int (nI (2 ^ cb - 1)))]) hx hb dJ10_numberOfTrailingZeros_41 hl (k := 0) rfl (gi_inc _ 8) (by decide) rfl (fun ls hl => ?_)
        refine lv_iload_n hx hb dJ10_numberOfTrailingZeros_44 rfl (lv_at hl 1 rfl) ?_
        refine lv_bipush (v := nI 8) hx hb dJ10_numberOfTrailingZeros_45 (by decide) ?_
        refine lv_iushr hx hb dJ10_numberOfTrailingZeros_47 rfl ?_
        rw [pk_ushrN (n := 2 ^ cb - 1) (by omega) (nI 8) 8 (by decide)]
        refine lv_istore_n (lv' := [(0, .int (nI ((2 ^ cb - 1) / 2 ^ 8))), (1, .int (nI (1 + 8)))]) hx hb dJ10_numberOfTrailingZeros_48 rfl hl (by decide) rfl (fun ls hl => ?_)
        refine lv_iload_n hx hb dJ10_numberOfTrailingZeros_49 rfl (lv_at hl 0 rfl) ?_
        refine lv_bipush (v := nI 16) hx hb dJ10_numberOfTrailingZeros_50 (by decide) ?_
        refine lv_icmp_le (tgt := 62) hx hb dJ10_numberOfTrailingZeros_52 (by decide) (fun k2 => ?_) (fun k2 => ?_)
        · skip
          have k2 : ((2 ^ cb - 1) / 2 ^ 8) ≤ 16 := (nI_leI (by omega) (by omega)).mp k2
          refine lv_iload_n hx hb dJ10_numberOfTrailingZeros_62 rfl (lv_at hl 0 rfl) ?_
          refine lv_iconst (v := nI 4) hx hb dJ10_numberOfTrailingZeros_63 (by decide) ?_
          refine lv_icmp_le (tgt := 74) hx hb dJ10_numberOfTrailingZeros_64 (by decide) (fun k3 => ?_) (fun k3 => ?_)
          · skip
            have k3 : ((2 ^ cb - 1) / 2 ^ 8) ≤ 4 := (nI_leI (by omega) (by omega)).mp k3
            refine lv_iload_n hx hb dJ10_numberOfTrailingZeros_74 rfl (lv_at hl 1 rfl) ?_
            refine lv_iload_n hx hb dJ10_numberOfTrailingZeros_75 rfl (lv_at hl 0 rfl) ?_
            refine lv_iconst (v := nI 1) hx hb dJ10_numberOfTrailingZeros_76 (by decide) ?_
            refine lv_iushr hx hb dJ10_numberOfTrailingZeros_77 rfl ?_
            rw [pk_ushrN (n := (2 ^ cb - 1) / 2 ^ 8) (by omega) (nI 1) 1 (by decide)]
            refine gn_iadd hx hb dJ10_numberOfTrailingZeros_78 ?_
            exact gr_i C h (ty := .int) rfl (rfl) (⟨congrArg nI ((by decide +kernel : ∀ cb : Fin 32, 0 < cb.val → (2 ^ cb.val - 1) ≤ 65536 → ¬ ((2 ^ cb.val - 1) ≤ 256) → ((2 ^ cb.val - 1) / 2 ^ 8) ≤ 16 → ((2 ^ cb.val - 1) / 2 ^ 8) ≤ 4 → (1 + 8) + (((2 ^ cb.val - 1) / 2 ^ 8) / 2 ^ 1) = cb.val) ⟨cb, hc⟩ hc0 k0 k1 k2 k3), rfl⟩) (Nat.le_of_ble_eq_true rfl) (Nat.le_of_ble_eq_true rfl) dJ10_numberOfTrailingZeros_79
          · skip
            have k3 : ¬ (((2 ^ cb - 1) / 2 ^ 8) ≤ 4) := fun q => k3 ((nI_leI (by omega) (by omega)).mpr q)
            refine lv_iinc (v := nI (1 + 8 + 2)) (lv' := [(1, .int (nI (1 + 8 + 2))), (0, .int (nI ((2 ^ cb - 1) / 2 ^ 8)))]) hx hb dJ10_numberOfTrailingZeros_67 hl (k := 1) rfl (gi_inc _ 2) (by decide) rfl (fun ls hl => ?_)
            refine lv_iload_n hx hb dJ10_numberOfTrailingZeros_70 rfl (lv_at hl 1 rfl) ?_
            refine lv_iconst (v := nI 2) hx hb dJ10_numberOfTrailingZeros_71 (by decide) ?_
            refine lv_iushr hx hb dJ10_numberOfTrailingZeros_72 rfl ?_
            rw [pk_ushrN (n := (2 ^ cb - 1) / 2 ^ 8) (by omega) (nI 2) 2 (by decide)]
            refine lv_istore_n (lv' := [(0, .int (nI (((2 ^ cb - 1) / 2 ^ 8) / 2 ^ 2))), (1, .int (nI (1 + 8 + 2)))]) hx hb dJ10_numberOfTrailingZeros_73 rfl hl (by decide) rfl (fun ls hl => ?_)
            refine lv_iload_n hx hb dJ10_numberOfTrailingZeros_74 rfl (lv_at hl 1 rfl) ?_
            refine lv_iload_n hx hb dJ10_numberOfTrailingZeros_75 rfl (lv_at hl 0 rfl) ?_
            refine lv_iconst (v := nI 1) hx hb dJ10_numberOfTrailingZeros_76 (by decide) ?_
            refine lv_iushr hx hb dJ10_numberOfTrailingZeros_77 rfl ?_
            rw [pk_ushrN (n := ((2 ^ cb - 1) / 2 ^ 8) / 2 ^ 2) (by omega) (nI 1) 1 (by decide)]
            refine gn_iadd hx hb dJ10_numberOfTrailingZeros_78 ?_
            exact gr_i C h (ty := .int) rfl (rfl) (⟨congrArg nI ((by decide +kernel : ∀ cb : Fin 32, 0 < cb.val → (2 ^ cb.val - 1) ≤ 65536 → ¬ ((2 ^ cb.val - 1) ≤ 256) → ((2 ^ cb.val - 1) / 2 ^ 8) ≤ 16 → ¬ (((2 ^ cb.val - 1) / 2 ^ 8) ≤ 4) → (1 + 8 + 2) + ((((2 ^ cb.val - 1) / 2 ^ 8) / 2 ^ 2) / 2 ^ 1) = cb.val) ⟨cb, hc⟩ hc0 k0 k1 k2 k3), rfl⟩) (Nat.le_of_ble_eq_true rfl) (Nat.le_of_ble_eq_true rfl) dJ10_numberOfTrailingZeros_79
        · skip
          have k2 : ¬ (((2 ^ cb - 1) / 2 ^ 8) ≤ 16) := fun q => k2 ((nI_leI (by omega) (by omega)).mpr q)
          refine lv_iinc (v := nI (1 + 8 + 4)) (lv' := [(1, .int (nI (1 + 8 + 4))), (0, .int (nI ((2 ^ cb - 1) / 2 ^ 8)))]) hx hb dJ10_numberOfTrailingZeros_55 hl (k := 1) rfl (gi_inc _ 4) (by decide) rfl (fun ls hl => ?_)
          refine lv_iload_n hx hb dJ10_numberOfTrailingZeros_58 rfl (lv_at hl 1 rfl) ?_
          refine lv_iconst (v := nI 4) hx hb dJ10_numberOfTrailingZeros_59 (by decide) ?_
          refine lv_iushr hx hb dJ10_numberOfTrailingZeros_60 rfl ?_
          rw [pk_ushrN (n := (2 ^ cb - 1) / 2 ^ 8) (by omega) (nI 4) 4 (by decide)]
          refine lv_istore_n (lv' := [(0, .int (nI (((2 ^ cb - 1) / 2 ^ 8) / 2 ^ 4))), (1, .int (nI (1 + 8 + 4)))]) hx hb dJ10_numberOfTrailingZeros_61 rfl hl (by decide) rfl (fun ls hl => ?_)
          refine lv_iload_n hx hb dJ10_numberOfTrailingZeros_62 rfl (lv_at hl 0 rfl) ?_
          refine lv_iconst (v := nI 4) hx hb dJ10_numberOfTrailingZeros_63 (by decide) ?_
          refine lv_icmp_le (tgt := 74) hx hb dJ10_numberOfTrailingZeros_64 (by decide) (fun k3 => ?_) (fun k3 => ?_)
          · skip
            have k3 : (((2 ^ cb - 1) / 2 ^ 8) / 2 ^ 4) ≤ 4 := (nI_leI (by omega) (by omega)).mp k3
            refine lv_iload_n hx hb dJ10_numberOfTrailingZeros_74 rfl (lv_at hl 1 rfl) ?_
            refine lv_iload_n hx hb dJ10_numberOfTrailingZeros_75 rfl (lv_at hl 0 rfl) ?_
            refine lv_iconst (v := nI 1) hx hb dJ10_numberOfTrailingZeros_76 (by decide) ?_
            refine lv_iushr hx hb dJ10_numberOfTrailingZeros_77 rfl ?_
            rw [pk_ushrN (n := ((2 ^ cb - 1) / 2 ^ 8) / 2 ^ 4) (by omega) (nI 1) 1 (by decide)]
            refine gn_iadd hx hb dJ10_numberOfTrailingZeros_78 ?_
            exact gr_i C h (ty := .int) rfl (rfl) (⟨congrArg nI ((by decide +kernel : ∀ cb : Fin 32, 0 < cb.val → (2 ^ cb.val - 1) ≤ 65536 → ¬ ((2 ^ cb.val - 1) ≤ 256) → ¬ (((2 ^ cb.val - 1) / 2 ^ 8) ≤ 16) → (((2 ^ cb.val - 1) / 2 ^ 8) / 2 ^ 4) ≤ 4 → (1 + 8 + 4) + ((((2 ^ cb.val - 1) / 2 ^ 8) / 2 ^ 4) / 2 ^ 1) = cb.val) ⟨cb, hc⟩ hc0 k0 k1 k2 k3), rfl⟩) (Nat.le_of_ble_eq_true rfl) (Nat.le_of_ble_eq_true rfl) dJ10_numberOfTrailingZeros_79
          · skip
            have k3 : ¬ ((((2 ^ cb - 1) / 2 ^ 8) / 2 ^ 4) ≤ 4) := fun q => k3 ((nI_leI (by omega) (by omega)).mpr q)
            refine lv_iinc (v := nI (1 + 8 + 4 + 2)) (lv' := [(1, .int (nI (1 + 8 + 4 + 2))), (0, .int (nI (((2 ^ cb - 1) / 2 ^ 8) / 2 ^ 4)))]) hx hb dJ10_numberOfTrailingZeros_67 hl (k := 1) rfl (gi_inc _ 2) (by decide) rfl (fun ls hl => ?_)
            refine lv_iload_n hx hb dJ10_numberOfTrailingZeros_70 rfl (lv_at hl 1 rfl) ?_
            refine lv_iconst (v := nI 2) hx hb dJ10_numberOfTrailingZeros_71 (by decide) ?_
            refine lv_iushr hx hb dJ10_numberOfTrailingZeros_72 rfl ?_
            rw [pk_ushrN (n := ((2 ^ cb - 1) / 2 ^ 8) / 2 ^ 4) (by omega) (nI 2) 2 (by decide)]
            refine lv_istore_n (lv' := [(0, .int (nI ((((2 ^ cb - 1) / 2 ^ 8) / 2 ^ 4) / 2 ^ 2))), (1, .int (nI (1 + 8 + 4 + 2)))]) hx hb dJ10_numberOfTrailingZeros_73 rfl hl (by decide) rfl (fun ls hl => ?_)
            refine lv_iload_n hx hb dJ10_numberOfTrailingZeros_74 rfl (lv_at hl 1 rfl) ?_
            refine lv_iload_n hx hb dJ10_numberOfTrailingZeros_75 rfl (lv_at hl 0 rfl) ?_
            refine lv_iconst (v := nI 1) hx hb dJ10_numberOfTrailingZeros_76 (by decide) ?_
            refine lv_iushr hx hb dJ10_numberOfTrailingZeros_77 rfl ?_
            rw [pk_ushrN (n := (((2 ^ cb - 1) / 2 ^ 8) / 2 ^ 4) / 2 ^ 2) (by omega) (nI 1) 1 (by decide)]
            refine gn_iadd hx hb dJ10_numberOfTrailingZeros_78 ?_
            exact gr_i C h (ty := .int) rfl (rfl) (⟨congrArg nI ((by decide +kernel : ∀ cb : Fin 32, 0 < cb.val → (2 ^ cb.val - 1) ≤ 65536 → ¬ ((2 ^ cb.val - 1) ≤ 256) → ¬ (((2 ^ cb.val - 1) / 2 ^ 8) ≤ 16) → ¬ ((((2 ^ cb.val - 1) / 2 ^ 8) / 2 ^ 4) ≤ 4) → (1 + 8 + 4 + 2) + (((((2 ^ cb.val - 1) / 2 ^ 8) / 2 ^ 4) / 2 ^ 2) / 2 ^ 1) = cb.val) ⟨cb, hc⟩ hc0 k0 k1 k2 k3), rfl⟩) (Nat.le_of_ble_eq_true rfl) (Nat.le_of_ble_eq_true rfl) dJ10_numberOfTrailingZeros_79
    · skip
      have k0 : ¬ ((2 ^ cb - 1) ≤ 65536) := fun q => k0 ((nI_leI (by omega) (by omega)).mpr q)
      refine lv_iinc (v := nI (1 + 16)) (lv' := [(1, .int (nI (1 + 16))), (0, .int (nI (2 ^ cb - 1)))]) hx hb dJ10_numberOfTrailingZeros_26 hl (k := 0) rfl (gi_inc _ 16) (by decide) rfl (fun ls hl => ?_)
      refine lv_iload_n hx hb dJ10_numberOfTrailingZeros_29 rfl (lv_at hl 1 rfl) ?_
      refine lv_bipush (v := nI 16) hx hb dJ10_numberOfTrailingZeros_30 (by decide) ?_
      refine lv_iushr hx hb dJ10_numberOfTrailingZeros_32 rfl ?_
      rw [pk_ushrN (n := 2 ^ cb - 1) (by omega) (nI 16) 16 (by decide)]
      refine lv_istore_n (lv' := [(0, .int (nI ((2 ^ cb - 1) / 2 ^ 16))), (1, .int (nI (1 + 16)))]) hx hb dJ10_numberOfTrailingZeros_33 rfl hl (by decide) rfl (fun ls hl => ?_)
      refine lv_iload_n hx hb dJ10_numberOfTrailingZeros_34 rfl (lv_at hl 0 rfl) ?_
      refine lv_sipush (v := nI 256) hx hb dJ10_numberOfTrailingZeros_35 (by decide) ?_
      refine lv_icmp_le (tgt := 49) hx hb dJ10_numberOfTrailingZeros_38 (by decide) (fun k1 => ?_) (fun k1 => ?_)
      · skip
        have k1 : ((2 ^ cb - 1) / 2 ^ 16) ≤ 256 := (nI_leI (by omega) (by omega)).mp k1
        refine lv_iload_n hx hb dJ10_numberOfTrailingZeros_49 rfl (lv_at hl 0 rfl) ?_
        refine lv_bipush (v := nI 16) hx hb dJ10_numberOfTrailingZeros_50 (by decide) ?_
        refine lv_icmp_le (tgt := 62) hx hb dJ10_numberOfTrailingZeros_52 (by decide) (fun k2 => ?_) (fun k2 => ?_)
        · skip
          have k2 : ((2 ^ cb - 1) / 2 ^ 16) ≤ 16 := (nI_leI (by omega) (by omega)).mp k2
          refine lv_iload_n hx hb dJ10_numberOfTrailingZeros_62 rfl (lv_at hl 0 rfl) ?_
          refine lv_iconst (v := nI 4) hx hb dJ10_numberOfTrailingZeros_63 (by decide) ?_
          refine lv_icmp_le (tgt := 74) hx hb dJ10_numberOfTrailingZeros_64 (by decide) (fun k3 => ?_) (fun k3 => ?_)
          · skip
            have k3 : ((2 ^ cb - 1) / 2 ^ 16) ≤ 4 := (nI_leI (by omega) (by omega)).mp k3
            refine lv_iload_n hx hb dJ10_numberOfTrailingZeros_74 rfl (lv_at hl 1 rfl) ?_
            refine lv_iload_n hx hb dJ10_numberOfTrailingZeros_75 rfl (lv_at hl 0 rfl) ?_
            refine lv_iconst (v := nI 1) hx hb dJ10_numberOfTrailingZeros_76 (by decide) ?_
            refine lv_iushr hx hb dJ10_numberOfTrailingZeros_77 rfl ?_
            rw [pk_ushrN (n := (2 ^ cb - 1) / 2 ^ 16) (by omega) (nI 1) 1 (by decide)]
            refine gn_iadd hx hb dJ10_numberOfTrailingZeros_78 ?_
            exact gr_i C h (ty := .int) rfl (rfl) (⟨congrArg nI ((by decide +kernel : ∀ cb : Fin 32, 0 < cb.val → ¬ ((2 ^ cb.val - 1) ≤ 65536) → ((2 ^ cb.val - 1) / 2 ^ 16) ≤ 256 → ((2 ^ cb.val - 1) / 2 ^ 16) ≤ 16 → ((2 ^ cb.val - 1) / 2 ^ 16) ≤ 4 → (1 + 16) + (((2 ^ cb.val - 1) / 2 ^ 16) / 2 ^ 1) = cb.val) ⟨cb, hc⟩ hc0 k0 k1 k2 k3), rfl⟩) (Nat.le_of_ble_eq_true rfl) (Nat.le_of_ble_eq_true rfl) dJ10_numberOfTrailingZeros_79
          · skip
            have k3 : ¬ (((2 ^ cb - 1) / 2 ^ 16) ≤ 4) := fun q => k3 ((nI_leI (by omega) (by omega)).mpr q)
            refine lv_iinc (v := nI (1 + 16 + 2)) (lv' := [(1, .int (nI (1 + 16 + 2))), (0, .int (nI ((2 ^ cb - 1) / 2 ^ 16)))]) hx hb dJ10_numberOfTrailingZeros_67 hl (k := 1) rfl (gi_inc _ 2) (by decide) rfl (fun ls hl => ?_)
            refine lv_iload_n hx hb dJ10_numberOfTrailingZeros_70 rfl (lv_at hl 1 rfl) ?_
            refine lv_iconst (v := nI 2) hx hb dJ10_numberOfTrailingZeros_71 (by decide) ?_
            refine lv_iushr hx hb dJ10_numberOfTrailingZeros_72 rfl ?_
            rw [pk_ushrN (n := (2 ^ cb - 1) / 2 ^ 16) (by omega) (nI 2) 2 (by decide)]
            refine lv_istore_n (lv' := [(0, .int (nI (((2 ^ cb - 1) / 2 ^ 16) / 2 ^ 2))), (1, .int (nI (1 + 16 + 2)))]) hx hb dJ10_numberOfTrailingZeros_73 rfl hl (by decide) rfl (fun ls hl => ?_)
            refine lv_iload_n hx hb dJ10_numberOfTrailingZeros_74 rfl (lv_at hl 1 rfl) ?_
            refine lv_iload_n hx hb dJ10_numberOfTrailingZeros_75 rfl (lv_at hl 0 rfl) ?_
            refine lv_iconst (v := nI 1) hx hb dJ10_numberOfTrailingZeros_76 (by decide) ?_
            refine lv_iushr hx hb dJ10_numberOfTrailingZeros_77 rfl ?_
            rw [pk_ushrN (n := ((2 ^ cb - 1) / 2 ^ 16) / 2 ^ 2) (by omega) (nI 1) 1 (by decide)]
            refine gn_iadd hx hb dJ10_numberOfTrailingZeros_78 ?_
            exact gr_i C h (ty := .int) rfl (rfl) (⟨congrArg nI ((by decide +kernel : ∀ cb : Fin 32, 0 < cb.val → ¬ ((2 ^ cb.val - 1) ≤ 65536) → ((2 ^ cb.val - 1) / 2 ^ 16) ≤ 256 → ((2 ^ cb.val - 1) / 2 ^ 16) ≤ 16 → ¬ (((2 ^ cb.val - 1) / 2 ^ 16) ≤ 4) → (1 + 16 + 2) + ((((2 ^ cb.val - 1) / 2 ^ 16) / 2 ^ 2) / 2 ^ 1) = cb.val) ⟨cb, hc⟩ hc0 k0 k1 k2 k3), rfl⟩) (Nat.le_of_ble_eq_true rfl) (Nat.le_of_ble_eq_true rfl) dJ10_numberOfTrailingZeros_79
        · skip
          have k2 : ¬ (((2 ^ cb - 1) / 2 ^ 16) ≤ 16) := fun q => k2 ((nI_leI (by omega) (by omega)).mpr q)
          refine lv_iinc (v := nI (1 + 16 + 4)) (lv' := [(1, .int (nI (1 + 16 + 4))), (0, .int (nI ((2 ^ cb - 1) / 2 ^ 16)))]) hx hb dJ10_numberOfTrailingZeros_55 hl (k := 1) rfl (gi_inc _ 4) (by decide) rfl (fun ls hl => ?_)
          refine lv_iload_n hx hb dJ10_numberOfTrailingZeros_58 rfl (lv_at hl 1 rfl) ?_
          refine lv_iconst (v := nI 4) hx hb dJ10_numberOfTrailingZeros_59 (by decide) ?_
          refine lv_iushr hx hb dJ10_numberOfTrailingZeros_60 rfl ?_
          rw [pk_ushrN (n := (2 ^ cb - 1) / 2 ^ 16) (by omega) (nI 4) 4 (by decide)]
          refine lv_istore_n (lv' := [(0, .int (nI (((2 ^ cb - 1) / 2 ^ 16) / 2 ^ 4))), (1, .int (nI (1 + 16 + 4)))]) hx hb dJ10_numberOfTrailingZeros_61 rfl hl (by decide) rfl (fun ls hl => ?_)
          refine lv_iload_n hx hb dJ10_numberOfTrailingZeros_62 rfl (lv_at hl 0 rfl) ?_
          refine lv_iconst (v := nI 4) hx hb dJ10_numberOfTrailingZeros_63 (by decide) ?_
          refine lv_icmp_le (tgt := 74) hx hb dJ10_numberOfTrailingZeros_64 (by decide) (fun k3 => ?_) (fun k3 => ?_)
          · skip
            have k3 : (((2 ^ cb - 1) / 2 ^ 16) / 2 ^ 4) ≤ 4 := (nI_leI (by omega) (by omega)).mp k3
            refine lv_iload_n hx hb dJ10_numberOfTrailingZeros_74 rfl (lv_at hl 1 rfl) ?_
            refine lv_iload_n hx hb dJ10_numberOfTrailingZeros_75 rfl (lv_at hl 0 rfl) ?_
            refine lv_iconst (v := nI 1) hx hb dJ10_numberOfTrailingZeros_76 (by decide) ?_
            refine lv_iushr hx hb dJ10_numberOfTrailingZeros_77 rfl ?_
            rw [pk_ushrN (n := ((2 ^ cb - 1) / 2 ^ 16) / 2 ^ 4) (by omega) (nI 1) 1 (by decide)]
            refine gn_iadd hx hb dJ10_numberOfTrailingZeros_78 ?_
            exact gr_i C h (ty := .int) rfl (rfl) (⟨congrArg nI ((by decide +kernel : ∀ cb : Fin 32, 0 < cb.val → ¬ ((2 ^ cb.val - 1) ≤ 65536) → ((2 ^ cb.val - 1) / 2 ^ 16) ≤ 256 → ¬ (((2 ^ cb.val - 1) / 2 ^ 16) ≤ 16) → (((2 ^ cb.val - 1) / 2 ^ 16) / 2 ^ 4) ≤ 4 → (1 + 16 + 4) + ((((2 ^ cb.val - 1) / 2 ^ 16) / 2 ^ 4) / 2 ^ 1) = cb.val) ⟨cb, hc⟩ hc0 k0 k1 k2 k3), rfl⟩) (Nat.le_of_ble_eq_true rfl) (Nat.le_of_ble_eq_true rfl) dJ10_numberOfTrailingZeros_79
          · skip
            have k3 : ¬ ((((2 ^ cb - 1) / 2 ^ 16) / 2 ^ 4) ≤ 4) := fun q => k3 ((nI_leI (by omega) (by omega)).mpr q)
            refine lv_iinc (v := nI (1 + 16 + 4 + 2)) (lv' := [(1, .int (nI (1 + 16 + 4 + 2))), (0, .int (nI (((2 ^ cb - 1) / 2 ^ 16) / 2 ^ 4)))]) hx hb dJ10_numberOfTrailingZeros_67 hl (k := 1) rfl (gi_inc _ 2) (by decide) rfl (fun ls hl => ?_)
            refine lv_iload_n hx hb dJ10_numberOfTrailingZeros_70 rfl (lv_at hl 1 rfl) ?_
            refine lv_iconst (v := nI 2) hx hb dJ10_numberOfTrailingZeros_71 (by decide) ?_
            refine lv_iushr hx hb dJ10_numberOfTrailingZeros_72 rfl ?_
            rw [pk_ushrN (n := ((2 ^ cb - 1) / 2 ^ 16) / 2 ^ 4) (by omega) (nI 2) 2 (by decide)]
            refine lv_istore_n (lv' := [(0, .int (nI ((((2 ^ cb - 1) / 2 ^ 16) / 2 ^ 4) / 2 ^ 2))), (1, .int (nI (1 + 16 + 4 + 2)))]) hx hb dJ10_numberOfTrailingZeros_73 rfl hl (by decide) rfl (fun ls hl => ?_)
            refine lv_iload_n hx hb dJ10_numberOfTrailingZeros_74 rfl (lv_at hl 1 rfl) ?_
            refine lv_iload_n hx hb dJ10_numberOfTrailingZeros_75 rfl (lv_at hl 0 rfl) ?_
            refine lv_iconst (v := nI 1) hx hb dJ10_numberOfTrailingZeros_76 (by decide) ?_
            refine lv_iushr hx hb dJ10_numberOfTrailingZeros_77 rfl ?_
            rw [pk_ushrN (n := (((2 ^ cb - 1) / 2 ^ 16) / 2 ^ 4) / 2 ^ 2) (by omega) (nI 1) 1 (by decide)]
            refine gn_iadd hx hb dJ10_numberOfTrailingZeros_78 ?_
            exact gr_i C h (ty := .int) rfl (rfl) (⟨congrArg nI ((by decide +kernel : ∀ cb : Fin 32, 0 < cb.val → ¬ ((2 ^ cb.val - 1) ≤ 65536) → ((2 ^ cb.val - 1) / 2 ^ 16) ≤ 256 → ¬ (((2 ^ cb.val - 1) / 2 ^ 16) ≤ 16) → ¬ ((((2 ^ cb.val - 1) / 2 ^ 16) / 2 ^ 4) ≤ 4) → (1 + 16 + 4 + 2) + (((((2 ^ cb.val - 1) / 2 ^ 16) / 2 ^ 4) / 2 ^ 2) / 2 ^ 1) = cb.val) ⟨cb, hc⟩ hc0 k0 k1 k2 k3), rfl⟩) (Nat.le_of_ble_eq_true rfl) (Nat.le_of_ble_eq_true rfl) dJ10_numberOfTrailingZeros_79
      · skip
        have k1 : ¬ (((2 ^ cb - 1) / 2 ^ 16) ≤ 256) := fun q => k1 ((nI_leI (by omega) (by omega)).mpr q)
        refine lv_iinc (v := nI (1 + 16 + 8)) (lv' := [(1, .int (nI (1 + 16 + 8))), (0, .int (nI ((2 ^ cb - 1) / 2 ^ 16)))]) hx hb dJ10_numberOfTrailingZeros_41 hl (k := 1) rfl (gi_inc _ 8) (by decide) rfl (fun ls hl => ?_)
        refine lv_iload_n hx hb dJ10_numberOfTrailingZeros_44 rfl (lv_at hl 1 rfl) ?_
        refine lv_bipush (v := nI 8) hx hb dJ10_numberOfTrailingZeros_45 (by decide) ?_
        refine lv_iushr hx hb dJ10_numberOfTrailingZeros_47 rfl ?_
        rw [pk_ushrN (n := (2 ^ cb - 1) / 2 ^ 16) (by omega) (nI 8) 8 (by decide)]
        refine lv_istore_n (lv' := [(0, .int (nI (((2 ^ cb - 1) / 2 ^ 16) / 2 ^ 8))), (1, .int (nI (1 + 16 + 8)))]) hx hb dJ10_numberOfTrailingZeros_48 rfl hl (by decide) rfl (fun ls hl => ?_)
        refine lv_iload_n hx hb dJ10_numberOfTrailingZeros_49 rfl (lv_at hl 0 rfl) ?_
        refine lv_bipush (v := nI 16) hx hb dJ10_numberOfTrailingZeros_50 (by decide) ?_
        refine lv_icmp_le (tgt := 62) hx hb dJ10_numberOfTrailingZeros_52 (by decide) (fun k2 => ?_) (fun k2 => ?_)
        · skip
          have k2 : (((2 ^ cb - 1) / 2 ^ 16) / 2 ^ 8) ≤ 16 := (nI_leI (by omega) (by omega)).mp k2
          refine lv_iload_n hx hb dJ10_numberOfTrailingZeros_62 rfl (lv_at hl 0 rfl) ?_
          refine lv_iconst (v := nI 4) hx hb dJ10_numberOfTrailingZeros_63 (by decide) ?_
          refine lv_icmp_le (tgt := 74) hx hb dJ10_numberOfTrailingZeros_64 (by decide) (fun k3 => ?_) (fun k3 => ?_)
          · skip
            have k3 : (((2 ^ cb - 1) / 2 ^ 16) / 2 ^ 8) ≤ 4 := (nI_leI (by omega) (by omega)).mp k3
            refine lv_iload_n hx hb dJ10_numberOfTrailingZeros_74 rfl (lv_at hl 1 rfl) ?_
            refine lv_iload_n hx hb dJ10_numberOfTrailingZeros_75 rfl (lv_at hl 0 rfl) ?_
            refine lv_iconst (v := nI 1) hx hb dJ10_numberOfTrailingZeros_76 (by decide) ?_
            refine lv_iushr hx hb dJ10_numberOfTrailingZeros_77 rfl ?_
            rw [pk_ushrN (n := ((2 ^ cb - 1) / 2 ^ 16) / 2 ^ 8) (by omega) (nI 1) 1 (by decide)]
            refine gn_iadd hx hb dJ10_numberOfTrailingZeros_78 ?_
            exact gr_i C h (ty := .int) rfl (rfl) (⟨congrArg nI ((by decide +kernel : ∀ cb : Fin 32, 0 < cb.val → ¬ ((2 ^ cb.val - 1) ≤ 65536) → ¬ (((2 ^ cb.val - 1) / 2 ^ 16) ≤ 256) → (((2 ^ cb.val - 1) / 2 ^ 16) / 2 ^ 8) ≤ 16 → (((2 ^ cb.val - 1) / 2 ^ 16) / 2 ^ 8) ≤ 4 → (1 + 16 + 8) + ((((2 ^ cb.val - 1) / 2 ^ 16) / 2 ^ 8) / 2 ^ 1) = cb.val) ⟨cb, hc⟩ hc0 k0 k1 k2 k3), rfl⟩) (Nat.le_of_ble_eq_true rfl) (Nat.le_of_ble_eq_true rfl) dJ10_numberOfTrailingZeros_79
          · skip
            have k3 : ¬ ((((2 ^ cb - 1) / 2 ^ 16) / 2 ^ 8) ≤ 4) := fun q => k3 ((nI_leI (by omega) (by omega)).mpr q)
            refine lv_iinc (v := nI (1 + 16 + 8 + 2)) (lv' := [(1, .int (nI (1 + 16 + 8 + 2))), (0, .int (nI (((2 ^ cb - 1) / 2 ^ 16) / 2 ^ 8)))]) hx hb dJ10_numberOfTrailingZeros_67 hl (k := 1) rfl (gi_inc _ 2) (by decide) rfl (fun ls hl => ?_)
            refine lv_iload_n hx hb dJ10_numberOfTrailingZeros_70 rfl (lv_at hl 1 rfl) ?_
            refine lv_iconst (v := nI 2) hx hb dJ10_numberOfTrailingZeros_71 (by decide) ?_
            refine lv_iushr hx hb dJ10_numberOfTrailingZeros_72 rfl ?_
            rw [pk_ushrN (n := ((2 ^ cb - 1) / 2 ^ 16) / 2 ^ 8) (by omega) (nI 2) 2 (by decide)]
            refine lv_istore_n (lv' := [(0, .int (nI ((((2 ^ cb - 1) / 2 ^ 16) / 2 ^ 8) / 2 ^ 2))), (1, .int (nI (1 + 16 + 8 + 2)))]) hx hb dJ10_numberOfTrailingZeros_73 rfl hl (by decide) rfl (fun ls hl => ?_)
            refine lv_iload_n hx hb dJ10_numberOfTrailingZeros_74 rfl (lv_at hl 1 rfl) ?_
            refine lv_iload_n hx hb dJ10_numberOfTrailingZeros_75 rfl (lv_at hl 0 rfl) ?_
            refine lv_iconst (v := nI 1) hx hb dJ10_numberOfTrailingZeros_76 (by decide) ?_
            refine lv_iushr hx hb dJ10_numberOfTrailingZeros_77 rfl ?_
            rw [pk_ushrN (n := (((2 ^ cb - 1) / 2 ^ 16) / 2 ^ 8) / 2 ^ 2) (by omega) (nI 1) 1 (by decide)]
            refine gn_iadd hx hb dJ10_numberOfTrailingZeros_78 ?_
            exact gr_i C h (ty := .int) rfl (rfl) (⟨congrArg nI ((by decide +kernel : ∀ cb : Fin 32, 0 < cb.val → ¬ ((2 ^ cb.val - 1) ≤ 65536) → ¬ (((2 ^ cb.val - 1) / 2 ^ 16) ≤ 256) → (((2 ^ cb.val - 1) / 2 ^ 16) / 2 ^ 8) ≤ 16 → ¬ ((((2 ^ cb.val - 1) / 2 ^ 16) / 2 ^ 8) ≤ 4) → (1 + 16 + 8 + 2) + (((((2 ^ cb.val - 1) / 2 ^ 16) / 2 ^ 8) / 2 ^ 2) / 2 ^ 1) = cb.val) ⟨cb, hc⟩ hc0 k0 k1 k2 k3), rfl⟩) (Nat.le_of_ble_eq_true rfl) (Nat.le_of_ble_eq_true rfl) dJ10_numberOfTrailingZeros_79
        · skip
          have k2 : ¬ ((((2 ^ cb - 1) / 2 ^ 16) / 2 ^ 8) ≤ 16) := fun q => k2 ((nI_leI (by omega) (by omega)).mpr q)
          refine lv_iinc (v := nI (1 + 16 + 8 + 4)) (lv' := [(1, .int (nI (1 + 16 + 8 + 4))), (0, .int (nI (((2 ^ cb - 1) / 2 ^ 16) / 2 ^ 8)))]) hx hb dJ10_numberOfTrailingZeros_55 hl (k := 1) rfl (gi_inc _ 4) (by decide) rfl (fun ls hl => ?_)
          refine lv_iload_n hx hb dJ10_numberOfTrailingZeros_58 rfl (lv_at hl 1 rfl) ?_
          refine lv_iconst (v := nI 4) hx hb dJ10_numberOfTrailingZeros_59 (by decide) ?_
          refine lv_iushr hx hb dJ10_numberOfTrailingZeros_60 rfl ?_
          rw [pk_ushrN (n := ((2 ^ cb - 1) / 2 ^ 16) / 2 ^ 8) (by omega) (nI 4) 4 (by decide)]
          refine lv_istore_n (lv' := [(0, .int (nI ((((2 ^ cb - 1) / 2 ^ 16) / 2 ^ 8) / 2 ^ 4))), (1, .int (nI (1 + 16 + 8 + 4)))]) hx hb dJ10_numberOfTrailingZeros_61 rfl hl (by decide) rfl (fun ls hl => ?_)
          refine lv_iload_n hx hb dJ10_numberOfTrailingZeros_62 rfl (lv_at hl 0 rfl) ?_
          refine lv_iconst (v := nI 4) hx hb dJ10_numberOfTrailingZeros_63 (by decide) ?_
          refine lv_icmp_le (tgt := 74) hx hb dJ10_numberOfTrailingZeros_64 (by decide) (fun k3 => ?_) (fun k3 => ?_)
          · skip
            have k3 : ((((2 ^ cb - 1) / 2 ^ 16) / 2 ^ 8) / 2 ^ 4) ≤ 4 := (nI_leI (by omega) (by omega)).mp k3
            refine lv_iload_n hx hb dJ10_numberOfTrailingZeros_74 rfl (lv_at hl 1 rfl) ?_
            refine lv_iload_n hx hb dJ10_numberOfTrailingZeros_75 rfl (lv_at hl 0 rfl) ?_
            refine lv_iconst (v := nI 1) hx hb dJ10_numberOfTrailingZeros_76 (by decide) ?_
            refine lv_iushr hx hb dJ10_numberOfTrailingZeros_77 rfl ?_
            rw [pk_ushrN (n := (((2 ^ cb - 1) / 2 ^ 16) / 2 ^ 8) / 2 ^ 4) (by omega) (nI 1) 1 (by decide)]
            refine gn_iadd hx hb dJ10_numberOfTrailingZeros_78 ?_
            exact gr_i C h (ty := .int) rfl (rfl) (⟨congrArg nI ((by decide +kernel : ∀ cb : Fin 32, 0 < cb.val → ¬ ((2 ^ cb.val - 1) ≤ 65536) → ¬ (((2 ^ cb.val - 1) / 2 ^ 16) ≤ 256) → ¬ ((((2 ^ cb.val - 1) / 2 ^ 16) / 2 ^ 8) ≤ 16) → ((((2 ^ cb.val - 1) / 2 ^ 16) / 2 ^ 8) / 2 ^ 4) ≤ 4 → (1 + 16 + 8 + 4) + (((((2 ^ cb.val - 1) / 2 ^ 16) / 2 ^ 8) / 2 ^ 4) / 2 ^ 1) = cb.val) ⟨cb, hc⟩ hc0 k0 k1 k2 k3), rfl⟩) (Nat.le_of_ble_eq_true rfl) (Nat.le_of_ble_eq_true rfl) dJ10_numberOfTrailingZeros_79
          · skip
            have k3 : ¬ (((((2 ^ cb - 1) / 2 ^ 16) / 2 ^ 8) / 2 ^ 4) ≤ 4) := fun q => k3 ((nI_leI (by omega) (by omega)).mpr q)
            refine lv_iinc (v := nI (1 + 16 + 8 + 4 + 2)) (lv' := [(1, .int (nI (1 + 16 + 8 + 4 + 2))), (0, .int (nI ((((2 ^ cb - 1) / 2 ^ 16) / 2 ^ 8) / 2 ^ 4)))]) hx hb dJ10_numberOfTrailingZeros_67 hl (k := 1) rfl (gi_inc _ 2) (by decide) rfl (fun ls hl => ?_)
            refine lv_iload_n hx hb dJ10_numberOfTrailingZeros_70 rfl (lv_at hl 1 rfl) ?_
            refine lv_iconst (v := nI 2) hx hb dJ10_numberOfTrailingZeros_71 (by decide) ?_
            refine lv_iushr hx hb dJ10_numberOfTrailingZeros_72 rfl ?_
            rw [pk_ushrN (n := (((2 ^ cb - 1) / 2 ^ 16) / 2 ^ 8) / 2 ^ 4) (by omega) (nI 2) 2 (by decide)]
            refine lv_istore_n (lv' := [(0, .int (nI (((((2 ^ cb - 1) / 2 ^ 16) / 2 ^ 8) / 2 ^ 4) / 2 ^ 2))), (1, .int (nI (1 + 16 + 8 + 4 + 2)))]) hx hb dJ10_numberOfTrailingZeros_73 rfl hl (by decide) rfl (fun ls hl => ?_)
            refine lv_iload_n hx hb dJ10_numberOfTrailingZeros_74 rfl (lv_at hl 1 rfl) ?_
            refine lv_iload_n hx hb dJ10_numberOfTrailingZeros_75 rfl (lv_at hl 0 rfl) ?_
            refine lv_iconst (v := nI 1) hx hb dJ10_numberOfTrailingZeros_76 (by decide) ?_
            refine lv_iushr hx hb dJ10_numberOfTrailingZeros_77 rfl ?_
            rw [pk_ushrN (n := ((((2 ^ cb - 1) / 2 ^ 16) / 2 ^ 8) / 2 ^ 4) / 2 ^ 2) (by omega) (nI 1) 1 (by decide)]
            refine gn_iadd hx hb dJ10_numberOfTrailingZeros_78 ?_
            exact gr_i C h (ty := .int) rfl (rfl) (⟨congrArg nI ((by decide +kernel : ∀ cb : Fin 32, 0 < cb.val → ¬ ((2 ^ cb.val - 1) ≤ 65536) → ¬ (((2 ^ cb.val - 1) / 2 ^ 16) ≤ 256) → ¬ ((((2 ^ cb.val - 1) / 2 ^ 16) / 2 ^ 8) ≤ 16) → ¬ (((((2 ^ cb.val - 1) / 2 ^ 16) / 2 ^ 8) / 2 ^ 4) ≤ 4) → (1 + 16 + 8 + 4 + 2) + ((((((2 ^ cb.val - 1) / 2 ^ 16) / 2 ^ 8) / 2 ^ 4) / 2 ^ 2) / 2 ^ 1) = cb.val) ⟨cb, hc⟩ hc0 k0 k1 k2 k3), rfl⟩) (Nat.le_of_ble_eq_true rfl) (Nat.le_of_ble_eq_true rfl) dJ10_numberOfTrailingZeros_79
  · skip
    have hc0 : cb = 0 := Nat.eq_zero_of_not_pos (fun q => c1 (nI_lt (a := 0) (b := 2 ^ cb - 1) (by have := Nat.pow_le_pow_right (n := 2) (by omega) q; omega) (by omega)))
    refine lv_iload_n hx hb dJ10_numberOfTrailingZeros_12 rfl (lv_at hl 0 rfl) ?_
    refine lv_bipush (v := nI 32) hx hb dJ10_numberOfTrailingZeros_13 (by decide) ?_
    refine lv_iand hx hb dJ10_numberOfTrailingZeros_15 ?_
    exact gr_i C h (ty := .int) rfl (rfl) (⟨by rw [hc0]; decide, rfl⟩) (Nat.le_of_ble_eq_true rfl) (Nat.le_of_ble_eq_true rfl) dJ10_numberOfTrailingZeros_16
set_option maxHeartbeats 4000000 in
theorem m_J8_numberOfTrailingZeros (l : Launch) (g : GG) (w v : GW) (x : Int64) (cb : Nat) (hc : cb < 64) (h1 : bitL x cb = true) (h2 : ∀ j, j < cb → bitL x j = false) : Met l yJ8_numberOfTrailingZeros (ws_ yJ8_numberOfTrailingZeros cJ8_numberOfTrailingZeros 3 (some .int)) ({ frames := 2, cells := 0, slots := 0, locals := 120 } : Room) (gP g [.long x] w v) (va_Qi (fun (r : Int32) (w' : GW) => r = nI cb ∧ w' = w) (gB g v) (gA g)) 0 0 (gA g) := by
  refine gm_of (by decide) (Nat.le_of_ble_eq_true rfl) ?_
  intro p e s m below meth c ls C hnm h hl
  have C : Cx g p s m ([.long x] : List Value).toArray meth c cJ8_numberOfTrailingZeros 3 RJ8 (some .int) := C
  obtain ⟨hx, hb, hml, hown, hts, hr, hlk, hG⟩ := id C
  have hl : lv_has ls 3 [(0, .long x)] := hl
  refine lv_lload_n hx hb dJ8_numberOfTrailingZeros_0 rfl (lv_at hl 0 rfl) ?_
  refine lv_l2i hx hb dJ8_numberOfTrailingZeros_1 rfl ?_
  refine lv_istore_n (lv' := [(2, .int x.toInt32), (0, .long x)]) hx hb dJ8_numberOfTrailingZeros_2 rfl hl (by decide) rfl (fun ls hl => ?_)
  refine lv_iload_n hx hb dJ8_numberOfTrailingZeros_3 rfl (lv_at hl 0 rfl) ?_
  refine lv_if_ne (tgt := 21) hx hb dJ8_numberOfTrailingZeros_4 (by decide) (fun c1 => ?_) (fun c1 => ?_)
  · skip
    have hc32 : cb < 32 := lo_lt hc h2 c1
    refine lv_iload_n hx hb dJ8_numberOfTrailingZeros_21 rfl (lv_at hl 0 rfl) ?_
    refine gc_i (va_runS (As := [.int x.toInt32]) (rest := []) C.fix (m_J10_numberOfTrailingZeros l g w v x.toInt32 cb hc32 (by rw [lo_bit x hc32]; exact h1) (fun j hj => by rw [lo_bit x (by omega)]; exact h2 j hj)) (va_cwS 1 hts (lw_S q542 q543 q59 q544) rfl rfl rfl (by decide +kernel) ⟨Nat.le_of_ble_eq_true rfl, Nat.le_of_ble_eq_true rfl⟩) (gp_S C h _) rfl rfl hl.1 rfl (lv_room (Nat.le_of_ble_eq_true rfl)) dJ8_numberOfTrailingZeros_22 ⟨Nat.le_of_ble_eq_true rfl, Nat.le_of_ble_eq_true rfl⟩) h (fun r_1 w_2 H locs hp h => ?_)
    obtain ⟨er_r_1, ew_r_1⟩ := hp
    rw [er_r_1]
    rw [ew_r_1] at h
    exact gr_i C h (ty := .int) rfl (rfl) (⟨rfl, rfl⟩) (Nat.le_of_ble_eq_true rfl) (Nat.le_of_ble_eq_true rfl) dJ8_numberOfTrailingZeros_25
  · skip
    have hc32 : 32 ≤ cb := lo_ge h1 c1
    refine lv_bipush (v := nI 32) hx hb dJ8_numberOfTrailingZeros_7 (by decide) ?_
    refine lv_lload_n hx hb dJ8_numberOfTrailingZeros_9 rfl (lv_at hl 1 rfl) ?_
    refine lv_bipush (v := nI 32) hx hb dJ8_numberOfTrailingZeros_10 (by decide) ?_
    refine lv_lushr hx hb dJ8_numberOfTrailingZeros_12 rfl ?_
    refine lv_l2i hx hb dJ8_numberOfTrailingZeros_13 rfl ?_
    refine gc_i (va_runS (As := [.int (((x.toUInt64 >>> ((nI 32).toInt64.toUInt64 &&& Int64.toUInt64 63)).toInt64).toInt32)]) (rest := [.int (nI 32)]) C.fix (m_J10_numberOfTrailingZeros l g w v (x.toUInt64 >>> ((nI 32).toInt64.toUInt64 &&& Int64.toUInt64 63)).toInt64.toInt32 (cb - 32) (by omega) (by rw [hi_bit x (by omega), show 32 + (cb - 32) = cb by omega]; exact h1) (fun j hj => by rw [hi_bit x (by omega)]; exact h2 (32 + j) (by omega))) (va_cwS 1 hts (lw_S q542 q543 q59 q544) rfl rfl rfl (by decide +kernel) ⟨Nat.le_of_ble_eq_true rfl, Nat.le_of_ble_eq_true rfl⟩) (gp_S C h _) rfl rfl hl.1 rfl (lv_room (Nat.le_of_ble_eq_true rfl)) dJ8_numberOfTrailingZeros_14 ⟨Nat.le_of_ble_eq_true rfl, Nat.le_of_ble_eq_true rfl⟩) h (fun r_3 w_4 H locs hp h => ?_)
    obtain ⟨er_r_3, ew_r_3⟩ := hp
    rw [er_r_3]
    rw [ew_r_3] at h
    refine gn_iadd hx hb dJ8_numberOfTrailingZeros_17 ?_
    refine lv_goto (tgt := 25) hx hb dJ8_numberOfTrailingZeros_18 (by decide) ?_
    exact gr_i C h (ty := .int) rfl (rfl) (⟨congrArg nI (by omega), rfl⟩) (Nat.le_of_ble_eq_true rfl) (Nat.le_of_ble_eq_true rfl) dJ8_numberOfTrailingZeros_25
set_option maxHeartbeats 4000000 in
theorem m_J8_rotateLeft (l : Launch) (g : GG) (w v : GW) (x : Int64) (y : Int32)  : Met l yJ8_rotateLeft (ws_ yJ8_rotateLeft cJ8_rotateLeft 3 (some .long)) ({ frames := 1, cells := 0, slots := 0, locals := 60 } : Room) (gP g [.long x, .int y] w v) (va_Ql (fun (r : Int64) (w' : GW) => r = (x <<< (y.toInt64 &&& 63)) ||| (x.toUInt64 >>> ((-y).toInt64.toUInt64 &&& Int64.toUInt64 63)).toInt64 ∧ w' = w) (gB g v) (gA g)) 0 0 (gA g) := by
  refine gm_of (by decide) (Nat.le_of_ble_eq_true rfl) ?_
  intro p e s m below meth c ls C hnm h hl
  have C : Cx g p s m ([.long x, .int y] : List Value).toArray meth c cJ8_rotateLeft 3 RJ8 (some .long) := C
  obtain ⟨hx, hb, hml, hown, hts, hr, hlk, hG⟩ := id C
  have hl : lv_has ls 3 [(0, .long x), (2, .int y)] := hl
  refine lv_lload_n hx hb dJ8_rotateLeft_0 rfl (lv_at hl 0 rfl) ?_
  refine lv_iload_n hx hb dJ8_rotateLeft_1 rfl (lv_at hl 1 rfl) ?_
  refine lv_lshl hx hb dJ8_rotateLeft_2 rfl ?_
  refine lv_lload_n hx hb dJ8_rotateLeft_3 rfl (lv_at hl 0 rfl) ?_
  refine lv_iload_n hx hb dJ8_rotateLeft_4 rfl (lv_at hl 1 rfl) ?_
  refine lv_ineg hx hb dJ8_rotateLeft_5 ?_
  refine lv_lushr hx hb dJ8_rotateLeft_6 rfl ?_
  refine lv_lor hx hb dJ8_rotateLeft_7 ?_
  exact gr_l C h (⟨rfl, rfl⟩) (Nat.le_of_ble_eq_true rfl) (Nat.le_of_ble_eq_true rfl) dJ8_rotateLeft_8
set_option maxHeartbeats 4000000 in
theorem m_X1_derivedFrom (l : Launch) (g : GG) (w v : GW) (x : Int64)  : Met l yX1_derivedFrom (ws_ yX1_derivedFrom cX1_derivedFrom 2 (some .long)) ({ frames := 2, cells := 0, slots := 0, locals := 120 } : Room) (gP g [.long x] w v) (va_Ql (fun (r : Int64) (w' : GW) => r = turnL x ∧ w' = w) (gB g v) (gA g)) 0 0 (gA g) := by
  refine gm_of (by decide) (Nat.le_of_ble_eq_true rfl) ?_
  intro p e s m below meth c ls C hnm h hl
  have C : Cx g p s m ([.long x] : List Value).toArray meth c cX1_derivedFrom 2 RX1 (some .long) := C
  obtain ⟨hx, hb, hml, hown, hts, hr, hlk, hG⟩ := id C
  have hl : lv_has ls 2 [(0, .long x)] := hl
  refine lv_lload_n hx hb dX1_derivedFrom_0 rfl (lv_at hl 0 rfl) ?_
  refine lv_bipush (v := nI 9) hx hb dX1_derivedFrom_1 (by decide) ?_
  refine gc_l (va_runS (As := [.long x, .int (nI 9)]) (rest := []) C.fix (m_J8_rotateLeft l g w v x (nI 9)) (va_cwS 2 hts (lw_S q378 q379 q57 q380) rfl rfl rfl (by decide +kernel) ⟨Nat.le_of_ble_eq_true rfl, Nat.le_of_ble_eq_true rfl⟩) (gp_S C h _) rfl rfl hl.1 rfl (lv_room (Nat.le_of_ble_eq_true rfl)) dX1_derivedFrom_3 ⟨Nat.le_of_ble_eq_true rfl, Nat.le_of_ble_eq_true rfl⟩) h (fun r_1 w_2 H locs hp h => ?_)
  obtain ⟨er_r_1, ew_r_1⟩ := hp
  rw [er_r_1]
  rw [ew_r_1] at h
  refine lv_ldc2 (v := 25214903917) hx hb hown (hts _ q381) dX1_derivedFrom_6 ?_
  refine lv_lxor hx hb dX1_derivedFrom_9 ?_
  exact gr_l C h (⟨by unfold turnL; rw [show ((-nI 9).toInt64.toUInt64 &&& Int64.toUInt64 63) = ((nI 55).toInt64.toUInt64 &&& Int64.toUInt64 63) from by decide], rfl⟩) (Nat.le_of_ble_eq_true rfl) (Nat.le_of_ble_eq_true rfl) dX1_derivedFrom_10
set_option maxHeartbeats 4000000 in
theorem m_J8_bitCount (l : Launch) (g : GG) (w v : GW) (x : Int64)  : Met l yJ8_bitCount (ws_ yJ8_bitCount cJ8_bitCount 2 (some .int)) ({ frames := 1, cells := 0, slots := 0, locals := 60 } : Room) (gP g [.long x] w v) (va_Qi (fun (r : Int32) (w' : GW) => r = bcF x ∧ w' = w) (gB g v) (gA g)) 0 0 (gA g) := by
  refine gm_of (by decide) (Nat.le_of_ble_eq_true rfl) ?_
  intro p e s m below meth c ls C hnm h hl
  have C : Cx g p s m ([.long x] : List Value).toArray meth c cJ8_bitCount 2 RJ8 (some .int) := C
  obtain ⟨hx, hb, hml, hown, hts, hr, hlk, hG⟩ := id C
  have hl : lv_has ls 2 [(0, .long x)] := hl
  refine lv_lload_n hx hb dJ8_bitCount_0 rfl (lv_at hl 0 rfl) ?_
  refine lv_lload_n hx hb dJ8_bitCount_1 rfl (lv_at hl 0 rfl) ?_
  refine lv_iconst (v := nI 1) hx hb dJ8_bitCount_2 (by decide) ?_
  refine lv_lushr hx hb dJ8_bitCount_3 rfl ?_
  refine lv_ldc2 (v := 6148914691236517205) hx hb hown (hts _ q600) dJ8_bitCount_4 ?_
  refine lv_land hx hb dJ8_bitCount_7 ?_
  refine lv_lsub hx hb dJ8_bitCount_8 ?_
  refine lv_lstore_n (lv' := [(0, .long (x - (((x.toUInt64 >>> ((nI 1).toInt64.toUInt64 &&& Int64.toUInt64 63)).toInt64) &&& 6148914691236517205)))]) hx hb dJ8_bitCount_9 rfl hl (by decide) rfl (fun ls hl => ?_)
  refine lv_lload_n hx hb dJ8_bitCount_10 rfl (lv_at hl 0 rfl) ?_
  refine lv_ldc2 (v := 3689348814741910323) hx hb hown (hts _ q601) dJ8_bitCount_11 ?_
  refine lv_land hx hb dJ8_bitCount_14 ?_
  refine lv_lload_n hx hb dJ8_bitCount_15 rfl (lv_at hl 0 rfl) ?_
  refine lv_iconst (v := nI 2) hx hb dJ8_bitCount_16 (by decide) ?_
  refine lv_lushr hx hb dJ8_bitCount_17 rfl ?_
  refine lv_ldc2 (v := 3689348814741910323) hx hb hown (hts _ q601) dJ8_bitCount_18 ?_
  refine lv_land hx hb dJ8_bitCount_21 ?_
  refine lv_ladd hx hb dJ8_bitCount_22 ?_
  refine lv_lstore_n (lv' := [(0, .long (((x - (((x.toUInt64 >>> ((nI 1).toInt64.toUInt64 &&& Int64.toUInt64 63)).toInt64) &&& 6148914691236517205)) &&& 3689348814741910323) + ((((x - (((x.toUInt64 >>> ((nI 1).toInt64.toUInt64 &&& Int64.toUInt64 63)).toInt64) &&& 6148914691236517205)).toUInt64 >>> ((nI 2).toInt64.toUInt64 &&& Int64.toUInt64 63)).toInt64) &&& 3689348814741910323)))]) hx hb dJ8_bitCount_23 rfl hl (by decide) rfl (fun ls hl => ?_)
  refine lv_lload_n hx hb dJ8_bitCount_24 rfl (lv_at hl 0 rfl) ?_
  refine lv_lload_n hx hb dJ8_bitCount_25 rfl (lv_at hl 0 rfl) ?_
  refine lv_iconst (v := nI 4) hx hb dJ8_bitCount_26 (by decide) ?_
  refine lv_lushr hx hb dJ8_bitCount_27 rfl ?_
  refine lv_ladd hx hb dJ8_bitCount_28 ?_
  refine lv_ldc2 (v := 1085102592571150095) hx hb hown (hts _ q602) dJ8_bitCount_29 ?_
  refine lv_land hx hb dJ8_bitCount_32 ?_
  refine lv_lstore_n (lv' := [(0, .long (((((x - (((x.toUInt64 >>> ((nI 1).toInt64.toUInt64 &&& Int64.toUInt64 63)).toInt64) &&& 6148914691236517205)) &&& 3689348814741910323) + ((((x - (((x.toUInt64 >>> ((nI 1).toInt64.toUInt64 &&& Int64.toUInt64 63)).toInt64) &&& 6148914691236517205)).toUInt64 >>> ((nI 2).toInt64.toUInt64 &&& Int64.toUInt64 63)).toInt64) &&& 3689348814741910323)) + (((((x - (((x.toUInt64 >>> ((nI 1).toInt64.toUInt64 &&& Int64.toUInt64 63)).toInt64) &&& 6148914691236517205)) &&& 3689348814741910323) + ((((x - (((x.toUInt64 >>> ((nI 1).toInt64.toUInt64 &&& Int64.toUInt64 63)).toInt64) &&& 6148914691236517205)).toUInt64 >>> ((nI 2).toInt64.toUInt64 &&& Int64.toUInt64 63)).toInt64) &&& 3689348814741910323)).toUInt64 >>> ((nI 4).toInt64.toUInt64 &&& Int64.toUInt64 63)).toInt64)) &&& 1085102592571150095))]) hx hb dJ8_bitCount_33 rfl hl (by decide) rfl (fun ls hl => ?_)
  refine lv_lload_n hx hb dJ8_bitCount_34 rfl (lv_at hl 0 rfl) ?_
  refine lv_lload_n hx hb dJ8_bitCount_35 rfl (lv_at hl 0 rfl) ?_
  refine lv_bipush (v := nI 8) hx hb dJ8_bitCount_36 (by decide) ?_
  refine lv_lushr hx hb dJ8_bitCount_38 rfl ?_
  refine lv_ladd hx hb dJ8_bitCount_39 ?_
  refine lv_lstore_n (lv' := [(0, .long ((((((x - (((x.toUInt64 >>> ((nI 1).toInt64.toUInt64 &&& Int64.toUInt64 63)).toInt64) &&& 6148914691236517205)) &&& 3689348814741910323) + ((((x - (((x.toUInt64 >>> ((nI 1).toInt64.toUInt64 &&& Int64.toUInt64 63)).toInt64) &&& 6148914691236517205)).toUInt64 >>> ((nI 2).toInt64.toUInt64 &&& Int64.toUInt64 63)).toInt64) &&& 3689348814741910323)) + (((((x - (((x.toUInt64 >>> ((nI 1).toInt64.toUInt64 &&& Int64.toUInt64 63)).toInt64) &&& 6148914691236517205)) &&& 3689348814741910323) + ((((x - (((x.toUInt64 >>> ((nI 1).toInt64.toUInt64 &&& Int64.toUInt64 63)).toInt64) &&& 6148914691236517205)).toUInt64 >>> ((nI 2).toInt64.toUInt64 &&& Int64.toUInt64 63)).toInt64) &&& 3689348814741910323)).toUInt64 >>> ((nI 4).toInt64.toUInt64 &&& Int64.toUInt64 63)).toInt64)) &&& 1085102592571150095) + (((((((x - (((x.toUInt64 >>> ((nI 1).toInt64.toUInt64 &&& Int64.toUInt64 63)).toInt64) &&& 6148914691236517205)) &&& 3689348814741910323) + ((((x - (((x.toUInt64 >>> ((nI 1).toInt64.toUInt64 &&& Int64.toUInt64 63)).toInt64) &&& 6148914691236517205)).toUInt64 >>> ((nI 2).toInt64.toUInt64 &&& Int64.toUInt64 63)).toInt64) &&& 3689348814741910323)) + (((((x - (((x.toUInt64 >>> ((nI 1).toInt64.toUInt64 &&& Int64.toUInt64 63)).toInt64) &&& 6148914691236517205)) &&& 3689348814741910323) + ((((x - (((x.toUInt64 >>> ((nI 1).toInt64.toUInt64 &&& Int64.toUInt64 63)).toInt64) &&& 6148914691236517205)).toUInt64 >>> ((nI 2).toInt64.toUInt64 &&& Int64.toUInt64 63)).toInt64) &&& 3689348814741910323)).toUInt64 >>> ((nI 4).toInt64.toUInt64 &&& Int64.toUInt64 63)).toInt64)) &&& 1085102592571150095).toUInt64 >>> ((nI 8).toInt64.toUInt64 &&& Int64.toUInt64 63)).toInt64)))]) hx hb dJ8_bitCount_40 rfl hl (by decide) rfl (fun ls hl => ?_)
  refine lv_lload_n hx hb dJ8_bitCount_41 rfl (lv_at hl 0 rfl) ?_
  refine lv_lload_n hx hb dJ8_bitCount_42 rfl (lv_at hl 0 rfl) ?_
  refine lv_bipush (v := nI 16) hx hb dJ8_bitCount_43 (by decide) ?_
  refine lv_lushr hx hb dJ8_bitCount_45 rfl ?_
  refine lv_ladd hx hb dJ8_bitCount_46 ?_
  refine lv_lstore_n (lv' := [(0, .long (((((((x - (((x.toUInt64 >>> ((nI 1).toInt64.toUInt64 &&& Int64.toUInt64 63)).toInt64) &&& 6148914691236517205)) &&& 3689348814741910323) + ((((x - (((x.toUInt64 >>> ((nI 1).toInt64.toUInt64 &&& Int64.toUInt64 63)).toInt64) &&& 6148914691236517205)).toUInt64 >>> ((nI 2).toInt64.toUInt64 &&& Int64.toUInt64 63)).toInt64) &&& 3689348814741910323)) + (((((x - (((x.toUInt64 >>> ((nI 1).toInt64.toUInt64 &&& Int64.toUInt64 63)).toInt64) &&& 6148914691236517205)) &&& 3689348814741910323) + ((((x - (((x.toUInt64 >>> ((nI 1).toInt64.toUInt64 &&& Int64.toUInt64 63)).toInt64) &&& 6148914691236517205)).toUInt64 >>> ((nI 2).toInt64.toUInt64 &&& Int64.toUInt64 63)).toInt64) &&& 3689348814741910323)).toUInt64 >>> ((nI 4).toInt64.toUInt64 &&& Int64.toUInt64 63)).toInt64)) &&& 1085102592571150095) + (((((((x - (((x.toUInt64 >>> ((nI 1).toInt64.toUInt64 &&& Int64.toUInt64 63)).toInt64) &&& 6148914691236517205)) &&& 3689348814741910323) + ((((x - (((x.toUInt64 >>> ((nI 1).toInt64.toUInt64 &&& Int64.toUInt64 63)).toInt64) &&& 6148914691236517205)).toUInt64 >>> ((nI 2).toInt64.toUInt64 &&& Int64.toUInt64 63)).toInt64) &&& 3689348814741910323)) + (((((x - (((x.toUInt64 >>> ((nI 1).toInt64.toUInt64 &&& Int64.toUInt64 63)).toInt64) &&& 6148914691236517205)) &&& 3689348814741910323) + ((((x - (((x.toUInt64 >>> ((nI 1).toInt64.toUInt64 &&& Int64.toUInt64 63)).toInt64) &&& 6148914691236517205)).toUInt64 >>> ((nI 2).toInt64.toUInt64 &&& Int64.toUInt64 63)).toInt64) &&& 3689348814741910323)).toUInt64 >>> ((nI 4).toInt64.toUInt64 &&& Int64.toUInt64 63)).toInt64)) &&& 1085102592571150095).toUInt64 >>> ((nI 8).toInt64.toUInt64 &&& Int64.toUInt64 63)).toInt64)) + ((((((((x - (((x.toUInt64 >>> ((nI 1).toInt64.toUInt64 &&& Int64.toUInt64 63)).toInt64) &&& 6148914691236517205)) &&& 3689348814741910323) + ((((x - (((x.toUInt64 >>> ((nI 1).toInt64.toUInt64 &&& Int64.toUInt64 63)).toInt64) &&& 6148914691236517205)).toUInt64 >>> ((nI 2).toInt64.toUInt64 &&& Int64.toUInt64 63)).toInt64) &&& 3689348814741910323)) + (((((x - (((x.toUInt64 >>> ((nI 1).toInt64.toUInt64 &&& Int64.toUInt64 63)).toInt64) &&& 6148914691236517205)) &&& 3689348814741910323) + ((((x - (((x.toUInt64 >>> ((nI 1).toInt64.toUInt64 &&& Int64.toUInt64 63)).toInt64) &&& 6148914691236517205)).toUInt64 >>> ((nI 2).toInt64.toUInt64 &&& Int64.toUInt64 63)).toInt64) &&& 3689348814741910323)).toUInt64 >>> ((nI 4).toInt64.toUInt64 &&& Int64.toUInt64 63)).toInt64)) &&& 1085102592571150095) + (((((((x - (((x.toUInt64 >>> ((nI 1).toInt64.toUInt64 &&& Int64.toUInt64 63)).toInt64) &&& 6148914691236517205)) &&& 3689348814741910323) + ((((x - (((x.toUInt64 >>> ((nI 1).toInt64.toUInt64 &&& Int64.toUInt64 63)).toInt64) &&& 6148914691236517205)).toUInt64 >>> ((nI 2).toInt64.toUInt64 &&& Int64.toUInt64 63)).toInt64) &&& 3689348814741910323)) + (((((x - (((x.toUInt64 >>> ((nI 1).toInt64.toUInt64 &&& Int64.toUInt64 63)).toInt64) &&& 6148914691236517205)) &&& 3689348814741910323) + ((((x - (((x.toUInt64 >>> ((nI 1).toInt64.toUInt64 &&& Int64.toUInt64 63)).toInt64) &&& 6148914691236517205)).toUInt64 >>> ((nI 2).toInt64.toUInt64 &&& Int64.toUInt64 63)).toInt64) &&& 3689348814741910323)).toUInt64 >>> ((nI 4).toInt64.toUInt64 &&& Int64.toUInt64 63)).toInt64)) &&& 1085102592571150095).toUInt64 >>> ((nI 8).toInt64.toUInt64 &&& Int64.toUInt64 63)).toInt64)).toUInt64 >>> ((nI 16).toInt64.toUInt64 &&& Int64.toUInt64 63)).toInt64)))]) hx hb dJ8_bitCount_47 rfl hl (by decide) rfl (fun ls hl => ?_)
  refine lv_lload_n hx hb dJ8_bitCount_48 rfl (lv_at hl 0 rfl) ?_
  refine lv_lload_n hx hb dJ8_bitCount_49 rfl (lv_at hl 0 rfl) ?_
  refine lv_bipush (v := nI 32) hx hb dJ8_bitCount_50 (by decide) ?_
  refine lv_lushr hx hb dJ8_bitCount_52 rfl ?_
  refine lv_ladd hx hb dJ8_bitCount_53 ?_
  refine lv_lstore_n (lv' := [(0, .long ((((((((x - (((x.toUInt64 >>> ((nI 1).toInt64.toUInt64 &&& Int64.toUInt64 63)).toInt64) &&& 6148914691236517205)) &&& 3689348814741910323) + ((((x - (((x.toUInt64 >>> ((nI 1).toInt64.toUInt64 &&& Int64.toUInt64 63)).toInt64) &&& 6148914691236517205)).toUInt64 >>> ((nI 2).toInt64.toUInt64 &&& Int64.toUInt64 63)).toInt64) &&& 3689348814741910323)) + (((((x - (((x.toUInt64 >>> ((nI 1).toInt64.toUInt64 &&& Int64.toUInt64 63)).toInt64) &&& 6148914691236517205)) &&& 3689348814741910323) + ((((x - (((x.toUInt64 >>> ((nI 1).toInt64.toUInt64 &&& Int64.toUInt64 63)).toInt64) &&& 6148914691236517205)).toUInt64 >>> ((nI 2).toInt64.toUInt64 &&& Int64.toUInt64 63)).toInt64) &&& 3689348814741910323)).toUInt64 >>> ((nI 4).toInt64.toUInt64 &&& Int64.toUInt64 63)).toInt64)) &&& 1085102592571150095) + (((((((x - (((x.toUInt64 >>> ((nI 1).toInt64.toUInt64 &&& Int64.toUInt64 63)).toInt64) &&& 6148914691236517205)) &&& 3689348814741910323) + ((((x - (((x.toUInt64 >>> ((nI 1).toInt64.toUInt64 &&& Int64.toUInt64 63)).toInt64) &&& 6148914691236517205)).toUInt64 >>> ((nI 2).toInt64.toUInt64 &&& Int64.toUInt64 63)).toInt64) &&& 3689348814741910323)) + (((((x - (((x.toUInt64 >>> ((nI 1).toInt64.toUInt64 &&& Int64.toUInt64 63)).toInt64) &&& 6148914691236517205)) &&& 3689348814741910323) + ((((x - (((x.toUInt64 >>> ((nI 1).toInt64.toUInt64 &&& Int64.toUInt64 63)).toInt64) &&& 6148914691236517205)).toUInt64 >>> ((nI 2).toInt64.toUInt64 &&& Int64.toUInt64 63)).toInt64) &&& 3689348814741910323)).toUInt64 >>> ((nI 4).toInt64.toUInt64 &&& Int64.toUInt64 63)).toInt64)) &&& 1085102592571150095).toUInt64 >>> ((nI 8).toInt64.toUInt64 &&& Int64.toUInt64 63)).toInt64)) + ((((((((x - (((x.toUInt64 >>> ((nI 1).toInt64.toUInt64 &&& Int64.toUInt64 63)).toInt64) &&& 6148914691236517205)) &&& 3689348814741910323) + ((((x - (((x.toUInt64 >>> ((nI 1).toInt64.toUInt64 &&& Int64.toUInt64 63)).toInt64) &&& 6148914691236517205)).toUInt64 >>> ((nI 2).toInt64.toUInt64 &&& Int64.toUInt64 63)).toInt64) &&& 3689348814741910323)) + (((((x - (((x.toUInt64 >>> ((nI 1).toInt64.toUInt64 &&& Int64.toUInt64 63)).toInt64) &&& 6148914691236517205)) &&& 3689348814741910323) + ((((x - (((x.toUInt64 >>> ((nI 1).toInt64.toUInt64 &&& Int64.toUInt64 63)).toInt64) &&& 6148914691236517205)).toUInt64 >>> ((nI 2).toInt64.toUInt64 &&& Int64.toUInt64 63)).toInt64) &&& 3689348814741910323)).toUInt64 >>> ((nI 4).toInt64.toUInt64 &&& Int64.toUInt64 63)).toInt64)) &&& 1085102592571150095) + (((((((x - (((x.toUInt64 >>> ((nI 1).toInt64.toUInt64 &&& Int64.toUInt64 63)).toInt64) &&& 6148914691236517205)) &&& 3689348814741910323) + ((((x - (((x.toUInt64 >>> ((nI 1).toInt64.toUInt64 &&& Int64.toUInt64 63)).toInt64) &&& 6148914691236517205)).toUInt64 >>> ((nI 2).toInt64.toUInt64 &&& Int64.toUInt64 63)).toInt64) &&& 3689348814741910323)) + (((((x - (((x.toUInt64 >>> ((nI 1).toInt64.toUInt64 &&& Int64.toUInt64 63)).toInt64) &&& 6148914691236517205)) &&& 3689348814741910323) + ((((x - (((x.toUInt64 >>> ((nI 1).toInt64.toUInt64 &&& Int64.toUInt64 63)).toInt64) &&& 6148914691236517205)).toUInt64 >>> ((nI 2).toInt64.toUInt64 &&& Int64.toUInt64 63)).toInt64) &&& 3689348814741910323)).toUInt64 >>> ((nI 4).toInt64.toUInt64 &&& Int64.toUInt64 63)).toInt64)) &&& 1085102592571150095).toUInt64 >>> ((nI 8).toInt64.toUInt64 &&& Int64.toUInt64 63)).toInt64)).toUInt64 >>> ((nI 16).toInt64.toUInt64 &&& Int64.toUInt64 63)).toInt64)) + (((((((((x - (((x.toUInt64 >>> ((nI 1).toInt64.toUInt64 &&& Int64.toUInt64 63)).toInt64) &&& 6148914691236517205)) &&& 3689348814741910323) + ((((x - (((x.toUInt64 >>> ((nI 1).toInt64.toUInt64 &&& Int64.toUInt64 63)).toInt64) &&& 6148914691236517205)).toUInt64 >>> ((nI 2).toInt64.toUInt64 &&& Int64.toUInt64 63)).toInt64) &&& 3689348814741910323)) + (((((x - (((x.toUInt64 >>> ((nI 1).toInt64.toUInt64 &&& Int64.toUInt64 63)).toInt64) &&& 6148914691236517205)) &&& 3689348814741910323) + ((((x - (((x.toUInt64 >>> ((nI 1).toInt64.toUInt64 &&& Int64.toUInt64 63)).toInt64) &&& 6148914691236517205)).toUInt64 >>> ((nI 2).toInt64.toUInt64 &&& Int64.toUInt64 63)).toInt64) &&& 3689348814741910323)).toUInt64 >>> ((nI 4).toInt64.toUInt64 &&& Int64.toUInt64 63)).toInt64)) &&& 1085102592571150095) + (((((((x - (((x.toUInt64 >>> ((nI 1).toInt64.toUInt64 &&& Int64.toUInt64 63)).toInt64) &&& 6148914691236517205)) &&& 3689348814741910323) + ((((x - (((x.toUInt64 >>> ((nI 1).toInt64.toUInt64 &&& Int64.toUInt64 63)).toInt64) &&& 6148914691236517205)).toUInt64 >>> ((nI 2).toInt64.toUInt64 &&& Int64.toUInt64 63)).toInt64) &&& 3689348814741910323)) + (((((x - (((x.toUInt64 >>> ((nI 1).toInt64.toUInt64 &&& Int64.toUInt64 63)).toInt64) &&& 6148914691236517205)) &&& 3689348814741910323) + ((((x - (((x.toUInt64 >>> ((nI 1).toInt64.toUInt64 &&& Int64.toUInt64 63)).toInt64) &&& 6148914691236517205)).toUInt64 >>> ((nI 2).toInt64.toUInt64 &&& Int64.toUInt64 63)).toInt64) &&& 3689348814741910323)).toUInt64 >>> ((nI 4).toInt64.toUInt64 &&& Int64.toUInt64 63)).toInt64)) &&& 1085102592571150095).toUInt64 >>> ((nI 8).toInt64.toUInt64 &&& Int64.toUInt64 63)).toInt64)) + ((((((((x - (((x.toUInt64 >>> ((nI 1).toInt64.toUInt64 &&& Int64.toUInt64 63)).toInt64) &&& 6148914691236517205)) &&& 3689348814741910323) + ((((x - (((x.toUInt64 >>> ((nI 1).toInt64.toUInt64 &&& Int64.toUInt64 63)).toInt64) &&& 6148914691236517205)).toUInt64 >>> ((nI 2).toInt64.toUInt64 &&& Int64.toUInt64 63)).toInt64) &&& 3689348814741910323)) + (((((x - (((x.toUInt64 >>> ((nI 1).toInt64.toUInt64 &&& Int64.toUInt64 63)).toInt64) &&& 6148914691236517205)) &&& 3689348814741910323) + ((((x - (((x.toUInt64 >>> ((nI 1).toInt64.toUInt64 &&& Int64.toUInt64 63)).toInt64) &&& 6148914691236517205)).toUInt64 >>> ((nI 2).toInt64.toUInt64 &&& Int64.toUInt64 63)).toInt64) &&& 3689348814741910323)).toUInt64 >>> ((nI 4).toInt64.toUInt64 &&& Int64.toUInt64 63)).toInt64)) &&& 1085102592571150095) + (((((((x - (((x.toUInt64 >>> ((nI 1).toInt64.toUInt64 &&& Int64.toUInt64 63)).toInt64) &&& 6148914691236517205)) &&& 3689348814741910323) + ((((x - (((x.toUInt64 >>> ((nI 1).toInt64.toUInt64 &&& Int64.toUInt64 63)).toInt64) &&& 6148914691236517205)).toUInt64 >>> ((nI 2).toInt64.toUInt64 &&& Int64.toUInt64 63)).toInt64) &&& 3689348814741910323)) + (((((x - (((x.toUInt64 >>> ((nI 1).toInt64.toUInt64 &&& Int64.toUInt64 63)).toInt64) &&& 6148914691236517205)) &&& 3689348814741910323) + ((((x - (((x.toUInt64 >>> ((nI 1).toInt64.toUInt64 &&& Int64.toUInt64 63)).toInt64) &&& 6148914691236517205)).toUInt64 >>> ((nI 2).toInt64.toUInt64 &&& Int64.toUInt64 63)).toInt64) &&& 3689348814741910323)).toUInt64 >>> ((nI 4).toInt64.toUInt64 &&& Int64.toUInt64 63)).toInt64)) &&& 1085102592571150095).toUInt64 >>> ((nI 8).toInt64.toUInt64 &&& Int64.toUInt64 63)).toInt64)).toUInt64 >>> ((nI 16).toInt64.toUInt64 &&& Int64.toUInt64 63)).toInt64)).toUInt64 >>> ((nI 32).toInt64.toUInt64 &&& Int64.toUInt64 63)).toInt64)))]) hx hb dJ8_bitCount_54 rfl hl (by decide) rfl (fun ls hl => ?_)
  refine lv_lload_n hx hb dJ8_bitCount_55 rfl (lv_at hl 0 rfl) ?_
  refine lv_l2i hx hb dJ8_bitCount_56 rfl ?_
  refine lv_bipush (v := nI 127) hx hb dJ8_bitCount_57 (by decide) ?_
  refine lv_iand hx hb dJ8_bitCount_59 ?_
  exact gr_i C h (ty := .int) rfl (rfl) (⟨rfl, rfl⟩) (Nat.le_of_ble_eq_true rfl) (Nat.le_of_ble_eq_true rfl) dJ8_bitCount_60
