set_option maxRecDepth 100000
theorem ix32 {i : Int32} (h1 : ¬ i < 0) (h2 : i < nI 32) : ∃ ii : Nat, ii < 32 ∧ i = nI ii ∧ i.toNatClampNeg = ii := by
  obtain ⟨j, hj, hx⟩ : ∃ j : Nat, j < 32 ∧ i = nI j := (pk_ix i (n := 32) (by omega)).elim (fun q => absurd q h1) (fun q => q.elim (fun q => absurd h2 (Int32.not_lt.mpr q)) id)
  exact ⟨j, hj, hx, by rw [hx]; exact nI_clamp (by omega)⟩
theorem ub_i8 (b : Int8) : (ub b).toInt8.toInt32 = b.toInt32 := by
  have k : ∀ n : Fin 256, (ub (Int8.ofNat n.val)).toInt8 = Int8.ofNat n.val := by decide +kernel
  rw [i8_all (P := fun c => (ub c).toInt8 = c) k b]
theorem xor255 (x y : Int32) : (x ^^^ y) &&& nI 255 = (x &&& nI 255) ^^^ (y &&& nI 255) := by
  apply Int32.toBitVec_inj.mp
  rw [Int32.toBitVec_and, Int32.toBitVec_xor, Int32.toBitVec_xor, Int32.toBitVec_and, Int32.toBitVec_and]
  apply BitVec.eq_of_getLsbD_eq
  intro i hi
  simp only [BitVec.getLsbD_and, BitVec.getLsbD_xor]
  cases x.toBitVec.getLsbD i <;> cases y.toBitVec.getLsbD i <;> cases (nI 255).toBitVec.getLsbD i <;> rfl
theorem i8xor (b c : Int8) : (b ^^^ c).toInt32 = b.toInt32 ^^^ c.toInt32 := Int8.toInt32_xor b c
theorem ub_xor {b : Int8} {q : Int32} (h1 : ¬ q < nI 1) (h2 : q ≤ nI 255) : ub b ^^^ q = ub (b ^^^ q.toInt8) := by
  have h0 : ¬ q < 0 := fun z => h1 (Int32.lt_trans z (by decide))
  obtain ⟨n, hn, hq⟩ := nI_of2 (M := nI 255) (n := 255) (by decide) h0 h2
  have hm : q &&& nI 255 = q := by rw [ub_byte, hq]; exact ub_nI (by omega)
  show _ = (b ^^^ q.toInt8).toInt32 &&& nI 255
  rw [i8xor, xor255]
  show _ = ub b ^^^ ub q.toInt8
  rw [← ub_byte, hm]
theorem poke_D {dk : Sec} {fD : Nat → Int32} {a : Nat} {x : Int32} {y : Int8} (r1 : ∀ j, j < 2048 → fD j = ub (dk j)) (h : upd fD a x a = ub y) : ∀ j, j < 2048 → upd fD a x j = ub (va_up dk a y j) := by
  intro j hj
  by_cases q : j = a
  · subst q; rw [h]; simp [va_up]
  · unfold upd va_up; rw [if_neg q, if_neg q]; exact r1 j hj
theorem lat_none {dk : Sec} {wt : List (Nat × Sec)} {k : Nat} (h : wt.any (fun x => decide (x.1 = k)) = false) : lat dk wt k = sec dk k := by
  unfold lat
  generalize sec dk k = s
  induction wt generalizing s with
  | nil => rfl
  | cons x l ih =>
    simp only [List.any_cons, Bool.or_eq_false_iff, decide_eq_false_iff_not] at h
    rw [List.foldl_cons, if_neg h.1]
    exact ih h.2 s
theorem lat_sec {dk dk' : Sec} {wt : List (Nat × Sec)} {k : Nat} (h : sec dk k = sec dk' k) : lat dk wt k = lat dk' wt k := by
  unfold lat
  rw [h]
theorem poke_L {dk : Sec} {wt : List (Nat × Sec)} {fL fX : Nat → Int32} {k ii : Nat} {y : Int8} (r2 : ∀ k i, k < 64 → i < 32 → fL (32 * k + i) = ub (lat dk wt k i)) (hw : wt.any (fun x => decide (x.1 = k)) = false) (hk : k < 64) (hii : ii < 32) (h : fX (32 * k + ii) = ub y) : ∀ k' i, k' < 64 → i < 32 → upd fL (32 * k + ii) (fX (32 * k + ii)) (32 * k' + i) = ub (lat (va_up dk (32 * k + ii) y) wt k' i) := by
  intro k' i hk' hi
  unfold upd
  by_cases q : 32 * k' + i = 32 * k + ii
  · have e1 : k' = k := by omega
    have e2 : i = ii := by omega
    subst e1; subst e2
    rw [if_pos rfl, h, lat_none hw, sec_at hi]
    simp [va_up]
  · rw [if_neg q, r2 k' i hk' hi]
    by_cases e1 : k' = k
    · subst e1
      rw [lat_none hw, lat_none hw, sec_at hi, sec_at hi]
      unfold va_up
      rw [if_neg q]
    · have e : lat dk wt k' = lat (va_up dk (32 * k + ii) y) wt k' := by
        apply lat_sec
        funext j
        by_cases hj : j < 32
        · rw [sec_at hj, sec_at hj]
          unfold va_up
          rw [if_neg (by omega)]
        · rw [sec_hi (by omega), sec_hi (by omega)]
      rw [e]
set_option maxHeartbeats 4000000 in
theorem n_X3_full (l : Launch) (g : GG) (w v : GW) (ad : Nat → Nat) (N cn : Nat) (ru fu ch : Bool) (dk : Sec) (wt : List (Nat × Sec)) (ld : Nat → Option Sec) (pl : Nat → Option Nat) (st kp : List (Int32 × Int64)) (hR : RM g w ad N (cn, ru, fu, ch, dk, wt, ld, pl, st, kp)) (hI : InvK (cn, ru, fu, ch, dk, wt, ld, pl, st, kp)) (hN : N < 64) (b : Bool)  : Met l yX3_full (ws_ yX3_full cX3_full 3 (some .boolean)) ({ frames := 1, cells := 0, slots := 0, locals := 60 } : Room) (gP g [.ref (ad 0), .int (bI b)] w v) (va_Qi (fun (r : Int32) (w' : GW) => r = (opFull (cn, ru, fu, ch, dk, wt, ld, pl, st, kp) b).1 ∧ RM g w' ad (N + 1) (opFull (cn, ru, fu, ch, dk, wt, ld, pl, st, kp) b).2) (gB g v) (gA g)) 0 0 (gA g) := by
  refine gm_of (by decide) (Nat.le_of_ble_eq_true rfl) ?_
  intro p e s m below meth c ls C hnm h hl
  have C : Cx g p s m ([.ref (ad 0), .int (bI b)] : List Value).toArray meth c cX3_full 3 RX3 (some .boolean) := C
  obtain ⟨hx, hb, hml, hown, hts, hr, hlk, hG⟩ := id C
  have hl : lv_has ls 3 [(0, .ref (ad 0)), (1, .int (bI b))] := hl
  obtain ⟨th, fi, be, ne, ke, fD, fL, fO, z, fP, fT, fY, fN, fS, fKn, fK, fH, hM, r1, r2, r3, r4, r5, r6, r7, r8, r9, r10, r11, r12, r13⟩ := id hR
  obtain ⟨i1, i2, i3, i4, i5, i6, i7, i8, i9⟩ := id hI
  have hfb : fi ≤ be ∧ be ≤ 1200 := by omega
  have hne : ne < 1200 := by omega
  have hke : ke ≤ 4 := by omega
  have hcn : 2 ≤ cn ∧ cn ≤ 64 := by omega
  have hhel : ∀ k, k < 64 → heM fP fT fS fK fi be ne ke k = hel wt pl st kp k := fun k hk => br_hel i1.2 i2 i4 r5 r6 r7 r8 r9 r10 r11 hk
  have hKe := br_frS hcn hhel
  have hpl : ∀ q, q < 30 → fP q = -1 ∨ ∃ kk : Nat, kk < 64 ∧ fP q = nI kk := fun q hq => br_pls i1.2 i2 r5 hq
  obtain ⟨hinj, m0, m1, m2, m3, m4, m5, m6, m7, m8, m9, m10, m11, m12⟩ := id hM
  refine lv_aload_n hx hb dX3_full_0 rfl (lv_at hl 0 rfl) ?_
  refine gx_get C h m0 (Cn := RX3) (T := TX3) (N := 22) rfl in_X3 2 (by decide) q734 rfl rfl dX3_full_1 ?_
  refine lv_istore_n (lv' := [(2, .int (bI fu)), (0, .ref (ad 0)), (1, .int (bI b))]) hx hb dX3_full_4 rfl hl (by decide) rfl (fun ls hl => ?_)
  refine lv_aload_n hx hb dX3_full_5 rfl (lv_at hl 1 rfl) ?_
  refine lv_iload_n hx hb dX3_full_6 rfl (lv_at hl 2 rfl) ?_
  refine gx_put C h m0 (Cn := RX3) (T := TX3) (N := 22) (x := .int (bI b)) rfl in_X3 tyX3 tyX3_ok nmX3 2 (by decide) q734 rfl rfl (bI_n _) (bI_f _) (Nat.le_of_ble_eq_true rfl) dX3_full_7 (fun H locs h => ?_)
  obtain ⟨w_1, ew_1⟩ : ∃ z_ : GW, z_ = gu w (ad 0) (ob 4 [.int (nI cn), .int (bI ru), .int (bI b), .ref (ad 1), .ref (ad 2), .ref (ad 3), .ref (ad 4), .ref (ad 5), .int (bI ch), .ref (ad 6), .ref (ad 7), .int (nI fi), .int (nI be), .ref (ad 8), .ref (ad 9), .int (nI 0), .int (nI ne), .ref (ad 10), .ref (ad 11), .int (nI ke), .int (bI th), .ref (ad 12)]) := ⟨_, rfl⟩
  have h : SH g w_1 v s H locs := by rw [ew_1]; exact h
  have f_2 : w_1 (ad 0) = some (ob 4 [.int (nI cn), .int (bI ru), .int (bI b), .ref (ad 1), .ref (ad 2), .ref (ad 3), .ref (ad 4), .ref (ad 5), .int (bI ch), .ref (ad 6), .ref (ad 7), .int (nI fi), .int (nI be), .ref (ad 8), .ref (ad 9), .int (nI 0), .int (nI ne), .ref (ad 10), .ref (ad 11), .int (nI ke), .int (bI th), .ref (ad 12)]) := by rw [ew_1]; exact gu_s
  have f_3 : w_1 (ad 1) = some (eI g 2048 fD) := by rw [ew_1]; exact (gu_n (fun q => absurd (hinj 1 0 (by decide) (by decide) q) (by decide))).trans m1
  have f_4 : w_1 (ad 2) = some (eI g 2048 fL) := by rw [ew_1]; exact (gu_n (fun q => absurd (hinj 2 0 (by decide) (by decide) q) (by decide))).trans m2
  have f_5 : w_1 (ad 3) = some (eI g 2048 fO) := by rw [ew_1]; exact (gu_n (fun q => absurd (hinj 3 0 (by decide) (by decide) q) (by decide))).trans m3
  have f_6 : w_1 (ad 4) = some (eZ g 64 z) := by rw [ew_1]; exact (gu_n (fun q => absurd (hinj 4 0 (by decide) (by decide) q) (by decide))).trans m4
  have f_7 : w_1 (ad 5) = some (eI g 30 fP) := by rw [ew_1]; exact (gu_n (fun q => absurd (hinj 5 0 (by decide) (by decide) q) (by decide))).trans m5
  have f_8 : w_1 (ad 6) = some (eI g 1200 fT) := by rw [ew_1]; exact (gu_n (fun q => absurd (hinj 6 0 (by decide) (by decide) q) (by decide))).trans m6
  have f_9 : w_1 (ad 7) = some (eI g 38400 fY) := by rw [ew_1]; exact (gu_n (fun q => absurd (hinj 7 0 (by decide) (by decide) q) (by decide))).trans m7
  have f_10 : w_1 (ad 8) = some (eI g 1200 fN) := by rw [ew_1]; exact (gu_n (fun q => absurd (hinj 8 0 (by decide) (by decide) q) (by decide))).trans m8
  have f_11 : w_1 (ad 9) = some (eL g 1200 fS) := by rw [ew_1]; exact (gu_n (fun q => absurd (hinj 9 0 (by decide) (by decide) q) (by decide))).trans m9
  have f_12 : w_1 (ad 10) = some (eI g 4 fKn) := by rw [ew_1]; exact (gu_n (fun q => absurd (hinj 10 0 (by decide) (by decide) q) (by decide))).trans m10
  have f_13 : w_1 (ad 11) = some (eL g 4 fK) := by rw [ew_1]; exact (gu_n (fun q => absurd (hinj 11 0 (by decide) (by decide) q) (by decide))).trans m11
  have f_14 : w_1 (ad 12) = some (eI g 32 fH) := by rw [ew_1]; exact (gu_n (fun q => absurd (hinj 12 0 (by decide) (by decide) q) (by decide))).trans m12
  refine lv_iload_n hx hb dX3_full_10 rfl (lv_at hl 0 rfl) ?_
  have eq : opFull (cn, ru, fu, ch, dk, wt, ld, pl, st, kp) b = (bI fu, (cn, ru, b, ch, dk, wt, ld, pl, st, kp)) := rfl
  exact gr_i C h (ty := .boolean) rfl (bI_n _) (by rw [eq]; exact ⟨rfl, th, fi, be, ne, ke, fD, fL, fO, z, fP, fT, fY, fN, fS, fKn, fK, fH, ⟨hinj, f_2, f_3, f_4, f_5, f_6, f_7, f_8, f_9, f_10, f_11, f_12, f_13, f_14⟩, r1, r2, r3, r4, r5, r6, r7, r8, r9, r10, r11, by omega, by omega⟩) (Nat.le_of_ble_eq_true rfl) (Nat.le_of_ble_eq_true rfl) dX3_full_11
set_option maxHeartbeats 4000000 in
theorem m_X3_derived (l : Launch) (g : GG) (w v : GW) (ad : Nat → Nat) (N cn : Nat) (ru fu ch : Bool) (dk : Sec) (wt : List (Nat × Sec)) (ld : Nat → Option Sec) (pl : Nat → Option Nat) (st kp : List (Int32 × Int64)) (hR : RM g w ad N (cn, ru, fu, ch, dk, wt, ld, pl, st, kp)) (hI : InvK (cn, ru, fu, ch, dk, wt, ld, pl, st, kp)) (hN : N < 64) (x : Int32)  : Met l yX3_derived (ws_ yX3_derived cX3_derived 7 (some .int)) ({ frames := 5, cells := 0, slots := 0, locals := 300 } : Room) (gP g [.ref (ad 0), .int x] w v) (va_Qi (fun (r : Int32) (w' : GW) => r = (opDerived (cn, ru, fu, ch, dk, wt, ld, pl, st, kp) x).1 ∧ RM g w' ad (N + 1) (opDerived (cn, ru, fu, ch, dk, wt, ld, pl, st, kp) x).2) (gB g v) (gA g)) 0 0 (gA g) := by
  refine gm_of (by decide) (Nat.le_of_ble_eq_true rfl) ?_
  intro p e s m below meth c ls C hnm h hl
  have C : Cx g p s m ([.ref (ad 0), .int x] : List Value).toArray meth c cX3_derived 7 RX3 (some .int) := C
  obtain ⟨hx, hb, hml, hown, hts, hr, hlk, hG⟩ := id C
  have hl : lv_has ls 7 [(0, .ref (ad 0)), (1, .int x)] := hl
  obtain ⟨th, fi, be, ne, ke, fD, fL, fO, z, fP, fT, fY, fN, fS, fKn, fK, fH, hM, r1, r2, r3, r4, r5, r6, r7, r8, r9, r10, r11, r12, r13⟩ := id hR
  obtain ⟨i1, i2, i3, i4, i5, i6, i7, i8, i9⟩ := id hI
  have hfb : fi ≤ be ∧ be ≤ 1200 := by omega
  have hne : ne < 1200 := by omega
  have hke : ke ≤ 4 := by omega
  have hcn : 2 ≤ cn ∧ cn ≤ 64 := by omega
  have hhel : ∀ k, k < 64 → heM fP fT fS fK fi be ne ke k = hel wt pl st kp k := fun k hk => br_hel i1.2 i2 i4 r5 r6 r7 r8 r9 r10 r11 hk
  have hKe := br_frS hcn hhel
  have hpl : ∀ q, q < 30 → fP q = -1 ∨ ∃ kk : Nat, kk < 64 ∧ fP q = nI kk := fun q hq => br_pls i1.2 i2 r5 hq
  obtain ⟨hinj, m0, m1, m2, m3, m4, m5, m6, m7, m8, m9, m10, m11, m12⟩ := id hM
  refine lv_aload_n hx hb dX3_derived_0 rfl (lv_at hl 0 rfl) ?_
  refine gx_get C h m0 (Cn := RX3) (T := TX3) (N := 22) rfl in_X3 1 (by decide) q733 rfl rfl dX3_derived_1 ?_
  refine lv_if_ne (tgt := 10) hx hb dX3_derived_4 (by decide) (fun c1 => ?_) (fun c1 => ?_)
  · skip
    have c1 : ru = true := bI_ne0.mp c1
    refine lv_aload_n hx hb dX3_derived_10 rfl (lv_at hl 0 rfl) ?_
    refine lv_iload_n hx hb dX3_derived_11 rfl (lv_at hl 1 rfl) ?_
    refine gc_i (va_runV (As := [.int x]) (rest := []) C.fix (m_X3_isPage l g w v ad cn ru fu ch th fi be ne ke m0 fP m5 x) (cwV 1 hts (lw_V q805 q807 qs27 q53 q808) rfl rfl rfl (by decide +kernel) ⟨Nat.le_of_ble_eq_true rfl, Nat.le_of_ble_eq_true rfl⟩) (gp_V C h [.int x] (Cn := RX3) (T := TX3) (N := 22) rfl m0) rfl rfl hl.1 rfl (lv_room (Nat.le_of_ble_eq_true rfl)) dX3_derived_12 ⟨Nat.le_of_ble_eq_true rfl, Nat.le_of_ble_eq_true rfl⟩) h (fun r_1 w_2 H locs hp h => ?_)
    obtain ⟨er_r_1, ew_r_1⟩ := hp
    rw [er_r_1]
    rw [ew_r_1] at h
    rw [br_pg i1.2 i2 r5 x]
    refine lv_if_eq (tgt := 32) hx hb dX3_derived_15 (by decide) (fun c2 => ?_) (fun c2 => ?_)
    · skip
      have c2 : (pgOf pl x).isSome = false := bI_eq0.mp c2
      have hk : pgOf pl x = none := Option.not_isSome_iff_eq_none.mp (by rw [c2]; decide)
      refine lv_iconst (v := (-1)) hx hb dX3_derived_32 (by decide) ?_
      have eq : opDerived (cn, ru, fu, ch, dk, wt, ld, pl, st, kp) x = (-1, (cn, ru, fu, ch, dk, wt, ld, pl, st, kp)) := by unfold opDerived; dsimp only; rw [if_neg (show ¬ ru = false by rw [c1]; decide), hk]
      exact gr_i C h (ty := .int) rfl (rfl) (by rw [eq]; exact ⟨rfl, hR.mono⟩) (Nat.le_of_ble_eq_true rfl) (Nat.le_of_ble_eq_true rfl) dX3_derived_33
    · skip
      have c2 : (pgOf pl x).isSome = true := bI_ne0.mp c2
      obtain ⟨k, hk⟩ := Option.isSome_iff_exists.mp c2
      obtain ⟨j, hj, hxj, hxc, hplj⟩ := pgOf_some hk
      have hk64 := i2 j k hj hplj
      have hfpj : fP j = nI k := by rw [r5 j hj, hplj]; rfl
      rw [hxj] at hl
      refine lv_aload_n hx hb dX3_derived_18 rfl (lv_at hl 0 rfl) ?_
      refine lv_aload_n hx hb dX3_derived_19 rfl (lv_at hl 0 rfl) ?_
      refine gx_get C h m0 (Cn := RX3) (T := TX3) (N := 22) rfl in_X3 7 (by decide) q739 rfl rfl dX3_derived_20 ?_
      refine lv_iload_n hx hb dX3_derived_23 rfl (lv_at hl 1 rfl) ?_
      refine gx_iald C h m5 j (rfl) (by omega) dX3_derived_24 ?_
      rw [hfpj]
      refine gc_i (va_runV (As := [.int (nI k)]) (rest := []) C.fix (m_X3_kindOf l g w v ad cn ru fu ch th fi be ne ke m0 z m4 fO m3 fL m2 k (by omega)) (cwV 1 hts (lw_V q809 q811 qs28 q53 q812) rfl rfl rfl (by decide +kernel) ⟨Nat.le_of_ble_eq_true rfl, Nat.le_of_ble_eq_true rfl⟩) (gp_V C h [.int (nI k)] (Cn := RX3) (T := TX3) (N := 22) rfl m0) rfl rfl hl.1 rfl (lv_room (Nat.le_of_ble_eq_true rfl)) dX3_derived_25 ⟨Nat.le_of_ble_eq_true rfl, Nat.le_of_ble_eq_true rfl⟩) h (fun r_3 w_4 H locs hp h => ?_)
      obtain ⟨er_r_3, ew_r_3⟩ := hp
      rw [er_r_3]
      rw [ew_r_3] at h
      rw [br_by r2 r3 r4 (by omega) (by omega), kind_ub]
      refine lv_iconst (v := nI 3) hx hb dX3_derived_28 (by decide) ?_
      refine lv_icmp_eq (tgt := 34) hx hb dX3_derived_29 (by decide) (fun c3 => ?_) (fun c3 => ?_)
      · skip
        refine lv_aload_n hx hb dX3_derived_34 rfl (lv_at hl 0 rfl) ?_
        refine gx_get C h m0 (Cn := RX3) (T := TX3) (N := 22) rfl in_X3 7 (by decide) q739 rfl rfl dX3_derived_35 ?_
        refine lv_iload_n hx hb dX3_derived_38 rfl (lv_at hl 1 rfl) ?_
        refine gx_iald C h m5 j (rfl) (by omega) dX3_derived_39 ?_
        rw [hfpj]
        refine lv_istore_n (lv' := [(2, .int (nI k)), (0, .ref (ad 0)), (1, .int (nI j))]) hx hb dX3_derived_40 rfl hl (by decide) rfl (fun ls hl => ?_)
        refine lv_aload_n hx hb dX3_derived_41 rfl (lv_at hl 1 rfl) ?_
        refine lv_iload_n hx hb dX3_derived_42 rfl (lv_at hl 0 rfl) ?_
        refine lv_bipush (v := nI 6) hx hb dX3_derived_43 (by decide) ?_
        refine gc_i (va_runV (As := [.int (nI k), .int (nI 6)]) (rest := []) C.fix (m_X3_byteOf l g w v ad cn ru fu ch th fi be ne ke m0 z m4 fO m3 fL m2 k 6 (by omega) (by omega)) (cwV 2 hts (lw_V q813 q815 qs29 q53 q816) rfl rfl rfl (by decide +kernel) ⟨Nat.le_of_ble_eq_true rfl, Nat.le_of_ble_eq_true rfl⟩) (gp_V C h [.int (nI k), .int (nI 6)] (Cn := RX3) (T := TX3) (N := 22) rfl m0) rfl rfl hl.1 rfl (lv_room (Nat.le_of_ble_eq_true rfl)) dX3_derived_45 ⟨Nat.le_of_ble_eq_true rfl, Nat.le_of_ble_eq_true rfl⟩) h (fun r_5 w_6 H locs hp h => ?_)
        obtain ⟨er_r_5, ew_r_5⟩ := hp
        rw [er_r_5]
        rw [ew_r_5] at h
        rw [br_by r2 r3 r4 (by omega) (by omega)]
        refine lv_istore_n (lv' := [(3, .int (ub (cur dk wt ld k 6))), (2, .int (nI k)), (0, .ref (ad 0)), (1, .int (nI j))]) hx hb dX3_derived_48 rfl hl (by decide) rfl (fun ls hl => ?_)
        refine lv_aload_n hx hb dX3_derived_49 rfl (lv_at hl 2 rfl) ?_
        refine lv_iload_n hx hb dX3_derived_50 rfl (lv_at hl 0 rfl) ?_
        refine gc_i (va_runV (As := [.int (ub (cur dk wt ld k 6))]) (rest := []) C.fix (m_X3_isPage l g w v ad cn ru fu ch th fi be ne ke m0 fP m5 (ub (cur dk wt ld k 6))) (cwV 1 hts (lw_V q805 q807 qs27 q53 q808) rfl rfl rfl (by decide +kernel) ⟨Nat.le_of_ble_eq_true rfl, Nat.le_of_ble_eq_true rfl⟩) (gp_V C h [.int (ub (cur dk wt ld k 6))] (Cn := RX3) (T := TX3) (N := 22) rfl m0) rfl rfl hl.1 rfl (lv_room (Nat.le_of_ble_eq_true rfl)) dX3_derived_51 ⟨Nat.le_of_ble_eq_true rfl, Nat.le_of_ble_eq_true rfl⟩) h (fun r_7 w_8 H locs hp h => ?_)
        obtain ⟨er_r_7, ew_r_7⟩ := hp
        rw [er_r_7]
        rw [ew_r_7] at h
        rw [br_pg i1.2 i2 r5 (ub (cur dk wt ld k 6))]
        refine lv_if_ne (tgt := 59) hx hb dX3_derived_54 (by decide) (fun c4 => ?_) (fun c4 => ?_)
        · skip
          have c4 : (pgOf pl (ub (cur dk wt ld k 6))).isSome = true := bI_ne0.mp c4
          obtain ⟨k2, hk2⟩ := Option.isSome_iff_exists.mp c4
          obtain ⟨j2, hj2, hxj2, hxc2, hplj2⟩ := pgOf_some hk2
          have hk642 := i2 j2 k2 hj2 hplj2
          have hfpj2 : fP j2 = nI k2 := by rw [r5 j2 hj2, hplj2]; rfl
          rw [hxj2] at hl
          refine lv_aload_n hx hb dX3_derived_59 rfl (lv_at hl 2 rfl) ?_
          refine lv_aload_n hx hb dX3_derived_60 rfl (lv_at hl 2 rfl) ?_
          refine gx_get C h m0 (Cn := RX3) (T := TX3) (N := 22) rfl in_X3 7 (by decide) q739 rfl rfl dX3_derived_61 ?_
          refine lv_iload_n hx hb dX3_derived_64 rfl (lv_at hl 0 rfl) ?_
          refine gx_iald C h m5 j2 (rfl) (by omega) dX3_derived_65 ?_
          rw [hfpj2]
          refine gc_l (va_runV (As := [.int (nI k2)]) (rest := []) C.fix (m_X3_valueOf l g w v ad cn ru fu ch th fi be ne ke m0 z m4 fO m3 fL m2 k2 (by omega)) (cwV 1 hts (lw_V q821 q823 qs31 q53 q824) rfl rfl rfl (by decide +kernel) ⟨Nat.le_of_ble_eq_true rfl, Nat.le_of_ble_eq_true rfl⟩) (gp_V C h [.int (nI k2)] (Cn := RX3) (T := TX3) (N := 22) rfl m0) rfl rfl hl.1 rfl (lv_room (Nat.le_of_ble_eq_true rfl)) dX3_derived_66 ⟨Nat.le_of_ble_eq_true rfl, Nat.le_of_ble_eq_true rfl⟩) h (fun r_9 w_10 H locs hp h => ?_)
          obtain ⟨er_r_9, ew_r_9⟩ := hp
          rw [er_r_9]
          rw [ew_r_9] at h
          rw [br_val r2 r3 r4 (by omega)]
          refine gc_l (va_runS (As := [.long (wideB (cur dk wt ld k2) 8)]) (rest := []) C.fix (m_X3_turned l g w v (wideB (cur dk wt ld k2) 8)) (va_cwS 1 hts (lw_S q832 q833 q53 q834) rfl rfl rfl (by decide +kernel) ⟨Nat.le_of_ble_eq_true rfl, Nat.le_of_ble_eq_true rfl⟩) (gp_S C h _) rfl rfl hl.1 rfl (lv_room (Nat.le_of_ble_eq_true rfl)) dX3_derived_69 ⟨Nat.le_of_ble_eq_true rfl, Nat.le_of_ble_eq_true rfl⟩) h (fun r_11 w_12 H locs hp h => ?_)
          obtain ⟨er_r_11, ew_r_11⟩ := hp
          rw [er_r_11]
          rw [ew_r_11] at h
          refine lv_lstore (lv' := [(4, .long (turnL (wideB (cur dk wt ld k2) 8))), (3, .int (nI j2)), (2, .int (nI k)), (0, .ref (ad 0)), (1, .int (nI j))]) hx hb dX3_derived_72 hl (by decide) rfl (fun ls hl => ?_)
          have cont : ∀ (ri : Bool) (H : Heap) (locs : List Loc) (ls : Array Slot), (ri = true ↔ ((ld k).isSome = true ∨ rightB (lat dk wt k) = true)) → SH g w v s H locs → lv_has ls 7 [(0, .ref (ad 0)), (1, .int (nI j)), (2, .int (nI k)), (3, .int (nI j2)), (4, .long (turnL (wideB (cur dk wt ld k2) 8))), (6, .int (bI ri))] → W p l e ({ frames := 5, cells := 0, slots := 0, locals := 300 } : Room) s m ([.ref (ad 0), .int x] : List Value).toArray below meth c H locs 0 0 (MQ below (va_Qi (fun (r : Int32) (w' : GW) => r = (opDerived (cn, ru, fu, ch, dk, wt, ld, pl, st, kp) x).1 ∧ RM g w' ad (N + 1) (opDerived (cn, ru, fu, ch, dk, wt, ld, pl, st, kp) x).2) (gB g v) (gA g)) ([.ref (ad 0), .int x] : List Value).toArray s 0 0 (gA g)) (F0 m 101 ls []) := by
            intro ri H locs ls hri h hl
            refine lv_iload hx hb dX3_derived_101 (lv_at hl 5 rfl) ?_
            refine lv_if_eq (tgt := 119) hx hb dX3_derived_103 (by decide) (fun c7 => ?_) (fun c7 => ?_)
            · skip
              have c7 : ri = false := bI_eq0.mp c7
              refine lv_aload_n hx hb dX3_derived_119 rfl (lv_at hl 0 rfl) ?_
              refine lv_iconst (v := nI 3) hx hb dX3_derived_120 (by decide) ?_
              refine lv_iload_n hx hb dX3_derived_121 rfl (lv_at hl 1 rfl) ?_
              refine lv_iload_n hx hb dX3_derived_122 rfl (lv_at hl 3 rfl) ?_
              refine lv_lload hx hb dX3_derived_123 (lv_at hl 4 rfl) ?_
              refine gc_i (va_runV (As := [.int (nI 3), .int (nI j), .int (nI j2), .long (turnL (wideB (cur dk wt ld k2) 8))]) (rest := []) C.fix (m_X3_lay l g w v ad cn ru fu ch th fi be ne ke fD fL fO z fP fT fY fN fS fKn fK fH hM 3 j2 (nI j) (turnL (wideB (cur dk wt ld k2) 8)) hfb hne hke hcn (Or.inr ⟨j, hj, rfl⟩) hpl) (cwV 4 hts (lw_V q836 q838 qs32 q53 q839) rfl rfl rfl (by decide +kernel) ⟨Nat.le_of_ble_eq_true rfl, Nat.le_of_ble_eq_true rfl⟩) (gp_V C h [.int (nI 3), .int (nI j), .int (nI j2), .long (turnL (wideB (cur dk wt ld k2) 8))] (Cn := RX3) (T := TX3) (N := 22) rfl m0) rfl rfl hl.1 rfl (lv_room (Nat.le_of_ble_eq_true rfl)) dX3_derived_125 ⟨Nat.le_of_ble_eq_true rfl, Nat.le_of_ble_eq_true rfl⟩) h (fun r_13 w_14 H locs hp h => ?_)
              have hp := lay_rm (kd := 3) (so := j2) (pg := some j) hR i1.2 i2 r1 r2 r3 r4 r5 r6 r7 r8 r9 r10 r11 r12 r13 hKe (by omega) (by omega) rfl (fun q hq => by cases hq; exact hj) hp
              have eq : opDerived (cn, ru, fu, ch, dk, wt, ld, pl, st, kp) x = (if (layF (cn, ru, fu, ch, dk, wt, ld, pl, st, kp) (nI 3) (some j) (nI j2) (turnL (wideB (cur dk wt ld k2) 8))).1 = -4 then -4 else 1, (layF (cn, ru, fu, ch, dk, wt, ld, pl, st, kp) (nI 3) (some j) (nI j2) (turnL (wideB (cur dk wt ld k2) 8))).2) := by unfold opDerived; dsimp only; rw [if_neg (show ¬ ru = false by rw [c1]; decide), hk]; dsimp only; rw [if_pos c3, hk2]; dsimp only; rw [if_neg (fun q => by have := hri.mpr q.1; rw [c7] at this; cases this), hxj2, hxc]
              refine lv_bipush (v := (-4)) hx hb dX3_derived_128 (by decide) ?_
              refine lv_icmp_ne (tgt := 138) hx hb dX3_derived_130 (by decide) (fun c9 => ?_) (fun c9 => ?_)
              · skip
                refine lv_iconst (v := nI 1) hx hb dX3_derived_138 (by decide) ?_
                exact gr_i C h (ty := .int) rfl (rfl) (by rw [eq, if_neg (by rw [← hp.1]; exact c9)]; exact ⟨rfl, hp.2⟩) (Nat.le_of_ble_eq_true rfl) (Nat.le_of_ble_eq_true rfl) dX3_derived_139
              · skip
                refine lv_bipush (v := (-4)) hx hb dX3_derived_133 (by decide) ?_
                refine lv_goto (tgt := 139) hx hb dX3_derived_135 (by decide) ?_
                exact gr_i C h (ty := .int) rfl (rfl) (by rw [eq, if_pos (by rw [← hp.1]; exact c9)]; exact ⟨rfl, hp.2⟩) (Nat.le_of_ble_eq_true rfl) (Nat.le_of_ble_eq_true rfl) dX3_derived_139
            · skip
              have c7 : ri = true := bI_ne0.mp c7
              refine lv_aload_n hx hb dX3_derived_106 rfl (lv_at hl 0 rfl) ?_
              refine lv_iload_n hx hb dX3_derived_107 rfl (lv_at hl 2 rfl) ?_
              refine gc_l (va_runV (As := [.int (nI k)]) (rest := []) C.fix (m_X3_valueOf l g w v ad cn ru fu ch th fi be ne ke m0 z m4 fO m3 fL m2 k (by omega)) (cwV 1 hts (lw_V q821 q823 qs31 q53 q824) rfl rfl rfl (by decide +kernel) ⟨Nat.le_of_ble_eq_true rfl, Nat.le_of_ble_eq_true rfl⟩) (gp_V C h [.int (nI k)] (Cn := RX3) (T := TX3) (N := 22) rfl m0) rfl rfl hl.1 rfl (lv_room (Nat.le_of_ble_eq_true rfl)) dX3_derived_108 ⟨Nat.le_of_ble_eq_true rfl, Nat.le_of_ble_eq_true rfl⟩) h (fun r_15 w_16 H locs hp h => ?_)
              obtain ⟨er_r_15, ew_r_15⟩ := hp
              rw [er_r_15]
              rw [ew_r_15] at h
              rw [br_val r2 r3 r4 (by omega)]
              refine lv_lload hx hb dX3_derived_111 (lv_at hl 4 rfl) ?_
              refine W.lcmp hx hb dX3_derived_113 ?_
              refine lv_if_ne (tgt := 119) hx hb dX3_derived_114 (by decide) (fun c8 => ?_) (fun c8 => ?_)
              · skip
                refine lv_aload_n hx hb dX3_derived_119 rfl (lv_at hl 0 rfl) ?_
                refine lv_iconst (v := nI 3) hx hb dX3_derived_120 (by decide) ?_
                refine lv_iload_n hx hb dX3_derived_121 rfl (lv_at hl 1 rfl) ?_
                refine lv_iload_n hx hb dX3_derived_122 rfl (lv_at hl 3 rfl) ?_
                refine lv_lload hx hb dX3_derived_123 (lv_at hl 4 rfl) ?_
                refine gc_i (va_runV (As := [.int (nI 3), .int (nI j), .int (nI j2), .long (turnL (wideB (cur dk wt ld k2) 8))]) (rest := []) C.fix (m_X3_lay l g w v ad cn ru fu ch th fi be ne ke fD fL fO z fP fT fY fN fS fKn fK fH hM 3 j2 (nI j) (turnL (wideB (cur dk wt ld k2) 8)) hfb hne hke hcn (Or.inr ⟨j, hj, rfl⟩) hpl) (cwV 4 hts (lw_V q836 q838 qs32 q53 q839) rfl rfl rfl (by decide +kernel) ⟨Nat.le_of_ble_eq_true rfl, Nat.le_of_ble_eq_true rfl⟩) (gp_V C h [.int (nI 3), .int (nI j), .int (nI j2), .long (turnL (wideB (cur dk wt ld k2) 8))] (Cn := RX3) (T := TX3) (N := 22) rfl m0) rfl rfl hl.1 rfl (lv_room (Nat.le_of_ble_eq_true rfl)) dX3_derived_125 ⟨Nat.le_of_ble_eq_true rfl, Nat.le_of_ble_eq_true rfl⟩) h (fun r_17 w_18 H locs hp h => ?_)
                have hp := lay_rm (kd := 3) (so := j2) (pg := some j) hR i1.2 i2 r1 r2 r3 r4 r5 r6 r7 r8 r9 r10 r11 r12 r13 hKe (by omega) (by omega) rfl (fun q hq => by cases hq; exact hj) hp
                have eq : opDerived (cn, ru, fu, ch, dk, wt, ld, pl, st, kp) x = (if (layF (cn, ru, fu, ch, dk, wt, ld, pl, st, kp) (nI 3) (some j) (nI j2) (turnL (wideB (cur dk wt ld k2) 8))).1 = -4 then -4 else 1, (layF (cn, ru, fu, ch, dk, wt, ld, pl, st, kp) (nI 3) (some j) (nI j2) (turnL (wideB (cur dk wt ld k2) 8))).2) := by unfold opDerived; dsimp only; rw [if_neg (show ¬ ru = false by rw [c1]; decide), hk]; dsimp only; rw [if_pos c3, hk2]; dsimp only; rw [if_neg (fun q => c8 ((lg_cmp_eq _ _).mpr q.2)), hxj2, hxc]
                refine lv_bipush (v := (-4)) hx hb dX3_derived_128 (by decide) ?_
                refine lv_icmp_ne (tgt := 138) hx hb dX3_derived_130 (by decide) (fun c9 => ?_) (fun c9 => ?_)
                · skip
                  refine lv_iconst (v := nI 1) hx hb dX3_derived_138 (by decide) ?_
                  exact gr_i C h (ty := .int) rfl (rfl) (by rw [eq, if_neg (by rw [← hp.1]; exact c9)]; exact ⟨rfl, hp.2⟩) (Nat.le_of_ble_eq_true rfl) (Nat.le_of_ble_eq_true rfl) dX3_derived_139
                · skip
                  refine lv_bipush (v := (-4)) hx hb dX3_derived_133 (by decide) ?_
                  refine lv_goto (tgt := 139) hx hb dX3_derived_135 (by decide) ?_
                  exact gr_i C h (ty := .int) rfl (rfl) (by rw [eq, if_pos (by rw [← hp.1]; exact c9)]; exact ⟨rfl, hp.2⟩) (Nat.le_of_ble_eq_true rfl) (Nat.le_of_ble_eq_true rfl) dX3_derived_139
              · skip
                refine lv_iconst (v := nI 0) hx hb dX3_derived_117 (by decide) ?_
                have eq : opDerived (cn, ru, fu, ch, dk, wt, ld, pl, st, kp) x = (0, (cn, ru, fu, ch, dk, wt, ld, pl, st, kp)) := by unfold opDerived; dsimp only; rw [if_neg (show ¬ ru = false by rw [c1]; decide), hk]; dsimp only; rw [if_pos c3, hk2]; dsimp only; rw [if_pos ⟨hri.mp c7, (lg_cmp_eq _ _).mp c8⟩]
                exact gr_i C h (ty := .int) rfl (rfl) (by rw [eq]; exact ⟨rfl, hR.mono⟩) (Nat.le_of_ble_eq_true rfl) (Nat.le_of_ble_eq_true rfl) dX3_derived_118
          refine lv_aload_n hx hb dX3_derived_74 rfl (lv_at hl 3 rfl) ?_
          refine gx_get C h m0 (Cn := RX3) (T := TX3) (N := 22) rfl in_X3 6 (by decide) q738 rfl rfl dX3_derived_75 ?_
          refine lv_iload_n hx hb dX3_derived_78 rfl (lv_at hl 2 rfl) ?_
          refine gx_zald C h m4 k (rfl) (by omega) dX3_derived_79 ?_
          rw [r4 k (by omega)]
          refine lv_if_ne (tgt := 94) hx hb dX3_derived_80 (by decide) (fun c5 => ?_) (fun c5 => ?_)
          · skip
            have c5 : (ld k).isSome = true := bI_ne0.mp c5
            refine lv_iconst (v := bI true) hx hb dX3_derived_94 (by decide) ?_
            refine lv_goto (tgt := 99) hx hb dX3_derived_95 (by decide) ?_
            refine lv_istore (lv' := [(6, .int (bI true)), (4, .long (turnL (wideB (cur dk wt ld k2) 8))), (3, .int (nI j2)), (2, .int (nI k)), (0, .ref (ad 0)), (1, .int (nI j))]) hx hb dX3_derived_99 hl (by decide) rfl (fun ls hl => ?_)
            exact cont true _ _ ls (⟨fun _ => Or.inl c5, fun _ => rfl⟩) h (lv_sub hl [4, 5, 3, 2, 1, 0] rfl)
          · skip
            have c5 : (ld k).isSome = false := bI_eq0.mp c5
            refine lv_aload_n hx hb dX3_derived_83 rfl (lv_at hl 3 rfl) ?_
            refine gx_get C h m0 (Cn := RX3) (T := TX3) (N := 22) rfl in_X3 4 (by decide) q736 rfl rfl dX3_derived_84 ?_
            refine lv_iload_n hx hb dX3_derived_87 rfl (lv_at hl 2 rfl) ?_
            refine gc_i (va_runS (As := [.ref (ad 2), .int (nI k)]) (rest := []) C.fix (m_X3_isRight l g w v (ad 2) 2048 fL m2 (by omega) k (by omega)) (va_cwS 2 hts (lw_S q873 q874 q53 q875) rfl rfl rfl (by decide +kernel) ⟨Nat.le_of_ble_eq_true rfl, Nat.le_of_ble_eq_true rfl⟩) (gp_S C h _) rfl rfl hl.1 rfl (lv_room (Nat.le_of_ble_eq_true rfl)) dX3_derived_88 ⟨Nat.le_of_ble_eq_true rfl, Nat.le_of_ble_eq_true rfl⟩) h (fun r_19 w_20 H locs hp h => ?_)
            obtain ⟨er_r_19, ew_r_19⟩ := hp
            rw [er_r_19]
            rw [ew_r_19] at h
            rw [(br_row (fun i hi => r2 k i (by omega) hi)).1]
            refine lv_if_eq (tgt := 98) hx hb dX3_derived_91 (by decide) (fun c6 => ?_) (fun c6 => ?_)
            · skip
              have c6 : rightB (lat dk wt k) = false := bI_eq0.mp c6
              refine lv_iconst (v := bI false) hx hb dX3_derived_98 (by decide) ?_
              refine lv_istore (lv' := [(6, .int (bI false)), (4, .long (turnL (wideB (cur dk wt ld k2) 8))), (3, .int (nI j2)), (2, .int (nI k)), (0, .ref (ad 0)), (1, .int (nI j))]) hx hb dX3_derived_99 hl (by decide) rfl (fun ls hl => ?_)
              exact cont false _ _ ls (⟨fun q => (by cases q), fun q => (by rw [c5, c6] at q; exact absurd q (by decide))⟩) h (lv_sub hl [4, 5, 3, 2, 1, 0] rfl)
            · skip
              have c6 : rightB (lat dk wt k) = true := bI_ne0.mp c6
              refine lv_iconst (v := bI true) hx hb dX3_derived_94 (by decide) ?_
              refine lv_goto (tgt := 99) hx hb dX3_derived_95 (by decide) ?_
              refine lv_istore (lv' := [(6, .int (bI true)), (4, .long (turnL (wideB (cur dk wt ld k2) 8))), (3, .int (nI j2)), (2, .int (nI k)), (0, .ref (ad 0)), (1, .int (nI j))]) hx hb dX3_derived_99 hl (by decide) rfl (fun ls hl => ?_)
              exact cont true _ _ ls (⟨fun _ => Or.inr c6, fun _ => rfl⟩) h (lv_sub hl [4, 5, 3, 2, 1, 0] rfl)
        · skip
          have c4 : (pgOf pl (ub (cur dk wt ld k 6))).isSome = false := bI_eq0.mp c4
          have hk2 : pgOf pl (ub (cur dk wt ld k 6)) = none := Option.not_isSome_iff_eq_none.mp (by rw [c4]; decide)
          refine lv_iconst (v := nI 0) hx hb dX3_derived_57 (by decide) ?_
          have eq : opDerived (cn, ru, fu, ch, dk, wt, ld, pl, st, kp) x = (0, (cn, ru, fu, ch, dk, wt, ld, pl, st, kp)) := by unfold opDerived; dsimp only; rw [if_neg (show ¬ ru = false by rw [c1]; decide), hk]; dsimp only; rw [if_pos c3, hk2]
          exact gr_i C h (ty := .int) rfl (rfl) (by rw [eq]; exact ⟨rfl, hR.mono⟩) (Nat.le_of_ble_eq_true rfl) (Nat.le_of_ble_eq_true rfl) dX3_derived_58
      · skip
        refine lv_iconst (v := (-1)) hx hb dX3_derived_32 (by decide) ?_
        have eq : opDerived (cn, ru, fu, ch, dk, wt, ld, pl, st, kp) x = (-1, (cn, ru, fu, ch, dk, wt, ld, pl, st, kp)) := by unfold opDerived; dsimp only; rw [if_neg (show ¬ ru = false by rw [c1]; decide), hk]; dsimp only; rw [if_neg c3]
        exact gr_i C h (ty := .int) rfl (rfl) (by rw [eq]; exact ⟨rfl, hR.mono⟩) (Nat.le_of_ble_eq_true rfl) (Nat.le_of_ble_eq_true rfl) dX3_derived_33
  · skip
    have c1 : ru = false := bI_eq0.mp c1
    refine lv_bipush (v := (-3)) hx hb dX3_derived_7 (by decide) ?_
    have eq : opDerived (cn, ru, fu, ch, dk, wt, ld, pl, st, kp) x = (-3, (cn, ru, fu, ch, dk, wt, ld, pl, st, kp)) := by unfold opDerived; dsimp only; rw [if_pos c1]
    exact gr_i C h (ty := .int) rfl (rfl) (by rw [eq]; exact ⟨rfl, hR.mono⟩) (Nat.le_of_ble_eq_true rfl) (Nat.le_of_ble_eq_true rfl) dX3_derived_9
set_option maxHeartbeats 4000000 in
theorem m_X3_at (l : Launch) (g : GG) (w v : GW) (ad : Nat → Nat) (N cn : Nat) (ru fu ch : Bool) (dk : Sec) (wt : List (Nat × Sec)) (ld : Nat → Option Sec) (pl : Nat → Option Nat) (st kp : List (Int32 × Int64)) (hR : RM g w ad N (cn, ru, fu, ch, dk, wt, ld, pl, st, kp)) (hI : InvK (cn, ru, fu, ch, dk, wt, ld, pl, st, kp)) (hN : N < 64) (x i : Int32)  : Met l yX3_at (ws_ yX3_at cX3_at 3 (some .byte)) ({ frames := 2, cells := 0, slots := 0, locals := 120 } : Room) (gP g [.ref (ad 0), .int x, .int i] w v) (va_Qi (fun (r : Int32) (w' : GW) => (∀ b, opAt (cn, ru, fu, ch, dk, wt, ld, pl, st, kp) x i = some b → r = b.toInt32) ∧ RM g w' ad (N + 1) (cn, ru, fu, ch, dk, wt, ld, pl, st, kp) ∧ ∃ fi be ne ke : Nat, w' (ad 0) = some (mo ad cn ru fu ch (opAt (cn, ru, fu, ch, dk, wt, ld, pl, st, kp) x i).isNone fi be ne ke)) (gB g v) (gA g)) 0 0 (gA g) := by
  refine gm_of (by decide) (Nat.le_of_ble_eq_true rfl) ?_
  intro p e s m below meth c ls C hnm h hl
  have C : Cx g p s m ([.ref (ad 0), .int x, .int i] : List Value).toArray meth c cX3_at 3 RX3 (some .byte) := C
  obtain ⟨hx, hb, hml, hown, hts, hr, hlk, hG⟩ := id C
  have hl : lv_has ls 3 [(0, .ref (ad 0)), (1, .int x), (2, .int i)] := hl
  obtain ⟨th, fi, be, ne, ke, fD, fL, fO, z, fP, fT, fY, fN, fS, fKn, fK, fH, hM, r1, r2, r3, r4, r5, r6, r7, r8, r9, r10, r11, r12, r13⟩ := id hR
  obtain ⟨i1, i2, i3, i4, i5, i6, i7, i8, i9⟩ := id hI
  have hfb : fi ≤ be ∧ be ≤ 1200 := by omega
  have hne : ne < 1200 := by omega
  have hke : ke ≤ 4 := by omega
  have hcn : 2 ≤ cn ∧ cn ≤ 64 := by omega
  have hhel : ∀ k, k < 64 → heM fP fT fS fK fi be ne ke k = hel wt pl st kp k := fun k hk => br_hel i1.2 i2 i4 r5 r6 r7 r8 r9 r10 r11 hk
  have hKe := br_frS hcn hhel
  have hpl : ∀ q, q < 30 → fP q = -1 ∨ ∃ kk : Nat, kk < 64 ∧ fP q = nI kk := fun q hq => br_pls i1.2 i2 r5 hq
  obtain ⟨hinj, m0, m1, m2, m3, m4, m5, m6, m7, m8, m9, m10, m11, m12⟩ := id hM
  refine lv_aload_n hx hb dX3_at_0 rfl (lv_at hl 0 rfl) ?_
  refine lv_aload_n hx hb dX3_at_1 rfl (lv_at hl 0 rfl) ?_
  refine lv_iload_n hx hb dX3_at_2 rfl (lv_at hl 1 rfl) ?_
  refine gc_i (va_runV (As := [.int x]) (rest := [.ref (ad 0)]) C.fix (m_X3_isPage l g w v ad cn ru fu ch th fi be ne ke m0 fP m5 x) (cwV 1 hts (lw_V q805 q807 qs27 q53 q808) rfl rfl rfl (by decide +kernel) ⟨Nat.le_of_ble_eq_true rfl, Nat.le_of_ble_eq_true rfl⟩) (gp_V C h [.int x] (Cn := RX3) (T := TX3) (N := 22) rfl m0) rfl rfl hl.1 rfl (lv_room (Nat.le_of_ble_eq_true rfl)) dX3_at_3 ⟨Nat.le_of_ble_eq_true rfl, Nat.le_of_ble_eq_true rfl⟩) h (fun r_1 w_2 H locs hp h => ?_)
  obtain ⟨er_r_1, ew_r_1⟩ := hp
  rw [er_r_1]
  rw [ew_r_1] at h
  rw [br_pg i1.2 i2 r5 x]
  refine lv_if_eq (tgt := 19) hx hb dX3_at_6 (by decide) (fun c1 => ?_) (fun c1 => ?_)
  · skip
    have c1 : (pgOf pl x).isSome = false := bI_eq0.mp c1
    have hk : pgOf pl x = none := Option.not_isSome_iff_eq_none.mp (by rw [c1]; decide)
    refine lv_iconst (v := bI true) hx hb dX3_at_19 (by decide) ?_
    refine lv_goto (tgt := 24) hx hb dX3_at_20 (by decide) ?_
    refine gx_put C h m0 (Cn := RX3) (T := TX3) (N := 22) (x := .int (bI true)) rfl in_X3 tyX3 tyX3_ok nmX3 20 (by decide) q752 rfl rfl (bI_n _) (bI_f _) (Nat.le_of_ble_eq_true rfl) dX3_at_24 (fun H locs h => ?_)
    obtain ⟨w_3, ew_3⟩ : ∃ z_ : GW, z_ = gu w (ad 0) (ob 4 [.int (nI cn), .int (bI ru), .int (bI fu), .ref (ad 1), .ref (ad 2), .ref (ad 3), .ref (ad 4), .ref (ad 5), .int (bI ch), .ref (ad 6), .ref (ad 7), .int (nI fi), .int (nI be), .ref (ad 8), .ref (ad 9), .int (nI 0), .int (nI ne), .ref (ad 10), .ref (ad 11), .int (nI ke), .int (bI true), .ref (ad 12)]) := ⟨_, rfl⟩
    have h : SH g w_3 v s H locs := by rw [ew_3]; exact h
    have f_4 : w_3 (ad 0) = some (ob 4 [.int (nI cn), .int (bI ru), .int (bI fu), .ref (ad 1), .ref (ad 2), .ref (ad 3), .ref (ad 4), .ref (ad 5), .int (bI ch), .ref (ad 6), .ref (ad 7), .int (nI fi), .int (nI be), .ref (ad 8), .ref (ad 9), .int (nI 0), .int (nI ne), .ref (ad 10), .ref (ad 11), .int (nI ke), .int (bI true), .ref (ad 12)]) := by rw [ew_3]; exact gu_s
    have f_5 : w_3 (ad 1) = some (eI g 2048 fD) := by rw [ew_3]; exact (gu_n (fun q => absurd (hinj 1 0 (by decide) (by decide) q) (by decide))).trans m1
    have f_6 : w_3 (ad 2) = some (eI g 2048 fL) := by rw [ew_3]; exact (gu_n (fun q => absurd (hinj 2 0 (by decide) (by decide) q) (by decide))).trans m2
    have f_7 : w_3 (ad 3) = some (eI g 2048 fO) := by rw [ew_3]; exact (gu_n (fun q => absurd (hinj 3 0 (by decide) (by decide) q) (by decide))).trans m3
    have f_8 : w_3 (ad 4) = some (eZ g 64 z) := by rw [ew_3]; exact (gu_n (fun q => absurd (hinj 4 0 (by decide) (by decide) q) (by decide))).trans m4
    have f_9 : w_3 (ad 5) = some (eI g 30 fP) := by rw [ew_3]; exact (gu_n (fun q => absurd (hinj 5 0 (by decide) (by decide) q) (by decide))).trans m5
    have f_10 : w_3 (ad 6) = some (eI g 1200 fT) := by rw [ew_3]; exact (gu_n (fun q => absurd (hinj 6 0 (by decide) (by decide) q) (by decide))).trans m6
    have f_11 : w_3 (ad 7) = some (eI g 38400 fY) := by rw [ew_3]; exact (gu_n (fun q => absurd (hinj 7 0 (by decide) (by decide) q) (by decide))).trans m7
    have f_12 : w_3 (ad 8) = some (eI g 1200 fN) := by rw [ew_3]; exact (gu_n (fun q => absurd (hinj 8 0 (by decide) (by decide) q) (by decide))).trans m8
    have f_13 : w_3 (ad 9) = some (eL g 1200 fS) := by rw [ew_3]; exact (gu_n (fun q => absurd (hinj 9 0 (by decide) (by decide) q) (by decide))).trans m9
    have f_14 : w_3 (ad 10) = some (eI g 4 fKn) := by rw [ew_3]; exact (gu_n (fun q => absurd (hinj 10 0 (by decide) (by decide) q) (by decide))).trans m10
    have f_15 : w_3 (ad 11) = some (eL g 4 fK) := by rw [ew_3]; exact (gu_n (fun q => absurd (hinj 11 0 (by decide) (by decide) q) (by decide))).trans m11
    have f_16 : w_3 (ad 12) = some (eI g 32 fH) := by rw [ew_3]; exact (gu_n (fun q => absurd (hinj 12 0 (by decide) (by decide) q) (by decide))).trans m12
    refine lv_aload_n hx hb dX3_at_27 rfl (lv_at hl 0 rfl) ?_
    refine gx_get C h f_4 (Cn := RX3) (T := TX3) (N := 22) rfl in_X3 20 (by decide) q752 rfl rfl dX3_at_28 ?_
    refine lv_if_eq (tgt := 38) hx hb dX3_at_31 (by decide) (fun c9 => ?_) (fun c9 => ?_)
    · skip
      have c9 : true = false := bI_eq0.mp c9
      cases c9
    · skip
      have c9 : true = true := bI_ne0.mp c9
      refine lv_iconst (v := nI 0) hx hb dX3_at_34 (by decide) ?_
      refine lv_goto (tgt := 50) hx hb dX3_at_35 (by decide) ?_
      have eq : opAt (cn, ru, fu, ch, dk, wt, ld, pl, st, kp) x i = none := by unfold opAt; dsimp only; rw [hk]
      exact gr_i C h (ty := .byte) rfl (rfl) (by rw [eq]; exact ⟨fun b hb => (by cases hb), ⟨true, fi, be, ne, ke, fD, fL, fO, z, fP, fT, fY, fN, fS, fKn, fK, fH, ⟨hinj, f_4, f_5, f_6, f_7, f_8, f_9, f_10, f_11, f_12, f_13, f_14, f_15, f_16⟩, r1, r2, r3, r4, r5, r6, r7, r8, r9, r10, r11, by omega, by omega⟩, fi, be, ne, ke, f_4⟩) (Nat.le_of_ble_eq_true rfl) (Nat.le_of_ble_eq_true rfl) dX3_at_50
  · skip
    have c1 : (pgOf pl x).isSome = true := bI_ne0.mp c1
    obtain ⟨k, hk⟩ := Option.isSome_iff_exists.mp c1
    obtain ⟨j, hj, hxj, hxc, hplj⟩ := pgOf_some hk
    have hk64 := i2 j k hj hplj
    have hfpj : fP j = nI k := by rw [r5 j hj, hplj]; rfl
    rw [hxj] at hl
    refine lv_iload_n hx hb dX3_at_9 rfl (lv_at hl 2 rfl) ?_
    refine lv_if_lt (tgt := 19) hx hb dX3_at_10 (by decide) (fun c2 => ?_) (fun c2 => ?_)
    · skip
      refine lv_iconst (v := bI true) hx hb dX3_at_19 (by decide) ?_
      refine lv_goto (tgt := 24) hx hb dX3_at_20 (by decide) ?_
      refine gx_put C h m0 (Cn := RX3) (T := TX3) (N := 22) (x := .int (bI true)) rfl in_X3 tyX3 tyX3_ok nmX3 20 (by decide) q752 rfl rfl (bI_n _) (bI_f _) (Nat.le_of_ble_eq_true rfl) dX3_at_24 (fun H locs h => ?_)
      obtain ⟨w_17, ew_17⟩ : ∃ z_ : GW, z_ = gu w (ad 0) (ob 4 [.int (nI cn), .int (bI ru), .int (bI fu), .ref (ad 1), .ref (ad 2), .ref (ad 3), .ref (ad 4), .ref (ad 5), .int (bI ch), .ref (ad 6), .ref (ad 7), .int (nI fi), .int (nI be), .ref (ad 8), .ref (ad 9), .int (nI 0), .int (nI ne), .ref (ad 10), .ref (ad 11), .int (nI ke), .int (bI true), .ref (ad 12)]) := ⟨_, rfl⟩
      have h : SH g w_17 v s H locs := by rw [ew_17]; exact h
      have f_18 : w_17 (ad 0) = some (ob 4 [.int (nI cn), .int (bI ru), .int (bI fu), .ref (ad 1), .ref (ad 2), .ref (ad 3), .ref (ad 4), .ref (ad 5), .int (bI ch), .ref (ad 6), .ref (ad 7), .int (nI fi), .int (nI be), .ref (ad 8), .ref (ad 9), .int (nI 0), .int (nI ne), .ref (ad 10), .ref (ad 11), .int (nI ke), .int (bI true), .ref (ad 12)]) := by rw [ew_17]; exact gu_s
      have f_19 : w_17 (ad 1) = some (eI g 2048 fD) := by rw [ew_17]; exact (gu_n (fun q => absurd (hinj 1 0 (by decide) (by decide) q) (by decide))).trans m1
      have f_20 : w_17 (ad 2) = some (eI g 2048 fL) := by rw [ew_17]; exact (gu_n (fun q => absurd (hinj 2 0 (by decide) (by decide) q) (by decide))).trans m2
      have f_21 : w_17 (ad 3) = some (eI g 2048 fO) := by rw [ew_17]; exact (gu_n (fun q => absurd (hinj 3 0 (by decide) (by decide) q) (by decide))).trans m3
      have f_22 : w_17 (ad 4) = some (eZ g 64 z) := by rw [ew_17]; exact (gu_n (fun q => absurd (hinj 4 0 (by decide) (by decide) q) (by decide))).trans m4
      have f_23 : w_17 (ad 5) = some (eI g 30 fP) := by rw [ew_17]; exact (gu_n (fun q => absurd (hinj 5 0 (by decide) (by decide) q) (by decide))).trans m5
      have f_24 : w_17 (ad 6) = some (eI g 1200 fT) := by rw [ew_17]; exact (gu_n (fun q => absurd (hinj 6 0 (by decide) (by decide) q) (by decide))).trans m6
      have f_25 : w_17 (ad 7) = some (eI g 38400 fY) := by rw [ew_17]; exact (gu_n (fun q => absurd (hinj 7 0 (by decide) (by decide) q) (by decide))).trans m7
      have f_26 : w_17 (ad 8) = some (eI g 1200 fN) := by rw [ew_17]; exact (gu_n (fun q => absurd (hinj 8 0 (by decide) (by decide) q) (by decide))).trans m8
      have f_27 : w_17 (ad 9) = some (eL g 1200 fS) := by rw [ew_17]; exact (gu_n (fun q => absurd (hinj 9 0 (by decide) (by decide) q) (by decide))).trans m9
      have f_28 : w_17 (ad 10) = some (eI g 4 fKn) := by rw [ew_17]; exact (gu_n (fun q => absurd (hinj 10 0 (by decide) (by decide) q) (by decide))).trans m10
      have f_29 : w_17 (ad 11) = some (eL g 4 fK) := by rw [ew_17]; exact (gu_n (fun q => absurd (hinj 11 0 (by decide) (by decide) q) (by decide))).trans m11
      have f_30 : w_17 (ad 12) = some (eI g 32 fH) := by rw [ew_17]; exact (gu_n (fun q => absurd (hinj 12 0 (by decide) (by decide) q) (by decide))).trans m12
      refine lv_aload_n hx hb dX3_at_27 rfl (lv_at hl 0 rfl) ?_
      refine gx_get C h f_18 (Cn := RX3) (T := TX3) (N := 22) rfl in_X3 20 (by decide) q752 rfl rfl dX3_at_28 ?_
      refine lv_if_eq (tgt := 38) hx hb dX3_at_31 (by decide) (fun c9 => ?_) (fun c9 => ?_)
      · skip
        have c9 : true = false := bI_eq0.mp c9
        cases c9
      · skip
        have c9 : true = true := bI_ne0.mp c9
        refine lv_iconst (v := nI 0) hx hb dX3_at_34 (by decide) ?_
        refine lv_goto (tgt := 50) hx hb dX3_at_35 (by decide) ?_
        have eq : opAt (cn, ru, fu, ch, dk, wt, ld, pl, st, kp) x i = none := by unfold opAt; dsimp only; rw [hk]; dsimp only; rw [if_pos (Or.inl c2)]
        exact gr_i C h (ty := .byte) rfl (rfl) (by rw [eq]; exact ⟨fun b hb => (by cases hb), ⟨true, fi, be, ne, ke, fD, fL, fO, z, fP, fT, fY, fN, fS, fKn, fK, fH, ⟨hinj, f_18, f_19, f_20, f_21, f_22, f_23, f_24, f_25, f_26, f_27, f_28, f_29, f_30⟩, r1, r2, r3, r4, r5, r6, r7, r8, r9, r10, r11, by omega, by omega⟩, fi, be, ne, ke, f_18⟩) (Nat.le_of_ble_eq_true rfl) (Nat.le_of_ble_eq_true rfl) dX3_at_50
    · skip
      refine lv_iload_n hx hb dX3_at_13 rfl (lv_at hl 2 rfl) ?_
      refine lv_bipush (v := nI 32) hx hb dX3_at_14 (by decide) ?_
      refine lv_icmp_lt (tgt := 23) hx hb dX3_at_16 (by decide) (fun c3 => ?_) (fun c3 => ?_)
      · skip
        obtain ⟨ii, hii, hiv, hic⟩ : ∃ ii : Nat, ii < 32 ∧ i = nI ii ∧ i.toNatClampNeg = ii := ix32 c2 c3
        rw [hiv] at hl
        refine lv_iconst (v := bI false) hx hb dX3_at_23 (by decide) ?_
        refine gx_put C h m0 (Cn := RX3) (T := TX3) (N := 22) (x := .int (bI false)) rfl in_X3 tyX3 tyX3_ok nmX3 20 (by decide) q752 rfl rfl (bI_n _) (bI_f _) (Nat.le_of_ble_eq_true rfl) dX3_at_24 (fun H locs h => ?_)
        obtain ⟨w_31, ew_31⟩ : ∃ z_ : GW, z_ = gu w (ad 0) (ob 4 [.int (nI cn), .int (bI ru), .int (bI fu), .ref (ad 1), .ref (ad 2), .ref (ad 3), .ref (ad 4), .ref (ad 5), .int (bI ch), .ref (ad 6), .ref (ad 7), .int (nI fi), .int (nI be), .ref (ad 8), .ref (ad 9), .int (nI 0), .int (nI ne), .ref (ad 10), .ref (ad 11), .int (nI ke), .int (bI false), .ref (ad 12)]) := ⟨_, rfl⟩
        have h : SH g w_31 v s H locs := by rw [ew_31]; exact h
        have f_32 : w_31 (ad 0) = some (ob 4 [.int (nI cn), .int (bI ru), .int (bI fu), .ref (ad 1), .ref (ad 2), .ref (ad 3), .ref (ad 4), .ref (ad 5), .int (bI ch), .ref (ad 6), .ref (ad 7), .int (nI fi), .int (nI be), .ref (ad 8), .ref (ad 9), .int (nI 0), .int (nI ne), .ref (ad 10), .ref (ad 11), .int (nI ke), .int (bI false), .ref (ad 12)]) := by rw [ew_31]; exact gu_s
        have f_33 : w_31 (ad 1) = some (eI g 2048 fD) := by rw [ew_31]; exact (gu_n (fun q => absurd (hinj 1 0 (by decide) (by decide) q) (by decide))).trans m1
        have f_34 : w_31 (ad 2) = some (eI g 2048 fL) := by rw [ew_31]; exact (gu_n (fun q => absurd (hinj 2 0 (by decide) (by decide) q) (by decide))).trans m2
        have f_35 : w_31 (ad 3) = some (eI g 2048 fO) := by rw [ew_31]; exact (gu_n (fun q => absurd (hinj 3 0 (by decide) (by decide) q) (by decide))).trans m3
        have f_36 : w_31 (ad 4) = some (eZ g 64 z) := by rw [ew_31]; exact (gu_n (fun q => absurd (hinj 4 0 (by decide) (by decide) q) (by decide))).trans m4
        have f_37 : w_31 (ad 5) = some (eI g 30 fP) := by rw [ew_31]; exact (gu_n (fun q => absurd (hinj 5 0 (by decide) (by decide) q) (by decide))).trans m5
        have f_38 : w_31 (ad 6) = some (eI g 1200 fT) := by rw [ew_31]; exact (gu_n (fun q => absurd (hinj 6 0 (by decide) (by decide) q) (by decide))).trans m6
        have f_39 : w_31 (ad 7) = some (eI g 38400 fY) := by rw [ew_31]; exact (gu_n (fun q => absurd (hinj 7 0 (by decide) (by decide) q) (by decide))).trans m7
        have f_40 : w_31 (ad 8) = some (eI g 1200 fN) := by rw [ew_31]; exact (gu_n (fun q => absurd (hinj 8 0 (by decide) (by decide) q) (by decide))).trans m8
        have f_41 : w_31 (ad 9) = some (eL g 1200 fS) := by rw [ew_31]; exact (gu_n (fun q => absurd (hinj 9 0 (by decide) (by decide) q) (by decide))).trans m9
        have f_42 : w_31 (ad 10) = some (eI g 4 fKn) := by rw [ew_31]; exact (gu_n (fun q => absurd (hinj 10 0 (by decide) (by decide) q) (by decide))).trans m10
        have f_43 : w_31 (ad 11) = some (eL g 4 fK) := by rw [ew_31]; exact (gu_n (fun q => absurd (hinj 11 0 (by decide) (by decide) q) (by decide))).trans m11
        have f_44 : w_31 (ad 12) = some (eI g 32 fH) := by rw [ew_31]; exact (gu_n (fun q => absurd (hinj 12 0 (by decide) (by decide) q) (by decide))).trans m12
        refine lv_aload_n hx hb dX3_at_27 rfl (lv_at hl 0 rfl) ?_
        refine gx_get C h f_32 (Cn := RX3) (T := TX3) (N := 22) rfl in_X3 20 (by decide) q752 rfl rfl dX3_at_28 ?_
        refine lv_if_eq (tgt := 38) hx hb dX3_at_31 (by decide) (fun c9 => ?_) (fun c9 => ?_)
        · skip
          have c9 : false = false := bI_eq0.mp c9
          refine lv_aload_n hx hb dX3_at_38 rfl (lv_at hl 0 rfl) ?_
          refine lv_aload_n hx hb dX3_at_39 rfl (lv_at hl 0 rfl) ?_
          refine gx_get C h f_32 (Cn := RX3) (T := TX3) (N := 22) rfl in_X3 7 (by decide) q739 rfl rfl dX3_at_40 ?_
          refine lv_iload_n hx hb dX3_at_43 rfl (lv_at hl 1 rfl) ?_
          refine gx_iald C h f_37 j (rfl) (by omega) dX3_at_44 ?_
          rw [hfpj]
          refine lv_iload_n hx hb dX3_at_45 rfl (lv_at hl 2 rfl) ?_
          refine gc_i (va_runV (As := [.int (nI k), .int (nI ii)]) (rest := []) C.fix (m_X3_byteOf l g w_31 v ad cn ru fu ch false fi be ne ke f_32 z f_36 fO f_35 fL f_34 k ii (by omega) hii) (cwV 2 hts (lw_V q813 q815 qs29 q53 q816) rfl rfl rfl (by decide +kernel) ⟨Nat.le_of_ble_eq_true rfl, Nat.le_of_ble_eq_true rfl⟩) (gp_V C h [.int (nI k), .int (nI ii)] (Cn := RX3) (T := TX3) (N := 22) rfl f_32) rfl rfl hl.1 rfl (lv_room (Nat.le_of_ble_eq_true rfl)) dX3_at_46 ⟨Nat.le_of_ble_eq_true rfl, Nat.le_of_ble_eq_true rfl⟩) h (fun r_45 w_46 H locs hp h => ?_)
          obtain ⟨er_r_45, ew_r_45⟩ := hp
          rw [er_r_45]
          rw [ew_r_45] at h
          rw [br_by r2 r3 r4 (by omega) hii]
          refine lv_i2b hx hb dX3_at_49 rfl ?_
          have eq : opAt (cn, ru, fu, ch, dk, wt, ld, pl, st, kp) x i = some (cur dk wt ld k ii) := by unfold opAt; dsimp only; rw [hk]; dsimp only; rw [if_neg (fun q => q.elim c2 (fun q => Int32.not_le.mpr c3 q)), hic]
          exact gr_i C h (ty := .byte) rfl (pk_nb _) (by rw [eq]; exact ⟨fun b hb => (by cases hb; rw [ub_i8]), ⟨false, fi, be, ne, ke, fD, fL, fO, z, fP, fT, fY, fN, fS, fKn, fK, fH, ⟨hinj, f_32, f_33, f_34, f_35, f_36, f_37, f_38, f_39, f_40, f_41, f_42, f_43, f_44⟩, r1, r2, r3, r4, r5, r6, r7, r8, r9, r10, r11, by omega, by omega⟩, fi, be, ne, ke, f_32⟩) (Nat.le_of_ble_eq_true rfl) (Nat.le_of_ble_eq_true rfl) dX3_at_50
        · skip
          have c9 : false = true := bI_ne0.mp c9
          cases c9
      · skip
        refine lv_iconst (v := bI true) hx hb dX3_at_19 (by decide) ?_
        refine lv_goto (tgt := 24) hx hb dX3_at_20 (by decide) ?_
        refine gx_put C h m0 (Cn := RX3) (T := TX3) (N := 22) (x := .int (bI true)) rfl in_X3 tyX3 tyX3_ok nmX3 20 (by decide) q752 rfl rfl (bI_n _) (bI_f _) (Nat.le_of_ble_eq_true rfl) dX3_at_24 (fun H locs h => ?_)
        obtain ⟨w_47, ew_47⟩ : ∃ z_ : GW, z_ = gu w (ad 0) (ob 4 [.int (nI cn), .int (bI ru), .int (bI fu), .ref (ad 1), .ref (ad 2), .ref (ad 3), .ref (ad 4), .ref (ad 5), .int (bI ch), .ref (ad 6), .ref (ad 7), .int (nI fi), .int (nI be), .ref (ad 8), .ref (ad 9), .int (nI 0), .int (nI ne), .ref (ad 10), .ref (ad 11), .int (nI ke), .int (bI true), .ref (ad 12)]) := ⟨_, rfl⟩
        have h : SH g w_47 v s H locs := by rw [ew_47]; exact h
        have f_48 : w_47 (ad 0) = some (ob 4 [.int (nI cn), .int (bI ru), .int (bI fu), .ref (ad 1), .ref (ad 2), .ref (ad 3), .ref (ad 4), .ref (ad 5), .int (bI ch), .ref (ad 6), .ref (ad 7), .int (nI fi), .int (nI be), .ref (ad 8), .ref (ad 9), .int (nI 0), .int (nI ne), .ref (ad 10), .ref (ad 11), .int (nI ke), .int (bI true), .ref (ad 12)]) := by rw [ew_47]; exact gu_s
        have f_49 : w_47 (ad 1) = some (eI g 2048 fD) := by rw [ew_47]; exact (gu_n (fun q => absurd (hinj 1 0 (by decide) (by decide) q) (by decide))).trans m1
        have f_50 : w_47 (ad 2) = some (eI g 2048 fL) := by rw [ew_47]; exact (gu_n (fun q => absurd (hinj 2 0 (by decide) (by decide) q) (by decide))).trans m2
        have f_51 : w_47 (ad 3) = some (eI g 2048 fO) := by rw [ew_47]; exact (gu_n (fun q => absurd (hinj 3 0 (by decide) (by decide) q) (by decide))).trans m3
        have f_52 : w_47 (ad 4) = some (eZ g 64 z) := by rw [ew_47]; exact (gu_n (fun q => absurd (hinj 4 0 (by decide) (by decide) q) (by decide))).trans m4
        have f_53 : w_47 (ad 5) = some (eI g 30 fP) := by rw [ew_47]; exact (gu_n (fun q => absurd (hinj 5 0 (by decide) (by decide) q) (by decide))).trans m5
        have f_54 : w_47 (ad 6) = some (eI g 1200 fT) := by rw [ew_47]; exact (gu_n (fun q => absurd (hinj 6 0 (by decide) (by decide) q) (by decide))).trans m6
        have f_55 : w_47 (ad 7) = some (eI g 38400 fY) := by rw [ew_47]; exact (gu_n (fun q => absurd (hinj 7 0 (by decide) (by decide) q) (by decide))).trans m7
        have f_56 : w_47 (ad 8) = some (eI g 1200 fN) := by rw [ew_47]; exact (gu_n (fun q => absurd (hinj 8 0 (by decide) (by decide) q) (by decide))).trans m8
        have f_57 : w_47 (ad 9) = some (eL g 1200 fS) := by rw [ew_47]; exact (gu_n (fun q => absurd (hinj 9 0 (by decide) (by decide) q) (by decide))).trans m9
        have f_58 : w_47 (ad 10) = some (eI g 4 fKn) := by rw [ew_47]; exact (gu_n (fun q => absurd (hinj 10 0 (by decide) (by decide) q) (by decide))).trans m10
        have f_59 : w_47 (ad 11) = some (eL g 4 fK) := by rw [ew_47]; exact (gu_n (fun q => absurd (hinj 11 0 (by decide) (by decide) q) (by decide))).trans m11
        have f_60 : w_47 (ad 12) = some (eI g 32 fH) := by rw [ew_47]; exact (gu_n (fun q => absurd (hinj 12 0 (by decide) (by decide) q) (by decide))).trans m12
        refine lv_aload_n hx hb dX3_at_27 rfl (lv_at hl 0 rfl) ?_
        refine gx_get C h f_48 (Cn := RX3) (T := TX3) (N := 22) rfl in_X3 20 (by decide) q752 rfl rfl dX3_at_28 ?_
        refine lv_if_eq (tgt := 38) hx hb dX3_at_31 (by decide) (fun c9 => ?_) (fun c9 => ?_)
        · skip
          have c9 : true = false := bI_eq0.mp c9
          cases c9
        · skip
          have c9 : true = true := bI_ne0.mp c9
          refine lv_iconst (v := nI 0) hx hb dX3_at_34 (by decide) ?_
          refine lv_goto (tgt := 50) hx hb dX3_at_35 (by decide) ?_
          have eq : opAt (cn, ru, fu, ch, dk, wt, ld, pl, st, kp) x i = none := by unfold opAt; dsimp only; rw [hk]; dsimp only; rw [if_pos (Or.inr (Int32.not_lt.mp c3))]
          exact gr_i C h (ty := .byte) rfl (rfl) (by rw [eq]; exact ⟨fun b hb => (by cases hb), ⟨true, fi, be, ne, ke, fD, fL, fO, z, fP, fT, fY, fN, fS, fKn, fK, fH, ⟨hinj, f_48, f_49, f_50, f_51, f_52, f_53, f_54, f_55, f_56, f_57, f_58, f_59, f_60⟩, r1, r2, r3, r4, r5, r6, r7, r8, r9, r10, r11, by omega, by omega⟩, fi, be, ne, ke, f_48⟩) (Nat.le_of_ble_eq_true rfl) (Nat.le_of_ble_eq_true rfl) dX3_at_50
set_option maxHeartbeats 4000000 in
theorem m_X3_poke (l : Launch) (g : GG) (w v : GW) (ad : Nat → Nat) (N cn : Nat) (ru fu ch : Bool) (dk : Sec) (wt : List (Nat × Sec)) (ld : Nat → Option Sec) (pl : Nat → Option Nat) (st kp : List (Int32 × Int64)) (hR : RM g w ad N (cn, ru, fu, ch, dk, wt, ld, pl, st, kp)) (hI : InvK (cn, ru, fu, ch, dk, wt, ld, pl, st, kp)) (hN : N < 64) (x i q : Int32)  : Met l yX3_poke (ws_ yX3_poke cX3_poke 5 (some .int)) ({ frames := 2, cells := 0, slots := 0, locals := 120 } : Room) (gP g [.ref (ad 0), .int x, .int i, .int q] w v) (va_Qi (fun (r : Int32) (w' : GW) => r = (opPoke (cn, ru, fu, ch, dk, wt, ld, pl, st, kp) x i q).1 ∧ RM g w' ad (N + 1) (opPoke (cn, ru, fu, ch, dk, wt, ld, pl, st, kp) x i q).2) (gB g v) (gA g)) 0 0 (gA g) := by
  refine gm_of (by decide) (Nat.le_of_ble_eq_true rfl) ?_
  intro p e s m below meth c ls C hnm h hl
  have C : Cx g p s m ([.ref (ad 0), .int x, .int i, .int q] : List Value).toArray meth c cX3_poke 5 RX3 (some .int) := C
  obtain ⟨hx, hb, hml, hown, hts, hr, hlk, hG⟩ := id C
  have hl : lv_has ls 5 [(0, .ref (ad 0)), (1, .int x), (2, .int i), (3, .int q)] := hl
  obtain ⟨th, fi, be, ne, ke, fD, fL, fO, z, fP, fT, fY, fN, fS, fKn, fK, fH, hM, r1, r2, r3, r4, r5, r6, r7, r8, r9, r10, r11, r12, r13⟩ := id hR
  obtain ⟨i1, i2, i3, i4, i5, i6, i7, i8, i9⟩ := id hI
  have hfb : fi ≤ be ∧ be ≤ 1200 := by omega
  have hne : ne < 1200 := by omega
  have hke : ke ≤ 4 := by omega
  have hcn : 2 ≤ cn ∧ cn ≤ 64 := by omega
  have hhel : ∀ k, k < 64 → heM fP fT fS fK fi be ne ke k = hel wt pl st kp k := fun k hk => br_hel i1.2 i2 i4 r5 r6 r7 r8 r9 r10 r11 hk
  have hKe := br_frS hcn hhel
  have hpl : ∀ q, q < 30 → fP q = -1 ∨ ∃ kk : Nat, kk < 64 ∧ fP q = nI kk := fun q hq => br_pls i1.2 i2 r5 hq
  obtain ⟨hinj, m0, m1, m2, m3, m4, m5, m6, m7, m8, m9, m10, m11, m12⟩ := id hM
  refine lv_aload_n hx hb dX3_poke_0 rfl (lv_at hl 0 rfl) ?_
  refine gx_get C h m0 (Cn := RX3) (T := TX3) (N := 22) rfl in_X3 1 (by decide) q733 rfl rfl dX3_poke_1 ?_
  refine lv_if_ne (tgt := 10) hx hb dX3_poke_4 (by decide) (fun c1 => ?_) (fun c1 => ?_)
  · skip
    have c1 : ru = true := bI_ne0.mp c1
    refine lv_aload_n hx hb dX3_poke_10 rfl (lv_at hl 0 rfl) ?_
    refine lv_iload_n hx hb dX3_poke_11 rfl (lv_at hl 1 rfl) ?_
    refine gc_i (va_runV (As := [.int x]) (rest := []) C.fix (m_X3_isPage l g w v ad cn ru fu ch th fi be ne ke m0 fP m5 x) (cwV 1 hts (lw_V q805 q807 qs27 q53 q808) rfl rfl rfl (by decide +kernel) ⟨Nat.le_of_ble_eq_true rfl, Nat.le_of_ble_eq_true rfl⟩) (gp_V C h [.int x] (Cn := RX3) (T := TX3) (N := 22) rfl m0) rfl rfl hl.1 rfl (lv_room (Nat.le_of_ble_eq_true rfl)) dX3_poke_12 ⟨Nat.le_of_ble_eq_true rfl, Nat.le_of_ble_eq_true rfl⟩) h (fun r_1 w_2 H locs hp h => ?_)
    obtain ⟨er_r_1, ew_r_1⟩ := hp
    rw [er_r_1]
    rw [ew_r_1] at h
    rw [br_pg i1.2 i2 r5 x]
    refine lv_if_ne (tgt := 20) hx hb dX3_poke_15 (by decide) (fun c2 => ?_) (fun c2 => ?_)
    · skip
      have c2 : (pgOf pl x).isSome = true := bI_ne0.mp c2
      obtain ⟨k, hk⟩ := Option.isSome_iff_exists.mp c2
      obtain ⟨j, hj, hxj, hxc, hplj⟩ := pgOf_some hk
      have hk64 := i2 j k hj hplj
      have hfpj : fP j = nI k := by rw [r5 j hj, hplj]; rfl
      rw [hxj] at hl
      refine lv_iload_n hx hb dX3_poke_20 rfl (lv_at hl 2 rfl) ?_
      refine lv_if_lt (tgt := 42) hx hb dX3_poke_21 (by decide) (fun c3 => ?_) (fun c3 => ?_)
      · skip
        refine lv_bipush (v := (-2)) hx hb dX3_poke_42 (by decide) ?_
        have eq : opPoke (cn, ru, fu, ch, dk, wt, ld, pl, st, kp) x i q = (-2, (cn, ru, fu, ch, dk, wt, ld, pl, st, kp)) := by unfold opPoke; dsimp only; rw [if_neg (show ¬ ru = false by rw [c1]; decide), hk]; dsimp only; rw [if_pos (Or.inl c3)]
        exact gr_i C h (ty := .int) rfl (rfl) (by rw [eq]; exact ⟨rfl, hR.mono⟩) (Nat.le_of_ble_eq_true rfl) (Nat.le_of_ble_eq_true rfl) dX3_poke_44
      · skip
        refine lv_iload_n hx hb dX3_poke_24 rfl (lv_at hl 2 rfl) ?_
        refine lv_bipush (v := nI 32) hx hb dX3_poke_25 (by decide) ?_
        refine lv_icmp_ge (tgt := 42) hx hb dX3_poke_27 (by decide) (fun c4 => ?_) (fun c4 => ?_)
        · skip
          refine lv_bipush (v := (-2)) hx hb dX3_poke_42 (by decide) ?_
          have eq : opPoke (cn, ru, fu, ch, dk, wt, ld, pl, st, kp) x i q = (-2, (cn, ru, fu, ch, dk, wt, ld, pl, st, kp)) := by unfold opPoke; dsimp only; rw [if_neg (show ¬ ru = false by rw [c1]; decide), hk]; dsimp only; rw [if_pos (Or.inr (Or.inl c4))]
          exact gr_i C h (ty := .int) rfl (rfl) (by rw [eq]; exact ⟨rfl, hR.mono⟩) (Nat.le_of_ble_eq_true rfl) (Nat.le_of_ble_eq_true rfl) dX3_poke_44
        · skip
          refine lv_iload_n hx hb dX3_poke_30 rfl (lv_at hl 3 rfl) ?_
          refine lv_iconst (v := nI 1) hx hb dX3_poke_31 (by decide) ?_
          refine lv_icmp_lt (tgt := 42) hx hb dX3_poke_32 (by decide) (fun c5 => ?_) (fun c5 => ?_)
          · skip
            refine lv_bipush (v := (-2)) hx hb dX3_poke_42 (by decide) ?_
            have eq : opPoke (cn, ru, fu, ch, dk, wt, ld, pl, st, kp) x i q = (-2, (cn, ru, fu, ch, dk, wt, ld, pl, st, kp)) := by unfold opPoke; dsimp only; rw [if_neg (show ¬ ru = false by rw [c1]; decide), hk]; dsimp only; rw [if_pos (Or.inr (Or.inr (Or.inl c5)))]
            exact gr_i C h (ty := .int) rfl (rfl) (by rw [eq]; exact ⟨rfl, hR.mono⟩) (Nat.le_of_ble_eq_true rfl) (Nat.le_of_ble_eq_true rfl) dX3_poke_44
          · skip
            refine lv_iload_n hx hb dX3_poke_35 rfl (lv_at hl 3 rfl) ?_
            refine lv_sipush (v := nI 255) hx hb dX3_poke_36 (by decide) ?_
            refine lv_icmp_le (tgt := 45) hx hb dX3_poke_39 (by decide) (fun c6 => ?_) (fun c6 => ?_)
            · skip
              obtain ⟨ii, hii, hiv, hic⟩ : ∃ ii : Nat, ii < 32 ∧ i = nI ii ∧ i.toNatClampNeg = ii := ix32 c3 (Int32.not_le.mp c4)
              rw [hiv] at hl
              have hnr : ¬ (i < 0 ∨ nI 32 ≤ i ∨ q < nI 1 ∨ nI 255 < q) := fun z => z.elim c3 (fun z => z.elim c4 (fun z => z.elim c5 (fun z => Int32.not_lt.mpr c6 z)))
              refine lv_aload_n hx hb dX3_poke_45 rfl (lv_at hl 0 rfl) ?_
              refine gx_get C h m0 (Cn := RX3) (T := TX3) (N := 22) rfl in_X3 7 (by decide) q739 rfl rfl dX3_poke_46 ?_
              refine lv_iload_n hx hb dX3_poke_49 rfl (lv_at hl 1 rfl) ?_
              refine gx_iald C h m5 j (rfl) (by omega) dX3_poke_50 ?_
              rw [hfpj]
              refine lv_istore (lv' := [(4, .int (nI k)), (0, .ref (ad 0)), (1, .int (nI j)), (2, .int (nI ii)), (3, .int q)]) hx hb dX3_poke_51 hl (by decide) rfl (fun ls hl => ?_)
              refine lv_aload_n hx hb dX3_poke_53 rfl (lv_at hl 1 rfl) ?_
              refine gx_get C h m0 (Cn := RX3) (T := TX3) (N := 22) rfl in_X3 6 (by decide) q738 rfl rfl dX3_poke_54 ?_
              refine lv_iload hx hb dX3_poke_57 (lv_at hl 0 rfl) ?_
              refine gx_zald C h m4 k (rfl) (by omega) dX3_poke_59 ?_
              rw [r4 k (by omega)]
              refine lv_if_ne (tgt := 72) hx hb dX3_poke_60 (by decide) (fun c7 => ?_) (fun c7 => ?_)
              · skip
                have c7 : (ld k).isSome = true := bI_ne0.mp c7
                refine lv_bipush (v := (-3)) hx hb dX3_poke_72 (by decide) ?_
                have eq : opPoke (cn, ru, fu, ch, dk, wt, ld, pl, st, kp) x i q = (-3, (cn, ru, fu, ch, dk, wt, ld, pl, st, kp)) := by unfold opPoke; dsimp only; rw [if_neg (show ¬ ru = false by rw [c1]; decide), hk]; dsimp only; rw [if_neg hnr, if_pos (Or.inl c7)]
                exact gr_i C h (ty := .int) rfl (rfl) (by rw [eq]; exact ⟨rfl, hR.mono⟩) (Nat.le_of_ble_eq_true rfl) (Nat.le_of_ble_eq_true rfl) dX3_poke_74
              · skip
                have c7 : (ld k).isSome = false := bI_eq0.mp c7
                refine lv_aload_n hx hb dX3_poke_63 rfl (lv_at hl 1 rfl) ?_
                refine lv_iload hx hb dX3_poke_64 (lv_at hl 0 rfl) ?_
                refine gc_i (va_runV (As := [.int (nI k)]) (rest := []) C.fix (m_X3_isWaiting l g w v ad cn ru fu ch th fi be ne ke m0 fT m6 k (by omega) hfb) (cwV 1 hts (lw_V q852 q854 qs36 q53 q855) rfl rfl rfl (by decide +kernel) ⟨Nat.le_of_ble_eq_true rfl, Nat.le_of_ble_eq_true rfl⟩) (gp_V C h [.int (nI k)] (Cn := RX3) (T := TX3) (N := 22) rfl m0) rfl rfl hl.1 rfl (lv_room (Nat.le_of_ble_eq_true rfl)) dX3_poke_66 ⟨Nat.le_of_ble_eq_true rfl, Nat.le_of_ble_eq_true rfl⟩) h (fun r_3 w_4 H locs hp h => ?_)
                obtain ⟨er_r_3, ew_r_3⟩ := hp
                rw [er_r_3]
                rw [ew_r_3] at h
                rw [br_wa i4 i1.2 r6 r7 (by omega)]
                refine lv_if_eq (tgt := 75) hx hb dX3_poke_69 (by decide) (fun c8 => ?_) (fun c8 => ?_)
                · skip
                  have c8 : (wt.any (fun x => decide (x.1 = k))) = false := bI_eq0.mp c8
                  refine lv_aload_n hx hb dX3_poke_75 rfl (lv_at hl 1 rfl) ?_
                  refine gx_get C h m0 (Cn := RX3) (T := TX3) (N := 22) rfl in_X3 3 (by decide) q735 rfl rfl dX3_poke_76 ?_
                  refine lv_bipush (v := nI 32) hx hb dX3_poke_79 (by decide) ?_
                  refine lv_iload hx hb dX3_poke_81 (lv_at hl 0 rfl) ?_
                  refine gn_imul hx hb dX3_poke_83 ?_
                  refine lv_iload_n hx hb dX3_poke_84 rfl (lv_at hl 3 rfl) ?_
                  refine gn_iadd hx hb dX3_poke_85 ?_
                  refine lv_dup2_11 hx hb dX3_poke_86 rfl rfl ?_
                  refine gx_iald C h m1 ((32 * k) + ii) (rfl) (by omega) dX3_poke_87 ?_
                  refine lv_iload_n hx hb dX3_poke_88 rfl (lv_at hl 4 rfl) ?_
                  refine lv_ixor hx hb dX3_poke_89 ?_
                  refine gx_iast C h m1 ((32 * k) + ii) (rfl) (by omega) dX3_poke_90 (fun H locs h => ?_)
                  obtain ⟨w_5, ew_5⟩ : ∃ z_ : GW, z_ = gu w (ad 1) (eI g 2048 (upd fD ((32 * k) + ii) ((((fD ((32 * k) + ii))) ^^^ q)))) := ⟨_, rfl⟩
                  have h : SH g w_5 v s H locs := by rw [ew_5]; exact h
                  have f_6 : w_5 (ad 0) = some (ob 4 [.int (nI cn), .int (bI ru), .int (bI fu), .ref (ad 1), .ref (ad 2), .ref (ad 3), .ref (ad 4), .ref (ad 5), .int (bI ch), .ref (ad 6), .ref (ad 7), .int (nI fi), .int (nI be), .ref (ad 8), .ref (ad 9), .int (nI 0), .int (nI ne), .ref (ad 10), .ref (ad 11), .int (nI ke), .int (bI th), .ref (ad 12)]) := by rw [ew_5]; exact (gu_n (fun q => absurd (hinj 0 1 (by decide) (by decide) q) (by decide))).trans m0
                  have f_7 : w_5 (ad 1) = some (eI g 2048 (upd fD ((32 * k) + ii) ((((fD ((32 * k) + ii))) ^^^ q)))) := by rw [ew_5]; exact gu_s
                  have f_8 : w_5 (ad 2) = some (eI g 2048 fL) := by rw [ew_5]; exact (gu_n (fun q => absurd (hinj 2 1 (by decide) (by decide) q) (by decide))).trans m2
                  have f_9 : w_5 (ad 3) = some (eI g 2048 fO) := by rw [ew_5]; exact (gu_n (fun q => absurd (hinj 3 1 (by decide) (by decide) q) (by decide))).trans m3
                  have f_10 : w_5 (ad 4) = some (eZ g 64 z) := by rw [ew_5]; exact (gu_n (fun q => absurd (hinj 4 1 (by decide) (by decide) q) (by decide))).trans m4
                  have f_11 : w_5 (ad 5) = some (eI g 30 fP) := by rw [ew_5]; exact (gu_n (fun q => absurd (hinj 5 1 (by decide) (by decide) q) (by decide))).trans m5
                  have f_12 : w_5 (ad 6) = some (eI g 1200 fT) := by rw [ew_5]; exact (gu_n (fun q => absurd (hinj 6 1 (by decide) (by decide) q) (by decide))).trans m6
                  have f_13 : w_5 (ad 7) = some (eI g 38400 fY) := by rw [ew_5]; exact (gu_n (fun q => absurd (hinj 7 1 (by decide) (by decide) q) (by decide))).trans m7
                  have f_14 : w_5 (ad 8) = some (eI g 1200 fN) := by rw [ew_5]; exact (gu_n (fun q => absurd (hinj 8 1 (by decide) (by decide) q) (by decide))).trans m8
                  have f_15 : w_5 (ad 9) = some (eL g 1200 fS) := by rw [ew_5]; exact (gu_n (fun q => absurd (hinj 9 1 (by decide) (by decide) q) (by decide))).trans m9
                  have f_16 : w_5 (ad 10) = some (eI g 4 fKn) := by rw [ew_5]; exact (gu_n (fun q => absurd (hinj 10 1 (by decide) (by decide) q) (by decide))).trans m10
                  have f_17 : w_5 (ad 11) = some (eL g 4 fK) := by rw [ew_5]; exact (gu_n (fun q => absurd (hinj 11 1 (by decide) (by decide) q) (by decide))).trans m11
                  have f_18 : w_5 (ad 12) = some (eI g 32 fH) := by rw [ew_5]; exact (gu_n (fun q => absurd (hinj 12 1 (by decide) (by decide) q) (by decide))).trans m12
                  refine lv_aload_n hx hb dX3_poke_91 rfl (lv_at hl 1 rfl) ?_
                  refine gx_get C h f_6 (Cn := RX3) (T := TX3) (N := 22) rfl in_X3 4 (by decide) q736 rfl rfl dX3_poke_92 ?_
                  refine lv_bipush (v := nI 32) hx hb dX3_poke_95 (by decide) ?_
                  refine lv_iload hx hb dX3_poke_97 (lv_at hl 0 rfl) ?_
                  refine gn_imul hx hb dX3_poke_99 ?_
                  refine lv_iload_n hx hb dX3_poke_100 rfl (lv_at hl 3 rfl) ?_
                  refine gn_iadd hx hb dX3_poke_101 ?_
                  refine lv_aload_n hx hb dX3_poke_102 rfl (lv_at hl 1 rfl) ?_
                  refine gx_get C h f_6 (Cn := RX3) (T := TX3) (N := 22) rfl in_X3 3 (by decide) q735 rfl rfl dX3_poke_103 ?_
                  refine lv_bipush (v := nI 32) hx hb dX3_poke_106 (by decide) ?_
                  refine lv_iload hx hb dX3_poke_108 (lv_at hl 0 rfl) ?_
                  refine gn_imul hx hb dX3_poke_110 ?_
                  refine lv_iload_n hx hb dX3_poke_111 rfl (lv_at hl 3 rfl) ?_
                  refine gn_iadd hx hb dX3_poke_112 ?_
                  refine gx_iald C h f_7 ((32 * k) + ii) (rfl) (by omega) dX3_poke_113 ?_
                  refine gx_iast C h f_8 ((32 * k) + ii) (rfl) (by omega) dX3_poke_114 (fun H locs h => ?_)
                  obtain ⟨w_19, ew_19⟩ : ∃ z_ : GW, z_ = gu w_5 (ad 2) (eI g 2048 (upd fL ((32 * k) + ii) (((upd fD ((32 * k) + ii) ((((fD ((32 * k) + ii))) ^^^ q))) ((32 * k) + ii))))) := ⟨_, rfl⟩
                  have h : SH g w_19 v s H locs := by rw [ew_19]; exact h
                  have f_20 : w_19 (ad 0) = some (ob 4 [.int (nI cn), .int (bI ru), .int (bI fu), .ref (ad 1), .ref (ad 2), .ref (ad 3), .ref (ad 4), .ref (ad 5), .int (bI ch), .ref (ad 6), .ref (ad 7), .int (nI fi), .int (nI be), .ref (ad 8), .ref (ad 9), .int (nI 0), .int (nI ne), .ref (ad 10), .ref (ad 11), .int (nI ke), .int (bI th), .ref (ad 12)]) := by rw [ew_19]; exact (gu_n (fun q => absurd (hinj 0 2 (by decide) (by decide) q) (by decide))).trans f_6
                  have f_21 : w_19 (ad 1) = some (eI g 2048 (upd fD ((32 * k) + ii) ((((fD ((32 * k) + ii))) ^^^ q)))) := by rw [ew_19]; exact (gu_n (fun q => absurd (hinj 1 2 (by decide) (by decide) q) (by decide))).trans f_7
                  have f_22 : w_19 (ad 2) = some (eI g 2048 (upd fL ((32 * k) + ii) (((upd fD ((32 * k) + ii) ((((fD ((32 * k) + ii))) ^^^ q))) ((32 * k) + ii))))) := by rw [ew_19]; exact gu_s
                  have f_23 : w_19 (ad 3) = some (eI g 2048 fO) := by rw [ew_19]; exact (gu_n (fun q => absurd (hinj 3 2 (by decide) (by decide) q) (by decide))).trans f_9
                  have f_24 : w_19 (ad 4) = some (eZ g 64 z) := by rw [ew_19]; exact (gu_n (fun q => absurd (hinj 4 2 (by decide) (by decide) q) (by decide))).trans f_10
                  have f_25 : w_19 (ad 5) = some (eI g 30 fP) := by rw [ew_19]; exact (gu_n (fun q => absurd (hinj 5 2 (by decide) (by decide) q) (by decide))).trans f_11
                  have f_26 : w_19 (ad 6) = some (eI g 1200 fT) := by rw [ew_19]; exact (gu_n (fun q => absurd (hinj 6 2 (by decide) (by decide) q) (by decide))).trans f_12
                  have f_27 : w_19 (ad 7) = some (eI g 38400 fY) := by rw [ew_19]; exact (gu_n (fun q => absurd (hinj 7 2 (by decide) (by decide) q) (by decide))).trans f_13
                  have f_28 : w_19 (ad 8) = some (eI g 1200 fN) := by rw [ew_19]; exact (gu_n (fun q => absurd (hinj 8 2 (by decide) (by decide) q) (by decide))).trans f_14
                  have f_29 : w_19 (ad 9) = some (eL g 1200 fS) := by rw [ew_19]; exact (gu_n (fun q => absurd (hinj 9 2 (by decide) (by decide) q) (by decide))).trans f_15
                  have f_30 : w_19 (ad 10) = some (eI g 4 fKn) := by rw [ew_19]; exact (gu_n (fun q => absurd (hinj 10 2 (by decide) (by decide) q) (by decide))).trans f_16
                  have f_31 : w_19 (ad 11) = some (eL g 4 fK) := by rw [ew_19]; exact (gu_n (fun q => absurd (hinj 11 2 (by decide) (by decide) q) (by decide))).trans f_17
                  have f_32 : w_19 (ad 12) = some (eI g 32 fH) := by rw [ew_19]; exact (gu_n (fun q => absurd (hinj 12 2 (by decide) (by decide) q) (by decide))).trans f_18
                  refine lv_aload_n hx hb dX3_poke_115 rfl (lv_at hl 1 rfl) ?_
                  refine gx_get C h f_20 (Cn := RX3) (T := TX3) (N := 22) rfl in_X3 3 (by decide) q735 rfl rfl dX3_poke_116 ?_
                  refine lv_bipush (v := nI 32) hx hb dX3_poke_119 (by decide) ?_
                  refine lv_iload hx hb dX3_poke_121 (lv_at hl 0 rfl) ?_
                  refine gn_imul hx hb dX3_poke_123 ?_
                  refine lv_iload_n hx hb dX3_poke_124 rfl (lv_at hl 3 rfl) ?_
                  refine gn_iadd hx hb dX3_poke_125 ?_
                  refine gx_iald C h f_21 ((32 * k) + ii) (rfl) (by omega) dX3_poke_126 ?_
                  have hb1 : upd fD (32 * k + ii) (fD (32 * k + ii) ^^^ q) (32 * k + ii) = ub (dk (32 * k + ii) ^^^ q.toInt8) := by unfold upd; rw [if_pos rfl, r1 _ (by omega)]; exact ub_xor c5 c6
                  have eq : opPoke (cn, ru, fu, ch, dk, wt, ld, pl, st, kp) x i q = (ub (dk (32 * k + ii) ^^^ q.toInt8), (cn, ru, fu, ch, va_up dk (32 * k + ii) (dk (32 * k + ii) ^^^ q.toInt8), wt, ld, pl, st, kp)) := by unfold opPoke; dsimp only; rw [if_neg (show ¬ ru = false by rw [c1]; decide), hk]; dsimp only; rw [if_neg hnr, if_neg (fun z => by rw [c7, c8] at z; exact absurd z (by decide)), hic]
                  exact gr_i C h (ty := .int) rfl (rfl) (by rw [eq]; exact ⟨hb1, th, fi, be, ne, ke, _, _, fO, z, fP, fT, fY, fN, fS, fKn, fK, fH, ⟨hinj, f_20, f_21, f_22, f_23, f_24, f_25, f_26, f_27, f_28, f_29, f_30, f_31, f_32⟩, poke_D r1 hb1, poke_L r2 c8 (by omega) hii hb1, r3, r4, r5, r6, r7, r8, r9, r10, r11, by omega, by omega⟩) (Nat.le_of_ble_eq_true rfl) (Nat.le_of_ble_eq_true rfl) dX3_poke_127
                · skip
                  have c8 : (wt.any (fun x => decide (x.1 = k))) = true := bI_ne0.mp c8
                  refine lv_bipush (v := (-3)) hx hb dX3_poke_72 (by decide) ?_
                  have eq : opPoke (cn, ru, fu, ch, dk, wt, ld, pl, st, kp) x i q = (-3, (cn, ru, fu, ch, dk, wt, ld, pl, st, kp)) := by unfold opPoke; dsimp only; rw [if_neg (show ¬ ru = false by rw [c1]; decide), hk]; dsimp only; rw [if_neg hnr, if_pos (Or.inr c8)]
                  exact gr_i C h (ty := .int) rfl (rfl) (by rw [eq]; exact ⟨rfl, hR.mono⟩) (Nat.le_of_ble_eq_true rfl) (Nat.le_of_ble_eq_true rfl) dX3_poke_74
            · skip
              refine lv_bipush (v := (-2)) hx hb dX3_poke_42 (by decide) ?_
              have eq : opPoke (cn, ru, fu, ch, dk, wt, ld, pl, st, kp) x i q = (-2, (cn, ru, fu, ch, dk, wt, ld, pl, st, kp)) := by unfold opPoke; dsimp only; rw [if_neg (show ¬ ru = false by rw [c1]; decide), hk]; dsimp only; rw [if_pos (Or.inr (Or.inr (Or.inr (Int32.not_le.mp c6))))]
              exact gr_i C h (ty := .int) rfl (rfl) (by rw [eq]; exact ⟨rfl, hR.mono⟩) (Nat.le_of_ble_eq_true rfl) (Nat.le_of_ble_eq_true rfl) dX3_poke_44
    · skip
      have c2 : (pgOf pl x).isSome = false := bI_eq0.mp c2
      have hk : pgOf pl x = none := Option.not_isSome_iff_eq_none.mp (by rw [c2]; decide)
      refine lv_iconst (v := (-1)) hx hb dX3_poke_18 (by decide) ?_
      have eq : opPoke (cn, ru, fu, ch, dk, wt, ld, pl, st, kp) x i q = (-1, (cn, ru, fu, ch, dk, wt, ld, pl, st, kp)) := by unfold opPoke; dsimp only; rw [if_neg (show ¬ ru = false by rw [c1]; decide), hk]
      exact gr_i C h (ty := .int) rfl (rfl) (by rw [eq]; exact ⟨rfl, hR.mono⟩) (Nat.le_of_ble_eq_true rfl) (Nat.le_of_ble_eq_true rfl) dX3_poke_19
  · skip
    have c1 : ru = false := bI_eq0.mp c1
    refine lv_bipush (v := (-3)) hx hb dX3_poke_7 (by decide) ?_
    have eq : opPoke (cn, ru, fu, ch, dk, wt, ld, pl, st, kp) x i q = (-3, (cn, ru, fu, ch, dk, wt, ld, pl, st, kp)) := by unfold opPoke; dsimp only; rw [if_pos c1]
    exact gr_i C h (ty := .int) rfl (rfl) (by rw [eq]; exact ⟨rfl, hR.mono⟩) (Nat.le_of_ble_eq_true rfl) (Nat.le_of_ble_eq_true rfl) dX3_poke_9
