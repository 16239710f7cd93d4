set_option maxRecDepth 100000
/-- how many sectors -/
def cnOf (x : Int32) : Nat := 8 + (x.toInt % 57).toNat
def initK (x : Int32) : KS := beginK (cnOf x) true false (fun _ => 0) (0, 0)
theorem cnOf_le (x : Int32) : 8 ≤ cnOf x ∧ cnOf x ≤ 64 := by
  unfold cnOf
  have h1 := Int.emod_nonneg x.toInt (show (57 : Int) ≠ 0 by decide)
  have h2 := Int.emod_lt_of_pos x.toInt (show (0 : Int) < 57 by decide)
  omega
theorem nd_inj {l : List Nat} (h : l.Nodup) {i j : Nat} (hi : i < l.length) (hj : j < l.length) (e : l.getD i 0 = l.getD j 0) : i = j := by
  rw [List.getD_eq_getElem?_getD, List.getD_eq_getElem?_getD, List.getElem?_eq_getElem hi, List.getElem?_eq_getElem hj] at e
  have e : l[i] = l[j] := e
  have hp := List.pairwise_iff_getElem.mp h
  rcases Nat.lt_trichotomy i j with c | c | c
  · exact absurd e (hp i j hi hj c)
  · exact c
  · exact absurd e.symm (hp j i hj hi c)
theorem div57 (x : Int32) : (x / nI 57).toInt = x.toInt.tdiv 57 := by
  have h1 := Int32.le_toInt x
  have h2 := Int32.toInt_lt x
  rw [Int32.toInt_div, show (nI 57).toInt = 57 by decide]
  apply Int.bmod_eq_of_le
  · rcases Int.le_total 0 x.toInt with h | h
    · rw [Int.tdiv_eq_ediv_of_nonneg h]; omega
    · have : x.toInt = -(-x.toInt) := by omega
      rw [this, Int.neg_tdiv, Int.tdiv_eq_ediv_of_nonneg (by omega)]; omega
  · rcases Int.le_total 0 x.toInt with h | h
    · rw [Int.tdiv_eq_ediv_of_nonneg h]; omega
    · have : x.toInt = -(-x.toInt) := by omega
      rw [this, Int.neg_tdiv, Int.tdiv_eq_ediv_of_nonneg (by omega)]; omega
theorem rem57 (x : Int32) : (x - x / nI 57 * nI 57).toInt = if 0 ≤ x.toInt then x.toInt % 57 else -((-x.toInt) % 57) := by
  have h1 := Int32.le_toInt x
  have h2 := Int32.toInt_lt x
  have hq : (x / nI 57).toInt = if 0 ≤ x.toInt then x.toInt / 57 else -((-x.toInt) / 57) := by
    rw [div57]
    by_cases h : 0 ≤ x.toInt
    · rw [if_pos h, Int.tdiv_eq_ediv_of_nonneg h]
    · have e : x.toInt = -(-x.toInt) := by omega
      rw [if_neg h]
      conv => lhs; rw [e]
      rw [Int.neg_tdiv, Int.tdiv_eq_ediv_of_nonneg (by omega)]
  have hm : (x / nI 57 * nI 57).toInt = (x / nI 57).toInt * 57 := by
    rw [Int32.toInt_mul, show (nI 57).toInt = 57 by decide]
    apply Int.bmod_eq_of_le
    · rw [hq]; split <;> omega
    · rw [hq]; split <;> omega
  rw [Int32.toInt_sub, hm]
  rw [Int.bmod_eq_of_le]
  · rw [hq]; split <;> omega
  · rw [hq]; split <;> omega
  · rw [hq]; split <;> omega
theorem cnOf_a {x : Int32} (h : 0 ≤ x - x / nI 57 * nI 57) : nI 8 + (x - x / nI 57 * nI 57) = nI (cnOf x) := by
  have h0 : (0 : Int) ≤ (x - x / nI 57 * nI 57).toInt := Int32.le_iff_toInt_le.mp h
  have h1 := rem57 x
  have h3 := cnOf_le x
  apply Int32.toInt_inj.mp
  rw [Int32.toInt_add, nI_toInt (n := cnOf x) (by omega), show (nI 8).toInt = 8 by decide]
  unfold cnOf
  have hv : (x - x / nI 57 * nI 57).toInt = x.toInt % 57 := by
    rw [h1] at h0 ⊢
    split at h0
    · rw [if_pos (by assumption)]
    · rw [if_neg (by assumption)]; omega
  rw [hv, Int.bmod_eq_of_le (by omega) (by omega)]
  omega
theorem cnOf_b {x : Int32} (h : ¬ 0 ≤ x - x / nI 57 * nI 57) : nI 8 + (x - x / nI 57 * nI 57 + nI 57) = nI (cnOf x) := by
  have h0 : ¬ (0 : Int) ≤ (x - x / nI 57 * nI 57).toInt := fun q => h (Int32.le_iff_toInt_le.mpr q)
  have h1 := rem57 x
  have h3 := cnOf_le x
  have hv : (x - x / nI 57 * nI 57).toInt = x.toInt % 57 - 57 := by
    rw [h1] at h0 ⊢
    split at h0
    · omega
    · rw [if_neg (by assumption)]; omega
  have hw : (x - x / nI 57 * nI 57 + nI 57).toInt = x.toInt % 57 := by
    rw [Int32.toInt_add, hv, show (nI 57).toInt = 57 by decide, Int.bmod_eq_of_le (by omega) (by omega)]
    omega
  apply Int32.toInt_inj.mp
  rw [Int32.toInt_add, nI_toInt (n := cnOf x) (by omega), show (nI 8).toInt = 8 by decide, hw, Int.bmod_eq_of_le (by omega) (by omega)]
  unfold cnOf
  omega
set_option maxHeartbeats 4000000 in
theorem m_X3_init (l : Launch) (g : GG) (w v : GW) (hm : Nat) (x : Int32) (h0 : w hm = some (ob 4 [.int (nI 0), .int (bI false), .int (bI false), .null, .null, .null, .null, .null, .int (bI false), .null, .null, .int (nI 0), .int (nI 0), .null, .null, .int (nI 0), .int (nI 0), .null, .null, .int (nI 0), .int (bI false), .null])) : Met l yX3_init (ws_ yX3_init cX3_init 3 none) ({ frames := 2, cells := 12, slots := 48300, locals := 120 } : Room) (gP g [.ref hm, .int x] w v) (va_Qv (fun (w' : GW) => ∃ ad : Nat → Nat, ad 0 = hm ∧ RM g w' ad 0 (initK x)) (gB g v) (gA g)) 12 48300 (gA g) := by
  refine gm_of (by decide) (Nat.le_of_ble_eq_true rfl) ?_
  intro p e s m below meth c ls C hnm h hl
  have C : Cx g p s m ([.ref hm, .int x] : List Value).toArray meth c cX3_init 3 RX3 none := C
  obtain ⟨hx, hb, hml, hown, hts, hr, hlk, hG⟩ := id C
  have hl : lv_has ls 3 [(0, .ref hm), (1, .int x)] := hl
  refine lv_aload_n hx hb dX3_init_0 rfl (lv_at hl 0 rfl) ?_
  refine W.objInit hx hb hown (hts _ q726) (hts _ q76) (hts _ q77) rfl (by rw [hml]; exact hl.1) rfl dX3_init_1 (Nat.le_of_ble_eq_true rfl) (Nat.le_of_ble_eq_true rfl) ?_
  refine W.eq (g2 := F0 m 4 ls []) rfl ?_
  refine lv_aload_n hx hb dX3_init_4 rfl (lv_at hl 0 rfl) ?_
  refine lv_iconst (v := bI true) hx hb dX3_init_5 (by decide) ?_
  refine gx_put C h h0 (Cn := RX3) (T := TX3) (N := 22) (x := .int (bI true)) rfl in_X3 tyX3 tyX3_ok nmX3 1 (by decide) q733 rfl rfl (bI_n _) (bI_f _) (Nat.le_of_ble_eq_true rfl) dX3_init_6 (fun H locs h => ?_)
  obtain ⟨w_1, ew_1⟩ : ∃ z_ : GW, z_ = gu w hm (ob 4 [.int (nI 0), .int (bI true), .int (bI false), .null, .null, .null, .null, .null, .int (bI false), .null, .null, .int (nI 0), .int (nI 0), .null, .null, .int (nI 0), .int (nI 0), .null, .null, .int (nI 0), .int (bI false), .null]) := ⟨_, rfl⟩
  have h : SH g w_1 v s H locs := by rw [ew_1]; exact h
  have f_2 : w_1 hm = some (ob 4 [.int (nI 0), .int (bI true), .int (bI false), .null, .null, .null, .null, .null, .int (bI false), .null, .null, .int (nI 0), .int (nI 0), .null, .null, .int (nI 0), .int (nI 0), .null, .null, .int (nI 0), .int (bI false), .null]) := by rw [ew_1]; exact gu_s
  refine lv_aload_n hx hb dX3_init_9 rfl (lv_at hl 0 rfl) ?_
  refine lv_sipush (v := nI 2048) hx hb dX3_init_10 (by decide) ?_
  refine gx_newa C h 1 (atype := .int) q103 (ty := .int) rfl rfl (N' := 2048) (x := .inl (fun _ => 0)) (fun _ => rfl) (rfl) (Nat.le_of_ble_eq_true rfl) (Nat.le_of_ble_eq_true rfl) (Nat.le_of_ble_eq_true rfl) (Nat.le_of_ble_eq_true rfl) dX3_init_13 (fun a1 H hn_3 hn_3v h => ?_)
  obtain ⟨w_4, ew_4⟩ : ∃ z_ : GW, z_ = gu w_1 a1 (eI g 2048 (fun _ => 0)) := ⟨_, rfl⟩
  have h : SH g w_4 v s H locs := by rw [ew_4]; exact h
  have f_5 : w_4 hm = some (ob 4 [.int (nI 0), .int (bI true), .int (bI false), .null, .null, .null, .null, .null, .int (bI false), .null, .null, .int (nI 0), .int (nI 0), .null, .null, .int (nI 0), .int (nI 0), .null, .null, .int (nI 0), .int (bI false), .null]) := by rw [ew_4]; exact (gu_n (g_neN f_2 hn_3)).trans f_2
  have f_6 : w_4 a1 = some (eI g 2048 (fun _ => 0)) := by rw [ew_4]; exact gu_s
  refine gx_putF C h f_5 (Cn := RX3) (T := TX3) (N := 22) (x := .ref a1) rfl in_X3 tyX3 tyX3_ok nmX3 3 (by decide) q735 rfl rfl hnm rfl rfl (Nat.le_of_ble_eq_true rfl) dX3_init_15 (fun H locs h => ?_)
  obtain ⟨w_7, ew_7⟩ : ∃ z_ : GW, z_ = gu w_4 hm (ob 4 [.int (nI 0), .int (bI true), .int (bI false), .ref a1, .null, .null, .null, .null, .int (bI false), .null, .null, .int (nI 0), .int (nI 0), .null, .null, .int (nI 0), .int (nI 0), .null, .null, .int (nI 0), .int (bI false), .null]) := ⟨_, rfl⟩
  have h : SH g w_7 v s H locs := by rw [ew_7]; exact h
  have f_8 : w_7 hm = some (ob 4 [.int (nI 0), .int (bI true), .int (bI false), .ref a1, .null, .null, .null, .null, .int (bI false), .null, .null, .int (nI 0), .int (nI 0), .null, .null, .int (nI 0), .int (nI 0), .null, .null, .int (nI 0), .int (bI false), .null]) := by rw [ew_7]; exact gu_s
  have f_9 : w_7 a1 = some (eI g 2048 (fun _ => 0)) := by rw [ew_7]; exact (gu_n (Ne.symm (g_neN f_2 hn_3))).trans f_6
  refine lv_aload_n hx hb dX3_init_18 rfl (lv_at hl 0 rfl) ?_
  refine lv_sipush (v := nI 2048) hx hb dX3_init_19 (by decide) ?_
  refine gx_newa C h 1 (atype := .int) q103 (ty := .int) rfl rfl (N' := 2048) (x := .inl (fun _ => 0)) (fun _ => rfl) (rfl) (Nat.le_of_ble_eq_true rfl) (Nat.le_of_ble_eq_true rfl) (Nat.le_of_ble_eq_true rfl) (Nat.le_of_ble_eq_true rfl) dX3_init_22 (fun a2 H hn_10 hn_10v h => ?_)
  obtain ⟨w_11, ew_11⟩ : ∃ z_ : GW, z_ = gu w_7 a2 (eI g 2048 (fun _ => 0)) := ⟨_, rfl⟩
  have h : SH g w_11 v s H locs := by rw [ew_11]; exact h
  have f_12 : w_11 hm = some (ob 4 [.int (nI 0), .int (bI true), .int (bI false), .ref a1, .null, .null, .null, .null, .int (bI false), .null, .null, .int (nI 0), .int (nI 0), .null, .null, .int (nI 0), .int (nI 0), .null, .null, .int (nI 0), .int (bI false), .null]) := by rw [ew_11]; exact (gu_n (g_neN f_8 hn_10)).trans f_8
  have f_13 : w_11 a1 = some (eI g 2048 (fun _ => 0)) := by rw [ew_11]; exact (gu_n (g_neN f_9 hn_10)).trans f_9
  have f_14 : w_11 a2 = some (eI g 2048 (fun _ => 0)) := by rw [ew_11]; exact gu_s
  refine gx_putF C h f_12 (Cn := RX3) (T := TX3) (N := 22) (x := .ref a2) rfl in_X3 tyX3 tyX3_ok nmX3 4 (by decide) q736 rfl rfl hnm rfl rfl (Nat.le_of_ble_eq_true rfl) dX3_init_24 (fun H locs h => ?_)
  obtain ⟨w_15, ew_15⟩ : ∃ z_ : GW, z_ = gu w_11 hm (ob 4 [.int (nI 0), .int (bI true), .int (bI false), .ref a1, .ref a2, .null, .null, .null, .int (bI false), .null, .null, .int (nI 0), .int (nI 0), .null, .null, .int (nI 0), .int (nI 0), .null, .null, .int (nI 0), .int (bI false), .null]) := ⟨_, rfl⟩
  have h : SH g w_15 v s H locs := by rw [ew_15]; exact h
  have f_16 : w_15 hm = some (ob 4 [.int (nI 0), .int (bI true), .int (bI false), .ref a1, .ref a2, .null, .null, .null, .int (bI false), .null, .null, .int (nI 0), .int (nI 0), .null, .null, .int (nI 0), .int (nI 0), .null, .null, .int (nI 0), .int (bI false), .null]) := by rw [ew_15]; exact gu_s
  have f_17 : w_15 a1 = some (eI g 2048 (fun _ => 0)) := by rw [ew_15]; exact (gu_n (Ne.symm (g_neN f_2 hn_3))).trans f_13
  have f_18 : w_15 a2 = some (eI g 2048 (fun _ => 0)) := by rw [ew_15]; exact (gu_n (Ne.symm (g_neN f_8 hn_10))).trans f_14
  refine lv_aload_n hx hb dX3_init_27 rfl (lv_at hl 0 rfl) ?_
  refine lv_sipush (v := nI 2048) hx hb dX3_init_28 (by decide) ?_
  refine gx_newa C h 1 (atype := .int) q103 (ty := .int) rfl rfl (N' := 2048) (x := .inl (fun _ => 0)) (fun _ => rfl) (rfl) (Nat.le_of_ble_eq_true rfl) (Nat.le_of_ble_eq_true rfl) (Nat.le_of_ble_eq_true rfl) (Nat.le_of_ble_eq_true rfl) dX3_init_31 (fun a3 H hn_19 hn_19v h => ?_)
  obtain ⟨w_20, ew_20⟩ : ∃ z_ : GW, z_ = gu w_15 a3 (eI g 2048 (fun _ => 0)) := ⟨_, rfl⟩
  have h : SH g w_20 v s H locs := by rw [ew_20]; exact h
  have f_21 : w_20 hm = some (ob 4 [.int (nI 0), .int (bI true), .int (bI false), .ref a1, .ref a2, .null, .null, .null, .int (bI false), .null, .null, .int (nI 0), .int (nI 0), .null, .null, .int (nI 0), .int (nI 0), .null, .null, .int (nI 0), .int (bI false), .null]) := by rw [ew_20]; exact (gu_n (g_neN f_16 hn_19)).trans f_16
  have f_22 : w_20 a1 = some (eI g 2048 (fun _ => 0)) := by rw [ew_20]; exact (gu_n (g_neN f_17 hn_19)).trans f_17
  have f_23 : w_20 a2 = some (eI g 2048 (fun _ => 0)) := by rw [ew_20]; exact (gu_n (g_neN f_18 hn_19)).trans f_18
  have f_24 : w_20 a3 = some (eI g 2048 (fun _ => 0)) := by rw [ew_20]; exact gu_s
  refine gx_putF C h f_21 (Cn := RX3) (T := TX3) (N := 22) (x := .ref a3) rfl in_X3 tyX3 tyX3_ok nmX3 5 (by decide) q737 rfl rfl hnm rfl rfl (Nat.le_of_ble_eq_true rfl) dX3_init_33 (fun H locs h => ?_)
  obtain ⟨w_25, ew_25⟩ : ∃ z_ : GW, z_ = gu w_20 hm (ob 4 [.int (nI 0), .int (bI true), .int (bI false), .ref a1, .ref a2, .ref a3, .null, .null, .int (bI false), .null, .null, .int (nI 0), .int (nI 0), .null, .null, .int (nI 0), .int (nI 0), .null, .null, .int (nI 0), .int (bI false), .null]) := ⟨_, rfl⟩
  have h : SH g w_25 v s H locs := by rw [ew_25]; exact h
  have f_26 : w_25 hm = some (ob 4 [.int (nI 0), .int (bI true), .int (bI false), .ref a1, .ref a2, .ref a3, .null, .null, .int (bI false), .null, .null, .int (nI 0), .int (nI 0), .null, .null, .int (nI 0), .int (nI 0), .null, .null, .int (nI 0), .int (bI false), .null]) := by rw [ew_25]; exact gu_s
  have f_27 : w_25 a1 = some (eI g 2048 (fun _ => 0)) := by rw [ew_25]; exact (gu_n (Ne.symm (g_neN f_2 hn_3))).trans f_22
  have f_28 : w_25 a2 = some (eI g 2048 (fun _ => 0)) := by rw [ew_25]; exact (gu_n (Ne.symm (g_neN f_8 hn_10))).trans f_23
  have f_29 : w_25 a3 = some (eI g 2048 (fun _ => 0)) := by rw [ew_25]; exact (gu_n (Ne.symm (g_neN f_16 hn_19))).trans f_24
  refine lv_aload_n hx hb dX3_init_36 rfl (lv_at hl 0 rfl) ?_
  refine lv_bipush (v := nI 64) hx hb dX3_init_37 (by decide) ?_
  refine gx_newa C h 2 (atype := .boolean) q799 (ty := .boolean) rfl rfl (N' := 64) (x := .inl (fun j => bI ((fun _ => false) j))) (fun _ => rfl) (rfl) (Nat.le_of_ble_eq_true rfl) (Nat.le_of_ble_eq_true rfl) (Nat.le_of_ble_eq_true rfl) (Nat.le_of_ble_eq_true rfl) dX3_init_39 (fun a4 H hn_30 hn_30v h => ?_)
  obtain ⟨w_31, ew_31⟩ : ∃ z_ : GW, z_ = gu w_25 a4 (eZ g 64 (fun _ => false)) := ⟨_, rfl⟩
  have h : SH g w_31 v s H locs := by rw [ew_31]; exact h
  have f_32 : w_31 hm = some (ob 4 [.int (nI 0), .int (bI true), .int (bI false), .ref a1, .ref a2, .ref a3, .null, .null, .int (bI false), .null, .null, .int (nI 0), .int (nI 0), .null, .null, .int (nI 0), .int (nI 0), .null, .null, .int (nI 0), .int (bI false), .null]) := by rw [ew_31]; exact (gu_n (g_neN f_26 hn_30)).trans f_26
  have f_33 : w_31 a1 = some (eI g 2048 (fun _ => 0)) := by rw [ew_31]; exact (gu_n (g_neN f_27 hn_30)).trans f_27
  have f_34 : w_31 a2 = some (eI g 2048 (fun _ => 0)) := by rw [ew_31]; exact (gu_n (g_neN f_28 hn_30)).trans f_28
  have f_35 : w_31 a3 = some (eI g 2048 (fun _ => 0)) := by rw [ew_31]; exact (gu_n (g_neN f_29 hn_30)).trans f_29
  have f_36 : w_31 a4 = some (eZ g 64 (fun _ => false)) := by rw [ew_31]; exact gu_s
  refine gx_putF C h f_32 (Cn := RX3) (T := TX3) (N := 22) (x := .ref a4) rfl in_X3 tyX3 tyX3_ok nmX3 6 (by decide) q738 rfl rfl hnm rfl rfl (Nat.le_of_ble_eq_true rfl) dX3_init_41 (fun H locs h => ?_)
  obtain ⟨w_37, ew_37⟩ : ∃ z_ : GW, z_ = gu w_31 hm (ob 4 [.int (nI 0), .int (bI true), .int (bI false), .ref a1, .ref a2, .ref a3, .ref a4, .null, .int (bI false), .null, .null, .int (nI 0), .int (nI 0), .null, .null, .int (nI 0), .int (nI 0), .null, .null, .int (nI 0), .int (bI false), .null]) := ⟨_, rfl⟩
  have h : SH g w_37 v s H locs := by rw [ew_37]; exact h
  have f_38 : w_37 hm = some (ob 4 [.int (nI 0), .int (bI true), .int (bI false), .ref a1, .ref a2, .ref a3, .ref a4, .null, .int (bI false), .null, .null, .int (nI 0), .int (nI 0), .null, .null, .int (nI 0), .int (nI 0), .null, .null, .int (nI 0), .int (bI false), .null]) := by rw [ew_37]; exact gu_s
  have f_39 : w_37 a1 = some (eI g 2048 (fun _ => 0)) := by rw [ew_37]; exact (gu_n (Ne.symm (g_neN f_2 hn_3))).trans f_33
  have f_40 : w_37 a2 = some (eI g 2048 (fun _ => 0)) := by rw [ew_37]; exact (gu_n (Ne.symm (g_neN f_8 hn_10))).trans f_34
  have f_41 : w_37 a3 = some (eI g 2048 (fun _ => 0)) := by rw [ew_37]; exact (gu_n (Ne.symm (g_neN f_16 hn_19))).trans f_35
  have f_42 : w_37 a4 = some (eZ g 64 (fun _ => false)) := by rw [ew_37]; exact (gu_n (Ne.symm (g_neN f_26 hn_30))).trans f_36
  refine lv_aload_n hx hb dX3_init_44 rfl (lv_at hl 0 rfl) ?_
  refine lv_bipush (v := nI 30) hx hb dX3_init_45 (by decide) ?_
  refine gx_newa C h 1 (atype := .int) q103 (ty := .int) rfl rfl (N' := 30) (x := .inl (fun _ => 0)) (fun _ => rfl) (rfl) (Nat.le_of_ble_eq_true rfl) (Nat.le_of_ble_eq_true rfl) (Nat.le_of_ble_eq_true rfl) (Nat.le_of_ble_eq_true rfl) dX3_init_47 (fun a5 H hn_43 hn_43v h => ?_)
  obtain ⟨w_44, ew_44⟩ : ∃ z_ : GW, z_ = gu w_37 a5 (eI g 30 (fun _ => 0)) := ⟨_, rfl⟩
  have h : SH g w_44 v s H locs := by rw [ew_44]; exact h
  have f_45 : w_44 hm = some (ob 4 [.int (nI 0), .int (bI true), .int (bI false), .ref a1, .ref a2, .ref a3, .ref a4, .null, .int (bI false), .null, .null, .int (nI 0), .int (nI 0), .null, .null, .int (nI 0), .int (nI 0), .null, .null, .int (nI 0), .int (bI false), .null]) := by rw [ew_44]; exact (gu_n (g_neN f_38 hn_43)).trans f_38
  have f_46 : w_44 a1 = some (eI g 2048 (fun _ => 0)) := by rw [ew_44]; exact (gu_n (g_neN f_39 hn_43)).trans f_39
  have f_47 : w_44 a2 = some (eI g 2048 (fun _ => 0)) := by rw [ew_44]; exact (gu_n (g_neN f_40 hn_43)).trans f_40
  have f_48 : w_44 a3 = some (eI g 2048 (fun _ => 0)) := by rw [ew_44]; exact (gu_n (g_neN f_41 hn_43)).trans f_41
  have f_49 : w_44 a4 = some (eZ g 64 (fun _ => false)) := by rw [ew_44]; exact (gu_n (g_neN f_42 hn_43)).trans f_42
  have f_50 : w_44 a5 = some (eI g 30 (fun _ => 0)) := by rw [ew_44]; exact gu_s
  refine gx_putF C h f_45 (Cn := RX3) (T := TX3) (N := 22) (x := .ref a5) rfl in_X3 tyX3 tyX3_ok nmX3 7 (by decide) q739 rfl rfl hnm rfl rfl (Nat.le_of_ble_eq_true rfl) dX3_init_49 (fun H locs h => ?_)
  obtain ⟨w_51, ew_51⟩ : ∃ z_ : GW, z_ = gu w_44 hm (ob 4 [.int (nI 0), .int (bI true), .int (bI false), .ref a1, .ref a2, .ref a3, .ref a4, .ref a5, .int (bI false), .null, .null, .int (nI 0), .int (nI 0), .null, .null, .int (nI 0), .int (nI 0), .null, .null, .int (nI 0), .int (bI false), .null]) := ⟨_, rfl⟩
  have h : SH g w_51 v s H locs := by rw [ew_51]; exact h
  have f_52 : w_51 hm = some (ob 4 [.int (nI 0), .int (bI true), .int (bI false), .ref a1, .ref a2, .ref a3, .ref a4, .ref a5, .int (bI false), .null, .null, .int (nI 0), .int (nI 0), .null, .null, .int (nI 0), .int (nI 0), .null, .null, .int (nI 0), .int (bI false), .null]) := by rw [ew_51]; exact gu_s
  have f_53 : w_51 a1 = some (eI g 2048 (fun _ => 0)) := by rw [ew_51]; exact (gu_n (Ne.symm (g_neN f_2 hn_3))).trans f_46
  have f_54 : w_51 a2 = some (eI g 2048 (fun _ => 0)) := by rw [ew_51]; exact (gu_n (Ne.symm (g_neN f_8 hn_10))).trans f_47
  have f_55 : w_51 a3 = some (eI g 2048 (fun _ => 0)) := by rw [ew_51]; exact (gu_n (Ne.symm (g_neN f_16 hn_19))).trans f_48
  have f_56 : w_51 a4 = some (eZ g 64 (fun _ => false)) := by rw [ew_51]; exact (gu_n (Ne.symm (g_neN f_26 hn_30))).trans f_49
  have f_57 : w_51 a5 = some (eI g 30 (fun _ => 0)) := by rw [ew_51]; exact (gu_n (Ne.symm (g_neN f_38 hn_43))).trans f_50
  refine lv_aload_n hx hb dX3_init_52 rfl (lv_at hl 0 rfl) ?_
  refine lv_sipush (v := nI 1200) hx hb dX3_init_53 (by decide) ?_
  refine gx_newa C h 1 (atype := .int) q103 (ty := .int) rfl rfl (N' := 1200) (x := .inl (fun _ => 0)) (fun _ => rfl) (rfl) (Nat.le_of_ble_eq_true rfl) (Nat.le_of_ble_eq_true rfl) (Nat.le_of_ble_eq_true rfl) (Nat.le_of_ble_eq_true rfl) dX3_init_56 (fun a6 H hn_58 hn_58v h => ?_)
  obtain ⟨w_59, ew_59⟩ : ∃ z_ : GW, z_ = gu w_51 a6 (eI g 1200 (fun _ => 0)) := ⟨_, rfl⟩
  have h : SH g w_59 v s H locs := by rw [ew_59]; exact h
  have f_60 : w_59 hm = some (ob 4 [.int (nI 0), .int (bI true), .int (bI false), .ref a1, .ref a2, .ref a3, .ref a4, .ref a5, .int (bI false), .null, .null, .int (nI 0), .int (nI 0), .null, .null, .int (nI 0), .int (nI 0), .null, .null, .int (nI 0), .int (bI false), .null]) := by rw [ew_59]; exact (gu_n (g_neN f_52 hn_58)).trans f_52
  have f_61 : w_59 a1 = some (eI g 2048 (fun _ => 0)) := by rw [ew_59]; exact (gu_n (g_neN f_53 hn_58)).trans f_53
  have f_62 : w_59 a2 = some (eI g 2048 (fun _ => 0)) := by rw [ew_59]; exact (gu_n (g_neN f_54 hn_58)).trans f_54
  have f_63 : w_59 a3 = some (eI g 2048 (fun _ => 0)) := by rw [ew_59]; exact (gu_n (g_neN f_55 hn_58)).trans f_55
  have f_64 : w_59 a4 = some (eZ g 64 (fun _ => false)) := by rw [ew_59]; exact (gu_n (g_neN f_56 hn_58)).trans f_56
  have f_65 : w_59 a5 = some (eI g 30 (fun _ => 0)) := by rw [ew_59]; exact (gu_n (g_neN f_57 hn_58)).trans f_57
  have f_66 : w_59 a6 = some (eI g 1200 (fun _ => 0)) := by rw [ew_59]; exact gu_s
  refine gx_putF C h f_60 (Cn := RX3) (T := TX3) (N := 22) (x := .ref a6) rfl in_X3 tyX3 tyX3_ok nmX3 9 (by decide) q741 rfl rfl hnm rfl rfl (Nat.le_of_ble_eq_true rfl) dX3_init_58 (fun H locs h => ?_)
  obtain ⟨w_67, ew_67⟩ : ∃ z_ : GW, z_ = gu w_59 hm (ob 4 [.int (nI 0), .int (bI true), .int (bI false), .ref a1, .ref a2, .ref a3, .ref a4, .ref a5, .int (bI false), .ref a6, .null, .int (nI 0), .int (nI 0), .null, .null, .int (nI 0), .int (nI 0), .null, .null, .int (nI 0), .int (bI false), .null]) := ⟨_, rfl⟩
  have h : SH g w_67 v s H locs := by rw [ew_67]; exact h
  have f_68 : w_67 hm = some (ob 4 [.int (nI 0), .int (bI true), .int (bI false), .ref a1, .ref a2, .ref a3, .ref a4, .ref a5, .int (bI false), .ref a6, .null, .int (nI 0), .int (nI 0), .null, .null, .int (nI 0), .int (nI 0), .null, .null, .int (nI 0), .int (bI false), .null]) := by rw [ew_67]; exact gu_s
  have f_69 : w_67 a1 = some (eI g 2048 (fun _ => 0)) := by rw [ew_67]; exact (gu_n (Ne.symm (g_neN f_2 hn_3))).trans f_61
  have f_70 : w_67 a2 = some (eI g 2048 (fun _ => 0)) := by rw [ew_67]; exact (gu_n (Ne.symm (g_neN f_8 hn_10))).trans f_62
  have f_71 : w_67 a3 = some (eI g 2048 (fun _ => 0)) := by rw [ew_67]; exact (gu_n (Ne.symm (g_neN f_16 hn_19))).trans f_63
  have f_72 : w_67 a4 = some (eZ g 64 (fun _ => false)) := by rw [ew_67]; exact (gu_n (Ne.symm (g_neN f_26 hn_30))).trans f_64
  have f_73 : w_67 a5 = some (eI g 30 (fun _ => 0)) := by rw [ew_67]; exact (gu_n (Ne.symm (g_neN f_38 hn_43))).trans f_65
  have f_74 : w_67 a6 = some (eI g 1200 (fun _ => 0)) := by rw [ew_67]; exact (gu_n (Ne.symm (g_neN f_52 hn_58))).trans f_66
  refine lv_aload_n hx hb dX3_init_61 rfl (lv_at hl 0 rfl) ?_
  refine lv_ldc (v := 38400) hx hb hown (hts _ q727) dX3_init_62 ?_
  refine gx_newa C h 1 (atype := .int) q103 (ty := .int) rfl rfl (N' := 38400) (x := .inl (fun _ => 0)) (fun _ => rfl) (by decide) (Nat.le_of_ble_eq_true rfl) (Nat.le_of_ble_eq_true rfl) (Nat.le_of_ble_eq_true rfl) (Nat.le_of_ble_eq_true rfl) dX3_init_64 (fun a7 H hn_75 hn_75v h => ?_)
  obtain ⟨w_76, ew_76⟩ : ∃ z_ : GW, z_ = gu w_67 a7 (eI g 38400 (fun _ => 0)) := ⟨_, rfl⟩
  have h : SH g w_76 v s H locs := by rw [ew_76]; exact h
  have f_77 : w_76 hm = some (ob 4 [.int (nI 0), .int (bI true), .int (bI false), .ref a1, .ref a2, .ref a3, .ref a4, .ref a5, .int (bI false), .ref a6, .null, .int (nI 0), .int (nI 0), .null, .null, .int (nI 0), .int (nI 0), .null, .null, .int (nI 0), .int (bI false), .null]) := by rw [ew_76]; exact (gu_n (g_neN f_68 hn_75)).trans f_68
  have f_78 : w_76 a1 = some (eI g 2048 (fun _ => 0)) := by rw [ew_76]; exact (gu_n (g_neN f_69 hn_75)).trans f_69
  have f_79 : w_76 a2 = some (eI g 2048 (fun _ => 0)) := by rw [ew_76]; exact (gu_n (g_neN f_70 hn_75)).trans f_70
  have f_80 : w_76 a3 = some (eI g 2048 (fun _ => 0)) := by rw [ew_76]; exact (gu_n (g_neN f_71 hn_75)).trans f_71
  have f_81 : w_76 a4 = some (eZ g 64 (fun _ => false)) := by rw [ew_76]; exact (gu_n (g_neN f_72 hn_75)).trans f_72
  have f_82 : w_76 a5 = some (eI g 30 (fun _ => 0)) := by rw [ew_76]; exact (gu_n (g_neN f_73 hn_75)).trans f_73
  have f_83 : w_76 a6 = some (eI g 1200 (fun _ => 0)) := by rw [ew_76]; exact (gu_n (g_neN f_74 hn_75)).trans f_74
  have f_84 : w_76 a7 = some (eI g 38400 (fun _ => 0)) := by rw [ew_76]; exact gu_s
  refine gx_putF C h f_77 (Cn := RX3) (T := TX3) (N := 22) (x := .ref a7) rfl in_X3 tyX3 tyX3_ok nmX3 10 (by decide) q742 rfl rfl hnm rfl rfl (Nat.le_of_ble_eq_true rfl) dX3_init_66 (fun H locs h => ?_)
  obtain ⟨w_85, ew_85⟩ : ∃ z_ : GW, z_ = gu w_76 hm (ob 4 [.int (nI 0), .int (bI true), .int (bI false), .ref a1, .ref a2, .ref a3, .ref a4, .ref a5, .int (bI false), .ref a6, .ref a7, .int (nI 0), .int (nI 0), .null, .null, .int (nI 0), .int (nI 0), .null, .null, .int (nI 0), .int (bI false), .null]) := ⟨_, rfl⟩
  have h : SH g w_85 v s H locs := by rw [ew_85]; exact h
  have f_86 : w_85 hm = some (ob 4 [.int (nI 0), .int (bI true), .int (bI false), .ref a1, .ref a2, .ref a3, .ref a4, .ref a5, .int (bI false), .ref a6, .ref a7, .int (nI 0), .int (nI 0), .null, .null, .int (nI 0), .int (nI 0), .null, .null, .int (nI 0), .int (bI false), .null]) := by rw [ew_85]; exact gu_s
  have f_87 : w_85 a1 = some (eI g 2048 (fun _ => 0)) := by rw [ew_85]; exact (gu_n (Ne.symm (g_neN f_2 hn_3))).trans f_78
  have f_88 : w_85 a2 = some (eI g 2048 (fun _ => 0)) := by rw [ew_85]; exact (gu_n (Ne.symm (g_neN f_8 hn_10))).trans f_79
  have f_89 : w_85 a3 = some (eI g 2048 (fun _ => 0)) := by rw [ew_85]; exact (gu_n (Ne.symm (g_neN f_16 hn_19))).trans f_80
  have f_90 : w_85 a4 = some (eZ g 64 (fun _ => false)) := by rw [ew_85]; exact (gu_n (Ne.symm (g_neN f_26 hn_30))).trans f_81
  have f_91 : w_85 a5 = some (eI g 30 (fun _ => 0)) := by rw [ew_85]; exact (gu_n (Ne.symm (g_neN f_38 hn_43))).trans f_82
  have f_92 : w_85 a6 = some (eI g 1200 (fun _ => 0)) := by rw [ew_85]; exact (gu_n (Ne.symm (g_neN f_52 hn_58))).trans f_83
  have f_93 : w_85 a7 = some (eI g 38400 (fun _ => 0)) := by rw [ew_85]; exact (gu_n (Ne.symm (g_neN f_68 hn_75))).trans f_84
  refine lv_aload_n hx hb dX3_init_69 rfl (lv_at hl 0 rfl) ?_
  refine lv_sipush (v := nI 1200) hx hb dX3_init_70 (by decide) ?_
  refine gx_newa C h 1 (atype := .int) q103 (ty := .int) rfl rfl (N' := 1200) (x := .inl (fun _ => 0)) (fun _ => rfl) (rfl) (Nat.le_of_ble_eq_true rfl) (Nat.le_of_ble_eq_true rfl) (Nat.le_of_ble_eq_true rfl) (Nat.le_of_ble_eq_true rfl) dX3_init_73 (fun a8 H hn_94 hn_94v h => ?_)
  obtain ⟨w_95, ew_95⟩ : ∃ z_ : GW, z_ = gu w_85 a8 (eI g 1200 (fun _ => 0)) := ⟨_, rfl⟩
  have h : SH g w_95 v s H locs := by rw [ew_95]; exact h
  have f_96 : w_95 hm = some (ob 4 [.int (nI 0), .int (bI true), .int (bI false), .ref a1, .ref a2, .ref a3, .ref a4, .ref a5, .int (bI false), .ref a6, .ref a7, .int (nI 0), .int (nI 0), .null, .null, .int (nI 0), .int (nI 0), .null, .null, .int (nI 0), .int (bI false), .null]) := by rw [ew_95]; exact (gu_n (g_neN f_86 hn_94)).trans f_86
  have f_97 : w_95 a1 = some (eI g 2048 (fun _ => 0)) := by rw [ew_95]; exact (gu_n (g_neN f_87 hn_94)).trans f_87
  have f_98 : w_95 a2 = some (eI g 2048 (fun _ => 0)) := by rw [ew_95]; exact (gu_n (g_neN f_88 hn_94)).trans f_88
  have f_99 : w_95 a3 = some (eI g 2048 (fun _ => 0)) := by rw [ew_95]; exact (gu_n (g_neN f_89 hn_94)).trans f_89
  have f_100 : w_95 a4 = some (eZ g 64 (fun _ => false)) := by rw [ew_95]; exact (gu_n (g_neN f_90 hn_94)).trans f_90
  have f_101 : w_95 a5 = some (eI g 30 (fun _ => 0)) := by rw [ew_95]; exact (gu_n (g_neN f_91 hn_94)).trans f_91
  have f_102 : w_95 a6 = some (eI g 1200 (fun _ => 0)) := by rw [ew_95]; exact (gu_n (g_neN f_92 hn_94)).trans f_92
  have f_103 : w_95 a7 = some (eI g 38400 (fun _ => 0)) := by rw [ew_95]; exact (gu_n (g_neN f_93 hn_94)).trans f_93
  have f_104 : w_95 a8 = some (eI g 1200 (fun _ => 0)) := by rw [ew_95]; exact gu_s
  refine gx_putF C h f_96 (Cn := RX3) (T := TX3) (N := 22) (x := .ref a8) rfl in_X3 tyX3 tyX3_ok nmX3 13 (by decide) q745 rfl rfl hnm rfl rfl (Nat.le_of_ble_eq_true rfl) dX3_init_75 (fun H locs h => ?_)
  obtain ⟨w_105, ew_105⟩ : ∃ z_ : GW, z_ = gu w_95 hm (ob 4 [.int (nI 0), .int (bI true), .int (bI false), .ref a1, .ref a2, .ref a3, .ref a4, .ref a5, .int (bI false), .ref a6, .ref a7, .int (nI 0), .int (nI 0), .ref a8, .null, .int (nI 0), .int (nI 0), .null, .null, .int (nI 0), .int (bI false), .null]) := ⟨_, rfl⟩
  have h : SH g w_105 v s H locs := by rw [ew_105]; exact h
  have f_106 : w_105 hm = some (ob 4 [.int (nI 0), .int (bI true), .int (bI false), .ref a1, .ref a2, .ref a3, .ref a4, .ref a5, .int (bI false), .ref a6, .ref a7, .int (nI 0), .int (nI 0), .ref a8, .null, .int (nI 0), .int (nI 0), .null, .null, .int (nI 0), .int (bI false), .null]) := by rw [ew_105]; exact gu_s
  have f_107 : w_105 a1 = some (eI g 2048 (fun _ => 0)) := by rw [ew_105]; exact (gu_n (Ne.symm (g_neN f_2 hn_3))).trans f_97
  have f_108 : w_105 a2 = some (eI g 2048 (fun _ => 0)) := by rw [ew_105]; exact (gu_n (Ne.symm (g_neN f_8 hn_10))).trans f_98
  have f_109 : w_105 a3 = some (eI g 2048 (fun _ => 0)) := by rw [ew_105]; exact (gu_n (Ne.symm (g_neN f_16 hn_19))).trans f_99
  have f_110 : w_105 a4 = some (eZ g 64 (fun _ => false)) := by rw [ew_105]; exact (gu_n (Ne.symm (g_neN f_26 hn_30))).trans f_100
  have f_111 : w_105 a5 = some (eI g 30 (fun _ => 0)) := by rw [ew_105]; exact (gu_n (Ne.symm (g_neN f_38 hn_43))).trans f_101
  have f_112 : w_105 a6 = some (eI g 1200 (fun _ => 0)) := by rw [ew_105]; exact (gu_n (Ne.symm (g_neN f_52 hn_58))).trans f_102
  have f_113 : w_105 a7 = some (eI g 38400 (fun _ => 0)) := by rw [ew_105]; exact (gu_n (Ne.symm (g_neN f_68 hn_75))).trans f_103
  have f_114 : w_105 a8 = some (eI g 1200 (fun _ => 0)) := by rw [ew_105]; exact (gu_n (Ne.symm (g_neN f_86 hn_94))).trans f_104
  refine lv_aload_n hx hb dX3_init_78 rfl (lv_at hl 0 rfl) ?_
  refine lv_sipush (v := nI 1200) hx hb dX3_init_79 (by decide) ?_
  refine gx_newa C h 3 (atype := .long) q800 (ty := .long) rfl rfl (N' := 1200) (x := .inr (.inl (fun _ => 0))) (fun _ => rfl) (rfl) (Nat.le_of_ble_eq_true rfl) (Nat.le_of_ble_eq_true rfl) (Nat.le_of_ble_eq_true rfl) (Nat.le_of_ble_eq_true rfl) dX3_init_82 (fun a9 H hn_115 hn_115v h => ?_)
  obtain ⟨w_116, ew_116⟩ : ∃ z_ : GW, z_ = gu w_105 a9 (eL g 1200 (fun _ => 0)) := ⟨_, rfl⟩
  have h : SH g w_116 v s H locs := by rw [ew_116]; exact h
  have f_117 : w_116 hm = some (ob 4 [.int (nI 0), .int (bI true), .int (bI false), .ref a1, .ref a2, .ref a3, .ref a4, .ref a5, .int (bI false), .ref a6, .ref a7, .int (nI 0), .int (nI 0), .ref a8, .null, .int (nI 0), .int (nI 0), .null, .null, .int (nI 0), .int (bI false), .null]) := by rw [ew_116]; exact (gu_n (g_neN f_106 hn_115)).trans f_106
  have f_118 : w_116 a1 = some (eI g 2048 (fun _ => 0)) := by rw [ew_116]; exact (gu_n (g_neN f_107 hn_115)).trans f_107
  have f_119 : w_116 a2 = some (eI g 2048 (fun _ => 0)) := by rw [ew_116]; exact (gu_n (g_neN f_108 hn_115)).trans f_108
  have f_120 : w_116 a3 = some (eI g 2048 (fun _ => 0)) := by rw [ew_116]; exact (gu_n (g_neN f_109 hn_115)).trans f_109
  have f_121 : w_116 a4 = some (eZ g 64 (fun _ => false)) := by rw [ew_116]; exact (gu_n (g_neN f_110 hn_115)).trans f_110
  have f_122 : w_116 a5 = some (eI g 30 (fun _ => 0)) := by rw [ew_116]; exact (gu_n (g_neN f_111 hn_115)).trans f_111
  have f_123 : w_116 a6 = some (eI g 1200 (fun _ => 0)) := by rw [ew_116]; exact (gu_n (g_neN f_112 hn_115)).trans f_112
  have f_124 : w_116 a7 = some (eI g 38400 (fun _ => 0)) := by rw [ew_116]; exact (gu_n (g_neN f_113 hn_115)).trans f_113
  have f_125 : w_116 a8 = some (eI g 1200 (fun _ => 0)) := by rw [ew_116]; exact (gu_n (g_neN f_114 hn_115)).trans f_114
  have f_126 : w_116 a9 = some (eL g 1200 (fun _ => 0)) := by rw [ew_116]; exact gu_s
  refine gx_putF C h f_117 (Cn := RX3) (T := TX3) (N := 22) (x := .ref a9) rfl in_X3 tyX3 tyX3_ok nmX3 14 (by decide) q746 rfl rfl hnm rfl rfl (Nat.le_of_ble_eq_true rfl) dX3_init_84 (fun H locs h => ?_)
  obtain ⟨w_127, ew_127⟩ : ∃ z_ : GW, z_ = gu w_116 hm (ob 4 [.int (nI 0), .int (bI true), .int (bI false), .ref a1, .ref a2, .ref a3, .ref a4, .ref a5, .int (bI false), .ref a6, .ref a7, .int (nI 0), .int (nI 0), .ref a8, .ref a9, .int (nI 0), .int (nI 0), .null, .null, .int (nI 0), .int (bI false), .null]) := ⟨_, rfl⟩
  have h : SH g w_127 v s H locs := by rw [ew_127]; exact h
  have f_128 : w_127 hm = some (ob 4 [.int (nI 0), .int (bI true), .int (bI false), .ref a1, .ref a2, .ref a3, .ref a4, .ref a5, .int (bI false), .ref a6, .ref a7, .int (nI 0), .int (nI 0), .ref a8, .ref a9, .int (nI 0), .int (nI 0), .null, .null, .int (nI 0), .int (bI false), .null]) := by rw [ew_127]; exact gu_s
  have f_129 : w_127 a1 = some (eI g 2048 (fun _ => 0)) := by rw [ew_127]; exact (gu_n (Ne.symm (g_neN f_2 hn_3))).trans f_118
  have f_130 : w_127 a2 = some (eI g 2048 (fun _ => 0)) := by rw [ew_127]; exact (gu_n (Ne.symm (g_neN f_8 hn_10))).trans f_119
  have f_131 : w_127 a3 = some (eI g 2048 (fun _ => 0)) := by rw [ew_127]; exact (gu_n (Ne.symm (g_neN f_16 hn_19))).trans f_120
  have f_132 : w_127 a4 = some (eZ g 64 (fun _ => false)) := by rw [ew_127]; exact (gu_n (Ne.symm (g_neN f_26 hn_30))).trans f_121
  have f_133 : w_127 a5 = some (eI g 30 (fun _ => 0)) := by rw [ew_127]; exact (gu_n (Ne.symm (g_neN f_38 hn_43))).trans f_122
  have f_134 : w_127 a6 = some (eI g 1200 (fun _ => 0)) := by rw [ew_127]; exact (gu_n (Ne.symm (g_neN f_52 hn_58))).trans f_123
  have f_135 : w_127 a7 = some (eI g 38400 (fun _ => 0)) := by rw [ew_127]; exact (gu_n (Ne.symm (g_neN f_68 hn_75))).trans f_124
  have f_136 : w_127 a8 = some (eI g 1200 (fun _ => 0)) := by rw [ew_127]; exact (gu_n (Ne.symm (g_neN f_86 hn_94))).trans f_125
  have f_137 : w_127 a9 = some (eL g 1200 (fun _ => 0)) := by rw [ew_127]; exact (gu_n (Ne.symm (g_neN f_106 hn_115))).trans f_126
  refine lv_aload_n hx hb dX3_init_87 rfl (lv_at hl 0 rfl) ?_
  refine lv_iconst (v := nI 4) hx hb dX3_init_88 (by decide) ?_
  refine gx_newa C h 1 (atype := .int) q103 (ty := .int) rfl rfl (N' := 4) (x := .inl (fun _ => 0)) (fun _ => rfl) (rfl) (Nat.le_of_ble_eq_true rfl) (Nat.le_of_ble_eq_true rfl) (Nat.le_of_ble_eq_true rfl) (Nat.le_of_ble_eq_true rfl) dX3_init_89 (fun a10 H hn_138 hn_138v h => ?_)
  obtain ⟨w_139, ew_139⟩ : ∃ z_ : GW, z_ = gu w_127 a10 (eI g 4 (fun _ => 0)) := ⟨_, rfl⟩
  have h : SH g w_139 v s H locs := by rw [ew_139]; exact h
  have f_140 : w_139 hm = some (ob 4 [.int (nI 0), .int (bI true), .int (bI false), .ref a1, .ref a2, .ref a3, .ref a4, .ref a5, .int (bI false), .ref a6, .ref a7, .int (nI 0), .int (nI 0), .ref a8, .ref a9, .int (nI 0), .int (nI 0), .null, .null, .int (nI 0), .int (bI false), .null]) := by rw [ew_139]; exact (gu_n (g_neN f_128 hn_138)).trans f_128
  have f_141 : w_139 a1 = some (eI g 2048 (fun _ => 0)) := by rw [ew_139]; exact (gu_n (g_neN f_129 hn_138)).trans f_129
  have f_142 : w_139 a2 = some (eI g 2048 (fun _ => 0)) := by rw [ew_139]; exact (gu_n (g_neN f_130 hn_138)).trans f_130
  have f_143 : w_139 a3 = some (eI g 2048 (fun _ => 0)) := by rw [ew_139]; exact (gu_n (g_neN f_131 hn_138)).trans f_131
  have f_144 : w_139 a4 = some (eZ g 64 (fun _ => false)) := by rw [ew_139]; exact (gu_n (g_neN f_132 hn_138)).trans f_132
  have f_145 : w_139 a5 = some (eI g 30 (fun _ => 0)) := by rw [ew_139]; exact (gu_n (g_neN f_133 hn_138)).trans f_133
  have f_146 : w_139 a6 = some (eI g 1200 (fun _ => 0)) := by rw [ew_139]; exact (gu_n (g_neN f_134 hn_138)).trans f_134
  have f_147 : w_139 a7 = some (eI g 38400 (fun _ => 0)) := by rw [ew_139]; exact (gu_n (g_neN f_135 hn_138)).trans f_135
  have f_148 : w_139 a8 = some (eI g 1200 (fun _ => 0)) := by rw [ew_139]; exact (gu_n (g_neN f_136 hn_138)).trans f_136
  have f_149 : w_139 a9 = some (eL g 1200 (fun _ => 0)) := by rw [ew_139]; exact (gu_n (g_neN f_137 hn_138)).trans f_137
  have f_150 : w_139 a10 = some (eI g 4 (fun _ => 0)) := by rw [ew_139]; exact gu_s
  refine gx_putF C h f_140 (Cn := RX3) (T := TX3) (N := 22) (x := .ref a10) rfl in_X3 tyX3 tyX3_ok nmX3 17 (by decide) q749 rfl rfl hnm rfl rfl (Nat.le_of_ble_eq_true rfl) dX3_init_91 (fun H locs h => ?_)
  obtain ⟨w_151, ew_151⟩ : ∃ z_ : GW, z_ = gu w_139 hm (ob 4 [.int (nI 0), .int (bI true), .int (bI false), .ref a1, .ref a2, .ref a3, .ref a4, .ref a5, .int (bI false), .ref a6, .ref a7, .int (nI 0), .int (nI 0), .ref a8, .ref a9, .int (nI 0), .int (nI 0), .ref a10, .null, .int (nI 0), .int (bI false), .null]) := ⟨_, rfl⟩
  have h : SH g w_151 v s H locs := by rw [ew_151]; exact h
  have f_152 : w_151 hm = some (ob 4 [.int (nI 0), .int (bI true), .int (bI false), .ref a1, .ref a2, .ref a3, .ref a4, .ref a5, .int (bI false), .ref a6, .ref a7, .int (nI 0), .int (nI 0), .ref a8, .ref a9, .int (nI 0), .int (nI 0), .ref a10, .null, .int (nI 0), .int (bI false), .null]) := by rw [ew_151]; exact gu_s
  have f_153 : w_151 a1 = some (eI g 2048 (fun _ => 0)) := by rw [ew_151]; exact (gu_n (Ne.symm (g_neN f_2 hn_3))).trans f_141
  have f_154 : w_151 a2 = some (eI g 2048 (fun _ => 0)) := by rw [ew_151]; exact (gu_n (Ne.symm (g_neN f_8 hn_10))).trans f_142
  have f_155 : w_151 a3 = some (eI g 2048 (fun _ => 0)) := by rw [ew_151]; exact (gu_n (Ne.symm (g_neN f_16 hn_19))).trans f_143
  have f_156 : w_151 a4 = some (eZ g 64 (fun _ => false)) := by rw [ew_151]; exact (gu_n (Ne.symm (g_neN f_26 hn_30))).trans f_144
  have f_157 : w_151 a5 = some (eI g 30 (fun _ => 0)) := by rw [ew_151]; exact (gu_n (Ne.symm (g_neN f_38 hn_43))).trans f_145
  have f_158 : w_151 a6 = some (eI g 1200 (fun _ => 0)) := by rw [ew_151]; exact (gu_n (Ne.symm (g_neN f_52 hn_58))).trans f_146
  have f_159 : w_151 a7 = some (eI g 38400 (fun _ => 0)) := by rw [ew_151]; exact (gu_n (Ne.symm (g_neN f_68 hn_75))).trans f_147
  have f_160 : w_151 a8 = some (eI g 1200 (fun _ => 0)) := by rw [ew_151]; exact (gu_n (Ne.symm (g_neN f_86 hn_94))).trans f_148
  have f_161 : w_151 a9 = some (eL g 1200 (fun _ => 0)) := by rw [ew_151]; exact (gu_n (Ne.symm (g_neN f_106 hn_115))).trans f_149
  have f_162 : w_151 a10 = some (eI g 4 (fun _ => 0)) := by rw [ew_151]; exact (gu_n (Ne.symm (g_neN f_128 hn_138))).trans f_150
  refine lv_aload_n hx hb dX3_init_94 rfl (lv_at hl 0 rfl) ?_
  refine lv_iconst (v := nI 4) hx hb dX3_init_95 (by decide) ?_
  refine gx_newa C h 3 (atype := .long) q800 (ty := .long) rfl rfl (N' := 4) (x := .inr (.inl (fun _ => 0))) (fun _ => rfl) (rfl) (Nat.le_of_ble_eq_true rfl) (Nat.le_of_ble_eq_true rfl) (Nat.le_of_ble_eq_true rfl) (Nat.le_of_ble_eq_true rfl) dX3_init_96 (fun a11 H hn_163 hn_163v h => ?_)
  obtain ⟨w_164, ew_164⟩ : ∃ z_ : GW, z_ = gu w_151 a11 (eL g 4 (fun _ => 0)) := ⟨_, rfl⟩
  have h : SH g w_164 v s H locs := by rw [ew_164]; exact h
  have f_165 : w_164 hm = some (ob 4 [.int (nI 0), .int (bI true), .int (bI false), .ref a1, .ref a2, .ref a3, .ref a4, .ref a5, .int (bI false), .ref a6, .ref a7, .int (nI 0), .int (nI 0), .ref a8, .ref a9, .int (nI 0), .int (nI 0), .ref a10, .null, .int (nI 0), .int (bI false), .null]) := by rw [ew_164]; exact (gu_n (g_neN f_152 hn_163)).trans f_152
  have f_166 : w_164 a1 = some (eI g 2048 (fun _ => 0)) := by rw [ew_164]; exact (gu_n (g_neN f_153 hn_163)).trans f_153
  have f_167 : w_164 a2 = some (eI g 2048 (fun _ => 0)) := by rw [ew_164]; exact (gu_n (g_neN f_154 hn_163)).trans f_154
  have f_168 : w_164 a3 = some (eI g 2048 (fun _ => 0)) := by rw [ew_164]; exact (gu_n (g_neN f_155 hn_163)).trans f_155
  have f_169 : w_164 a4 = some (eZ g 64 (fun _ => false)) := by rw [ew_164]; exact (gu_n (g_neN f_156 hn_163)).trans f_156
  have f_170 : w_164 a5 = some (eI g 30 (fun _ => 0)) := by rw [ew_164]; exact (gu_n (g_neN f_157 hn_163)).trans f_157
  have f_171 : w_164 a6 = some (eI g 1200 (fun _ => 0)) := by rw [ew_164]; exact (gu_n (g_neN f_158 hn_163)).trans f_158
  have f_172 : w_164 a7 = some (eI g 38400 (fun _ => 0)) := by rw [ew_164]; exact (gu_n (g_neN f_159 hn_163)).trans f_159
  have f_173 : w_164 a8 = some (eI g 1200 (fun _ => 0)) := by rw [ew_164]; exact (gu_n (g_neN f_160 hn_163)).trans f_160
  have f_174 : w_164 a9 = some (eL g 1200 (fun _ => 0)) := by rw [ew_164]; exact (gu_n (g_neN f_161 hn_163)).trans f_161
  have f_175 : w_164 a10 = some (eI g 4 (fun _ => 0)) := by rw [ew_164]; exact (gu_n (g_neN f_162 hn_163)).trans f_162
  have f_176 : w_164 a11 = some (eL g 4 (fun _ => 0)) := by rw [ew_164]; exact gu_s
  refine gx_putF C h f_165 (Cn := RX3) (T := TX3) (N := 22) (x := .ref a11) rfl in_X3 tyX3 tyX3_ok nmX3 18 (by decide) q750 rfl rfl hnm rfl rfl (Nat.le_of_ble_eq_true rfl) dX3_init_98 (fun H locs h => ?_)
  obtain ⟨w_177, ew_177⟩ : ∃ z_ : GW, z_ = gu w_164 hm (ob 4 [.int (nI 0), .int (bI true), .int (bI false), .ref a1, .ref a2, .ref a3, .ref a4, .ref a5, .int (bI false), .ref a6, .ref a7, .int (nI 0), .int (nI 0), .ref a8, .ref a9, .int (nI 0), .int (nI 0), .ref a10, .ref a11, .int (nI 0), .int (bI false), .null]) := ⟨_, rfl⟩
  have h : SH g w_177 v s H locs := by rw [ew_177]; exact h
  have f_178 : w_177 hm = some (ob 4 [.int (nI 0), .int (bI true), .int (bI false), .ref a1, .ref a2, .ref a3, .ref a4, .ref a5, .int (bI false), .ref a6, .ref a7, .int (nI 0), .int (nI 0), .ref a8, .ref a9, .int (nI 0), .int (nI 0), .ref a10, .ref a11, .int (nI 0), .int (bI false), .null]) := by rw [ew_177]; exact gu_s
  have f_179 : w_177 a1 = some (eI g 2048 (fun _ => 0)) := by rw [ew_177]; exact (gu_n (Ne.symm (g_neN f_2 hn_3))).trans f_166
  have f_180 : w_177 a2 = some (eI g 2048 (fun _ => 0)) := by rw [ew_177]; exact (gu_n (Ne.symm (g_neN f_8 hn_10))).trans f_167
  have f_181 : w_177 a3 = some (eI g 2048 (fun _ => 0)) := by rw [ew_177]; exact (gu_n (Ne.symm (g_neN f_16 hn_19))).trans f_168
  have f_182 : w_177 a4 = some (eZ g 64 (fun _ => false)) := by rw [ew_177]; exact (gu_n (Ne.symm (g_neN f_26 hn_30))).trans f_169
  have f_183 : w_177 a5 = some (eI g 30 (fun _ => 0)) := by rw [ew_177]; exact (gu_n (Ne.symm (g_neN f_38 hn_43))).trans f_170
  have f_184 : w_177 a6 = some (eI g 1200 (fun _ => 0)) := by rw [ew_177]; exact (gu_n (Ne.symm (g_neN f_52 hn_58))).trans f_171
  have f_185 : w_177 a7 = some (eI g 38400 (fun _ => 0)) := by rw [ew_177]; exact (gu_n (Ne.symm (g_neN f_68 hn_75))).trans f_172
  have f_186 : w_177 a8 = some (eI g 1200 (fun _ => 0)) := by rw [ew_177]; exact (gu_n (Ne.symm (g_neN f_86 hn_94))).trans f_173
  have f_187 : w_177 a9 = some (eL g 1200 (fun _ => 0)) := by rw [ew_177]; exact (gu_n (Ne.symm (g_neN f_106 hn_115))).trans f_174
  have f_188 : w_177 a10 = some (eI g 4 (fun _ => 0)) := by rw [ew_177]; exact (gu_n (Ne.symm (g_neN f_128 hn_138))).trans f_175
  have f_189 : w_177 a11 = some (eL g 4 (fun _ => 0)) := by rw [ew_177]; exact (gu_n (Ne.symm (g_neN f_152 hn_163))).trans f_176
  refine lv_aload_n hx hb dX3_init_101 rfl (lv_at hl 0 rfl) ?_
  refine lv_bipush (v := nI 32) hx hb dX3_init_102 (by decide) ?_
  refine gx_newa C h 1 (atype := .int) q103 (ty := .int) rfl rfl (N' := 32) (x := .inl (fun _ => 0)) (fun _ => rfl) (rfl) (Nat.le_of_ble_eq_true rfl) (Nat.le_of_ble_eq_true rfl) (Nat.le_of_ble_eq_true rfl) (Nat.le_of_ble_eq_true rfl) dX3_init_104 (fun a12 H hn_190 hn_190v h => ?_)
  obtain ⟨w_191, ew_191⟩ : ∃ z_ : GW, z_ = gu w_177 a12 (eI g 32 (fun _ => 0)) := ⟨_, rfl⟩
  have h : SH g w_191 v s H locs := by rw [ew_191]; exact h
  have f_192 : w_191 hm = some (ob 4 [.int (nI 0), .int (bI true), .int (bI false), .ref a1, .ref a2, .ref a3, .ref a4, .ref a5, .int (bI false), .ref a6, .ref a7, .int (nI 0), .int (nI 0), .ref a8, .ref a9, .int (nI 0), .int (nI 0), .ref a10, .ref a11, .int (nI 0), .int (bI false), .null]) := by rw [ew_191]; exact (gu_n (g_neN f_178 hn_190)).trans f_178
  have f_193 : w_191 a1 = some (eI g 2048 (fun _ => 0)) := by rw [ew_191]; exact (gu_n (g_neN f_179 hn_190)).trans f_179
  have f_194 : w_191 a2 = some (eI g 2048 (fun _ => 0)) := by rw [ew_191]; exact (gu_n (g_neN f_180 hn_190)).trans f_180
  have f_195 : w_191 a3 = some (eI g 2048 (fun _ => 0)) := by rw [ew_191]; exact (gu_n (g_neN f_181 hn_190)).trans f_181
  have f_196 : w_191 a4 = some (eZ g 64 (fun _ => false)) := by rw [ew_191]; exact (gu_n (g_neN f_182 hn_190)).trans f_182
  have f_197 : w_191 a5 = some (eI g 30 (fun _ => 0)) := by rw [ew_191]; exact (gu_n (g_neN f_183 hn_190)).trans f_183
  have f_198 : w_191 a6 = some (eI g 1200 (fun _ => 0)) := by rw [ew_191]; exact (gu_n (g_neN f_184 hn_190)).trans f_184
  have f_199 : w_191 a7 = some (eI g 38400 (fun _ => 0)) := by rw [ew_191]; exact (gu_n (g_neN f_185 hn_190)).trans f_185
  have f_200 : w_191 a8 = some (eI g 1200 (fun _ => 0)) := by rw [ew_191]; exact (gu_n (g_neN f_186 hn_190)).trans f_186
  have f_201 : w_191 a9 = some (eL g 1200 (fun _ => 0)) := by rw [ew_191]; exact (gu_n (g_neN f_187 hn_190)).trans f_187
  have f_202 : w_191 a10 = some (eI g 4 (fun _ => 0)) := by rw [ew_191]; exact (gu_n (g_neN f_188 hn_190)).trans f_188
  have f_203 : w_191 a11 = some (eL g 4 (fun _ => 0)) := by rw [ew_191]; exact (gu_n (g_neN f_189 hn_190)).trans f_189
  have f_204 : w_191 a12 = some (eI g 32 (fun _ => 0)) := by rw [ew_191]; exact gu_s
  refine gx_putF C h f_192 (Cn := RX3) (T := TX3) (N := 22) (x := .ref a12) rfl in_X3 tyX3 tyX3_ok nmX3 21 (by decide) q753 rfl rfl hnm rfl rfl (Nat.le_of_ble_eq_true rfl) dX3_init_106 (fun H locs h => ?_)
  obtain ⟨w_205, ew_205⟩ : ∃ z_ : GW, z_ = gu w_191 hm (ob 4 [.int (nI 0), .int (bI true), .int (bI false), .ref a1, .ref a2, .ref a3, .ref a4, .ref a5, .int (bI false), .ref a6, .ref a7, .int (nI 0), .int (nI 0), .ref a8, .ref a9, .int (nI 0), .int (nI 0), .ref a10, .ref a11, .int (nI 0), .int (bI false), .ref a12]) := ⟨_, rfl⟩
  have h : SH g w_205 v s H locs := by rw [ew_205]; exact h
  have f_206 : w_205 hm = some (ob 4 [.int (nI 0), .int (bI true), .int (bI false), .ref a1, .ref a2, .ref a3, .ref a4, .ref a5, .int (bI false), .ref a6, .ref a7, .int (nI 0), .int (nI 0), .ref a8, .ref a9, .int (nI 0), .int (nI 0), .ref a10, .ref a11, .int (nI 0), .int (bI false), .ref a12]) := by rw [ew_205]; exact gu_s
  have f_207 : w_205 a1 = some (eI g 2048 (fun _ => 0)) := by rw [ew_205]; exact (gu_n (Ne.symm (g_neN f_2 hn_3))).trans f_193
  have f_208 : w_205 a2 = some (eI g 2048 (fun _ => 0)) := by rw [ew_205]; exact (gu_n (Ne.symm (g_neN f_8 hn_10))).trans f_194
  have f_209 : w_205 a3 = some (eI g 2048 (fun _ => 0)) := by rw [ew_205]; exact (gu_n (Ne.symm (g_neN f_16 hn_19))).trans f_195
  have f_210 : w_205 a4 = some (eZ g 64 (fun _ => false)) := by rw [ew_205]; exact (gu_n (Ne.symm (g_neN f_26 hn_30))).trans f_196
  have f_211 : w_205 a5 = some (eI g 30 (fun _ => 0)) := by rw [ew_205]; exact (gu_n (Ne.symm (g_neN f_38 hn_43))).trans f_197
  have f_212 : w_205 a6 = some (eI g 1200 (fun _ => 0)) := by rw [ew_205]; exact (gu_n (Ne.symm (g_neN f_52 hn_58))).trans f_198
  have f_213 : w_205 a7 = some (eI g 38400 (fun _ => 0)) := by rw [ew_205]; exact (gu_n (Ne.symm (g_neN f_68 hn_75))).trans f_199
  have f_214 : w_205 a8 = some (eI g 1200 (fun _ => 0)) := by rw [ew_205]; exact (gu_n (Ne.symm (g_neN f_86 hn_94))).trans f_200
  have f_215 : w_205 a9 = some (eL g 1200 (fun _ => 0)) := by rw [ew_205]; exact (gu_n (Ne.symm (g_neN f_106 hn_115))).trans f_201
  have f_216 : w_205 a10 = some (eI g 4 (fun _ => 0)) := by rw [ew_205]; exact (gu_n (Ne.symm (g_neN f_128 hn_138))).trans f_202
  have f_217 : w_205 a11 = some (eL g 4 (fun _ => 0)) := by rw [ew_205]; exact (gu_n (Ne.symm (g_neN f_152 hn_163))).trans f_203
  have f_218 : w_205 a12 = some (eI g 32 (fun _ => 0)) := by rw [ew_205]; exact (gu_n (Ne.symm (g_neN f_178 hn_190))).trans f_204
  refine lv_iload_n hx hb dX3_init_109 rfl (lv_at hl 1 rfl) ?_
  refine lv_bipush (v := nI 57) hx hb dX3_init_110 (by decide) ?_
  refine lv_irem hx hb dX3_init_112 (by decide) ?_
  have hnd : [hm, a1, a2, a3, a4, a5, a6, a7, a8, a9, a10, a11, a12].Nodup := by
    have e0_1 : ¬ hm = a1 := (g_neN f_2 hn_3)
    have e0_2 : ¬ hm = a2 := (g_neN f_8 hn_10)
    have e0_3 : ¬ hm = a3 := (g_neN f_16 hn_19)
    have e0_4 : ¬ hm = a4 := (g_neN f_26 hn_30)
    have e0_5 : ¬ hm = a5 := (g_neN f_38 hn_43)
    have e0_6 : ¬ hm = a6 := (g_neN f_52 hn_58)
    have e0_7 : ¬ hm = a7 := (g_neN f_68 hn_75)
    have e0_8 : ¬ hm = a8 := (g_neN f_86 hn_94)
    have e0_9 : ¬ hm = a9 := (g_neN f_106 hn_115)
    have e0_10 : ¬ hm = a10 := (g_neN f_128 hn_138)
    have e0_11 : ¬ hm = a11 := (g_neN f_152 hn_163)
    have e0_12 : ¬ hm = a12 := (g_neN f_178 hn_190)
    have e1_2 : ¬ a1 = a2 := (g_neN f_9 hn_10)
    have e1_3 : ¬ a1 = a3 := (g_neN f_17 hn_19)
    have e1_4 : ¬ a1 = a4 := (g_neN f_27 hn_30)
    have e1_5 : ¬ a1 = a5 := (g_neN f_39 hn_43)
    have e1_6 : ¬ a1 = a6 := (g_neN f_53 hn_58)
    have e1_7 : ¬ a1 = a7 := (g_neN f_69 hn_75)
    have e1_8 : ¬ a1 = a8 := (g_neN f_87 hn_94)
    have e1_9 : ¬ a1 = a9 := (g_neN f_107 hn_115)
    have e1_10 : ¬ a1 = a10 := (g_neN f_129 hn_138)
    have e1_11 : ¬ a1 = a11 := (g_neN f_153 hn_163)
    have e1_12 : ¬ a1 = a12 := (g_neN f_179 hn_190)
    have e2_3 : ¬ a2 = a3 := (g_neN f_18 hn_19)
    have e2_4 : ¬ a2 = a4 := (g_neN f_28 hn_30)
    have e2_5 : ¬ a2 = a5 := (g_neN f_40 hn_43)
    have e2_6 : ¬ a2 = a6 := (g_neN f_54 hn_58)
    have e2_7 : ¬ a2 = a7 := (g_neN f_70 hn_75)
    have e2_8 : ¬ a2 = a8 := (g_neN f_88 hn_94)
    have e2_9 : ¬ a2 = a9 := (g_neN f_108 hn_115)
    have e2_10 : ¬ a2 = a10 := (g_neN f_130 hn_138)
    have e2_11 : ¬ a2 = a11 := (g_neN f_154 hn_163)
    have e2_12 : ¬ a2 = a12 := (g_neN f_180 hn_190)
    have e3_4 : ¬ a3 = a4 := (g_neN f_29 hn_30)
    have e3_5 : ¬ a3 = a5 := (g_neN f_41 hn_43)
    have e3_6 : ¬ a3 = a6 := (g_neN f_55 hn_58)
    have e3_7 : ¬ a3 = a7 := (g_neN f_71 hn_75)
    have e3_8 : ¬ a3 = a8 := (g_neN f_89 hn_94)
    have e3_9 : ¬ a3 = a9 := (g_neN f_109 hn_115)
    have e3_10 : ¬ a3 = a10 := (g_neN f_131 hn_138)
    have e3_11 : ¬ a3 = a11 := (g_neN f_155 hn_163)
    have e3_12 : ¬ a3 = a12 := (g_neN f_181 hn_190)
    have e4_5 : ¬ a4 = a5 := (g_neN f_42 hn_43)
    have e4_6 : ¬ a4 = a6 := (g_neN f_56 hn_58)
    have e4_7 : ¬ a4 = a7 := (g_neN f_72 hn_75)
    have e4_8 : ¬ a4 = a8 := (g_neN f_90 hn_94)
    have e4_9 : ¬ a4 = a9 := (g_neN f_110 hn_115)
    have e4_10 : ¬ a4 = a10 := (g_neN f_132 hn_138)
    have e4_11 : ¬ a4 = a11 := (g_neN f_156 hn_163)
    have e4_12 : ¬ a4 = a12 := (g_neN f_182 hn_190)
    have e5_6 : ¬ a5 = a6 := (g_neN f_57 hn_58)
    have e5_7 : ¬ a5 = a7 := (g_neN f_73 hn_75)
    have e5_8 : ¬ a5 = a8 := (g_neN f_91 hn_94)
    have e5_9 : ¬ a5 = a9 := (g_neN f_111 hn_115)
    have e5_10 : ¬ a5 = a10 := (g_neN f_133 hn_138)
    have e5_11 : ¬ a5 = a11 := (g_neN f_157 hn_163)
    have e5_12 : ¬ a5 = a12 := (g_neN f_183 hn_190)
    have e6_7 : ¬ a6 = a7 := (g_neN f_74 hn_75)
    have e6_8 : ¬ a6 = a8 := (g_neN f_92 hn_94)
    have e6_9 : ¬ a6 = a9 := (g_neN f_112 hn_115)
    have e6_10 : ¬ a6 = a10 := (g_neN f_134 hn_138)
    have e6_11 : ¬ a6 = a11 := (g_neN f_158 hn_163)
    have e6_12 : ¬ a6 = a12 := (g_neN f_184 hn_190)
    have e7_8 : ¬ a7 = a8 := (g_neN f_93 hn_94)
    have e7_9 : ¬ a7 = a9 := (g_neN f_113 hn_115)
    have e7_10 : ¬ a7 = a10 := (g_neN f_135 hn_138)
    have e7_11 : ¬ a7 = a11 := (g_neN f_159 hn_163)
    have e7_12 : ¬ a7 = a12 := (g_neN f_185 hn_190)
    have e8_9 : ¬ a8 = a9 := (g_neN f_114 hn_115)
    have e8_10 : ¬ a8 = a10 := (g_neN f_136 hn_138)
    have e8_11 : ¬ a8 = a11 := (g_neN f_160 hn_163)
    have e8_12 : ¬ a8 = a12 := (g_neN f_186 hn_190)
    have e9_10 : ¬ a9 = a10 := (g_neN f_137 hn_138)
    have e9_11 : ¬ a9 = a11 := (g_neN f_161 hn_163)
    have e9_12 : ¬ a9 = a12 := (g_neN f_187 hn_190)
    have e10_11 : ¬ a10 = a11 := (g_neN f_162 hn_163)
    have e10_12 : ¬ a10 = a12 := (g_neN f_188 hn_190)
    have e11_12 : ¬ a11 = a12 := (g_neN f_189 hn_190)
    exact List.nodup_cons.mpr ⟨(fun q => (List.mem_cons.mp q).elim e0_1 (fun q => (List.mem_cons.mp q).elim e0_2 (fun q => (List.mem_cons.mp q).elim e0_3 (fun q => (List.mem_cons.mp q).elim e0_4 (fun q => (List.mem_cons.mp q).elim e0_5 (fun q => (List.mem_cons.mp q).elim e0_6 (fun q => (List.mem_cons.mp q).elim e0_7 (fun q => (List.mem_cons.mp q).elim e0_8 (fun q => (List.mem_cons.mp q).elim e0_9 (fun q => (List.mem_cons.mp q).elim e0_10 (fun q => (List.mem_cons.mp q).elim e0_11 (fun q => (List.mem_cons.mp q).elim e0_12 (fun q => absurd q List.not_mem_nil))))))))))))), List.nodup_cons.mpr ⟨(fun q => (List.mem_cons.mp q).elim e1_2 (fun q => (List.mem_cons.mp q).elim e1_3 (fun q => (List.mem_cons.mp q).elim e1_4 (fun q => (List.mem_cons.mp q).elim e1_5 (fun q => (List.mem_cons.mp q).elim e1_6 (fun q => (List.mem_cons.mp q).elim e1_7 (fun q => (List.mem_cons.mp q).elim e1_8 (fun q => (List.mem_cons.mp q).elim e1_9 (fun q => (List.mem_cons.mp q).elim e1_10 (fun q => (List.mem_cons.mp q).elim e1_11 (fun q => (List.mem_cons.mp q).elim e1_12 (fun q => absurd q List.not_mem_nil)))))))))))), List.nodup_cons.mpr ⟨(fun q => (List.mem_cons.mp q).elim e2_3 (fun q => (List.mem_cons.mp q).elim e2_4 (fun q => (List.mem_cons.mp q).elim e2_5 (fun q => (List.mem_cons.mp q).elim e2_6 (fun q => (List.mem_cons.mp q).elim e2_7 (fun q => (List.mem_cons.mp q).elim e2_8 (fun q => (List.mem_cons.mp q).elim e2_9 (fun q => (List.mem_cons.mp q).elim e2_10 (fun q => (List.mem_cons.mp q).elim e2_11 (fun q => (List.mem_cons.mp q).elim e2_12 (fun q => absurd q List.not_mem_nil))))))))))), List.nodup_cons.mpr ⟨(fun q => (List.mem_cons.mp q).elim e3_4 (fun q => (List.mem_cons.mp q).elim e3_5 (fun q => (List.mem_cons.mp q).elim e3_6 (fun q => (List.mem_cons.mp q).elim e3_7 (fun q => (List.mem_cons.mp q).elim e3_8 (fun q => (List.mem_cons.mp q).elim e3_9 (fun q => (List.mem_cons.mp q).elim e3_10 (fun q => (List.mem_cons.mp q).elim e3_11 (fun q => (List.mem_cons.mp q).elim e3_12 (fun q => absurd q List.not_mem_nil)))))))))), List.nodup_cons.mpr ⟨(fun q => (List.mem_cons.mp q).elim e4_5 (fun q => (List.mem_cons.mp q).elim e4_6 (fun q => (List.mem_cons.mp q).elim e4_7 (fun q => (List.mem_cons.mp q).elim e4_8 (fun q => (List.mem_cons.mp q).elim e4_9 (fun q => (List.mem_cons.mp q).elim e4_10 (fun q => (List.mem_cons.mp q).elim e4_11 (fun q => (List.mem_cons.mp q).elim e4_12 (fun q => absurd q List.not_mem_nil))))))))), List.nodup_cons.mpr ⟨(fun q => (List.mem_cons.mp q).elim e5_6 (fun q => (List.mem_cons.mp q).elim e5_7 (fun q => (List.mem_cons.mp q).elim e5_8 (fun q => (List.mem_cons.mp q).elim e5_9 (fun q => (List.mem_cons.mp q).elim e5_10 (fun q => (List.mem_cons.mp q).elim e5_11 (fun q => (List.mem_cons.mp q).elim e5_12 (fun q => absurd q List.not_mem_nil)))))))), List.nodup_cons.mpr ⟨(fun q => (List.mem_cons.mp q).elim e6_7 (fun q => (List.mem_cons.mp q).elim e6_8 (fun q => (List.mem_cons.mp q).elim e6_9 (fun q => (List.mem_cons.mp q).elim e6_10 (fun q => (List.mem_cons.mp q).elim e6_11 (fun q => (List.mem_cons.mp q).elim e6_12 (fun q => absurd q List.not_mem_nil))))))), List.nodup_cons.mpr ⟨(fun q => (List.mem_cons.mp q).elim e7_8 (fun q => (List.mem_cons.mp q).elim e7_9 (fun q => (List.mem_cons.mp q).elim e7_10 (fun q => (List.mem_cons.mp q).elim e7_11 (fun q => (List.mem_cons.mp q).elim e7_12 (fun q => absurd q List.not_mem_nil)))))), List.nodup_cons.mpr ⟨(fun q => (List.mem_cons.mp q).elim e8_9 (fun q => (List.mem_cons.mp q).elim e8_10 (fun q => (List.mem_cons.mp q).elim e8_11 (fun q => (List.mem_cons.mp q).elim e8_12 (fun q => absurd q List.not_mem_nil))))), List.nodup_cons.mpr ⟨(fun q => (List.mem_cons.mp q).elim e9_10 (fun q => (List.mem_cons.mp q).elim e9_11 (fun q => (List.mem_cons.mp q).elim e9_12 (fun q => absurd q List.not_mem_nil)))), List.nodup_cons.mpr ⟨(fun q => (List.mem_cons.mp q).elim e10_11 (fun q => (List.mem_cons.mp q).elim e10_12 (fun q => absurd q List.not_mem_nil))), List.nodup_cons.mpr ⟨(fun q => (List.mem_cons.mp q).elim e11_12 (fun q => absurd q List.not_mem_nil)), List.nodup_cons.mpr ⟨(fun q => absurd q List.not_mem_nil), List.nodup_nil⟩⟩⟩⟩⟩⟩⟩⟩⟩⟩⟩⟩⟩
  obtain ⟨ad, hinj, d0, d1, d2, d3, d4, d5, d6, d7, d8, d9, d10, d11, d12⟩ : ∃ ad : Nat → Nat, (∀ i j, i ≤ 12 → j ≤ 12 → ad i = ad j → i = j) ∧ ad 0 = hm ∧ ad 1 = a1 ∧ ad 2 = a2 ∧ ad 3 = a3 ∧ ad 4 = a4 ∧ ad 5 = a5 ∧ ad 6 = a6 ∧ ad 7 = a7 ∧ ad 8 = a8 ∧ ad 9 = a9 ∧ ad 10 = a10 ∧ ad 11 = a11 ∧ ad 12 = a12 := ⟨fun i => [hm, a1, a2, a3, a4, a5, a6, a7, a8, a9, a10, a11, a12].getD i 0, fun i j hi hj e => nd_inj hnd (by simp; omega) (by simp; omega) e, rfl, rfl, rfl, rfl, rfl, rfl, rfl, rfl, rfl, rfl, rfl, rfl, rfl⟩
  refine lv_istore_n (lv' := [(2, .int (x - x / (nI 57) * (nI 57))), (0, .ref hm), (1, .int x)]) hx hb dX3_init_113 rfl hl (by decide) rfl (fun ls hl => ?_)
  refine lv_aload_n hx hb dX3_init_114 rfl (lv_at hl 1 rfl) ?_
  refine lv_bipush (v := nI 8) hx hb dX3_init_115 (by decide) ?_
  refine lv_iload_n hx hb dX3_init_117 rfl (lv_at hl 0 rfl) ?_
  refine lv_if_ge (tgt := 128) hx hb dX3_init_118 (by decide) (fun c1 => ?_) (fun c1 => ?_)
  · skip
    refine lv_iload_n hx hb dX3_init_128 rfl (lv_at hl 0 rfl) ?_
    refine lv_iadd hx hb dX3_init_129 ?_
    rw [show ((nI 8) + ((x - x / (nI 57) * (nI 57)))) = nI (cnOf x) from cnOf_a c1]
    refine gx_putF C h f_206 (Cn := RX3) (T := TX3) (N := 22) (x := .int (nI (cnOf x))) rfl in_X3 tyX3 tyX3_ok nmX3 0 (by decide) q732 rfl rfl hnm rfl rfl (Nat.le_of_ble_eq_true rfl) dX3_init_130 (fun H locs h => ?_)
    obtain ⟨w_219, ew_219⟩ : ∃ z_ : GW, z_ = gu w_205 hm (ob 4 [.int (nI (cnOf x)), .int (bI true), .int (bI false), .ref a1, .ref a2, .ref a3, .ref a4, .ref a5, .int (bI false), .ref a6, .ref a7, .int (nI 0), .int (nI 0), .ref a8, .ref a9, .int (nI 0), .int (nI 0), .ref a10, .ref a11, .int (nI 0), .int (bI false), .ref a12]) := ⟨_, rfl⟩
    have h : SH g w_219 v s H locs := by rw [ew_219]; exact h
    have f_220 : w_219 hm = some (ob 4 [.int (nI (cnOf x)), .int (bI true), .int (bI false), .ref a1, .ref a2, .ref a3, .ref a4, .ref a5, .int (bI false), .ref a6, .ref a7, .int (nI 0), .int (nI 0), .ref a8, .ref a9, .int (nI 0), .int (nI 0), .ref a10, .ref a11, .int (nI 0), .int (bI false), .ref a12]) := by rw [ew_219]; exact gu_s
    have f_221 : w_219 a1 = some (eI g 2048 (fun _ => 0)) := by rw [ew_219]; exact (gu_n (Ne.symm (g_neN f_2 hn_3))).trans f_207
    have f_222 : w_219 a2 = some (eI g 2048 (fun _ => 0)) := by rw [ew_219]; exact (gu_n (Ne.symm (g_neN f_8 hn_10))).trans f_208
    have f_223 : w_219 a3 = some (eI g 2048 (fun _ => 0)) := by rw [ew_219]; exact (gu_n (Ne.symm (g_neN f_16 hn_19))).trans f_209
    have f_224 : w_219 a4 = some (eZ g 64 (fun _ => false)) := by rw [ew_219]; exact (gu_n (Ne.symm (g_neN f_26 hn_30))).trans f_210
    have f_225 : w_219 a5 = some (eI g 30 (fun _ => 0)) := by rw [ew_219]; exact (gu_n (Ne.symm (g_neN f_38 hn_43))).trans f_211
    have f_226 : w_219 a6 = some (eI g 1200 (fun _ => 0)) := by rw [ew_219]; exact (gu_n (Ne.symm (g_neN f_52 hn_58))).trans f_212
    have f_227 : w_219 a7 = some (eI g 38400 (fun _ => 0)) := by rw [ew_219]; exact (gu_n (Ne.symm (g_neN f_68 hn_75))).trans f_213
    have f_228 : w_219 a8 = some (eI g 1200 (fun _ => 0)) := by rw [ew_219]; exact (gu_n (Ne.symm (g_neN f_86 hn_94))).trans f_214
    have f_229 : w_219 a9 = some (eL g 1200 (fun _ => 0)) := by rw [ew_219]; exact (gu_n (Ne.symm (g_neN f_106 hn_115))).trans f_215
    have f_230 : w_219 a10 = some (eI g 4 (fun _ => 0)) := by rw [ew_219]; exact (gu_n (Ne.symm (g_neN f_128 hn_138))).trans f_216
    have f_231 : w_219 a11 = some (eL g 4 (fun _ => 0)) := by rw [ew_219]; exact (gu_n (Ne.symm (g_neN f_152 hn_163))).trans f_217
    have f_232 : w_219 a12 = some (eI g 32 (fun _ => 0)) := by rw [ew_219]; exact (gu_n (Ne.symm (g_neN f_178 hn_190))).trans f_218
    have hM : MW g w_219 ad (cnOf x) true false false false 0 0 0 0 (fun _ => 0) (fun _ => 0) (fun _ => 0) (fun _ => false) (fun _ => 0) (fun _ => 0) (fun _ => 0) (fun _ => 0) (fun _ => 0) (fun _ => 0) (fun _ => 0) (fun _ => 0) := by
      unfold MW mo
      rw [d0, d1, d2, d3, d4, d5, d6, d7, d8, d9, d10, d11, d12]
      exact ⟨hinj, f_220, f_221, f_222, f_223, f_224, f_225, f_226, f_227, f_228, f_229, f_230, f_231, f_232⟩
    refine lv_aload_n hx hb dX3_init_133 rfl (lv_at hl 1 rfl) ?_
    refine lv_iconst (v := (0)) hx hb dX3_init_134 (by decide) ?_
    refine lv_lconst (v := 0) hx hb dX3_init_135 (by decide) ?_
    have k0 : w_219 (ad 0) = some (mo ad (cnOf x) true false false false 0 0 0 0) := hM.2.1
    have hl : lv_has ls 3 [(2, .int (x - x / (nI 57) * (nI 57))), (0, .ref hm), (1, .int x)] := hl
    refine gc_v (va_runV (As := [.int 0, .long 0]) (rest := []) C.fix (by have q := m_X3_begin l g w_219 v ad (cnOf x) true false false false 0 0 0 0 (fun _ => 0) (fun _ => 0) (fun _ => 0) (fun _ => false) (fun _ => 0) (fun _ => 0) (fun _ => 0) (fun _ => 0) (fun _ => 0) (fun _ => 0) (fun _ => 0) (fun _ => 0) hM 0 0; rw [d0] at q; exact q) (cwV 2 hts (lw_V q728 q730 qs26 q53 q731) rfl rfl rfl (by decide +kernel) ⟨Nat.le_of_ble_eq_true rfl, Nat.le_of_ble_eq_true rfl⟩) (gp_V C h [.int 0, .long 0] (Cn := RX3) (T := TX3) (N := 22) rfl f_220) rfl rfl hl.1 rfl (lv_room (Nat.le_of_ble_eq_true rfl)) dX3_init_136 ⟨Nat.le_of_ble_eq_true rfl, Nat.le_of_ble_eq_true rfl⟩) h (fun w_234 H locs hp h => ?_)
    obtain ⟨fL', z', fP', hM3, q1, q2, q3⟩ := hp
    exact gr_v C h (⟨ad, d0, begin_rm hM3 (fun j hj => (by decide)) q1 q2 q3⟩) (Nat.le_of_ble_eq_true rfl) (Nat.le_of_ble_eq_true rfl) dX3_init_139
  · skip
    refine lv_iload_n hx hb dX3_init_121 rfl (lv_at hl 0 rfl) ?_
    refine lv_bipush (v := nI 57) hx hb dX3_init_122 (by decide) ?_
    refine lv_iadd hx hb dX3_init_124 ?_
    refine lv_goto (tgt := 129) hx hb dX3_init_125 (by decide) ?_
    refine lv_iadd hx hb dX3_init_129 ?_
    rw [show ((nI 8) + ((((x - x / (nI 57) * (nI 57))) + (nI 57)))) = nI (cnOf x) from cnOf_b c1]
    refine gx_putF C h f_206 (Cn := RX3) (T := TX3) (N := 22) (x := .int (nI (cnOf x))) rfl in_X3 tyX3 tyX3_ok nmX3 0 (by decide) q732 rfl rfl hnm rfl rfl (Nat.le_of_ble_eq_true rfl) dX3_init_130 (fun H locs h => ?_)
    obtain ⟨w_235, ew_235⟩ : ∃ z_ : GW, z_ = gu w_205 hm (ob 4 [.int (nI (cnOf x)), .int (bI true), .int (bI false), .ref a1, .ref a2, .ref a3, .ref a4, .ref a5, .int (bI false), .ref a6, .ref a7, .int (nI 0), .int (nI 0), .ref a8, .ref a9, .int (nI 0), .int (nI 0), .ref a10, .ref a11, .int (nI 0), .int (bI false), .ref a12]) := ⟨_, rfl⟩
    have h : SH g w_235 v s H locs := by rw [ew_235]; exact h
    have f_236 : w_235 hm = some (ob 4 [.int (nI (cnOf x)), .int (bI true), .int (bI false), .ref a1, .ref a2, .ref a3, .ref a4, .ref a5, .int (bI false), .ref a6, .ref a7, .int (nI 0), .int (nI 0), .ref a8, .ref a9, .int (nI 0), .int (nI 0), .ref a10, .ref a11, .int (nI 0), .int (bI false), .ref a12]) := by rw [ew_235]; exact gu_s
    have f_237 : w_235 a1 = some (eI g 2048 (fun _ => 0)) := by rw [ew_235]; exact (gu_n (Ne.symm (g_neN f_2 hn_3))).trans f_207
    have f_238 : w_235 a2 = some (eI g 2048 (fun _ => 0)) := by rw [ew_235]; exact (gu_n (Ne.symm (g_neN f_8 hn_10))).trans f_208
    have f_239 : w_235 a3 = some (eI g 2048 (fun _ => 0)) := by rw [ew_235]; exact (gu_n (Ne.symm (g_neN f_16 hn_19))).trans f_209
    have f_240 : w_235 a4 = some (eZ g 64 (fun _ => false)) := by rw [ew_235]; exact (gu_n (Ne.symm (g_neN f_26 hn_30))).trans f_210
    have f_241 : w_235 a5 = some (eI g 30 (fun _ => 0)) := by rw [ew_235]; exact (gu_n (Ne.symm (g_neN f_38 hn_43))).trans f_211
    have f_242 : w_235 a6 = some (eI g 1200 (fun _ => 0)) := by rw [ew_235]; exact (gu_n (Ne.symm (g_neN f_52 hn_58))).trans f_212
    have f_243 : w_235 a7 = some (eI g 38400 (fun _ => 0)) := by rw [ew_235]; exact (gu_n (Ne.symm (g_neN f_68 hn_75))).trans f_213
    have f_244 : w_235 a8 = some (eI g 1200 (fun _ => 0)) := by rw [ew_235]; exact (gu_n (Ne.symm (g_neN f_86 hn_94))).trans f_214
    have f_245 : w_235 a9 = some (eL g 1200 (fun _ => 0)) := by rw [ew_235]; exact (gu_n (Ne.symm (g_neN f_106 hn_115))).trans f_215
    have f_246 : w_235 a10 = some (eI g 4 (fun _ => 0)) := by rw [ew_235]; exact (gu_n (Ne.symm (g_neN f_128 hn_138))).trans f_216
    have f_247 : w_235 a11 = some (eL g 4 (fun _ => 0)) := by rw [ew_235]; exact (gu_n (Ne.symm (g_neN f_152 hn_163))).trans f_217
    have f_248 : w_235 a12 = some (eI g 32 (fun _ => 0)) := by rw [ew_235]; exact (gu_n (Ne.symm (g_neN f_178 hn_190))).trans f_218
    have hM : MW g w_235 ad (cnOf x) true false false false 0 0 0 0 (fun _ => 0) (fun _ => 0) (fun _ => 0) (fun _ => false) (fun _ => 0) (fun _ => 0) (fun _ => 0) (fun _ => 0) (fun _ => 0) (fun _ => 0) (fun _ => 0) (fun _ => 0) := by
      unfold MW mo
      rw [d0, d1, d2, d3, d4, d5, d6, d7, d8, d9, d10, d11, d12]
      exact ⟨hinj, f_236, f_237, f_238, f_239, f_240, f_241, f_242, f_243, f_244, f_245, f_246, f_247, f_248⟩
    refine lv_aload_n hx hb dX3_init_133 rfl (lv_at hl 1 rfl) ?_
    refine lv_iconst (v := (0)) hx hb dX3_init_134 (by decide) ?_
    refine lv_lconst (v := 0) hx hb dX3_init_135 (by decide) ?_
    have k0 : w_235 (ad 0) = some (mo ad (cnOf x) true false false false 0 0 0 0) := hM.2.1
    have hl : lv_has ls 3 [(2, .int (x - x / (nI 57) * (nI 57))), (0, .ref hm), (1, .int x)] := hl
    refine gc_v (va_runV (As := [.int 0, .long 0]) (rest := []) C.fix (by have q := m_X3_begin l g w_235 v ad (cnOf x) true false false false 0 0 0 0 (fun _ => 0) (fun _ => 0) (fun _ => 0) (fun _ => false) (fun _ => 0) (fun _ => 0) (fun _ => 0) (fun _ => 0) (fun _ => 0) (fun _ => 0) (fun _ => 0) (fun _ => 0) hM 0 0; rw [d0] at q; exact q) (cwV 2 hts (lw_V q728 q730 qs26 q53 q731) rfl rfl rfl (by decide +kernel) ⟨Nat.le_of_ble_eq_true rfl, Nat.le_of_ble_eq_true rfl⟩) (gp_V C h [.int 0, .long 0] (Cn := RX3) (T := TX3) (N := 22) rfl f_236) rfl rfl hl.1 rfl (lv_room (Nat.le_of_ble_eq_true rfl)) dX3_init_136 ⟨Nat.le_of_ble_eq_true rfl, Nat.le_of_ble_eq_true rfl⟩) h (fun w_250 H locs hp h => ?_)
    obtain ⟨fL', z', fP', hM3, q1, q2, q3⟩ := hp
    exact gr_v C h (⟨ad, d0, begin_rm hM3 (fun j hj => (by decide)) q1 q2 q3⟩) (Nat.le_of_ble_eq_true rfl) (Nat.le_of_ble_eq_true rfl) dX3_init_139
