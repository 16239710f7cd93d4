set_option maxRecDepth 100000
theorem kd_lo {x : Int32} (h : x < nI 1) (h2 : 0 < x) : False := by
  rw [Int32.lt_iff_toInt_lt] at h h2
  rw [nI_toInt (by omega)] at h
  simp at h2
  omega
theorem kd_hi {x : Int32} (h : nI 3 < x) (h2 : x < nI 4) : False := by
  rw [Int32.lt_iff_toInt_lt] at h h2
  rw [nI_toInt (by omega)] at h h2
  omega
theorem kd_lo2 {x : Int32} (h : ¬ x < nI 1) : 0 < x := by
  rw [Int32.lt_iff_toInt_lt] at h ⊢
  rw [nI_toInt (by omega)] at h
  simp
  omega
theorem kd_hi2 {x : Int32} (h : ¬ nI 3 < x) : x < nI 4 := by
  rw [Int32.lt_iff_toInt_lt] at h ⊢
  rw [nI_toInt (by omega)] at h ⊢
  omega
theorem nx_left {cb j i : Nat} {b : Bool} (h : j ≤ cb) : (decide (cb < i) && (decide (j ≤ i) && b)) = (decide (cb + 1 ≤ i) && b) := by
  by_cases q : cb < i
  · rw [decide_eq_true q, decide_eq_true (show j ≤ i by omega), decide_eq_true (show cb + 1 ≤ i by omega)]
    rfl
  · rw [decide_eq_false q, decide_eq_false (show ¬ cb + 1 ≤ i by omega)]
    rfl
theorem nx_pg {P : Nat → Bool} {pp p : Nat} : (P p || decide (pp = p)) = va_up P pp true p := by
  unfold va_up
  by_cases q : p = pp
  · rw [if_pos q, decide_eq_true q.symm]; cases P p <;> rfl
  · rw [if_neg q, decide_eq_false (fun z => q z.symm)]; cases P p <;> rfl
theorem lo2 {s : Int64} {j : Nat} (h : bitL s 0 = false ∧ bitL s 1 = false) (hb : bitL s j = true) : 1 < j := by
  rcases (show j = 0 ∨ j = 1 ∨ 1 < j by omega) with q | q | q
  · rw [q, h.1] at hb; cases hb
  · rw [q, h.2] at hb; cases hb
  · exact q
set_option maxHeartbeats 4000000 in
theorem m_X1_whole (l : Launch) (g : GG) (w v : GW) (ad : Nat → Nat) (cn : Nat) (ru fu ch : Bool) (dk : Sec) (wt : List (Nat × Sec)) (ld : Nat → Option Sec) (pl : Nat → Option Nat) (st kp : List (Int32 × Int64)) (fP : Nat → Int32) (fl : Nat → Option Nat) (lb : Nat → Nat) (wE sE kE : Nat) (hX : XW g w ad cn ru fu ch dk wt ld pl st kp fP fl lb wE sE kE) (hI : InvK (cn, ru, fu, ch, dk, wt, ld, pl, st, kp)) (k : Nat) (hk : k < cn)  : Met l yX1_whole (ws_ yX1_whole cX1_whole 12 (some (.object "KnowDisk$State"))) ({ frames := 5, cells := 140, slots := 2300, locals := 300 } : Room) (gP g [.ref (ad 0), .int (nI k)] w v) (va_Qq (fun (r : Option Nat) (w' : GW) => Ext w w' ∧ (∀ x, wholeF cn dk k = some x → ∃ a : Nat, r = some a ∧ w' a = some (ob 2 [.int x.1, .long x.2])) ∧ (wholeF cn dk k = none → r = none)) (gB g v) (gA g)) 140 2300 (gA g) := by
  refine gm_of (by decide) (Nat.le_of_ble_eq_true rfl) ?_
  intro p e s m below meth c ls C hnm h hl
  have C : Cx g p s m ([.ref (ad 0), .int (nI k)] : List Value).toArray meth c cX1_whole 12 RX1 (some (.object "KnowDisk$State")) := C
  obtain ⟨hx, hb, hml, hown, hts, hr, hlk, hG⟩ := id C
  have hl : lv_has ls 12 [(0, .ref (ad 0)), (1, .int (nI k))] := hl
  obtain ⟨⟨x0, x1, x2, x3⟩, hQW, hQS, hQK, hLL, hLi, hpl, hXD, h8⟩ := id hX
  obtain ⟨i1, i2, i3, i4, i5, i6, i7, i8, i9⟩ := id hI
  have n01 : ad 0 ≠ ad 1 := g_ne x0 x1 (kn_ne (show 0 ≠ 100 + 32 * cn by omega))
  have n02 : ad 0 ≠ ad 2 := g_ne x0 x2 (kn_ne (show 0 ≠ 130 by omega))
  have n03 : ad 0 ≠ ad 3 := g_ne x0 x3 (kn_ne (show 0 ≠ 50 by omega))
  have n12 : ad 1 ≠ ad 2 := g_ne x1 x2 (kn_ne (show 100 + 32 * cn ≠ 130 by omega))
  have n13 : ad 1 ≠ ad 3 := g_ne x1 x3 (kn_ne (show 100 + 32 * cn ≠ 50 by omega))
  have n23 : ad 2 ≠ ad 3 := g_ne x2 x3 (kn_ne (show 130 ≠ 50 by omega))
  refine lv_aload_n hx hb dX1_whole_0 rfl (lv_at hl 0 rfl) ?_
  refine lv_iload_n hx hb dX1_whole_1 rfl (lv_at hl 1 rfl) ?_
  refine gc_q (va_runV (As := [.int (nI k)]) (rest := []) C.fix (m_X1_read l g w v ad cn ru fu ch dk wt ld pl st kp fP fl lb wE sE kE hX hI k hk) (cwV 1 hts (lw_V q339 q341 qs6 q43 q342) rfl rfl rfl (by decide +kernel) ⟨Nat.le_of_ble_eq_true rfl, Nat.le_of_ble_eq_true rfl⟩) (gp_V C h [.int (nI k)] (Cn := RX1) (T := TX1) (N := 10) rfl x0) rfl rfl hl.1 rfl (lv_room (Nat.le_of_ble_eq_true rfl)) dX1_whole_2 ⟨Nat.le_of_ble_eq_true rfl, Nat.le_of_ble_eq_true rfl⟩) h (fun r_1 w_2 H locs hp h => ?_)
  obtain ⟨a, b, ra, xa, fa, fb⟩ := hp
  rw [ra]
  have f_3 : w_2 (ad 0) = some (ob 0 [.ref (ad 1), .int (nI cn), .int (bI ru), .int (bI fu), .ref (ad 2), .ref (ad 3), .int (bI ch), .ref (ad 4), .ref (ad 5), .ref (ad 6)]) := xa.of x0
  have f_4 : w_2 (ad 1) = some (eB g (32 * cn) dk) := xa.of x1
  have f_5 : w_2 (ad 2) = some (eI g 30 fP) := xa.of x2
  have f_6 : w_2 (ad 3) = some (eS g 64 fl) := xa.of x3
  have hX_7 := hX.ext xa
  have hE_8 : Ext w w_2 := XK.trans XK.rfl' xa
  refine lv_astore_n (lv' := [(2, .ref a), (0, .ref (ad 0)), (1, .int (nI k))]) hx hb dX1_whole_5 rfl hl (by decide) rfl (fun ls hl => ?_)
  refine lv_aload_n hx hb dX1_whole_6 rfl (lv_at hl 0 rfl) ?_
  refine gc_i (va_runV (As := []) (rest := []) C.fix (m_X4_kind l g w_2 v a b (sec dk k) fa fb) (cwV 0 hts (lw_V q354 q355 q356 q55 q357) rfl rfl rfl (by decide +kernel) ⟨Nat.le_of_ble_eq_true rfl, Nat.le_of_ble_eq_true rfl⟩) (gp_V C h [] (Cn := RX4) (T := TX4) (N := 1) rfl fa) rfl rfl hl.1 rfl (lv_room (Nat.le_of_ble_eq_true rfl)) dX1_whole_7 ⟨Nat.le_of_ble_eq_true rfl, Nat.le_of_ble_eq_true rfl⟩) h (fun r_9 w_10 H locs hp h => ?_)
  obtain ⟨er_r_9, ew_r_9⟩ := hp
  rw [er_r_9]
  rw [ew_r_9] at h
  refine lv_bipush (v := nI 9) hx hb dX1_whole_10 (by decide) ?_
  refine lv_icmp_ne (tgt := 22) hx hb dX1_whole_12 (by decide) (fun c1 => ?_) (fun c1 => ?_)
  · skip
    refine lv_null hx hb dX1_whole_22 ?_
    have eq : wholeF cn dk k = none := by unfold wholeF; exact if_neg (fun q => c1 q.1)
    exact gr_q C h (x := none) (ty := (.object "KnowDisk$State")) rfl (Or.inl ⟨_, rfl⟩) (⟨hE_8, (fun x q => by rw [eq] at q; cases q), fun _ => rfl⟩) (Nat.le_of_ble_eq_true rfl) (Nat.le_of_ble_eq_true rfl) dX1_whole_23
  · skip
    refine lv_aload_n hx hb dX1_whole_15 rfl (lv_at hl 0 rfl) ?_
    refine gc_i (va_runV (As := []) (rest := []) C.fix (m_X4_isRight l g w_2 v a b (sec dk k) fa fb) (cwV 0 hts (lw_V q446 q447 q448 q55 q449) rfl rfl rfl (by decide +kernel) ⟨Nat.le_of_ble_eq_true rfl, Nat.le_of_ble_eq_true rfl⟩) (gp_V C h [] (Cn := RX4) (T := TX4) (N := 1) rfl fa) rfl rfl hl.1 rfl (lv_room (Nat.le_of_ble_eq_true rfl)) dX1_whole_16 ⟨Nat.le_of_ble_eq_true rfl, Nat.le_of_ble_eq_true rfl⟩) h (fun r_11 w_12 H locs hp h => ?_)
    obtain ⟨er_r_11, ew_r_11⟩ := hp
    rw [er_r_11]
    rw [ew_r_11] at h
    refine lv_if_ne (tgt := 24) hx hb dX1_whole_19 (by decide) (fun c2 => ?_) (fun c2 => ?_)
    · skip
      have c2 : rightB (sec dk k) = true := bI_ne0.mp c2
      refine lv_aload_n hx hb dX1_whole_24 rfl (lv_at hl 0 rfl) ?_
      refine lv_bipush (v := nI 8) hx hb dX1_whole_25 (by decide) ?_
      refine gc_l (va_runVN (As := [.int (nI 8)]) (rest := []) C.fix (m_X4_wide l g w_2 v a b (sec dk k) fa fb 8 (by omega)) ⟨va_cnB 1 hts (lw_meth q369) rfl rfl rfl (hG.2.2.1 _ q537 rfl) (hts _ q55) (by decide +kernel) ⟨Nat.le_of_ble_eq_true rfl, Nat.le_of_ble_eq_true rfl⟩, hts _ q368, hts _ qs8⟩ (gp_V C h [.int (nI 8)] (Cn := RX4) (T := TX4) (N := 1) rfl fa) rfl rfl hl.1 rfl (lv_room (Nat.le_of_ble_eq_true rfl)) dX1_whole_27 ⟨Nat.le_of_ble_eq_true rfl, Nat.le_of_ble_eq_true rfl⟩) h (fun r_13 w_14 H locs hp h => ?_)
      obtain ⟨er_r_13, ew_r_13⟩ := hp
      rw [er_r_13]
      rw [ew_r_13] at h
      have hwf : wholeF cn dk k = (match whG cn dk (wideB (sec dk k) 8) 64 with | none => none | some (P, a) => if a = numB (sec dk k) 20 then some (numB (sec dk k) 16, (wideB (sec dk k) 8)) else none) := by unfold wholeF; exact if_pos ⟨c1, c2⟩
      have hout : ∀ j, j < 64 → bitL (wideB (sec dk k) 8) j = true → ¬ (1 < j ∧ j < cn) → wholeF cn dk k = none := fun j hj hb hn => by rw [hwf, whG_out hj hb hn]
      refine lv_lstore_n (lv' := [(3, .long ((wideB (sec dk k) 8))), (2, .ref a), (0, .ref (ad 0)), (1, .int (nI k))]) hx hb dX1_whole_30 rfl hl (by decide) rfl (fun ls hl => ?_)
      refine lv_lload_n hx hb dX1_whole_31 rfl (lv_at hl 0 rfl) ?_
      refine lv_ldc2 (v := 3) hx hb hown (hts _ q538) dX1_whole_32 ?_
      refine lv_land hx hb dX1_whole_35 ?_
      refine lv_lconst (v := 0) hx hb dX1_whole_36 (by decide) ?_
      refine W.lcmp hx hb dX1_whole_37 ?_
      have c63 : ∀  (wa : GW) (H : Heap) (locs : List Loc) (ls : Array Slot), (wa = w_2) → (∀ j, j < 64 → bitL (wideB (sec dk k) 8) j = true → 1 < j ∧ j < cn) → SH g wa v s H locs → lv_has ls 12 [(0, .ref (ad 0)), (1, .int (nI k)), (2, .ref a), (3, .long ((wideB (sec dk k) 8)))] → W p l e ({ frames := 5, cells := 140, slots := 2300, locals := 300 } : Room) s m ([.ref (ad 0), .int (nI k)] : List Value).toArray below meth c H locs 2 33 (MQ below (va_Qq (fun (r : Option Nat) (w' : GW) => Ext w w' ∧ (∀ x, wholeF cn dk k = some x → ∃ a : Nat, r = some a ∧ w' a = some (ob 2 [.int x.1, .long x.2])) ∧ (wholeF cn dk k = none → r = none)) (gB g v) (gA g)) ([.ref (ad 0), .int (nI k)] : List Value).toArray s 140 2300 (gA g)) (F0 m 63 ls []) := by
        intro  wa H locs ls hw hin h hl
        rw [hw] at h
        refine lv_lconst (v := 0) hx hb dX1_whole_63 (by decide) ?_
        refine lv_lstore (lv' := [(5, .long 0), (0, .ref (ad 0)), (1, .int (nI k)), (2, .ref a), (3, .long ((wideB (sec dk k) 8)))]) hx hb dX1_whole_64 hl (by decide) rfl (fun ls hl => ?_)
        refine lv_iconst (v := nI 0) hx hb dX1_whole_66 (by decide) ?_
        refine lv_istore (lv' := [(7, .int (nI 0)), (5, .long 0), (0, .ref (ad 0)), (1, .int (nI k)), (2, .ref a), (3, .long ((wideB (sec dk k) 8)))]) hx hb dX1_whole_67 hl (by decide) rfl (fun ls hl => ?_)
        refine lv_lload_n hx hb dX1_whole_69 rfl (lv_at hl 5 rfl) ?_
        refine lv_lstore (lv' := [(8, .long ((wideB (sec dk k) 8))), (7, .int (nI 0)), (5, .long 0), (0, .ref (ad 0)), (1, .int (nI k)), (2, .ref a), (3, .long ((wideB (sec dk k) 8)))]) hx hb dX1_whole_70 hl (by decide) rfl (fun ls hl => ?_)
        have hl : lv_has ls 12 [(8, .long ((wideB (sec dk k) 8))), (7, .int (nI 0)), (5, .long 0), (0, .ref (ad 0)), (1, .int (nI k)), (2, .ref a), (3, .long ((wideB (sec dk k) 8)))] := by exact hl
        have loop : ∀ (n_ : Nat) (j cc cs : Nat) (pg lf_ : Int64) (P : Nat → Bool) (al : Int32) (w1 : GW) (H : Heap) (locs : List Loc) (ls : Array Slot), 64 - j < n_ → (j ≤ 64) → (cc ≤ 2 + 2 * j) → (cs ≤ 33 + 33 * j) → (∀ i, i < 64 → bitL lf_ i = (decide (j ≤ i) && bitL (wideB (sec dk k) 8) i)) → (whG cn dk (wideB (sec dk k) 8) j = some (P, al)) → (∀ p, p < 30 → bitL pg p = P p) → (Ext w_2 w1) → SH g w1 v s H locs → lv_has ls 12 [(0, .ref (ad 0)), (1, .int (nI k)), (2, .ref a), (3, .long ((wideB (sec dk k) 8))), (5, .long pg), (7, .int al), (8, .long lf_)] → W p l e ({ frames := 5, cells := 140, slots := 2300, locals := 300 } : Room) s m ([.ref (ad 0), .int (nI k)] : List Value).toArray below meth c H locs cc cs (MQ below (va_Qq (fun (r : Option Nat) (w' : GW) => Ext w w' ∧ (∀ x, wholeF cn dk k = some x → ∃ a : Nat, r = some a ∧ w' a = some (ob 2 [.int x.1, .long x.2])) ∧ (wholeF cn dk k = none → r = none)) (gB g v) (gA g)) ([.ref (ad 0), .int (nI k)] : List Value).toArray s 140 2300 (gA g)) (F0 m 72 ls []) := by
          intro n_
          induction n_ with
          | zero => intros; exact absurd ‹_ < 0› (Nat.not_lt_zero _)
          | succ n_ ih =>
            intro j cc cs pg lf_ P al w1 H locs ls hf hj hc1 hc2 hlf hwg hpg hx1  h hl
            have f_15 : w1 (ad 0) = some (ob 0 [.ref (ad 1), .int (nI cn), .int (bI ru), .int (bI fu), .ref (ad 2), .ref (ad 3), .int (bI ch), .ref (ad 4), .ref (ad 5), .ref (ad 6)]) := hx1.of f_3
            have f_16 : w1 (ad 1) = some (eB g (32 * cn) dk) := hx1.of f_4
            have f_17 : w1 (ad 2) = some (eI g 30 fP) := hx1.of f_5
            have f_18 : w1 (ad 3) = some (eS g 64 fl) := hx1.of f_6
            have f_19 : w1 a = some (ob 1 [.ref b]) := hx1.of fa
            have f_20 : w1 b = some (eB g 32 (sec dk k)) := hx1.of fb
            have hX_21 := hX_7.ext hx1
            have hE_22 : Ext w w1 := XK.trans hE_8 hx1
            refine lv_lload hx hb dX1_whole_72 (lv_at hl 6 rfl) ?_
            refine lv_lconst (v := 0) hx hb dX1_whole_74 (by decide) ?_
            refine W.lcmp hx hb dX1_whole_75 ?_
            refine lv_if_eq (tgt := 190) hx hb dX1_whole_76 (by decide) (fun c5 => ?_) (fun c5 => ?_)
            · skip
              have hl0 : lf_ = 0 := (lg_cmp_eq _ _).mp c5
              have hwg2 : whG cn dk (wideB (sec dk k) 8) 64 = some (P, al) := whG_skips hwg 64 hj (fun i h1 h2 => by have := hlf i h2; rw [hl0, bitL_0 h2, decide_eq_true h1] at this; simpa using this.symm)
              rw [hwg2] at hwf
              refine lv_iload hx hb dX1_whole_190 (lv_at hl 5 rfl) ?_
              refine lv_aload_n hx hb dX1_whole_192 rfl (lv_at hl 2 rfl) ?_
              refine lv_bipush (v := nI 20) hx hb dX1_whole_193 (by decide) ?_
              refine gc_i (va_runVN (As := [.int (nI 20)]) (rest := [.int al]) C.fix (m_X4_number l g w1 v a b (sec dk k) f_19 f_20 20 (by omega)) ⟨va_cnB 1 hts (lw_meth q373) rfl rfl rfl (hG.2.2.1 _ q499 rfl) (hts _ q55) (by decide +kernel) ⟨Nat.le_of_ble_eq_true rfl, Nat.le_of_ble_eq_true rfl⟩, hts _ q372, hts _ qs9⟩ (gp_V C h [.int (nI 20)] (Cn := RX4) (T := TX4) (N := 1) rfl f_19) rfl rfl hl.1 rfl (lv_room (Nat.le_of_ble_eq_true rfl)) dX1_whole_195 ⟨(by show cc + 0 ≤ 140; omega), (by show cs + 0 ≤ 2300; omega)⟩) h (fun r_23 w_24 H locs hp h => ?_)
              obtain ⟨er_r_23, ew_r_23⟩ := hp
              rw [er_r_23]
              rw [ew_r_23] at h
              refine lv_icmp_ne (tgt := 218) hx hb dX1_whole_198 (by decide) (fun c6 => ?_) (fun c6 => ?_)
              · skip
                refine lv_null hx hb dX1_whole_218 ?_
                have eq : wholeF cn dk k = none := by rw [hwf]; exact if_neg c6
                exact gr_q C h (x := none) (ty := (.object "KnowDisk$State")) rfl (Or.inl ⟨_, rfl⟩) (⟨hE_22, (fun x q => by rw [eq] at q; cases q), fun _ => rfl⟩) (by show cc + 0 ≤ 140; omega) (by show cs + 0 ≤ 2300; omega) dX1_whole_219
              · skip
                have hwe : wholeF cn dk k = some (numB (sec dk k) 16, (wideB (sec dk k) 8)) := by rw [hwf]; exact if_pos c6
                refine gx_new C h (ci := 2) (fs := [.int (nI 0), .long 0]) (Cn := RX2) (T := TX2) (N := 2) rfl in_X2 tyX2 tyX2_ok q133 q134 q50 (fun j hj => by rcases (show j = 0 ∨ j = 1 by omega) with rfl | rfl <;> rfl) (by show cc + 0 + 1 ≤ 140; omega) (by show cs + 0 + 2 ≤ 2300; omega) dX1_whole_201 (fun a3 H hn_25 hn_25v h => ?_)
                obtain ⟨w_26, ew_26⟩ : ∃ z_ : GW, z_ = gu w1 a3 (ob 2 [.int (nI 0), .long 0]) := ⟨_, rfl⟩
                have h : SH g w_26 v s H locs := by rw [ew_26]; exact h
                have f_27 : w_26 (ad 0) = some (ob 0 [.ref (ad 1), .int (nI cn), .int (bI ru), .int (bI fu), .ref (ad 2), .ref (ad 3), .int (bI ch), .ref (ad 4), .ref (ad 5), .ref (ad 6)]) := by rw [ew_26]; exact (gu_n (g_neN f_15 hn_25)).trans f_15
                have f_28 : w_26 (ad 1) = some (eB g (32 * cn) dk) := by rw [ew_26]; exact (gu_n (g_neN f_16 hn_25)).trans f_16
                have f_29 : w_26 (ad 2) = some (eI g 30 fP) := by rw [ew_26]; exact (gu_n (g_neN f_17 hn_25)).trans f_17
                have f_30 : w_26 (ad 3) = some (eS g 64 fl) := by rw [ew_26]; exact (gu_n (g_neN f_18 hn_25)).trans f_18
                have f_31 : w_26 a = some (ob 1 [.ref b]) := by rw [ew_26]; exact (gu_n (g_neN f_19 hn_25)).trans f_19
                have f_32 : w_26 b = some (eB g 32 (sec dk k)) := by rw [ew_26]; exact (gu_n (g_neN f_20 hn_25)).trans f_20
                have f_33 : w_26 a3 = some (ob 2 [.int (nI 0), .long 0]) := by rw [ew_26]; exact gu_s
                refine lv_dup hx hb dX1_whole_204 rfl ?_
                refine lv_aload_n hx hb dX1_whole_205 rfl (lv_at hl 2 rfl) ?_
                refine lv_bipush (v := nI 16) hx hb dX1_whole_206 (by decide) ?_
                refine gc_i (va_runVN (As := [.int (nI 16)]) (rest := [.ref a3, .ref a3]) C.fix (m_X4_number l g w_26 v a b (sec dk k) f_31 f_32 16 (by omega)) ⟨va_cnB 1 hts (lw_meth q373) rfl rfl rfl (hG.2.2.1 _ q499 rfl) (hts _ q55) (by decide +kernel) ⟨Nat.le_of_ble_eq_true rfl, Nat.le_of_ble_eq_true rfl⟩, hts _ q372, hts _ qs9⟩ (gp_V C h [.int (nI 16)] (Cn := RX4) (T := TX4) (N := 1) rfl f_31) rfl rfl hl.1 rfl (lv_room (Nat.le_of_ble_eq_true rfl)) dX1_whole_208 ⟨(by show cc + 0 + 1 + 0 ≤ 140; omega), (by show cs + 0 + 2 + 0 ≤ 2300; omega)⟩) h (fun r_34 w_35 H locs hp h => ?_)
                obtain ⟨er_r_34, ew_r_34⟩ := hp
                rw [er_r_34]
                rw [ew_r_34] at h
                refine lv_lload_n hx hb dX1_whole_211 rfl (lv_at hl 3 rfl) ?_
                refine gc_v (va_runIN (As := [.int (numB (sec dk k) 16), .long ((wideB (sec dk k) 8))]) (rest := [.ref a3]) C.fix (m_X2_init l g w_26 v a3 (numB (sec dk k) 16) (wideB (sec dk k) 8) f_33) ⟨va_cnB 2 hts (lw_meth q137) rfl rfl rfl (hG.2.2.1 _ q135 rfl) (hts _ q50) (by decide +kernel) ⟨Nat.le_of_ble_eq_true rfl, Nat.le_of_ble_eq_true rfl⟩, rfl, hts _ q136⟩ (gp_S C h _) rfl rfl hl.1 rfl (lv_room (Nat.le_of_ble_eq_true rfl)) dX1_whole_212 ⟨(by show cc + 0 + 1 + 0 + 0 ≤ 140; omega), (by show cs + 0 + 2 + 0 + 0 ≤ 2300; omega)⟩) h (fun w_37 H locs hpa3 h => ?_)
                have xa3 : Ext w1 w_37 := by rw [hpa3, ew_26]; exact (XK.rfl'.putn hn_25).putn hn_25
                refine lv_goto (tgt := 219) hx hb dX1_whole_215 (by decide) ?_
                exact gr_q C h (x := some a3) (ty := (.object "KnowDisk$State")) rfl (Or.inl ⟨_, rfl⟩) (⟨XK.trans hE_22 xa3, (fun x q => by rw [hwe] at q; cases q; exact ⟨a3, rfl, by rw [hpa3]; exact gu_s⟩), (fun q => by rw [hwe] at q; cases q)⟩) (by show cc + 0 + 1 + 0 + 0 ≤ 140; omega) (by show cs + 0 + 2 + 0 + 0 ≤ 2300; omega) dX1_whole_219
            · skip
              have hl0 : ¬ lf_ = 0 := fun q => c5 ((lg_cmp_eq _ _).mpr q)
              obtain ⟨cb, hcb, hb1, hb2⟩ := low_bit hl0
              have hjb : j ≤ cb ∧ bitL (wideB (sec dk k) 8) cb = true := by have := hlf cb hcb; rw [hb1] at this; simpa using this.symm
              have hcn2 := hin cb hcb hjb.2
              have hwg2 : whG cn dk (wideB (sec dk k) 8) cb = some (P, al) := whG_skips hwg cb hjb.1 (fun i h1 h2 => by have := hlf i (by omega); rw [hb2 i h2, decide_eq_true h1] at this; simpa using this.symm)
              refine lv_aload_n hx hb dX1_whole_79 rfl (lv_at hl 0 rfl) ?_
              refine lv_lload hx hb dX1_whole_80 (lv_at hl 6 rfl) ?_
              refine gc_i (va_runS (As := [.long lf_]) (rest := [.ref (ad 0)]) C.fix (m_J8_numberOfTrailingZeros l g w1 v lf_ cb hcb hb1 hb2) (va_cwS 1 hts (lw_S q539 q540 q57 q541) rfl rfl rfl (by decide +kernel) ⟨Nat.le_of_ble_eq_true rfl, Nat.le_of_ble_eq_true rfl⟩) (gp_S C h _) rfl rfl hl.1 rfl (lv_room (Nat.le_of_ble_eq_true rfl)) dX1_whole_82 ⟨(by show cc + 0 ≤ 140; omega), (by show cs + 0 ≤ 2300; omega)⟩) h (fun r_38 w_39 H locs hp h => ?_)
              obtain ⟨er_r_38, ew_r_38⟩ := hp
              rw [er_r_38]
              rw [ew_r_38] at h
              refine gc_q (va_runV (As := [.int (nI cb)]) (rest := []) C.fix (m_X1_read l g w1 v ad cn ru fu ch dk wt ld pl st kp fP fl lb wE sE kE hX_21 hI cb hcn2.2) (cwV 1 hts (lw_V q339 q341 qs6 q43 q342) rfl rfl rfl (by decide +kernel) ⟨Nat.le_of_ble_eq_true rfl, Nat.le_of_ble_eq_true rfl⟩) (gp_V C h [.int (nI cb)] (Cn := RX1) (T := TX1) (N := 10) rfl f_15) rfl rfl hl.1 rfl (lv_room (Nat.le_of_ble_eq_true rfl)) dX1_whole_85 ⟨(by show cc + 0 + 2 ≤ 140; omega), (by show cs + 0 + 33 ≤ 2300; omega)⟩) h (fun r_40 w_41 H locs hp h => ?_)
              obtain ⟨a2, b2, ra2, xa2, fa2, fb2⟩ := hp
              rw [ra2]
              have f_42 : w_41 (ad 0) = some (ob 0 [.ref (ad 1), .int (nI cn), .int (bI ru), .int (bI fu), .ref (ad 2), .ref (ad 3), .int (bI ch), .ref (ad 4), .ref (ad 5), .ref (ad 6)]) := xa2.of f_15
              have f_43 : w_41 (ad 1) = some (eB g (32 * cn) dk) := xa2.of f_16
              have f_44 : w_41 (ad 2) = some (eI g 30 fP) := xa2.of f_17
              have f_45 : w_41 (ad 3) = some (eS g 64 fl) := xa2.of f_18
              have f_46 : w_41 a = some (ob 1 [.ref b]) := xa2.of f_19
              have f_47 : w_41 b = some (eB g 32 (sec dk k)) := xa2.of f_20
              have hX_48 := hX_21.ext xa2
              have hE_49 : Ext w w_41 := XK.trans hE_22 xa2
              refine lv_astore (lv' := [(10, .ref a2), (0, .ref (ad 0)), (1, .int (nI k)), (2, .ref a), (3, .long ((wideB (sec dk k) 8))), (5, .long pg), (7, .int al), (8, .long lf_)]) hx hb dX1_whole_88 hl (by decide) rfl (fun ls hl => ?_)
              refine lv_aload hx hb dX1_whole_90 (lv_at hl 0 rfl) ?_
              refine gc_i (va_runV (As := []) (rest := []) C.fix (m_X4_isRight l g w_41 v a2 b2 (sec dk cb) fa2 fb2) (cwV 0 hts (lw_V q446 q447 q448 q55 q449) rfl rfl rfl (by decide +kernel) ⟨Nat.le_of_ble_eq_true rfl, Nat.le_of_ble_eq_true rfl⟩) (gp_V C h [] (Cn := RX4) (T := TX4) (N := 1) rfl fa2) rfl rfl hl.1 rfl (lv_room (Nat.le_of_ble_eq_true rfl)) dX1_whole_92 ⟨(by show cc + 0 + 2 + 0 ≤ 140; omega), (by show cs + 0 + 33 + 0 ≤ 2300; omega)⟩) h (fun r_50 w_51 H locs hp h => ?_)
              obtain ⟨er_r_50, ew_r_50⟩ := hp
              rw [er_r_50]
              rw [ew_r_50] at h
              refine lv_if_eq (tgt := 145) hx hb dX1_whole_95 (by decide) (fun c6 => ?_) (fun c6 => ?_)
              · skip
                have c6 : rightB (sec dk cb) = false := bI_eq0.mp c6
                refine lv_iconst (v := bI false) hx hb dX1_whole_145 (by decide) ?_
                refine lv_istore (lv' := [(11, .int (bI false)), (10, .ref a2), (0, .ref (ad 0)), (1, .int (nI k)), (2, .ref a), (3, .long ((wideB (sec dk k) 8))), (5, .long pg), (7, .int al), (8, .long lf_)]) hx hb dX1_whole_146 hl (by decide) rfl (fun ls hl => ?_)
                refine lv_iload hx hb dX1_whole_148 (lv_at hl 0 rfl) ?_
                refine lv_if_ne (tgt := 155) hx hb dX1_whole_150 (by decide) (fun cz => ?_) (fun cz => ?_)
                · skip
                  have cz : false = true := bI_ne0.mp cz
                  cases cz
                · skip
                  have cz : false = false := bI_eq0.mp cz
                  refine lv_null hx hb dX1_whole_153 ?_
                  have eq : wholeF cn dk k = none := by rw [hwf, whG_none (whG_bad hwg2 hjb.2 (fun q => by rw [c6] at q; cases q.2.2.1)) 64 (by omega)]
                  exact gr_q C h (x := none) (ty := (.object "KnowDisk$State")) rfl (Or.inl ⟨_, rfl⟩) (⟨hE_49, (fun x q => by rw [eq] at q; cases q), fun _ => rfl⟩) (by show cc + 0 + 2 + 0 ≤ 140; omega) (by show cs + 0 + 33 + 0 ≤ 2300; omega) dX1_whole_154
              · skip
                have c6 : rightB (sec dk cb) = true := bI_ne0.mp c6
                refine lv_aload hx hb dX1_whole_98 (lv_at hl 0 rfl) ?_
                refine gc_i (va_runV (As := []) (rest := []) C.fix (m_X4_kind l g w_41 v a2 b2 (sec dk cb) fa2 fb2) (cwV 0 hts (lw_V q354 q355 q356 q55 q357) rfl rfl rfl (by decide +kernel) ⟨Nat.le_of_ble_eq_true rfl, Nat.le_of_ble_eq_true rfl⟩) (gp_V C h [] (Cn := RX4) (T := TX4) (N := 1) rfl fa2) rfl rfl hl.1 rfl (lv_room (Nat.le_of_ble_eq_true rfl)) dX1_whole_100 ⟨(by show cc + 0 + 2 + 0 + 0 ≤ 140; omega), (by show cs + 0 + 33 + 0 + 0 ≤ 2300; omega)⟩) h (fun r_52 w_53 H locs hp h => ?_)
                obtain ⟨er_r_52, ew_r_52⟩ := hp
                rw [er_r_52]
                rw [ew_r_52] at h
                refine lv_iconst (v := nI 1) hx hb dX1_whole_103 (by decide) ?_
                refine lv_icmp_lt (tgt := 145) hx hb dX1_whole_104 (by decide) (fun c7 => ?_) (fun c7 => ?_)
                · skip
                  refine lv_iconst (v := bI false) hx hb dX1_whole_145 (by decide) ?_
                  refine lv_istore (lv' := [(11, .int (bI false)), (10, .ref a2), (0, .ref (ad 0)), (1, .int (nI k)), (2, .ref a), (3, .long ((wideB (sec dk k) 8))), (5, .long pg), (7, .int al), (8, .long lf_)]) hx hb dX1_whole_146 hl (by decide) rfl (fun ls hl => ?_)
                  refine lv_iload hx hb dX1_whole_148 (lv_at hl 0 rfl) ?_
                  refine lv_if_ne (tgt := 155) hx hb dX1_whole_150 (by decide) (fun cz => ?_) (fun cz => ?_)
                  · skip
                    have cz : false = true := bI_ne0.mp cz
                    cases cz
                  · skip
                    have cz : false = false := bI_eq0.mp cz
                    refine lv_null hx hb dX1_whole_153 ?_
                    have eq : wholeF cn dk k = none := by rw [hwf, whG_none (whG_bad hwg2 hjb.2 (fun q => kd_lo c7 q.2.2.2.1)) 64 (by omega)]
                    exact gr_q C h (x := none) (ty := (.object "KnowDisk$State")) rfl (Or.inl ⟨_, rfl⟩) (⟨hE_49, (fun x q => by rw [eq] at q; cases q), fun _ => rfl⟩) (by show cc + 0 + 2 + 0 + 0 ≤ 140; omega) (by show cs + 0 + 33 + 0 + 0 ≤ 2300; omega) dX1_whole_154
                · skip
                  refine lv_aload hx hb dX1_whole_107 (lv_at hl 0 rfl) ?_
                  refine gc_i (va_runV (As := []) (rest := []) C.fix (m_X4_kind l g w_41 v a2 b2 (sec dk cb) fa2 fb2) (cwV 0 hts (lw_V q354 q355 q356 q55 q357) rfl rfl rfl (by decide +kernel) ⟨Nat.le_of_ble_eq_true rfl, Nat.le_of_ble_eq_true rfl⟩) (gp_V C h [] (Cn := RX4) (T := TX4) (N := 1) rfl fa2) rfl rfl hl.1 rfl (lv_room (Nat.le_of_ble_eq_true rfl)) dX1_whole_109 ⟨(by show cc + 0 + 2 + 0 + 0 + 0 ≤ 140; omega), (by show cs + 0 + 33 + 0 + 0 + 0 ≤ 2300; omega)⟩) h (fun r_54 w_55 H locs hp h => ?_)
                  obtain ⟨er_r_54, ew_r_54⟩ := hp
                  rw [er_r_54]
                  rw [ew_r_54] at h
                  refine lv_iconst (v := nI 3) hx hb dX1_whole_112 (by decide) ?_
                  refine lv_icmp_gt (tgt := 145) hx hb dX1_whole_113 (by decide) (fun c8 => ?_) (fun c8 => ?_)
                  · skip
                    refine lv_iconst (v := bI false) hx hb dX1_whole_145 (by decide) ?_
                    refine lv_istore (lv' := [(11, .int (bI false)), (10, .ref a2), (0, .ref (ad 0)), (1, .int (nI k)), (2, .ref a), (3, .long ((wideB (sec dk k) 8))), (5, .long pg), (7, .int al), (8, .long lf_)]) hx hb dX1_whole_146 hl (by decide) rfl (fun ls hl => ?_)
                    refine lv_iload hx hb dX1_whole_148 (lv_at hl 0 rfl) ?_
                    refine lv_if_ne (tgt := 155) hx hb dX1_whole_150 (by decide) (fun cz => ?_) (fun cz => ?_)
                    · skip
                      have cz : false = true := bI_ne0.mp cz
                      cases cz
                    · skip
                      have cz : false = false := bI_eq0.mp cz
                      refine lv_null hx hb dX1_whole_153 ?_
                      have eq : wholeF cn dk k = none := by rw [hwf, whG_none (whG_bad hwg2 hjb.2 (fun q => kd_hi c8 q.2.2.2.2.1)) 64 (by omega)]
                      exact gr_q C h (x := none) (ty := (.object "KnowDisk$State")) rfl (Or.inl ⟨_, rfl⟩) (⟨hE_49, (fun x q => by rw [eq] at q; cases q), fun _ => rfl⟩) (by show cc + 0 + 2 + 0 + 0 + 0 ≤ 140; omega) (by show cs + 0 + 33 + 0 + 0 + 0 ≤ 2300; omega) dX1_whole_154
                  · skip
                    refine lv_aload hx hb dX1_whole_116 (lv_at hl 0 rfl) ?_
                    refine gc_i (va_runV (As := []) (rest := []) C.fix (m_X4_page l g w_41 v a2 b2 (sec dk cb) fa2 fb2) (cwV 0 hts (lw_V q546 q547 q548 q55 q549) rfl rfl rfl (by decide +kernel) ⟨Nat.le_of_ble_eq_true rfl, Nat.le_of_ble_eq_true rfl⟩) (gp_V C h [] (Cn := RX4) (T := TX4) (N := 1) rfl fa2) rfl rfl hl.1 rfl (lv_room (Nat.le_of_ble_eq_true rfl)) dX1_whole_118 ⟨(by show cc + 0 + 2 + 0 + 0 + 0 + 0 ≤ 140; omega), (by show cs + 0 + 33 + 0 + 0 + 0 + 0 ≤ 2300; omega)⟩) h (fun r_56 w_57 H locs hp h => ?_)
                    obtain ⟨er_r_56, ew_r_56⟩ := hp
                    rw [er_r_56]
                    rw [ew_r_56] at h
                    refine lv_bipush (v := nI 30) hx hb dX1_whole_121 (by decide) ?_
                    refine lv_icmp_ge (tgt := 145) hx hb dX1_whole_123 (by decide) (fun c9 => ?_) (fun c9 => ?_)
                    · skip
                      refine lv_iconst (v := bI false) hx hb dX1_whole_145 (by decide) ?_
                      refine lv_istore (lv' := [(11, .int (bI false)), (10, .ref a2), (0, .ref (ad 0)), (1, .int (nI k)), (2, .ref a), (3, .long ((wideB (sec dk k) 8))), (5, .long pg), (7, .int al), (8, .long lf_)]) hx hb dX1_whole_146 hl (by decide) rfl (fun ls hl => ?_)
                      refine lv_iload hx hb dX1_whole_148 (lv_at hl 0 rfl) ?_
                      refine lv_if_ne (tgt := 155) hx hb dX1_whole_150 (by decide) (fun cz => ?_) (fun cz => ?_)
                      · skip
                        have cz : false = true := bI_ne0.mp cz
                        cases cz
                      · skip
                        have cz : false = false := bI_eq0.mp cz
                        refine lv_null hx hb dX1_whole_153 ?_
                        have eq : wholeF cn dk k = none := by rw [hwf, whG_none (whG_bad hwg2 hjb.2 (fun q => absurd q.2.2.2.2.2.1 (Int32.not_lt.mpr c9))) 64 (by omega)]
                        exact gr_q C h (x := none) (ty := (.object "KnowDisk$State")) rfl (Or.inl ⟨_, rfl⟩) (⟨hE_49, (fun x q => by rw [eq] at q; cases q), fun _ => rfl⟩) (by show cc + 0 + 2 + 0 + 0 + 0 + 0 ≤ 140; omega) (by show cs + 0 + 33 + 0 + 0 + 0 + 0 ≤ 2300; omega) dX1_whole_154
                    · skip
                      obtain ⟨pp, hpp, hpv⟩ := ub_lt (sec dk cb 5)
                      have hp30 : pp < 30 := by have := Int32.not_le.mp c9; rw [hpv] at this; exact (nI_ltI (by omega) (by omega)).mp this
                      have hpc : (ub (sec dk cb 5)).toNatClampNeg = pp := by rw [hpv]; exact nI_clamp (by omega)
                      refine lv_lload hx hb dX1_whole_126 (lv_at hl 5 rfl) ?_
                      refine lv_aload hx hb dX1_whole_128 (lv_at hl 0 rfl) ?_
                      refine gc_i (va_runV (As := []) (rest := [.long pg]) C.fix (m_X4_page l g w_41 v a2 b2 (sec dk cb) fa2 fb2) (cwV 0 hts (lw_V q546 q547 q548 q55 q549) rfl rfl rfl (by decide +kernel) ⟨Nat.le_of_ble_eq_true rfl, Nat.le_of_ble_eq_true rfl⟩) (gp_V C h [] (Cn := RX4) (T := TX4) (N := 1) rfl fa2) rfl rfl hl.1 rfl (lv_room (Nat.le_of_ble_eq_true rfl)) dX1_whole_130 ⟨(by show cc + 0 + 2 + 0 + 0 + 0 + 0 + 0 ≤ 140; omega), (by show cs + 0 + 33 + 0 + 0 + 0 + 0 + 0 ≤ 2300; omega)⟩) h (fun r_58 w_59 H locs hp h => ?_)
                      obtain ⟨er_r_58, ew_r_58⟩ := hp
                      rw [er_r_58]
                      rw [ew_r_58] at h
                      rw [hpv]
                      refine lv_lshr hx hb dX1_whole_133 rfl ?_
                      refine lv_lconst (v := 1) hx hb dX1_whole_134 (by decide) ?_
                      refine lv_land hx hb dX1_whole_135 ?_
                      refine lv_lconst (v := 0) hx hb dX1_whole_136 (by decide) ?_
                      refine W.lcmp hx hb dX1_whole_137 ?_
                      refine lv_if_ne (tgt := 145) hx hb dX1_whole_138 (by decide) (fun c10 => ?_) (fun c10 => ?_)
                      · skip
                        have hbp := bitL_ne0 c10
                        rw [hpg pp hp30] at hbp
                        refine lv_iconst (v := bI false) hx hb dX1_whole_145 (by decide) ?_
                        refine lv_istore (lv' := [(11, .int (bI false)), (10, .ref a2), (0, .ref (ad 0)), (1, .int (nI k)), (2, .ref a), (3, .long ((wideB (sec dk k) 8))), (5, .long pg), (7, .int al), (8, .long lf_)]) hx hb dX1_whole_146 hl (by decide) rfl (fun ls hl => ?_)
                        refine lv_iload hx hb dX1_whole_148 (lv_at hl 0 rfl) ?_
                        refine lv_if_ne (tgt := 155) hx hb dX1_whole_150 (by decide) (fun cz => ?_) (fun cz => ?_)
                        · skip
                          have cz : false = true := bI_ne0.mp cz
                          cases cz
                        · skip
                          have cz : false = false := bI_eq0.mp cz
                          refine lv_null hx hb dX1_whole_153 ?_
                          have eq : wholeF cn dk k = none := by rw [hwf, whG_none (whG_bad hwg2 hjb.2 (fun q => by rw [hpc, hbp] at q; cases q.2.2.2.2.2.2)) 64 (by omega)]
                          exact gr_q C h (x := none) (ty := (.object "KnowDisk$State")) rfl (Or.inl ⟨_, rfl⟩) (⟨hE_49, (fun x q => by rw [eq] at q; cases q), fun _ => rfl⟩) (by show cc + 0 + 2 + 0 + 0 + 0 + 0 + 0 ≤ 140; omega) (by show cs + 0 + 33 + 0 + 0 + 0 + 0 + 0 ≤ 2300; omega) dX1_whole_154
                      · skip
                        have hbp := bitL_eq0 c10
                        rw [hpg pp hp30] at hbp
                        refine lv_iconst (v := bI true) hx hb dX1_whole_141 (by decide) ?_
                        refine lv_goto (tgt := 146) hx hb dX1_whole_142 (by decide) ?_
                        refine lv_istore (lv' := [(11, .int (bI true)), (10, .ref a2), (0, .ref (ad 0)), (1, .int (nI k)), (2, .ref a), (3, .long ((wideB (sec dk k) 8))), (5, .long pg), (7, .int al), (8, .long lf_)]) hx hb dX1_whole_146 hl (by decide) rfl (fun ls hl => ?_)
                        refine lv_iload hx hb dX1_whole_148 (lv_at hl 0 rfl) ?_
                        refine lv_if_ne (tgt := 155) hx hb dX1_whole_150 (by decide) (fun cz => ?_) (fun cz => ?_)
                        · skip
                          have cz : true = true := bI_ne0.mp cz
                          have hwg3 := whG_ok hwg2 hjb.2 ⟨hcn2.1, hcn2.2, c6, kd_lo2 c7, kd_hi2 c8, Int32.not_le.mp c9, by rw [hpc]; exact hbp⟩
                          rw [hpc] at hwg3
                          refine lv_lload hx hb dX1_whole_155 (lv_at hl 6 rfl) ?_
                          refine lv_lconst (v := 1) hx hb dX1_whole_157 (by decide) ?_
                          refine lv_aload hx hb dX1_whole_158 (lv_at hl 1 rfl) ?_
                          refine gc_i (va_runV (As := []) (rest := [.long 1, .long pg]) C.fix (m_X4_page l g w_41 v a2 b2 (sec dk cb) fa2 fb2) (cwV 0 hts (lw_V q546 q547 q548 q55 q549) rfl rfl rfl (by decide +kernel) ⟨Nat.le_of_ble_eq_true rfl, Nat.le_of_ble_eq_true rfl⟩) (gp_V C h [] (Cn := RX4) (T := TX4) (N := 1) rfl fa2) rfl rfl hl.1 rfl (lv_room (Nat.le_of_ble_eq_true rfl)) dX1_whole_160 ⟨(by show cc + 0 + 2 + 0 + 0 + 0 + 0 + 0 + 0 ≤ 140; omega), (by show cs + 0 + 33 + 0 + 0 + 0 + 0 + 0 + 0 ≤ 2300; omega)⟩) h (fun r_60 w_61 H locs hp h => ?_)
                          obtain ⟨er_r_60, ew_r_60⟩ := hp
                          rw [er_r_60]
                          rw [ew_r_60] at h
                          rw [hpv]
                          refine lv_lshl hx hb dX1_whole_163 rfl ?_
                          refine lv_lor hx hb dX1_whole_164 ?_
                          refine lv_lstore (lv' := [(5, .long (pg ||| (1 <<< ((nI pp).toInt64 &&& 63)))), (11, .int (bI true)), (10, .ref a2), (0, .ref (ad 0)), (1, .int (nI k)), (2, .ref a), (3, .long ((wideB (sec dk k) 8))), (7, .int al), (8, .long lf_)]) hx hb dX1_whole_165 hl (by decide) rfl (fun ls hl => ?_)
                          refine lv_iload hx hb dX1_whole_167 (lv_at hl 7 rfl) ?_
                          refine lv_aload hx hb dX1_whole_169 (lv_at hl 2 rfl) ?_
                          refine lv_iconst (v := nI 0) hx hb dX1_whole_171 (by decide) ?_
                          refine gc_i (va_runVN (As := [.int (nI 0)]) (rest := [.int al]) C.fix (m_X4_number l g w_41 v a2 b2 (sec dk cb) fa2 fb2 0 (by omega)) ⟨va_cnB 1 hts (lw_meth q373) rfl rfl rfl (hG.2.2.1 _ q499 rfl) (hts _ q55) (by decide +kernel) ⟨Nat.le_of_ble_eq_true rfl, Nat.le_of_ble_eq_true rfl⟩, hts _ q372, hts _ qs9⟩ (gp_V C h [.int (nI 0)] (Cn := RX4) (T := TX4) (N := 1) rfl fa2) rfl rfl hl.1 rfl (lv_room (Nat.le_of_ble_eq_true rfl)) dX1_whole_172 ⟨(by show cc + 0 + 2 + 0 + 0 + 0 + 0 + 0 + 0 + 0 ≤ 140; omega), (by show cs + 0 + 33 + 0 + 0 + 0 + 0 + 0 + 0 + 0 ≤ 2300; omega)⟩) h (fun r_62 w_63 H locs hp h => ?_)
                          obtain ⟨er_r_62, ew_r_62⟩ := hp
                          rw [er_r_62]
                          rw [ew_r_62] at h
                          refine lv_ixor hx hb dX1_whole_175 ?_
                          refine lv_istore (lv' := [(7, .int (al ^^^ ((numB (sec dk cb) 0)))), (5, .long (pg ||| (1 <<< ((nI pp).toInt64 &&& 63)))), (11, .int (bI true)), (10, .ref a2), (0, .ref (ad 0)), (1, .int (nI k)), (2, .ref a), (3, .long ((wideB (sec dk k) 8))), (8, .long lf_)]) hx hb dX1_whole_176 hl (by decide) rfl (fun ls hl => ?_)
                          refine lv_lload hx hb dX1_whole_178 (lv_at hl 8 rfl) ?_
                          refine lv_lload hx hb dX1_whole_180 (lv_at hl 8 rfl) ?_
                          refine lv_lconst (v := 1) hx hb dX1_whole_182 (by decide) ?_
                          refine lv_lsub hx hb dX1_whole_183 ?_
                          refine lv_land hx hb dX1_whole_184 ?_
                          refine lv_lstore (lv' := [(8, .long (lf_ &&& (lf_ - 1))), (7, .int (al ^^^ ((numB (sec dk cb) 0)))), (5, .long (pg ||| (1 <<< ((nI pp).toInt64 &&& 63)))), (11, .int (bI true)), (10, .ref a2), (0, .ref (ad 0)), (1, .int (nI k)), (2, .ref a), (3, .long ((wideB (sec dk k) 8)))]) hx hb dX1_whole_185 hl (by decide) rfl (fun ls hl => ?_)
                          refine lv_goto (tgt := 72) hx hb dX1_whole_187 (by decide) ?_
                          exact ih (cb + 1) (cc + 0 + 2 + 0 + 0 + 0 + 0 + 0 + 0 + 0) (cs + 0 + 33 + 0 + 0 + 0 + 0 + 0 + 0 + 0) _ _ _ _ _ _ _ _ (by omega) (by omega) (by omega) (by omega) (fun i hi => by rw [bitL_pred hcb hb1 hb2 hi, hlf i hi]; exact nx_left hjb.1) hwg3 (fun p hp => by rw [bitL_or _ _ (by omega), bitL_shl (by omega) (by omega), hpg p hp]; exact nx_pg) (XK.trans hx1 xa2) h (lv_sub hl [5, 6, 7, 8, 2, 1, 0] rfl)
                        · skip
                          have cz : true = false := bI_eq0.mp cz
                          cases cz
        exact loop 65 0 2 33 0 (wideB (sec dk k) 8) (fun _ => false) (nI 0) _ _ _ _ (by omega) (by omega) (by omega) (by omega) (fun i hi => by simp) rfl (fun p hp => bitL_0 (by omega)) XK.rfl' h (lv_sub hl [3, 4, 5, 6, 2, 1, 0] rfl)
      refine lv_if_ne (tgt := 61) hx hb dX1_whole_38 (by decide) (fun c3 => ?_) (fun c3 => ?_)
      · skip
        refine lv_null hx hb dX1_whole_61 ?_
        have eq : wholeF cn dk k = none := by exact (Classical.byContradiction (fun hcon => c3 ((lg_cmp_eq _ _).mpr (and3_bits.mpr ⟨by simpa using (fun q => hcon (hout 0 (by omega) q (by omega))), by simpa using (fun q => hcon (hout 1 (by omega) q (by omega)))⟩))))
        exact gr_q C h (x := none) (ty := (.object "KnowDisk$State")) rfl (Or.inl ⟨_, rfl⟩) (⟨hE_8, (fun x q => by rw [eq] at q; cases q), fun _ => rfl⟩) (Nat.le_of_ble_eq_true rfl) (Nat.le_of_ble_eq_true rfl) dX1_whole_62
      · skip
        have h3 := and3_bits.mp ((lg_cmp_eq _ _).mp c3)
        refine lv_aload_n hx hb dX1_whole_41 rfl (lv_at hl 2 rfl) ?_
        refine gx_get C h f_3 (Cn := RX1) (T := TX1) (N := 10) rfl in_X1 1 (by decide) q216 rfl rfl dX1_whole_42 ?_
        refine lv_bipush (v := nI 64) hx hb dX1_whole_45 (by decide) ?_
        refine lv_icmp_ge (tgt := 63) hx hb dX1_whole_47 (by decide) (fun c4 => ?_) (fun c4 => ?_)
        · skip
          have c4 : 64 ≤ cn := (nI_leI (by omega) (by omega)).mp c4
          exact c63 _ _ _ _ rfl (fun j hj hb => ⟨lo2 h3 hb, by omega⟩) h (lv_sub hl [2, 3, 1, 0] rfl)
        · skip
          have c4 : ¬ (64 ≤ cn) := fun q => c4 ((nI_leI (by omega) (by omega)).mpr q)
          refine lv_lload_n hx hb dX1_whole_50 rfl (lv_at hl 0 rfl) ?_
          refine lv_aload_n hx hb dX1_whole_51 rfl (lv_at hl 2 rfl) ?_
          refine gx_get C h f_3 (Cn := RX1) (T := TX1) (N := 10) rfl in_X1 1 (by decide) q216 rfl rfl dX1_whole_52 ?_
          refine lv_lushr hx hb dX1_whole_55 rfl ?_
          refine lv_lconst (v := 0) hx hb dX1_whole_56 (by decide) ?_
          refine W.lcmp hx hb dX1_whole_57 ?_
          refine lv_if_eq (tgt := 63) hx hb dX1_whole_58 (by decide) (fun c5 => ?_) (fun c5 => ?_)
          · skip
            have h4 := (shr_bits (by omega)).mp ((lg_cmp_eq _ _).mp c5)
            exact c63 _ _ _ _ rfl (fun j hj hb => ⟨lo2 h3 hb, by rcases Nat.lt_or_ge j cn with q | q; exact q; rw [h4 j q hj] at hb; cases hb⟩) h (lv_sub hl [2, 3, 1, 0] rfl)
          · skip
            refine lv_null hx hb dX1_whole_61 ?_
            have eq : wholeF cn dk k = none := by exact (Classical.byContradiction (fun hcon => c5 ((lg_cmp_eq _ _).mpr ((shr_bits (by omega)).mpr (fun j h1 h2 => by simpa using (fun q => hcon (hout j h2 q (by omega))))))))
            exact gr_q C h (x := none) (ty := (.object "KnowDisk$State")) rfl (Or.inl ⟨_, rfl⟩) (⟨hE_8, (fun x q => by rw [eq] at q; cases q), fun _ => rfl⟩) (Nat.le_of_ble_eq_true rfl) (Nat.le_of_ble_eq_true rfl) dX1_whole_62
    · skip
      have c2 : rightB (sec dk k) = false := bI_eq0.mp c2
      refine lv_null hx hb dX1_whole_22 ?_
      have eq : wholeF cn dk k = none := by unfold wholeF; exact if_neg (fun q => by rw [c2] at q; cases q.2)
      exact gr_q C h (x := none) (ty := (.object "KnowDisk$State")) rfl (Or.inl ⟨_, rfl⟩) (⟨hE_8, (fun x q => by rw [eq] at q; cases q), fun _ => rfl⟩) (Nat.le_of_ble_eq_true rfl) (Nat.le_of_ble_eq_true rfl) dX1_whole_23
