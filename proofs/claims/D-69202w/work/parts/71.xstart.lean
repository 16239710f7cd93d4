set_option maxRecDepth 100000
set_option maxHeartbeats 4000000 in
theorem m_X1_start (l : Launch) (g : GG) (w v : GW) (ad : Nat → Nat) (cn : Nat) (ru fu ch : Bool) (dk : Sec) (wt : List (Nat × Sec)) (ld : Nat → Option Sec) (pl : Nat → Option Nat) (st kp : List (Int32 × Int64)) (hR : RX g w ad (cn, ru, fu, ch, dk, wt, ld, pl, st, kp)) (hI : InvK (cn, ru, fu, ch, dk, wt, ld, pl, st, kp))  : Met l yX1_start (ws_ yX1_start cX1_start 7 (some .int)) ({ frames := 8, cells := 420, slots := 7100, locals := 480 } : Room) (gP g [.ref (ad 0)] w v) (va_Qi (fun (r : Int32) (w' : GW) => r = (opStart (cn, ru, fu, ch, dk, wt, ld, pl, st, kp)).1 ∧ RX g w' ad (opStart (cn, ru, fu, ch, dk, wt, ld, pl, st, kp)).2) (gB g v) (gA g)) 420 7100 (gA g) := by
  refine gm_of (by decide) (Nat.le_of_ble_eq_true rfl) ?_
  intro p e s m below meth c ls C hnm h hl
  have C : Cx g p s m ([.ref (ad 0)] : List Value).toArray meth c cX1_start 7 RX1 (some .int) := C
  obtain ⟨hx, hb, hml, hown, hts, hr, hlk, hG⟩ := id C
  have hl : lv_has ls 7 [(0, .ref (ad 0))] := hl
  obtain ⟨fP, fl, lb, wE, sE, kE, hX⟩ := id hR
  obtain ⟨⟨x0, x1, x2, x3⟩, hQW, hQS, hQK, hLL, hLi, hpl, hXD, h8⟩ := id hX
  obtain ⟨i1, i2, i3, i4, i5, i6, i7, i8, i9⟩ := id hI
  have n01 : ad 0 ≠ ad 1 := g_ne x0 x1 (kn_ne (show 0 ≠ 100 + 32 * cn by omega))
  have n02 : ad 0 ≠ ad 2 := g_ne x0 x2 (kn_ne (show 0 ≠ 130 by omega))
  have n03 : ad 0 ≠ ad 3 := g_ne x0 x3 (kn_ne (show 0 ≠ 50 by omega))
  have n12 : ad 1 ≠ ad 2 := g_ne x1 x2 (kn_ne (show 100 + 32 * cn ≠ 130 by omega))
  have n13 : ad 1 ≠ ad 3 := g_ne x1 x3 (kn_ne (show 100 + 32 * cn ≠ 50 by omega))
  have n23 : ad 2 ≠ ad 3 := g_ne x2 x3 (kn_ne (show 130 ≠ 50 by omega))
  refine lv_aload_n hx hb dX1_start_0 rfl (lv_at hl 0 rfl) ?_
  refine gx_get C h x0 (Cn := RX1) (T := TX1) (N := 10) rfl in_X1 2 (by decide) q217 rfl rfl dX1_start_1 ?_
  refine lv_if_eq (tgt := 10) hx hb dX1_start_4 (by decide) (fun c1 => ?_) (fun c1 => ?_)
  · skip
    have c1 : ru = false := bI_eq0.mp c1
    have loop : ∀ (n_ : Nat) (j cc cs : Nat) (lf_ : Int64) (fQ : Nat → Int32) (fl2 : Nat → Option Nat) (lb2 : Nat → Nat) (wE2 sE2 kE2 : Nat) (w1 : GW) (H : Heap) (locs : List Loc) (ls : Array Slot), 64 - j < n_ → (j ≤ 64) → (cc ≤ 290 + 2 * j) → (cs ≤ 4900 + 33 * j) → (∀ i, i < 64 → bitL lf_ i = (decide (j ≤ i) && bitL ((pickS (wholeF cn dk 0) (wholeF cn dk 1)).getD (0, 0)).2 i)) → (XW g w1 ad cn true fu false dk ([]) (fun _ => none) (plS dk ((pickS (wholeF cn dk 0) (wholeF cn dk 1)).getD (0, 0)).2 j) ([((pickS (wholeF cn dk 0) (wholeF cn dk 1)).getD (0, 0))]) ([]) fQ fl2 lb2 wE2 sE2 kE2) → SH g w1 v s H locs → lv_has ls 7 [(0, .ref (ad 0)), (4, .long lf_)] → W p l e ({ frames := 8, cells := 420, slots := 7100, locals := 480 } : Room) s m ([.ref (ad 0)] : List Value).toArray below meth c H locs cc cs (MQ below (va_Qi (fun (r : Int32) (w' : GW) => r = (opStart (cn, ru, fu, ch, dk, wt, ld, pl, st, kp)).1 ∧ RX g w' ad (opStart (cn, ru, fu, ch, dk, wt, ld, pl, st, kp)).2) (gB g v) (gA g)) ([.ref (ad 0)] : List Value).toArray s 420 7100 (gA g)) (F0 m 86 ls []) := by
      intro n_
      induction n_ with
      | zero => intros; exact absurd ‹_ < 0› (Nat.not_lt_zero _)
      | succ n_ ih =>
        intro j cc cs lf_ fQ fl2 lb2 wE2 sE2 kE2 w1 H locs ls hf hj hc1 hc2 hlf hX1  h hl
        obtain ⟨⟨y0, y1, y2, y3⟩, -, -, -, -, -, hplq, -⟩ := id hX1
        refine lv_lload hx hb dX1_start_86 (lv_at hl 1 rfl) ?_
        refine lv_lconst (v := 0) hx hb dX1_start_88 (by decide) ?_
        refine W.lcmp hx hb dX1_start_89 ?_
        refine lv_if_eq (tgt := 128) hx hb dX1_start_90 (by decide) (fun c5 => ?_) (fun c5 => ?_)
        · skip
          have hl0 : lf_ = 0 := (lg_cmp_eq _ _).mp c5
          have hp64 : plS dk ((pickS (wholeF cn dk 0) (wholeF cn dk 1)).getD (0, 0)).2 64 = plS dk ((pickS (wholeF cn dk 0) (wholeF cn dk 1)).getD (0, 0)).2 j := plS_skips 64 hj (fun i h1 h2 => by have := hlf i h2; rw [hl0, bitL_0 h2, decide_eq_true h1] at this; simpa using this.symm)
          refine lv_aload_n hx hb dX1_start_128 rfl (lv_at hl 0 rfl) ?_
          refine gc_q (va_runV (As := []) (rest := []) C.fix (m_X1_latest l g w1 v ad cn true fu false dk ([]) (fun _ => none) (plS dk ((pickS (wholeF cn dk 0) (wholeF cn dk 1)).getD (0, 0)).2 j) ([((pickS (wholeF cn dk 0) (wholeF cn dk 1)).getD (0, 0))]) ([]) fQ fl2 lb2 wE2 sE2 kE2 hX1 (by simp)) (cwV 0 hts (lw_V q462 q464 qs17 q43 q465) rfl rfl rfl (by decide +kernel) ⟨Nat.le_of_ble_eq_true rfl, Nat.le_of_ble_eq_true rfl⟩) (gp_V C h [] (Cn := RX1) (T := TX1) (N := 10) rfl y0) rfl rfl hl.1 rfl (lv_room (Nat.le_of_ble_eq_true rfl)) dX1_start_129 ⟨(by show cc + 0 ≤ 420; omega), (by show cs + 0 ≤ 7100; omega)⟩) h (fun r_1 w_2 H locs hp h => ?_)
          obtain ⟨e1, re1, fe1, xe1⟩ := hp
          rw [re1]
          rw [xe1] at h
          have hls : lastS [((pickS (wholeF cn dk 0) (wholeF cn dk 1)).getD (0, 0))] = ((pickS (wholeF cn dk 0) (wholeF cn dk 1)).getD (0, 0)) := rfl
          rw [hls] at fe1
          refine gc_i (va_runV (As := []) (rest := []) C.fix (m_X2_number l g w1 v e1 ((pickS (wholeF cn dk 0) (wholeF cn dk 1)).getD (0, 0)).1 ((pickS (wholeF cn dk 0) (wholeF cn dk 1)).getD (0, 0)).2 fe1) (cwV 0 hts (lw_V q476 q477 q478 q50 q479) rfl rfl rfl (by decide +kernel) ⟨Nat.le_of_ble_eq_true rfl, Nat.le_of_ble_eq_true rfl⟩) (gp_V C h [] (Cn := RX2) (T := TX2) (N := 2) rfl fe1) rfl rfl hl.1 rfl (lv_room (Nat.le_of_ble_eq_true rfl)) dX1_start_132 ⟨(by show cc + 0 + 0 ≤ 420; omega), (by show cs + 0 + 0 ≤ 7100; omega)⟩) h (fun r_3 w_4 H locs hp h => ?_)
          obtain ⟨er_r_3, ew_r_3⟩ := hp
          rw [er_r_3]
          rw [ew_r_3] at h
          have eq : opStart (cn, ru, fu, ch, dk, wt, ld, pl, st, kp) = (((pickS (wholeF cn dk 0) (wholeF cn dk 1)).getD (0, 0)).1, (cn, true, fu, false, dk, [], fun _ => none, plS dk ((pickS (wholeF cn dk 0) (wholeF cn dk 1)).getD (0, 0)).2 64, [((pickS (wholeF cn dk 0) (wholeF cn dk 1)).getD (0, 0))], [])) := by unfold opStart; dsimp only; rw [if_neg (show ¬ ru = true by rw [c1]; decide)]
          exact gr_i C h (ty := .int) rfl (rfl) (by rw [eq, hp64]; exact ⟨rfl, _, _, _, _, _, _, hX1⟩) (by show cc + 0 + 0 ≤ 420; omega) (by show cs + 0 + 0 ≤ 7100; omega) dX1_start_135
        · skip
          have hl0 : ¬ lf_ = 0 := fun q => c5 ((lg_cmp_eq _ _).mpr q)
          obtain ⟨cb, hcb, hb1, hb2⟩ := low_bit hl0
          have hjb : j ≤ cb ∧ bitL ((pickS (wholeF cn dk 0) (wholeF cn dk 1)).getD (0, 0)).2 cb = true := by have := hlf cb hcb; rw [hb1] at this; simpa using this.symm
          have hps := pick_sec hcb hjb.2
          have hpk : plS dk ((pickS (wholeF cn dk 0) (wholeF cn dk 1)).getD (0, 0)).2 cb = plS dk ((pickS (wholeF cn dk 0) (wholeF cn dk 1)).getD (0, 0)).2 j := plS_skips cb hjb.1 (fun i h1 h2 => by have := hlf i (by omega); rw [hb2 i h2, decide_eq_true h1] at this; simpa using this.symm)
          have hIj := inv_startJ (fu := fu) (j := j) i1 i5 hj
          refine lv_lload hx hb dX1_start_93 (lv_at hl 1 rfl) ?_
          refine gc_i (va_runS (As := [.long lf_]) (rest := []) C.fix (m_J8_numberOfTrailingZeros l g w1 v lf_ cb hcb hb1 hb2) (va_cwS 1 hts (lw_S q539 q540 q57 q541) rfl rfl rfl (by decide +kernel) ⟨Nat.le_of_ble_eq_true rfl, Nat.le_of_ble_eq_true rfl⟩) (gp_S C h _) rfl rfl hl.1 rfl (lv_room (Nat.le_of_ble_eq_true rfl)) dX1_start_95 ⟨(by show cc + 0 ≤ 420; omega), (by show cs + 0 ≤ 7100; omega)⟩) h (fun r_5 w_6 H locs hp h => ?_)
          obtain ⟨er_r_5, ew_r_5⟩ := hp
          rw [er_r_5]
          rw [ew_r_5] at h
          refine lv_istore (lv' := [(6, .int (nI cb)), (0, .ref (ad 0)), (4, .long lf_)]) hx hb dX1_start_98 hl (by decide) rfl (fun ls hl => ?_)
          refine lv_aload_n hx hb dX1_start_100 rfl (lv_at hl 1 rfl) ?_
          refine gx_get C h y0 (Cn := RX1) (T := TX1) (N := 10) rfl in_X1 4 (by decide) q219 rfl rfl dX1_start_101 ?_
          refine lv_aload_n hx hb dX1_start_104 rfl (lv_at hl 1 rfl) ?_
          refine lv_iload hx hb dX1_start_105 (lv_at hl 0 rfl) ?_
          refine gc_q (va_runV (As := [.int (nI cb)]) (rest := [.ref (ad 2)]) C.fix (m_X1_read l g w1 v ad cn true fu false dk ([]) (fun _ => none) (plS dk ((pickS (wholeF cn dk 0) (wholeF cn dk 1)).getD (0, 0)).2 j) ([((pickS (wholeF cn dk 0) (wholeF cn dk 1)).getD (0, 0))]) ([]) fQ fl2 lb2 wE2 sE2 kE2 hX1 hIj cb hps.1.2) (cwV 1 hts (lw_V q339 q341 qs6 q43 q342) rfl rfl rfl (by decide +kernel) ⟨Nat.le_of_ble_eq_true rfl, Nat.le_of_ble_eq_true rfl⟩) (gp_V C h [.int (nI cb)] (Cn := RX1) (T := TX1) (N := 10) rfl y0) rfl rfl hl.1 rfl (lv_room (Nat.le_of_ble_eq_true rfl)) dX1_start_107 ⟨(by show cc + 0 + 2 ≤ 420; omega), (by show cs + 0 + 33 ≤ 7100; omega)⟩) h (fun r_7 w_8 H locs hp h => ?_)
          obtain ⟨a2, b2, ra2, xa2, fa2, fb2⟩ := hp
          rw [ra2]
          have f_9 : w_8 (ad 0) = some (ob 0 [.ref (ad 1), .int (nI cn), .int (bI true), .int (bI fu), .ref (ad 2), .ref (ad 3), .int (bI false), .ref (ad 4), .ref (ad 5), .ref (ad 6)]) := xa2.of y0
          have f_10 : w_8 (ad 1) = some (eB g (32 * cn) dk) := xa2.of y1
          have f_11 : w_8 (ad 2) = some (eI g 30 fQ) := xa2.of y2
          have f_12 : w_8 (ad 3) = some (eS g 64 fl2) := xa2.of y3
          have hX_13 := hX1.ext xa2
          refine gc_i (va_runV (As := []) (rest := [.ref (ad 2)]) C.fix (m_X4_page l g w_8 v a2 b2 (sec dk cb) fa2 fb2) (cwV 0 hts (lw_V q546 q547 q548 q55 q549) rfl rfl rfl (by decide +kernel) ⟨Nat.le_of_ble_eq_true rfl, Nat.le_of_ble_eq_true rfl⟩) (gp_V C h [] (Cn := RX4) (T := TX4) (N := 1) rfl fa2) rfl rfl hl.1 rfl (lv_room (Nat.le_of_ble_eq_true rfl)) dX1_start_110 ⟨(by show cc + 0 + 2 + 0 ≤ 420; omega), (by show cs + 0 + 33 + 0 ≤ 7100; omega)⟩) h (fun r_14 w_15 H locs hp h => ?_)
          obtain ⟨er_r_14, ew_r_14⟩ := hp
          rw [er_r_14]
          rw [ew_r_14] at h
          obtain ⟨pp, hpp, hpv⟩ := ub_lt (sec dk cb 5)
          have hp30 : pp < 30 := by have := hps.2; rw [hpv] at this; exact (nI_ltI (by omega) (by omega)).mp this
          have hpc : (ub (sec dk cb 5)).toNatClampNeg = pp := by rw [hpv]; exact nI_clamp (by omega)
          rw [hpv]
          refine lv_iload hx hb dX1_start_113 (lv_at hl 0 rfl) ?_
          refine gx_iast C h f_11 pp (rfl) (by omega) dX1_start_115 (fun H locs h => ?_)
          obtain ⟨w_16, ew_16⟩ : ∃ z_ : GW, z_ = gu w_8 (ad 2) (eI g 30 (upd fQ pp (nI cb))) := ⟨_, rfl⟩
          have h : SH g w_16 v s H locs := by rw [ew_16]; exact h
          have f_17 : w_16 (ad 0) = some (ob 0 [.ref (ad 1), .int (nI cn), .int (bI true), .int (bI fu), .ref (ad 2), .ref (ad 3), .int (bI false), .ref (ad 4), .ref (ad 5), .ref (ad 6)]) := by rw [ew_16]; exact (gu_n n02).trans f_9
          have f_18 : w_16 (ad 1) = some (eB g (32 * cn) dk) := by rw [ew_16]; exact (gu_n n12).trans f_10
          have f_19 : w_16 (ad 2) = some (eI g 30 (upd fQ pp (nI cb))) := by rw [ew_16]; exact gu_s
          have f_20 : w_16 (ad 3) = some (eS g 64 fl2) := by rw [ew_16]; exact (gu_n (Ne.symm n23)).trans f_12
          have hK3 : XK (fun k => k ≠ 130) w_8 w_16 := by rw [ew_16]; exact XK.put XK.rfl' f_11 (by simp [kn])
          have hX3 : XW g w_16 ad cn true fu false dk ([]) (fun _ => none) (plS dk ((pickS (wholeF cn dk 0) (wholeF cn dk 1)).getD (0, 0)).2 (cb + 1)) ([((pickS (wholeF cn dk 0) (wholeF cn dk 1)).getD (0, 0))]) ([]) (upd fQ pp (nI cb)) fl2 lb2 wE2 sE2 kE2 := hX_13.core hK3 (by simp) ⟨f_17, f_18, f_19, f_20⟩ (by rw [plS_t hjb.2, hpk, hpc]; exact plS_up hplq)
          refine lv_lload hx hb dX1_start_116 (lv_at hl 2 rfl) ?_
          refine lv_lload hx hb dX1_start_118 (lv_at hl 2 rfl) ?_
          refine lv_lconst (v := 1) hx hb dX1_start_120 (by decide) ?_
          refine lv_lsub hx hb dX1_start_121 ?_
          refine lv_land hx hb dX1_start_122 ?_
          refine lv_lstore (lv' := [(4, .long (lf_ &&& (lf_ - 1))), (6, .int (nI cb)), (0, .ref (ad 0))]) hx hb dX1_start_123 hl (by decide) rfl (fun ls hl => ?_)
          refine lv_goto (tgt := 86) hx hb dX1_start_125 (by decide) ?_
          exact ih (cb + 1) (cc + 0 + 2 + 0) (cs + 0 + 33 + 0) _ _ fl2 lb2 wE2 sE2 kE2 _ _ _ _ (by omega) (by omega) (by omega) (by omega) (fun i hi => by rw [bitL_pred hcb hb1 hb2 hi, hlf i hi]; exact nx_left hjb.1) hX3 h (lv_sub hl [2, 0] rfl)
    have cB : ∀ (cc cs a9 : Nat) (wa : GW) (H : Heap) (locs : List Loc) (ls : Array Slot), (cc ≤ 281) → (cs ≤ 4602) → (XW g wa ad cn ru fu ch dk wt ld pl st kp fP fl lb wE sE kE) → (wa a9 = some (ob 2 [.int ((pickS (wholeF cn dk 0) (wholeF cn dk 1)).getD (0, 0)).1, .long ((pickS (wholeF cn dk 0) (wholeF cn dk 1)).getD (0, 0)).2])) → SH g wa v s H locs → lv_has ls 7 [(0, .ref (ad 0))] → W p l e ({ frames := 8, cells := 420, slots := 7100, locals := 480 } : Room) s m ([.ref (ad 0)] : List Value).toArray below meth c H locs cc cs (MQ below (va_Qi (fun (r : Int32) (w' : GW) => r = (opStart (cn, ru, fu, ch, dk, wt, ld, pl, st, kp)).1 ∧ RX g w' ad (opStart (cn, ru, fu, ch, dk, wt, ld, pl, st, kp)).2) (gB g v) (gA g)) ([.ref (ad 0)] : List Value).toArray s 420 7100 (gA g)) (F0 m 69 ls [.ref a9, .ref (ad 0)]) := by
      intro cc cs a9 wa H locs ls hc1 hc2 hXa ha9 h hl
      obtain ⟨⟨y0, y1, y2, y3⟩, -⟩ := id hXa
      refine gc_v (va_runV (As := [.ref a9]) (rest := []) C.fix (m_X1_begin l g wa v ad cn ru fu ch dk wt ld pl st kp fP fl lb wE sE kE hXa a9 ((pickS (wholeF cn dk 0) (wholeF cn dk 1)).getD (0, 0)).1 ((pickS (wholeF cn dk 0) (wholeF cn dk 1)).getD (0, 0)).2 ha9) (cwV 1 hts (lw_V q150 q152 qs0 q43 q153) rfl rfl rfl (by decide +kernel) ⟨Nat.le_of_ble_eq_true rfl, Nat.le_of_ble_eq_true rfl⟩) (gp_V C h [.ref a9] (Cn := RX1) (T := TX1) (N := 10) rfl y0) rfl rfl hl.1 rfl (lv_room (Nat.le_of_ble_eq_true rfl)) dX1_start_69 ⟨(by show cc + 1 ≤ 420; omega), (by show cs + 200 ≤ 7100; omega)⟩) h (fun w_22 H locs hp h => ?_)
      obtain ⟨fQ, fl2, lb2, wE2, sE2, kE2, hX2⟩ := hp
      obtain ⟨⟨u0, u1, u2, u3⟩, -⟩ := id hX2
      refine lv_aload_n hx hb dX1_start_72 rfl (lv_at hl 0 rfl) ?_
      refine lv_iconst (v := bI true) hx hb dX1_start_73 (by decide) ?_
      refine gx_put C h u0 (Cn := RX1) (T := TX1) (N := 10) (x := .int (bI true)) rfl in_X1 tyX1 tyX1_ok nmX1 2 (by decide) q217 rfl rfl (bI_n _) (bI_f _) (Nat.le_of_ble_eq_true rfl) dX1_start_74 (fun H locs h => ?_)
      obtain ⟨w_23, ew_23⟩ : ∃ z_ : GW, z_ = gu w_22 (ad 0) (ob 0 [.ref (ad 1), .int (nI cn), .int (bI true), .int (bI fu), .ref (ad 2), .ref (ad 3), .int (bI false), .ref (ad 4), .ref (ad 5), .ref (ad 6)]) := ⟨_, rfl⟩
      have h : SH g w_23 v s H locs := by rw [ew_23]; exact h
      have f_24 : w_23 (ad 0) = some (ob 0 [.ref (ad 1), .int (nI cn), .int (bI true), .int (bI fu), .ref (ad 2), .ref (ad 3), .int (bI false), .ref (ad 4), .ref (ad 5), .ref (ad 6)]) := by rw [ew_23]; exact gu_s
      have f_25 : w_23 (ad 1) = some (eB g (32 * cn) dk) := by rw [ew_23]; exact (gu_n (Ne.symm n01)).trans u1
      have f_26 : w_23 (ad 2) = some (eI g 30 fQ) := by rw [ew_23]; exact (gu_n (Ne.symm n02)).trans u2
      have f_27 : w_23 (ad 3) = some (eS g 64 fl2) := by rw [ew_23]; exact (gu_n (Ne.symm n03)).trans u3
      have hK3 : XK (fun k => k ≠ 0) w_22 w_23 := by rw [ew_23]; exact XK.put XK.rfl' u0 (by simp [kn])
      have hX3 : XW g w_23 ad cn true fu false dk ([]) (fun _ => none) (plS dk ((pickS (wholeF cn dk 0) (wholeF cn dk 1)).getD (0, 0)).2 0) ([((pickS (wholeF cn dk 0) (wholeF cn dk 1)).getD (0, 0))]) ([]) fQ fl2 lb2 wE2 sE2 kE2 := hX2.core hK3 (by simp) ⟨f_24, f_25, f_26, f_27⟩ hX2.2.2.2.2.2.2.1
      refine lv_aload_n hx hb dX1_start_77 rfl (lv_at hl 0 rfl) ?_
      refine gc_q (va_runV (As := []) (rest := []) C.fix (m_X1_latest l g w_23 v ad cn true fu false dk ([]) (fun _ => none) (plS dk ((pickS (wholeF cn dk 0) (wholeF cn dk 1)).getD (0, 0)).2 0) ([((pickS (wholeF cn dk 0) (wholeF cn dk 1)).getD (0, 0))]) ([]) fQ fl2 lb2 wE2 sE2 kE2 hX3 (by simp)) (cwV 0 hts (lw_V q462 q464 qs17 q43 q465) rfl rfl rfl (by decide +kernel) ⟨Nat.le_of_ble_eq_true rfl, Nat.le_of_ble_eq_true rfl⟩) (gp_V C h [] (Cn := RX1) (T := TX1) (N := 10) rfl f_24) rfl rfl hl.1 rfl (lv_room (Nat.le_of_ble_eq_true rfl)) dX1_start_78 ⟨(by show cc + 1 + 0 ≤ 420; omega), (by show cs + 200 + 0 ≤ 7100; omega)⟩) h (fun r_28 w_29 H locs hp h => ?_)
      obtain ⟨e1, re1, fe1, xe1⟩ := hp
      rw [re1]
      rw [xe1] at h
      have hls : lastS [((pickS (wholeF cn dk 0) (wholeF cn dk 1)).getD (0, 0))] = ((pickS (wholeF cn dk 0) (wholeF cn dk 1)).getD (0, 0)) := rfl
      rw [hls] at fe1
      refine gc_l (va_runV (As := []) (rest := []) C.fix (m_X2_sectors l g w_23 v e1 ((pickS (wholeF cn dk 0) (wholeF cn dk 1)).getD (0, 0)).1 ((pickS (wholeF cn dk 0) (wholeF cn dk 1)).getD (0, 0)).2 fe1) (cwV 0 hts (lw_V q398 q399 q400 q50 q401) rfl rfl rfl (by decide +kernel) ⟨Nat.le_of_ble_eq_true rfl, Nat.le_of_ble_eq_true rfl⟩) (gp_V C h [] (Cn := RX2) (T := TX2) (N := 2) rfl fe1) rfl rfl hl.1 rfl (lv_room (Nat.le_of_ble_eq_true rfl)) dX1_start_81 ⟨(by show cc + 1 + 0 + 0 ≤ 420; omega), (by show cs + 200 + 0 + 0 ≤ 7100; omega)⟩) h (fun r_30 w_31 H locs hp h => ?_)
      obtain ⟨er_r_30, ew_r_30⟩ := hp
      rw [er_r_30]
      rw [ew_r_30] at h
      refine lv_lstore (lv' := [(4, .long (((pickS (wholeF cn dk 0) (wholeF cn dk 1)).getD (0, 0)).2)), (0, .ref (ad 0))]) hx hb dX1_start_84 hl (by decide) rfl (fun ls hl => ?_)
      exact loop 65 0 (cc + 1 + 0 + 0) (cs + 200 + 0 + 0) ((pickS (wholeF cn dk 0) (wholeF cn dk 1)).getD (0, 0)).2 fQ fl2 lb2 wE2 sE2 kE2 _ _ _ _ (by omega) (by omega) (by omega) (by omega) (fun i hi => by simp) hX3 h (lv_sub hl [1, 0] rfl)
    refine lv_aload_n hx hb dX1_start_10 rfl (lv_at hl 0 rfl) ?_
    refine lv_iconst (v := nI 0) hx hb dX1_start_11 (by decide) ?_
    refine gc_q (va_runV (As := [.int (nI 0)]) (rest := []) C.fix (m_X1_whole l g w v ad cn ru fu ch dk wt ld pl st kp fP fl lb wE sE kE hX hI 0 (by omega)) (cwV 1 hts (lw_V q533 q535 qs19 q43 q536) rfl rfl rfl (by decide +kernel) ⟨Nat.le_of_ble_eq_true rfl, Nat.le_of_ble_eq_true rfl⟩) (gp_V C h [.int (nI 0)] (Cn := RX1) (T := TX1) (N := 10) rfl x0) rfl rfl hl.1 rfl (lv_room (Nat.le_of_ble_eq_true rfl)) dX1_start_12 ⟨Nat.le_of_ble_eq_true rfl, Nat.le_of_ble_eq_true rfl⟩) h (fun r_32 w_33 H locs hpp h => ?_)
    obtain ⟨xp, sp, np⟩ := hpp
    have f_34 : w_33 (ad 0) = some (ob 0 [.ref (ad 1), .int (nI cn), .int (bI ru), .int (bI fu), .ref (ad 2), .ref (ad 3), .int (bI ch), .ref (ad 4), .ref (ad 5), .ref (ad 6)]) := xp.of x0
    have f_35 : w_33 (ad 1) = some (eB g (32 * cn) dk) := xp.of x1
    have f_36 : w_33 (ad 2) = some (eI g 30 fP) := xp.of x2
    have f_37 : w_33 (ad 3) = some (eS g 64 fl) := xp.of x3
    have hX_38 := hX.ext xp
    have hE_39 : Ext w w_33 := XK.trans XK.rfl' xp
    rcases hp : wholeF cn dk 0 with _ | yp
    · skip
      rw [np hp]
      refine lv_astore_nN (lv' := [(1, .null), (0, .ref (ad 0))]) hx hb dX1_start_15 rfl hl (by decide) rfl (fun ls hl => ?_)
      refine lv_aload_n hx hb dX1_start_16 rfl (lv_at hl 1 rfl) ?_
      refine lv_iconst (v := nI 1) hx hb dX1_start_17 (by decide) ?_
      refine gc_q (va_runV (As := [.int (nI 1)]) (rest := []) C.fix (m_X1_whole l g w_33 v ad cn ru fu ch dk wt ld pl st kp fP fl lb wE sE kE hX_38 hI 1 (by omega)) (cwV 1 hts (lw_V q533 q535 qs19 q43 q536) rfl rfl rfl (by decide +kernel) ⟨Nat.le_of_ble_eq_true rfl, Nat.le_of_ble_eq_true rfl⟩) (gp_V C h [.int (nI 1)] (Cn := RX1) (T := TX1) (N := 10) rfl f_34) rfl rfl hl.1 rfl (lv_room (Nat.le_of_ble_eq_true rfl)) dX1_start_18 ⟨Nat.le_of_ble_eq_true rfl, Nat.le_of_ble_eq_true rfl⟩) h (fun r_40 w_41 H locs hpq h => ?_)
      obtain ⟨xq, sq, nq⟩ := hpq
      have f_42 : w_41 (ad 0) = some (ob 0 [.ref (ad 1), .int (nI cn), .int (bI ru), .int (bI fu), .ref (ad 2), .ref (ad 3), .int (bI ch), .ref (ad 4), .ref (ad 5), .ref (ad 6)]) := xq.of f_34
      have f_43 : w_41 (ad 1) = some (eB g (32 * cn) dk) := xq.of f_35
      have f_44 : w_41 (ad 2) = some (eI g 30 fP) := xq.of f_36
      have f_45 : w_41 (ad 3) = some (eS g 64 fl) := xq.of f_37
      have hX_46 := hX_38.ext xq
      have hE_47 : Ext w w_41 := XK.trans hE_39 xq
      rcases hq : wholeF cn dk 1 with _ | yq
      · skip
        rw [nq hq]
        refine lv_astore_nN (lv' := [(2, .null), (1, .null), (0, .ref (ad 0))]) hx hb dX1_start_21 rfl hl (by decide) rfl (fun ls hl => ?_)
        refine lv_aload_nN hx hb dX1_start_22 rfl (lv_at hl 1 rfl) ?_
        refine lv_ifnonnullN hx hb dX1_start_23 ?_
        refine lv_aload_nN hx hb dX1_start_26 rfl (lv_at hl 0 rfl) ?_
        refine lv_goto (tgt := 50) hx hb dX1_start_27 (by decide) ?_
        refine lv_astore_nN (lv' := [(3, .null), (2, .null), (1, .null), (0, .ref (ad 0))]) hx hb dX1_start_50 rfl hl (by decide) rfl (fun ls hl => ?_)
        refine lv_aload_n hx hb dX1_start_51 rfl (lv_at hl 3 rfl) ?_
        refine lv_aload_nN hx hb dX1_start_52 rfl (lv_at hl 0 rfl) ?_
        refine lv_ifnonnullN hx hb dX1_start_53 ?_
        refine gx_new C h (ci := 2) (fs := [.int (nI 0), .long 0]) (Cn := RX2) (T := TX2) (N := 2) rfl in_X2 tyX2 tyX2_ok q133 q134 q50 (fun j hj => by rcases (show j = 0 ∨ j = 1 by omega) with rfl | rfl <;> rfl) (Nat.le_of_ble_eq_true rfl) (Nat.le_of_ble_eq_true rfl) dX1_start_56 (fun a H hn_48 hn_48v h => ?_)
        obtain ⟨w_49, ew_49⟩ : ∃ z_ : GW, z_ = gu w_41 a (ob 2 [.int (nI 0), .long 0]) := ⟨_, rfl⟩
        have h : SH g w_49 v s H locs := by rw [ew_49]; exact h
        have f_50 : w_49 (ad 0) = some (ob 0 [.ref (ad 1), .int (nI cn), .int (bI ru), .int (bI fu), .ref (ad 2), .ref (ad 3), .int (bI ch), .ref (ad 4), .ref (ad 5), .ref (ad 6)]) := by rw [ew_49]; exact (gu_n (g_neN f_42 hn_48)).trans f_42
        have f_51 : w_49 (ad 1) = some (eB g (32 * cn) dk) := by rw [ew_49]; exact (gu_n (g_neN f_43 hn_48)).trans f_43
        have f_52 : w_49 (ad 2) = some (eI g 30 fP) := by rw [ew_49]; exact (gu_n (g_neN f_44 hn_48)).trans f_44
        have f_53 : w_49 (ad 3) = some (eS g 64 fl) := by rw [ew_49]; exact (gu_n (g_neN f_45 hn_48)).trans f_45
        have f_54 : w_49 a = some (ob 2 [.int (nI 0), .long 0]) := by rw [ew_49]; exact gu_s
        refine lv_dup hx hb dX1_start_59 rfl ?_
        refine lv_iconst (v := nI 0) hx hb dX1_start_60 (by decide) ?_
        refine lv_lconst (v := 0) hx hb dX1_start_61 (by decide) ?_
        refine gc_v (va_runIN (As := [.int (nI 0), .long 0]) (rest := [.ref a, .ref (ad 0)]) C.fix (m_X2_init l g w_49 v a (nI 0) 0 f_54) ⟨va_cnB 2 hts (lw_meth q137) rfl rfl rfl (hG.2.2.1 _ q135 rfl) (hts _ q50) (by decide +kernel) ⟨Nat.le_of_ble_eq_true rfl, Nat.le_of_ble_eq_true rfl⟩, rfl, hts _ q136⟩ (gp_S C h _) rfl rfl hl.1 rfl (lv_room (Nat.le_of_ble_eq_true rfl)) dX1_start_62 ⟨Nat.le_of_ble_eq_true rfl, Nat.le_of_ble_eq_true rfl⟩) h (fun w_56 H locs hpa h => ?_)
        have xa : Ext w_41 w_56 := by rw [hpa, ew_49]; exact (XK.rfl'.putn hn_48).putn hn_48
        have fa : w_56 a = some (ob 2 [.int (nI 0), .long 0]) := by rw [hpa]; exact gu_s
        have f_57 : w_56 (ad 0) = some (ob 0 [.ref (ad 1), .int (nI cn), .int (bI ru), .int (bI fu), .ref (ad 2), .ref (ad 3), .int (bI ch), .ref (ad 4), .ref (ad 5), .ref (ad 6)]) := xa.of f_42
        have f_58 : w_56 (ad 1) = some (eB g (32 * cn) dk) := xa.of f_43
        have f_59 : w_56 (ad 2) = some (eI g 30 fP) := xa.of f_44
        have f_60 : w_56 (ad 3) = some (eS g 64 fl) := xa.of f_45
        have hX_61 := hX_46.ext xa
        have hE_62 : Ext w w_56 := XK.trans hE_47 xa
        refine lv_goto (tgt := 69) hx hb dX1_start_65 (by decide) ?_
        exact cB (281) (4602) a _ _ _ _ (by omega) (by omega) hX_61 (by rw [hp, hq]; exact fa) h (lv_sub hl [3] rfl)
      · skip
        obtain ⟨aq, rq, fq⟩ := sq _ hq
        rw [rq]
        refine lv_astore_n (lv' := [(2, .ref aq), (1, .null), (0, .ref (ad 0))]) hx hb dX1_start_21 rfl hl (by decide) rfl (fun ls hl => ?_)
        refine lv_aload_nN hx hb dX1_start_22 rfl (lv_at hl 1 rfl) ?_
        refine lv_ifnonnullN hx hb dX1_start_23 ?_
        refine lv_aload_n hx hb dX1_start_26 rfl (lv_at hl 0 rfl) ?_
        refine lv_goto (tgt := 50) hx hb dX1_start_27 (by decide) ?_
        refine lv_astore_n (lv' := [(3, .ref aq), (2, .ref aq), (1, .null), (0, .ref (ad 0))]) hx hb dX1_start_50 rfl hl (by decide) rfl (fun ls hl => ?_)
        refine lv_aload_n hx hb dX1_start_51 rfl (lv_at hl 3 rfl) ?_
        refine lv_aload_n hx hb dX1_start_52 rfl (lv_at hl 0 rfl) ?_
        refine lv_ifnonnull (tgt := 68) hx hb dX1_start_53 (by decide) ?_
        refine lv_aload_n hx hb dX1_start_68 rfl (lv_at hl 0 rfl) ?_
        exact cB (280) (4600) aq _ _ _ _ (by omega) (by omega) hX_46 (by rw [hp, hq]; exact fq) h (lv_sub hl [3] rfl)
    · skip
      obtain ⟨ap, rp, fp⟩ := sp _ hp
      rw [rp]
      refine lv_astore_n (lv' := [(1, .ref ap), (0, .ref (ad 0))]) hx hb dX1_start_15 rfl hl (by decide) rfl (fun ls hl => ?_)
      refine lv_aload_n hx hb dX1_start_16 rfl (lv_at hl 1 rfl) ?_
      refine lv_iconst (v := nI 1) hx hb dX1_start_17 (by decide) ?_
      refine gc_q (va_runV (As := [.int (nI 1)]) (rest := []) C.fix (m_X1_whole l g w_33 v ad cn ru fu ch dk wt ld pl st kp fP fl lb wE sE kE hX_38 hI 1 (by omega)) (cwV 1 hts (lw_V q533 q535 qs19 q43 q536) rfl rfl rfl (by decide +kernel) ⟨Nat.le_of_ble_eq_true rfl, Nat.le_of_ble_eq_true rfl⟩) (gp_V C h [.int (nI 1)] (Cn := RX1) (T := TX1) (N := 10) rfl f_34) rfl rfl hl.1 rfl (lv_room (Nat.le_of_ble_eq_true rfl)) dX1_start_18 ⟨Nat.le_of_ble_eq_true rfl, Nat.le_of_ble_eq_true rfl⟩) h (fun r_63 w_64 H locs hpq h => ?_)
      obtain ⟨xq, sq, nq⟩ := hpq
      have f_65 : w_64 (ad 0) = some (ob 0 [.ref (ad 1), .int (nI cn), .int (bI ru), .int (bI fu), .ref (ad 2), .ref (ad 3), .int (bI ch), .ref (ad 4), .ref (ad 5), .ref (ad 6)]) := xq.of f_34
      have f_66 : w_64 (ad 1) = some (eB g (32 * cn) dk) := xq.of f_35
      have f_67 : w_64 (ad 2) = some (eI g 30 fP) := xq.of f_36
      have f_68 : w_64 (ad 3) = some (eS g 64 fl) := xq.of f_37
      have f_69 : w_64 ap = some (ob 2 [.int yp.1, .long yp.2]) := xq.of fp
      have hX_70 := hX_38.ext xq
      have hE_71 : Ext w w_64 := XK.trans hE_39 xq
      rcases hq : wholeF cn dk 1 with _ | yq
      · skip
        rw [nq hq]
        refine lv_astore_nN (lv' := [(2, .null), (1, .ref ap), (0, .ref (ad 0))]) hx hb dX1_start_21 rfl hl (by decide) rfl (fun ls hl => ?_)
        refine lv_aload_n hx hb dX1_start_22 rfl (lv_at hl 1 rfl) ?_
        refine lv_ifnonnull (tgt := 30) hx hb dX1_start_23 (by decide) ?_
        refine lv_aload_nN hx hb dX1_start_30 rfl (lv_at hl 0 rfl) ?_
        refine lv_ifnullN (tgt := 45) hx hb dX1_start_31 (by decide) ?_
        refine lv_aload_n hx hb dX1_start_45 rfl (lv_at hl 1 rfl) ?_
        refine lv_goto (tgt := 50) hx hb dX1_start_46 (by decide) ?_
        refine lv_astore_n (lv' := [(3, .ref ap), (2, .null), (1, .ref ap), (0, .ref (ad 0))]) hx hb dX1_start_50 rfl hl (by decide) rfl (fun ls hl => ?_)
        refine lv_aload_n hx hb dX1_start_51 rfl (lv_at hl 3 rfl) ?_
        refine lv_aload_n hx hb dX1_start_52 rfl (lv_at hl 0 rfl) ?_
        refine lv_ifnonnull (tgt := 68) hx hb dX1_start_53 (by decide) ?_
        refine lv_aload_n hx hb dX1_start_68 rfl (lv_at hl 0 rfl) ?_
        exact cB (280) (4600) ap _ _ _ _ (by omega) (by omega) hX_70 (by rw [hp, hq]; exact f_69) h (lv_sub hl [3] rfl)
      · skip
        obtain ⟨aq, rq, fq⟩ := sq _ hq
        rw [rq]
        refine lv_astore_n (lv' := [(2, .ref aq), (1, .ref ap), (0, .ref (ad 0))]) hx hb dX1_start_21 rfl hl (by decide) rfl (fun ls hl => ?_)
        refine lv_aload_n hx hb dX1_start_22 rfl (lv_at hl 1 rfl) ?_
        refine lv_ifnonnull (tgt := 30) hx hb dX1_start_23 (by decide) ?_
        refine lv_aload_n hx hb dX1_start_30 rfl (lv_at hl 0 rfl) ?_
        refine lv_ifnull hx hb dX1_start_31 ?_
        refine lv_aload_n hx hb dX1_start_34 rfl (lv_at hl 1 rfl) ?_
        refine gc_i (va_runV (As := []) (rest := []) C.fix (m_X2_number l g w_64 v ap yp.1 yp.2 f_69) (cwV 0 hts (lw_V q476 q477 q478 q50 q479) rfl rfl rfl (by decide +kernel) ⟨Nat.le_of_ble_eq_true rfl, Nat.le_of_ble_eq_true rfl⟩) (gp_V C h [] (Cn := RX2) (T := TX2) (N := 2) rfl f_69) rfl rfl hl.1 rfl (lv_room (Nat.le_of_ble_eq_true rfl)) dX1_start_35 ⟨Nat.le_of_ble_eq_true rfl, Nat.le_of_ble_eq_true rfl⟩) h (fun r_72 w_73 H locs hp h => ?_)
        obtain ⟨er_r_72, ew_r_72⟩ := hp
        rw [er_r_72]
        rw [ew_r_72] at h
        refine lv_aload_n hx hb dX1_start_38 rfl (lv_at hl 0 rfl) ?_
        refine gc_i (va_runV (As := []) (rest := [.int yp.1]) C.fix (m_X2_number l g w_64 v aq yq.1 yq.2 fq) (cwV 0 hts (lw_V q476 q477 q478 q50 q479) rfl rfl rfl (by decide +kernel) ⟨Nat.le_of_ble_eq_true rfl, Nat.le_of_ble_eq_true rfl⟩) (gp_V C h [] (Cn := RX2) (T := TX2) (N := 2) rfl fq) rfl rfl hl.1 rfl (lv_room (Nat.le_of_ble_eq_true rfl)) dX1_start_39 ⟨Nat.le_of_ble_eq_true rfl, Nat.le_of_ble_eq_true rfl⟩) h (fun r_74 w_75 H locs hp h => ?_)
        obtain ⟨er_r_74, ew_r_74⟩ := hp
        rw [er_r_74]
        rw [ew_r_74] at h
        refine lv_icmp_lt (tgt := 49) hx hb dX1_start_42 (by decide) (fun c2 => ?_) (fun c2 => ?_)
        · skip
          refine lv_aload_n hx hb dX1_start_49 rfl (lv_at hl 0 rfl) ?_
          refine lv_astore_n (lv' := [(3, .ref aq), (2, .ref aq), (1, .ref ap), (0, .ref (ad 0))]) hx hb dX1_start_50 rfl hl (by decide) rfl (fun ls hl => ?_)
          refine lv_aload_n hx hb dX1_start_51 rfl (lv_at hl 3 rfl) ?_
          refine lv_aload_n hx hb dX1_start_52 rfl (lv_at hl 0 rfl) ?_
          refine lv_ifnonnull (tgt := 68) hx hb dX1_start_53 (by decide) ?_
          refine lv_aload_n hx hb dX1_start_68 rfl (lv_at hl 0 rfl) ?_
          exact cB (280) (4600) aq _ _ _ _ (by omega) (by omega) hX_70 (by rw [hp, hq]; show _ = some (ob 2 [.int ((if yq.1 ≤ yp.1 then some yp else some yq).getD (0, 0)).1, .long ((if yq.1 ≤ yp.1 then some yp else some yq).getD (0, 0)).2]); rw [if_neg (Int32.not_le.mpr c2)]; exact fq) h (lv_sub hl [3] rfl)
        · skip
          refine lv_aload_n hx hb dX1_start_45 rfl (lv_at hl 1 rfl) ?_
          refine lv_goto (tgt := 50) hx hb dX1_start_46 (by decide) ?_
          refine lv_astore_n (lv' := [(3, .ref ap), (2, .ref aq), (1, .ref ap), (0, .ref (ad 0))]) hx hb dX1_start_50 rfl hl (by decide) rfl (fun ls hl => ?_)
          refine lv_aload_n hx hb dX1_start_51 rfl (lv_at hl 3 rfl) ?_
          refine lv_aload_n hx hb dX1_start_52 rfl (lv_at hl 0 rfl) ?_
          refine lv_ifnonnull (tgt := 68) hx hb dX1_start_53 (by decide) ?_
          refine lv_aload_n hx hb dX1_start_68 rfl (lv_at hl 0 rfl) ?_
          exact cB (280) (4600) ap _ _ _ _ (by omega) (by omega) hX_70 (by rw [hp, hq]; show _ = some (ob 2 [.int ((if yq.1 ≤ yp.1 then some yp else some yq).getD (0, 0)).1, .long ((if yq.1 ≤ yp.1 then some yp else some yq).getD (0, 0)).2]); rw [if_pos (Int32.not_lt.mp c2)]; exact f_69) h (lv_sub hl [3] rfl)
  · skip
    have c1 : ru = true := bI_ne0.mp c1
    refine lv_bipush (v := (-3)) hx hb dX1_start_7 (by decide) ?_
    have eq : opStart (cn, ru, fu, ch, dk, wt, ld, pl, st, kp) = (-3, (cn, ru, fu, ch, dk, wt, ld, pl, st, kp)) := by unfold opStart; dsimp only; rw [if_pos c1]
    exact gr_i C h (ty := .int) rfl (rfl) (by rw [eq]; exact ⟨rfl, fP, fl, lb, wE, sE, kE, hX⟩) (Nat.le_of_ble_eq_true rfl) (Nat.le_of_ble_eq_true rfl) dX1_start_9
