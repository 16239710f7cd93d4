set_option maxRecDepth 100000
theorem xor8 (a b : Int8) : (a.toInt32 ^^^ b.toInt32).toInt8.toInt32.toInt8 = a ^^^ b := by
  rw [Int8.toInt8_toInt32]
  apply Int8.toBitVec_inj.mp
  rw [Int32.toBitVec_toInt8, Int32.toBitVec_xor, Int8.toBitVec_toInt32, Int8.toBitVec_toInt32, Int8.toBitVec_xor]
  apply BitVec.eq_of_getLsbD_eq
  intro i hi
  rw [BitVec.getLsbD_signExtend, if_pos (by omega), BitVec.getLsbD_xor, BitVec.getLsbD_xor, BitVec.getLsbD_signExtend, BitVec.getLsbD_signExtend, if_pos hi, if_pos hi]
  simp [hi]
  have h32 : i < 32 := by omega
  simp [h32]
set_option maxHeartbeats 4000000 in
theorem m_X1_derived (l : Launch) (g : GG) (w v : GW) (ad : Nat → Nat) (cn : Nat) (ru fu ch : Bool) (dk : Sec) (wt : List (Nat × Sec)) (ld : Nat → Option Sec) (pl : Nat → Option Nat) (st kp : List (Int32 × Int64)) (hR : RX g w ad (cn, ru, fu, ch, dk, wt, ld, pl, st, kp)) (hI : InvK (cn, ru, fu, ch, dk, wt, ld, pl, st, kp)) (x : Int32)  : Met l yX1_derived (ws_ yX1_derived cX1_derived 7 (some .int)) ({ frames := 8, cells := 11, slots := 119, locals := 480 } : Room) (gP g [.ref (ad 0), .int x] w v) (va_Qi (fun (r : Int32) (w' : GW) => r = (opDerived (cn, ru, fu, ch, dk, wt, ld, pl, st, kp) x).1 ∧ RX g w' ad (opDerived (cn, ru, fu, ch, dk, wt, ld, pl, st, kp) x).2) (gB g v) (gA g)) 11 119 (gA g) := by
  refine gm_of (by decide) (Nat.le_of_ble_eq_true rfl) ?_
  intro p e s m below meth c ls C hnm h hl
  have C : Cx g p s m ([.ref (ad 0), .int x] : List Value).toArray meth c cX1_derived 7 RX1 (some .int) := C
  obtain ⟨hx, hb, hml, hown, hts, hr, hlk, hG⟩ := id C
  have hl : lv_has ls 7 [(0, .ref (ad 0)), (1, .int x)] := hl
  obtain ⟨fP, fl, lb, wE, sE, kE, hX⟩ := id hR
  obtain ⟨⟨x0, x1, x2, x3⟩, hQW, hQS, hQK, hLL, hLi, hpl, hXD, h8⟩ := id hX
  obtain ⟨i1, i2, i3, i4, i5, i6, i7, i8, i9⟩ := id hI
  have n01 : ad 0 ≠ ad 1 := g_ne x0 x1 (kn_ne (show 0 ≠ 100 + 32 * cn by omega))
  have n02 : ad 0 ≠ ad 2 := g_ne x0 x2 (kn_ne (show 0 ≠ 130 by omega))
  have n03 : ad 0 ≠ ad 3 := g_ne x0 x3 (kn_ne (show 0 ≠ 50 by omega))
  have n12 : ad 1 ≠ ad 2 := g_ne x1 x2 (kn_ne (show 100 + 32 * cn ≠ 130 by omega))
  have n13 : ad 1 ≠ ad 3 := g_ne x1 x3 (kn_ne (show 100 + 32 * cn ≠ 50 by omega))
  have n23 : ad 2 ≠ ad 3 := g_ne x2 x3 (kn_ne (show 130 ≠ 50 by omega))
  refine lv_aload_n hx hb dX1_derived_0 rfl (lv_at hl 0 rfl) ?_
  refine gx_get C h x0 (Cn := RX1) (T := TX1) (N := 10) rfl in_X1 2 (by decide) q217 rfl rfl dX1_derived_1 ?_
  refine lv_if_ne (tgt := 10) hx hb dX1_derived_4 (by decide) (fun c1 => ?_) (fun c1 => ?_)
  · skip
    have c1 : ru = true := bI_ne0.mp c1
    refine lv_aload_n hx hb dX1_derived_10 rfl (lv_at hl 0 rfl) ?_
    refine lv_iload_n hx hb dX1_derived_11 rfl (lv_at hl 1 rfl) ?_
    refine gc_i (va_runV (As := [.int x]) (rest := []) C.fix (m_X1_isPage l g w v ad cn ru fu ch dk wt ld pl st kp fP fl lb wE sE kE hX hI x) (cwV 1 hts (lw_V q250 q252 qs3 q43 q253) rfl rfl rfl (by decide +kernel) ⟨Nat.le_of_ble_eq_true rfl, Nat.le_of_ble_eq_true rfl⟩) (gp_V C h [.int x] (Cn := RX1) (T := TX1) (N := 10) rfl x0) rfl rfl hl.1 rfl (lv_room (Nat.le_of_ble_eq_true rfl)) dX1_derived_12 ⟨Nat.le_of_ble_eq_true rfl, Nat.le_of_ble_eq_true rfl⟩) h (fun r_1 w_2 H locs hp h => ?_)
    obtain ⟨er_r_1, ew_r_1⟩ := hp
    rw [er_r_1]
    rw [ew_r_1] at h
    refine lv_if_ne (tgt := 20) hx hb dX1_derived_15 (by decide) (fun c2 => ?_) (fun c2 => ?_)
    · skip
      have c2 : (pgOf pl x).isSome = true := bI_ne0.mp c2
      obtain ⟨k, hk⟩ := Option.isSome_iff_exists.mp c2
      obtain ⟨j, hj, hxj, hxc, hplj⟩ := pgOf_some hk
      have hk64 := i2 j k hj hplj
      rw [hxj] at hl
      refine lv_aload_n hx hb dX1_derived_20 rfl (lv_at hl 0 rfl) ?_
      refine lv_iload_n hx hb dX1_derived_21 rfl (lv_at hl 1 rfl) ?_
      refine gc_q (va_runV (As := [.int (nI j)]) (rest := []) C.fix (m_X1_pageAt l g w v ad cn ru fu ch dk wt ld pl st kp fP fl lb wE sE kE hX hI j k hj hplj) (cwV 1 hts (lw_V q254 q256 qs4 q43 q257) rfl rfl rfl (by decide +kernel) ⟨Nat.le_of_ble_eq_true rfl, Nat.le_of_ble_eq_true rfl⟩) (gp_V C h [.int (nI j)] (Cn := RX1) (T := TX1) (N := 10) rfl x0) rfl rfl hl.1 rfl (lv_room (Nat.le_of_ble_eq_true rfl)) dX1_derived_22 ⟨Nat.le_of_ble_eq_true rfl, Nat.le_of_ble_eq_true rfl⟩) h (fun r_3 w_4 H locs hp h => ?_)
      obtain ⟨a, b, f, ra, xa, fa, fb, hf, gf⟩ := hp
      rw [ra]
      have f_5 : w_4 (ad 0) = some (ob 0 [.ref (ad 1), .int (nI cn), .int (bI ru), .int (bI fu), .ref (ad 2), .ref (ad 3), .int (bI ch), .ref (ad 4), .ref (ad 5), .ref (ad 6)]) := xa.of x0
      have f_6 : w_4 (ad 1) = some (eB g (32 * cn) dk) := xa.of x1
      have f_7 : w_4 (ad 2) = some (eI g 30 fP) := xa.of x2
      have f_8 : w_4 (ad 3) = some (eS g 64 fl) := xa.of x3
      have hX_9 := hX.ext xa
      have hE_10 : Ext w w_4 := XK.trans XK.rfl' xa
      refine lv_astore_n (lv' := [(2, .ref a), (0, .ref (ad 0)), (1, .int (nI j))]) hx hb dX1_derived_25 rfl hl (by decide) rfl (fun ls hl => ?_)
      refine lv_aload_n hx hb dX1_derived_26 rfl (lv_at hl 0 rfl) ?_
      refine gc_i (va_runV (As := []) (rest := []) C.fix (m_X4_kind l g w_4 v a b f fa fb) (cwV 0 hts (lw_V q354 q355 q356 q55 q357) rfl rfl rfl (by decide +kernel) ⟨Nat.le_of_ble_eq_true rfl, Nat.le_of_ble_eq_true rfl⟩) (gp_V C h [] (Cn := RX4) (T := TX4) (N := 1) rfl fa) rfl rfl hl.1 rfl (lv_room (Nat.le_of_ble_eq_true rfl)) dX1_derived_27 ⟨Nat.le_of_ble_eq_true rfl, Nat.le_of_ble_eq_true rfl⟩) h (fun r_11 w_12 H locs hp h => ?_)
      obtain ⟨er_r_11, ew_r_11⟩ := hp
      rw [er_r_11]
      rw [ew_r_11] at h
      rw [hf 4 (by omega)]
      refine lv_iconst (v := nI 3) hx hb dX1_derived_30 (by decide) ?_
      refine lv_icmp_eq (tgt := 36) hx hb dX1_derived_31 (by decide) (fun c3 => ?_) (fun c3 => ?_)
      · skip
        refine lv_aload_n hx hb dX1_derived_36 rfl (lv_at hl 0 rfl) ?_
        refine gc_i (va_runV (As := []) (rest := []) C.fix (m_X4_source l g w_4 v a b f fa fb) (cwV 0 hts (lw_V q442 q443 q444 q55 q445) rfl rfl rfl (by decide +kernel) ⟨Nat.le_of_ble_eq_true rfl, Nat.le_of_ble_eq_true rfl⟩) (gp_V C h [] (Cn := RX4) (T := TX4) (N := 1) rfl fa) rfl rfl hl.1 rfl (lv_room (Nat.le_of_ble_eq_true rfl)) dX1_derived_37 ⟨Nat.le_of_ble_eq_true rfl, Nat.le_of_ble_eq_true rfl⟩) h (fun r_13 w_14 H locs hp h => ?_)
        obtain ⟨er_r_13, ew_r_13⟩ := hp
        rw [er_r_13]
        rw [ew_r_13] at h
        rw [hf 6 (by omega)]
        refine lv_istore_n (lv' := [(3, .int (ub (cur dk wt ld k 6))), (2, .ref a), (0, .ref (ad 0)), (1, .int (nI j))]) hx hb dX1_derived_40 rfl hl (by decide) rfl (fun ls hl => ?_)
        refine lv_aload_n hx hb dX1_derived_41 rfl (lv_at hl 2 rfl) ?_
        refine lv_iload_n hx hb dX1_derived_42 rfl (lv_at hl 0 rfl) ?_
        refine gc_i (va_runV (As := [.int (ub (cur dk wt ld k 6))]) (rest := []) C.fix (m_X1_isPage l g w_4 v ad cn ru fu ch dk wt ld pl st kp fP fl lb wE sE kE hX_9 hI (ub (cur dk wt ld k 6))) (cwV 1 hts (lw_V q250 q252 qs3 q43 q253) rfl rfl rfl (by decide +kernel) ⟨Nat.le_of_ble_eq_true rfl, Nat.le_of_ble_eq_true rfl⟩) (gp_V C h [.int (ub (cur dk wt ld k 6))] (Cn := RX1) (T := TX1) (N := 10) rfl f_5) rfl rfl hl.1 rfl (lv_room (Nat.le_of_ble_eq_true rfl)) dX1_derived_43 ⟨Nat.le_of_ble_eq_true rfl, Nat.le_of_ble_eq_true rfl⟩) h (fun r_15 w_16 H locs hp h => ?_)
        obtain ⟨er_r_15, ew_r_15⟩ := hp
        rw [er_r_15]
        rw [ew_r_15] at h
        refine lv_if_ne (tgt := 51) hx hb dX1_derived_46 (by decide) (fun c4 => ?_) (fun c4 => ?_)
        · skip
          have c4 : (pgOf pl (ub (cur dk wt ld k 6))).isSome = true := bI_ne0.mp c4
          obtain ⟨k2, hk2⟩ := Option.isSome_iff_exists.mp c4
          obtain ⟨j2, hj2, hxj2, hxc2, hplj2⟩ := pgOf_some hk2
          refine lv_aload_n hx hb dX1_derived_51 rfl (lv_at hl 2 rfl) ?_
          refine lv_iload_n hx hb dX1_derived_52 rfl (lv_at hl 0 rfl) ?_
          refine W.eq (congrArg (fun z_ => F0 m 53 ls [.int z_, .ref (ad 0)]) hxj2) ?_
          refine gc_q (va_runV (As := [.int (nI j2)]) (rest := []) C.fix (m_X1_pageAt l g w_4 v ad cn ru fu ch dk wt ld pl st kp fP fl lb wE sE kE hX_9 hI j2 k2 hj2 hplj2) (cwV 1 hts (lw_V q254 q256 qs4 q43 q257) rfl rfl rfl (by decide +kernel) ⟨Nat.le_of_ble_eq_true rfl, Nat.le_of_ble_eq_true rfl⟩) (gp_V C h [.int (nI j2)] (Cn := RX1) (T := TX1) (N := 10) rfl f_5) rfl rfl hl.1 rfl (lv_room (Nat.le_of_ble_eq_true rfl)) dX1_derived_53 ⟨Nat.le_of_ble_eq_true rfl, Nat.le_of_ble_eq_true rfl⟩) h (fun r_17 w_18 H locs hp h => ?_)
          obtain ⟨a2, b2, f2, ra2, xa2, fa2, fb2, hf2, gf2⟩ := hp
          rw [ra2]
          have f_19 : w_18 (ad 0) = some (ob 0 [.ref (ad 1), .int (nI cn), .int (bI ru), .int (bI fu), .ref (ad 2), .ref (ad 3), .int (bI ch), .ref (ad 4), .ref (ad 5), .ref (ad 6)]) := xa2.of f_5
          have f_20 : w_18 (ad 1) = some (eB g (32 * cn) dk) := xa2.of f_6
          have f_21 : w_18 (ad 2) = some (eI g 30 fP) := xa2.of f_7
          have f_22 : w_18 (ad 3) = some (eS g 64 fl) := xa2.of f_8
          have f_23 : w_18 a = some (ob 1 [.ref b]) := xa2.of fa
          have f_24 : w_18 b = some (eB g 32 f) := xa2.of fb
          have hX_25 := hX_9.ext xa2
          have hE_26 : Ext w w_18 := XK.trans hE_10 xa2
          refine gc_l (va_runV (As := []) (rest := []) C.fix (m_X4_value l g w_18 v a2 b2 f2 fa2 fb2) (cwV 0 hts (lw_V q362 q363 q364 q55 q365) rfl rfl rfl (by decide +kernel) ⟨Nat.le_of_ble_eq_true rfl, Nat.le_of_ble_eq_true rfl⟩) (gp_V C h [] (Cn := RX4) (T := TX4) (N := 1) rfl fa2) rfl rfl hl.1 rfl (lv_room (Nat.le_of_ble_eq_true rfl)) dX1_derived_56 ⟨Nat.le_of_ble_eq_true rfl, Nat.le_of_ble_eq_true rfl⟩) h (fun r_27 w_28 H locs hp h => ?_)
          obtain ⟨er_r_27, ew_r_27⟩ := hp
          rw [er_r_27]
          rw [ew_r_27] at h
          rw [wideB_c hf2]
          refine gc_l (va_runS (As := [.long (wideB (cur dk wt ld k2) 8)]) (rest := []) C.fix (m_X1_derivedFrom l g w_18 v (wideB (cur dk wt ld k2) 8)) (va_cwS 1 hts (lw_S q375 q376 q43 q377) rfl rfl rfl (by decide +kernel) ⟨Nat.le_of_ble_eq_true rfl, Nat.le_of_ble_eq_true rfl⟩) (gp_S C h _) rfl rfl hl.1 rfl (lv_room (Nat.le_of_ble_eq_true rfl)) dX1_derived_59 ⟨Nat.le_of_ble_eq_true rfl, Nat.le_of_ble_eq_true rfl⟩) h (fun r_29 w_30 H locs hp h => ?_)
          obtain ⟨er_r_29, ew_r_29⟩ := hp
          rw [er_r_29]
          rw [ew_r_29] at h
          refine lv_lstore (lv' := [(4, .long (turnL (wideB (cur dk wt ld k2) 8))), (3, .int (ub (cur dk wt ld k 6))), (2, .ref a), (0, .ref (ad 0)), (1, .int (nI j))]) hx hb dX1_derived_62 hl (by decide) rfl (fun ls hl => ?_)
          refine lv_aload_n hx hb dX1_derived_64 rfl (lv_at hl 3 rfl) ?_
          refine gx_get C h f_19 (Cn := RX1) (T := TX1) (N := 10) rfl in_X1 5 (by decide) q220 rfl rfl dX1_derived_65 ?_
          refine lv_aload_n hx hb dX1_derived_68 rfl (lv_at hl 3 rfl) ?_
          refine gx_get C h f_19 (Cn := RX1) (T := TX1) (N := 10) rfl in_X1 4 (by decide) q219 rfl rfl dX1_derived_69 ?_
          refine lv_iload_n hx hb dX1_derived_72 rfl (lv_at hl 4 rfl) ?_
          refine gx_iald C h f_21 j (rfl) (by omega) dX1_derived_73 ?_
          rw [hpl j hj, hplj]
          refine gx_aald C h 4 rfl f_22 k (rfl) (by omega) dX1_derived_74 ?_
          obtain ⟨o_, hld⟩ : ∃ o_, ld k = o_ := ⟨_, rfl⟩
          cases o_ with
          | some d =>
            obtain ⟨s0, f0, l1, -, -, -⟩ := (hLL k (by omega)).2 d hld
            rw [l1]
            refine lv_ifnull hx hb dX1_derived_75 ?_
            refine lv_aload_n hx hb dX1_derived_78 rfl (lv_at hl 2 rfl) ?_
            refine gc_l (va_runV (As := []) (rest := []) C.fix (m_X4_value l g w_18 v a b f f_23 f_24) (cwV 0 hts (lw_V q362 q363 q364 q55 q365) rfl rfl rfl (by decide +kernel) ⟨Nat.le_of_ble_eq_true rfl, Nat.le_of_ble_eq_true rfl⟩) (gp_V C h [] (Cn := RX4) (T := TX4) (N := 1) rfl f_23) rfl rfl hl.1 rfl (lv_room (Nat.le_of_ble_eq_true rfl)) dX1_derived_79 ⟨Nat.le_of_ble_eq_true rfl, Nat.le_of_ble_eq_true rfl⟩) h (fun r_31 w_32 H locs hp h => ?_)
            obtain ⟨er_r_31, ew_r_31⟩ := hp
            rw [er_r_31]
            rw [ew_r_31] at h
            rw [wideB_c hf]
            refine lv_lload hx hb dX1_derived_82 (lv_at hl 0 rfl) ?_
            refine W.lcmp hx hb dX1_derived_84 ?_
            refine lv_if_ne (tgt := 110) hx hb dX1_derived_85 (by decide) (fun c8 => ?_) (fun c8 => ?_)
            · skip
              refine lv_aload_n hx hb dX1_derived_110 rfl (lv_at hl 3 rfl) ?_
              refine lv_iconst (v := nI 3) hx hb dX1_derived_111 (by decide) ?_
              refine lv_iload_n hx hb dX1_derived_112 rfl (lv_at hl 4 rfl) ?_
              refine lv_iload_n hx hb dX1_derived_113 rfl (lv_at hl 1 rfl) ?_
              refine lv_lload hx hb dX1_derived_114 (lv_at hl 0 rfl) ?_
              refine gc_i (va_runV (As := [.int (nI 3), .int (nI j), .int (ub (cur dk wt ld k 6)), .long (turnL (wideB (cur dk wt ld k2) 8))]) (rest := []) C.fix (m_X1_lay l g w_18 v ad cn ru fu ch dk wt ld pl st kp fP fl lb wE sE kE hX_25 hI (nI 3) (some j) (ub (cur dk wt ld k 6)) (turnL (wideB (cur dk wt ld k2) 8)) (fun q hq => by cases hq; exact hj) (nI j) rfl) (cwV 4 hts (lw_V q382 q384 qs10 q43 q385) rfl rfl rfl (by decide +kernel) ⟨Nat.le_of_ble_eq_true rfl, Nat.le_of_ble_eq_true rfl⟩) (gp_V C h [.int (nI 3), .int (nI j), .int (ub (cur dk wt ld k 6)), .long (turnL (wideB (cur dk wt ld k2) 8))] (Cn := RX1) (T := TX1) (N := 10) rfl f_19) rfl rfl hl.1 rfl (lv_room (Nat.le_of_ble_eq_true rfl)) dX1_derived_116 ⟨Nat.le_of_ble_eq_true rfl, Nat.le_of_ble_eq_true rfl⟩) h (fun r_33 w_34 H locs hp h => ?_)
              obtain ⟨p1, p2⟩ := hp
              refine lv_istore (lv' := [(6, .int r_33), (4, .long (turnL (wideB (cur dk wt ld k2) 8))), (3, .int (ub (cur dk wt ld k 6))), (2, .ref a), (0, .ref (ad 0)), (1, .int (nI j))]) hx hb dX1_derived_119 hl (by decide) rfl (fun ls hl => ?_)
              refine lv_iload hx hb dX1_derived_121 (lv_at hl 0 rfl) ?_
              refine lv_bipush (v := (-4)) hx hb dX1_derived_123 (by decide) ?_
              have eq : opDerived (cn, ru, fu, ch, dk, wt, ld, pl, st, kp) x = (if (layF (cn, ru, fu, ch, dk, wt, ld, pl, st, kp) (nI 3) (some j) (ub (cur dk wt ld k 6)) (turnL (wideB (cur dk wt ld k2) 8))).1 = -4 then -4 else 1, (layF (cn, ru, fu, ch, dk, wt, ld, pl, st, kp) (nI 3) (some j) (ub (cur dk wt ld k 6)) (turnL (wideB (cur dk wt ld k2) 8))).2) := by unfold opDerived; dsimp only; rw [if_neg (show ¬ ru = false by rw [c1]; decide), hk]; dsimp only; rw [if_pos c3, hk2]; dsimp only; rw [if_neg (fun q => c8 ((lg_cmp_eq _ _).mpr q.2)), hxc]
              refine lv_icmp_ne (tgt := 133) hx hb dX1_derived_125 (by decide) (fun c9 => ?_) (fun c9 => ?_)
              · skip
                refine lv_iconst (v := nI 1) hx hb dX1_derived_133 (by decide) ?_
                exact gr_i C h (ty := .int) rfl (rfl) (by rw [eq]; exact ⟨(if_neg (fun q => c9 (p1.trans q))).symm, p2⟩) (Nat.le_of_ble_eq_true rfl) (Nat.le_of_ble_eq_true rfl) dX1_derived_134
              · skip
                refine lv_bipush (v := (-4)) hx hb dX1_derived_128 (by decide) ?_
                refine lv_goto (tgt := 134) hx hb dX1_derived_130 (by decide) ?_
                exact gr_i C h (ty := .int) rfl (rfl) (by rw [eq]; exact ⟨(if_pos (p1.symm.trans c9)).symm, p2⟩) (Nat.le_of_ble_eq_true rfl) (Nat.le_of_ble_eq_true rfl) dX1_derived_134
            · skip
              refine lv_goto (tgt := 108) hx hb dX1_derived_88 (by decide) ?_
              refine lv_iconst (v := nI 0) hx hb dX1_derived_108 (by decide) ?_
              have eq : opDerived (cn, ru, fu, ch, dk, wt, ld, pl, st, kp) x = (0, (cn, ru, fu, ch, dk, wt, ld, pl, st, kp)) := by unfold opDerived; dsimp only; rw [if_neg (show ¬ ru = false by rw [c1]; decide), hk]; dsimp only; rw [if_pos c3, hk2]; dsimp only; rw [if_pos ⟨Or.inl (by rw [hld]; rfl), (lg_cmp_eq _ _).mp c8⟩]
              exact gr_i C h (ty := .int) rfl (rfl) (by rw [eq]; exact ⟨rfl, fP, fl, lb, wE, sE, kE, hX_25⟩) (Nat.le_of_ble_eq_true rfl) (Nat.le_of_ble_eq_true rfl) dX1_derived_109
          | none =>
            have l1 := (hLL k (by omega)).1 hld
            rw [l1]
            have gf2 := gf hld
            refine lv_ifnullN (tgt := 91) hx hb dX1_derived_75 (by decide) ?_
            refine lv_aload_n hx hb dX1_derived_91 rfl (lv_at hl 2 rfl) ?_
            refine gc_i (va_runV (As := []) (rest := []) C.fix (m_X4_isRight l g w_18 v a b f f_23 f_24) (cwV 0 hts (lw_V q446 q447 q448 q55 q449) rfl rfl rfl (by decide +kernel) ⟨Nat.le_of_ble_eq_true rfl, Nat.le_of_ble_eq_true rfl⟩) (gp_V C h [] (Cn := RX4) (T := TX4) (N := 1) rfl f_23) rfl rfl hl.1 rfl (lv_room (Nat.le_of_ble_eq_true rfl)) dX1_derived_92 ⟨Nat.le_of_ble_eq_true rfl, Nat.le_of_ble_eq_true rfl⟩) h (fun r_35 w_36 H locs hp h => ?_)
            obtain ⟨er_r_35, ew_r_35⟩ := hp
            rw [er_r_35]
            rw [ew_r_35] at h
            refine lv_if_eq (tgt := 110) hx hb dX1_derived_95 (by decide) (fun c7 => ?_) (fun c7 => ?_)
            · skip
              have c7 : rightB f = false := bI_eq0.mp c7
              refine lv_aload_n hx hb dX1_derived_110 rfl (lv_at hl 3 rfl) ?_
              refine lv_iconst (v := nI 3) hx hb dX1_derived_111 (by decide) ?_
              refine lv_iload_n hx hb dX1_derived_112 rfl (lv_at hl 4 rfl) ?_
              refine lv_iload_n hx hb dX1_derived_113 rfl (lv_at hl 1 rfl) ?_
              refine lv_lload hx hb dX1_derived_114 (lv_at hl 0 rfl) ?_
              refine gc_i (va_runV (As := [.int (nI 3), .int (nI j), .int (ub (cur dk wt ld k 6)), .long (turnL (wideB (cur dk wt ld k2) 8))]) (rest := []) C.fix (m_X1_lay l g w_18 v ad cn ru fu ch dk wt ld pl st kp fP fl lb wE sE kE hX_25 hI (nI 3) (some j) (ub (cur dk wt ld k 6)) (turnL (wideB (cur dk wt ld k2) 8)) (fun q hq => by cases hq; exact hj) (nI j) rfl) (cwV 4 hts (lw_V q382 q384 qs10 q43 q385) rfl rfl rfl (by decide +kernel) ⟨Nat.le_of_ble_eq_true rfl, Nat.le_of_ble_eq_true rfl⟩) (gp_V C h [.int (nI 3), .int (nI j), .int (ub (cur dk wt ld k 6)), .long (turnL (wideB (cur dk wt ld k2) 8))] (Cn := RX1) (T := TX1) (N := 10) rfl f_19) rfl rfl hl.1 rfl (lv_room (Nat.le_of_ble_eq_true rfl)) dX1_derived_116 ⟨Nat.le_of_ble_eq_true rfl, Nat.le_of_ble_eq_true rfl⟩) h (fun r_37 w_38 H locs hp h => ?_)
              obtain ⟨p1, p2⟩ := hp
              refine lv_istore (lv' := [(6, .int r_37), (4, .long (turnL (wideB (cur dk wt ld k2) 8))), (3, .int (ub (cur dk wt ld k 6))), (2, .ref a), (0, .ref (ad 0)), (1, .int (nI j))]) hx hb dX1_derived_119 hl (by decide) rfl (fun ls hl => ?_)
              refine lv_iload hx hb dX1_derived_121 (lv_at hl 0 rfl) ?_
              refine lv_bipush (v := (-4)) hx hb dX1_derived_123 (by decide) ?_
              have eq : opDerived (cn, ru, fu, ch, dk, wt, ld, pl, st, kp) x = (if (layF (cn, ru, fu, ch, dk, wt, ld, pl, st, kp) (nI 3) (some j) (ub (cur dk wt ld k 6)) (turnL (wideB (cur dk wt ld k2) 8))).1 = -4 then -4 else 1, (layF (cn, ru, fu, ch, dk, wt, ld, pl, st, kp) (nI 3) (some j) (ub (cur dk wt ld k 6)) (turnL (wideB (cur dk wt ld k2) 8))).2) := by unfold opDerived; dsimp only; rw [if_neg (show ¬ ru = false by rw [c1]; decide), hk]; dsimp only; rw [if_pos c3, hk2]; dsimp only; rw [if_neg (fun q => by rw [hld, ← gf2, c7] at q; exact absurd q.1 (by decide)), hxc]
              refine lv_icmp_ne (tgt := 133) hx hb dX1_derived_125 (by decide) (fun c9 => ?_) (fun c9 => ?_)
              · skip
                refine lv_iconst (v := nI 1) hx hb dX1_derived_133 (by decide) ?_
                exact gr_i C h (ty := .int) rfl (rfl) (by rw [eq]; exact ⟨(if_neg (fun q => c9 (p1.trans q))).symm, p2⟩) (Nat.le_of_ble_eq_true rfl) (Nat.le_of_ble_eq_true rfl) dX1_derived_134
              · skip
                refine lv_bipush (v := (-4)) hx hb dX1_derived_128 (by decide) ?_
                refine lv_goto (tgt := 134) hx hb dX1_derived_130 (by decide) ?_
                exact gr_i C h (ty := .int) rfl (rfl) (by rw [eq]; exact ⟨(if_pos (p1.symm.trans c9)).symm, p2⟩) (Nat.le_of_ble_eq_true rfl) (Nat.le_of_ble_eq_true rfl) dX1_derived_134
            · skip
              have c7 : rightB f = true := bI_ne0.mp c7
              refine lv_aload_n hx hb dX1_derived_98 rfl (lv_at hl 2 rfl) ?_
              refine gc_l (va_runV (As := []) (rest := []) C.fix (m_X4_value l g w_18 v a b f f_23 f_24) (cwV 0 hts (lw_V q362 q363 q364 q55 q365) rfl rfl rfl (by decide +kernel) ⟨Nat.le_of_ble_eq_true rfl, Nat.le_of_ble_eq_true rfl⟩) (gp_V C h [] (Cn := RX4) (T := TX4) (N := 1) rfl f_23) rfl rfl hl.1 rfl (lv_room (Nat.le_of_ble_eq_true rfl)) dX1_derived_99 ⟨Nat.le_of_ble_eq_true rfl, Nat.le_of_ble_eq_true rfl⟩) h (fun r_39 w_40 H locs hp h => ?_)
              obtain ⟨er_r_39, ew_r_39⟩ := hp
              rw [er_r_39]
              rw [ew_r_39] at h
              rw [wideB_c hf]
              refine lv_lload hx hb dX1_derived_102 (lv_at hl 0 rfl) ?_
              refine W.lcmp hx hb dX1_derived_104 ?_
              refine lv_if_ne (tgt := 110) hx hb dX1_derived_105 (by decide) (fun c8 => ?_) (fun c8 => ?_)
              · skip
                refine lv_aload_n hx hb dX1_derived_110 rfl (lv_at hl 3 rfl) ?_
                refine lv_iconst (v := nI 3) hx hb dX1_derived_111 (by decide) ?_
                refine lv_iload_n hx hb dX1_derived_112 rfl (lv_at hl 4 rfl) ?_
                refine lv_iload_n hx hb dX1_derived_113 rfl (lv_at hl 1 rfl) ?_
                refine lv_lload hx hb dX1_derived_114 (lv_at hl 0 rfl) ?_
                refine gc_i (va_runV (As := [.int (nI 3), .int (nI j), .int (ub (cur dk wt ld k 6)), .long (turnL (wideB (cur dk wt ld k2) 8))]) (rest := []) C.fix (m_X1_lay l g w_18 v ad cn ru fu ch dk wt ld pl st kp fP fl lb wE sE kE hX_25 hI (nI 3) (some j) (ub (cur dk wt ld k 6)) (turnL (wideB (cur dk wt ld k2) 8)) (fun q hq => by cases hq; exact hj) (nI j) rfl) (cwV 4 hts (lw_V q382 q384 qs10 q43 q385) rfl rfl rfl (by decide +kernel) ⟨Nat.le_of_ble_eq_true rfl, Nat.le_of_ble_eq_true rfl⟩) (gp_V C h [.int (nI 3), .int (nI j), .int (ub (cur dk wt ld k 6)), .long (turnL (wideB (cur dk wt ld k2) 8))] (Cn := RX1) (T := TX1) (N := 10) rfl f_19) rfl rfl hl.1 rfl (lv_room (Nat.le_of_ble_eq_true rfl)) dX1_derived_116 ⟨Nat.le_of_ble_eq_true rfl, Nat.le_of_ble_eq_true rfl⟩) h (fun r_41 w_42 H locs hp h => ?_)
                obtain ⟨p1, p2⟩ := hp
                refine lv_istore (lv' := [(6, .int r_41), (4, .long (turnL (wideB (cur dk wt ld k2) 8))), (3, .int (ub (cur dk wt ld k 6))), (2, .ref a), (0, .ref (ad 0)), (1, .int (nI j))]) hx hb dX1_derived_119 hl (by decide) rfl (fun ls hl => ?_)
                refine lv_iload hx hb dX1_derived_121 (lv_at hl 0 rfl) ?_
                refine lv_bipush (v := (-4)) hx hb dX1_derived_123 (by decide) ?_
                have eq : opDerived (cn, ru, fu, ch, dk, wt, ld, pl, st, kp) x = (if (layF (cn, ru, fu, ch, dk, wt, ld, pl, st, kp) (nI 3) (some j) (ub (cur dk wt ld k 6)) (turnL (wideB (cur dk wt ld k2) 8))).1 = -4 then -4 else 1, (layF (cn, ru, fu, ch, dk, wt, ld, pl, st, kp) (nI 3) (some j) (ub (cur dk wt ld k 6)) (turnL (wideB (cur dk wt ld k2) 8))).2) := by unfold opDerived; dsimp only; rw [if_neg (show ¬ ru = false by rw [c1]; decide), hk]; dsimp only; rw [if_pos c3, hk2]; dsimp only; rw [if_neg (fun q => c8 ((lg_cmp_eq _ _).mpr q.2)), hxc]
                refine lv_icmp_ne (tgt := 133) hx hb dX1_derived_125 (by decide) (fun c9 => ?_) (fun c9 => ?_)
                · skip
                  refine lv_iconst (v := nI 1) hx hb dX1_derived_133 (by decide) ?_
                  exact gr_i C h (ty := .int) rfl (rfl) (by rw [eq]; exact ⟨(if_neg (fun q => c9 (p1.trans q))).symm, p2⟩) (Nat.le_of_ble_eq_true rfl) (Nat.le_of_ble_eq_true rfl) dX1_derived_134
                · skip
                  refine lv_bipush (v := (-4)) hx hb dX1_derived_128 (by decide) ?_
                  refine lv_goto (tgt := 134) hx hb dX1_derived_130 (by decide) ?_
                  exact gr_i C h (ty := .int) rfl (rfl) (by rw [eq]; exact ⟨(if_pos (p1.symm.trans c9)).symm, p2⟩) (Nat.le_of_ble_eq_true rfl) (Nat.le_of_ble_eq_true rfl) dX1_derived_134
              · skip
                refine lv_iconst (v := nI 0) hx hb dX1_derived_108 (by decide) ?_
                have eq : opDerived (cn, ru, fu, ch, dk, wt, ld, pl, st, kp) x = (0, (cn, ru, fu, ch, dk, wt, ld, pl, st, kp)) := by unfold opDerived; dsimp only; rw [if_neg (show ¬ ru = false by rw [c1]; decide), hk]; dsimp only; rw [if_pos c3, hk2]; dsimp only; rw [if_pos ⟨Or.inr (by rw [← gf2]; exact c7), (lg_cmp_eq _ _).mp c8⟩]
                exact gr_i C h (ty := .int) rfl (rfl) (by rw [eq]; exact ⟨rfl, fP, fl, lb, wE, sE, kE, hX_25⟩) (Nat.le_of_ble_eq_true rfl) (Nat.le_of_ble_eq_true rfl) dX1_derived_109
        · skip
          have c4 : (pgOf pl (ub (cur dk wt ld k 6))).isSome = false := bI_eq0.mp c4
          have hk2 : pgOf pl (ub (cur dk wt ld k 6)) = none := Option.not_isSome_iff_eq_none.mp (by rw [c4]; decide)
          refine lv_iconst (v := nI 0) hx hb dX1_derived_49 (by decide) ?_
          have eq : opDerived (cn, ru, fu, ch, dk, wt, ld, pl, st, kp) x = (0, (cn, ru, fu, ch, dk, wt, ld, pl, st, kp)) := by unfold opDerived; dsimp only; rw [if_neg (show ¬ ru = false by rw [c1]; decide), hk]; dsimp only; rw [if_pos c3, hk2]
          exact gr_i C h (ty := .int) rfl (rfl) (by rw [eq]; exact ⟨rfl, fP, fl, lb, wE, sE, kE, hX_9⟩) (Nat.le_of_ble_eq_true rfl) (Nat.le_of_ble_eq_true rfl) dX1_derived_50
      · skip
        refine lv_iconst (v := (-1)) hx hb dX1_derived_34 (by decide) ?_
        have eq : opDerived (cn, ru, fu, ch, dk, wt, ld, pl, st, kp) x = (-1, (cn, ru, fu, ch, dk, wt, ld, pl, st, kp)) := by unfold opDerived; dsimp only; rw [if_neg (show ¬ ru = false by rw [c1]; decide), hk]; dsimp only; rw [if_neg c3]
        exact gr_i C h (ty := .int) rfl (rfl) (by rw [eq]; exact ⟨rfl, fP, fl, lb, wE, sE, kE, hX_9⟩) (Nat.le_of_ble_eq_true rfl) (Nat.le_of_ble_eq_true rfl) dX1_derived_35
    · skip
      have c2 : (pgOf pl x).isSome = false := bI_eq0.mp c2
      have hk : pgOf pl x = none := Option.not_isSome_iff_eq_none.mp (by rw [c2]; decide)
      refine lv_iconst (v := (-1)) hx hb dX1_derived_18 (by decide) ?_
      have eq : opDerived (cn, ru, fu, ch, dk, wt, ld, pl, st, kp) x = (-1, (cn, ru, fu, ch, dk, wt, ld, pl, st, kp)) := by unfold opDerived; dsimp only; rw [if_neg (show ¬ ru = false by rw [c1]; decide), hk]
      exact gr_i C h (ty := .int) rfl (rfl) (by rw [eq]; exact ⟨rfl, fP, fl, lb, wE, sE, kE, hX⟩) (Nat.le_of_ble_eq_true rfl) (Nat.le_of_ble_eq_true rfl) dX1_derived_19
  · skip
    have c1 : ru = false := bI_eq0.mp c1
    refine lv_bipush (v := (-3)) hx hb dX1_derived_7 (by decide) ?_
    have eq : opDerived (cn, ru, fu, ch, dk, wt, ld, pl, st, kp) x = (-3, (cn, ru, fu, ch, dk, wt, ld, pl, st, kp)) := by unfold opDerived; dsimp only; rw [if_pos c1]
    exact gr_i C h (ty := .int) rfl (rfl) (by rw [eq]; exact ⟨rfl, fP, fl, lb, wE, sE, kE, hX⟩) (Nat.le_of_ble_eq_true rfl) (Nat.le_of_ble_eq_true rfl) dX1_derived_9
set_option maxHeartbeats 4000000 in
theorem m_X1_poke (l : Launch) (g : GG) (w v : GW) (ad : Nat → Nat) (cn : Nat) (ru fu ch : Bool) (dk : Sec) (wt : List (Nat × Sec)) (ld : Nat → Option Sec) (pl : Nat → Option Nat) (st kp : List (Int32 × Int64)) (hR : RX g w ad (cn, ru, fu, ch, dk, wt, ld, pl, st, kp)) (hI : InvK (cn, ru, fu, ch, dk, wt, ld, pl, st, kp)) (x i q : Int32)  : Met l yX1_poke (ws_ yX1_poke cX1_poke 5 (some .int)) ({ frames := 6, cells := 1, slots := 4, locals := 360 } : Room) (gP g [.ref (ad 0), .int x, .int i, .int q] w v) (va_Qi (fun (r : Int32) (w' : GW) => r = (opPoke (cn, ru, fu, ch, dk, wt, ld, pl, st, kp) x i q).1 ∧ RX g w' ad (opPoke (cn, ru, fu, ch, dk, wt, ld, pl, st, kp) x i q).2) (gB g v) (gA g)) 1 4 (gA g) := by
  refine gm_of (by decide) (Nat.le_of_ble_eq_true rfl) ?_
  intro p e s m below meth c ls C hnm h hl
  have C : Cx g p s m ([.ref (ad 0), .int x, .int i, .int q] : List Value).toArray meth c cX1_poke 5 RX1 (some .int) := C
  obtain ⟨hx, hb, hml, hown, hts, hr, hlk, hG⟩ := id C
  have hl : lv_has ls 5 [(0, .ref (ad 0)), (1, .int x), (2, .int i), (3, .int q)] := hl
  obtain ⟨fP, fl, lb, wE, sE, kE, hX⟩ := id hR
  obtain ⟨⟨x0, x1, x2, x3⟩, hQW, hQS, hQK, hLL, hLi, hpl, hXD, h8⟩ := id hX
  obtain ⟨i1, i2, i3, i4, i5, i6, i7, i8, i9⟩ := id hI
  have n01 : ad 0 ≠ ad 1 := g_ne x0 x1 (kn_ne (show 0 ≠ 100 + 32 * cn by omega))
  have n02 : ad 0 ≠ ad 2 := g_ne x0 x2 (kn_ne (show 0 ≠ 130 by omega))
  have n03 : ad 0 ≠ ad 3 := g_ne x0 x3 (kn_ne (show 0 ≠ 50 by omega))
  have n12 : ad 1 ≠ ad 2 := g_ne x1 x2 (kn_ne (show 100 + 32 * cn ≠ 130 by omega))
  have n13 : ad 1 ≠ ad 3 := g_ne x1 x3 (kn_ne (show 100 + 32 * cn ≠ 50 by omega))
  have n23 : ad 2 ≠ ad 3 := g_ne x2 x3 (kn_ne (show 130 ≠ 50 by omega))
  refine lv_aload_n hx hb dX1_poke_0 rfl (lv_at hl 0 rfl) ?_
  refine gx_get C h x0 (Cn := RX1) (T := TX1) (N := 10) rfl in_X1 2 (by decide) q217 rfl rfl dX1_poke_1 ?_
  refine lv_if_ne (tgt := 10) hx hb dX1_poke_4 (by decide) (fun c1 => ?_) (fun c1 => ?_)
  · skip
    have c1 : ru = true := bI_ne0.mp c1
    refine lv_aload_n hx hb dX1_poke_10 rfl (lv_at hl 0 rfl) ?_
    refine lv_iload_n hx hb dX1_poke_11 rfl (lv_at hl 1 rfl) ?_
    refine gc_i (va_runV (As := [.int x]) (rest := []) C.fix (m_X1_isPage l g w v ad cn ru fu ch dk wt ld pl st kp fP fl lb wE sE kE hX hI x) (cwV 1 hts (lw_V q250 q252 qs3 q43 q253) rfl rfl rfl (by decide +kernel) ⟨Nat.le_of_ble_eq_true rfl, Nat.le_of_ble_eq_true rfl⟩) (gp_V C h [.int x] (Cn := RX1) (T := TX1) (N := 10) rfl x0) rfl rfl hl.1 rfl (lv_room (Nat.le_of_ble_eq_true rfl)) dX1_poke_12 ⟨Nat.le_of_ble_eq_true rfl, Nat.le_of_ble_eq_true rfl⟩) h (fun r_1 w_2 H locs hp h => ?_)
    obtain ⟨er_r_1, ew_r_1⟩ := hp
    rw [er_r_1]
    rw [ew_r_1] at h
    refine lv_if_ne (tgt := 20) hx hb dX1_poke_15 (by decide) (fun c2 => ?_) (fun c2 => ?_)
    · skip
      have c2 : (pgOf pl x).isSome = true := bI_ne0.mp c2
      obtain ⟨k, hk⟩ := Option.isSome_iff_exists.mp c2
      obtain ⟨j, hj, hxj, hxc, hplj⟩ := pgOf_some hk
      have hk64 := i2 j k hj hplj
      rw [hxj] at hl
      refine lv_iload_n hx hb dX1_poke_20 rfl (lv_at hl 2 rfl) ?_
      refine lv_if_lt (tgt := 42) hx hb dX1_poke_21 (by decide) (fun c3 => ?_) (fun c3 => ?_)
      · skip
        refine lv_bipush (v := (-2)) hx hb dX1_poke_42 (by decide) ?_
        have eq : opPoke (cn, ru, fu, ch, dk, wt, ld, pl, st, kp) x i q = (-2, (cn, ru, fu, ch, dk, wt, ld, pl, st, kp)) := by unfold opPoke; dsimp only; rw [if_neg (show ¬ ru = false by rw [c1]; decide), hk]; dsimp only; rw [if_pos (Or.inl c3)]
        exact gr_i C h (ty := .int) rfl (rfl) (by rw [eq]; exact ⟨rfl, fP, fl, lb, wE, sE, kE, hX⟩) (Nat.le_of_ble_eq_true rfl) (Nat.le_of_ble_eq_true rfl) dX1_poke_44
      · skip
        refine lv_iload_n hx hb dX1_poke_24 rfl (lv_at hl 2 rfl) ?_
        refine lv_bipush (v := nI 32) hx hb dX1_poke_25 (by decide) ?_
        refine lv_icmp_ge (tgt := 42) hx hb dX1_poke_27 (by decide) (fun c4 => ?_) (fun c4 => ?_)
        · skip
          refine lv_bipush (v := (-2)) hx hb dX1_poke_42 (by decide) ?_
          have eq : opPoke (cn, ru, fu, ch, dk, wt, ld, pl, st, kp) x i q = (-2, (cn, ru, fu, ch, dk, wt, ld, pl, st, kp)) := by unfold opPoke; dsimp only; rw [if_neg (show ¬ ru = false by rw [c1]; decide), hk]; dsimp only; rw [if_pos (Or.inr (Or.inl c4))]
          exact gr_i C h (ty := .int) rfl (rfl) (by rw [eq]; exact ⟨rfl, fP, fl, lb, wE, sE, kE, hX⟩) (Nat.le_of_ble_eq_true rfl) (Nat.le_of_ble_eq_true rfl) dX1_poke_44
        · skip
          refine lv_iload_n hx hb dX1_poke_30 rfl (lv_at hl 3 rfl) ?_
          refine lv_iconst (v := nI 1) hx hb dX1_poke_31 (by decide) ?_
          refine lv_icmp_lt (tgt := 42) hx hb dX1_poke_32 (by decide) (fun c5 => ?_) (fun c5 => ?_)
          · skip
            refine lv_bipush (v := (-2)) hx hb dX1_poke_42 (by decide) ?_
            have eq : opPoke (cn, ru, fu, ch, dk, wt, ld, pl, st, kp) x i q = (-2, (cn, ru, fu, ch, dk, wt, ld, pl, st, kp)) := by unfold opPoke; dsimp only; rw [if_neg (show ¬ ru = false by rw [c1]; decide), hk]; dsimp only; rw [if_pos (Or.inr (Or.inr (Or.inl c5)))]
            exact gr_i C h (ty := .int) rfl (rfl) (by rw [eq]; exact ⟨rfl, fP, fl, lb, wE, sE, kE, hX⟩) (Nat.le_of_ble_eq_true rfl) (Nat.le_of_ble_eq_true rfl) dX1_poke_44
          · skip
            refine lv_iload_n hx hb dX1_poke_35 rfl (lv_at hl 3 rfl) ?_
            refine lv_sipush (v := nI 255) hx hb dX1_poke_36 (by decide) ?_
            refine lv_icmp_le (tgt := 45) hx hb dX1_poke_39 (by decide) (fun c6 => ?_) (fun c6 => ?_)
            · skip
              obtain ⟨ii, hii, hiv, hic⟩ : ∃ ii : Nat, ii < 32 ∧ i = nI ii ∧ i.toNatClampNeg = ii := ix32 c3 (Int32.not_le.mp c4)
              rw [hiv] at hl
              have hnr : ¬ (i < 0 ∨ nI 32 ≤ i ∨ q < nI 1 ∨ nI 255 < q) := fun z => z.elim c3 (fun z => z.elim c4 (fun z => z.elim c5 (fun z => Int32.not_lt.mpr c6 z)))
              refine lv_aload_n hx hb dX1_poke_45 rfl (lv_at hl 0 rfl) ?_
              refine gx_get C h x0 (Cn := RX1) (T := TX1) (N := 10) rfl in_X1 4 (by decide) q219 rfl rfl dX1_poke_46 ?_
              refine lv_iload_n hx hb dX1_poke_49 rfl (lv_at hl 1 rfl) ?_
              refine gx_iald C h x2 j (rfl) (by omega) dX1_poke_50 ?_
              rw [hpl j hj, hplj]
              refine lv_istore (lv' := [(4, .int (nI k)), (0, .ref (ad 0)), (1, .int (nI j)), (2, .int (nI ii)), (3, .int q)]) hx hb dX1_poke_51 hl (by decide) rfl (fun ls hl => ?_)
              refine lv_aload_n hx hb dX1_poke_53 rfl (lv_at hl 1 rfl) ?_
              refine gx_get C h x0 (Cn := RX1) (T := TX1) (N := 10) rfl in_X1 5 (by decide) q220 rfl rfl dX1_poke_54 ?_
              refine lv_iload hx hb dX1_poke_57 (lv_at hl 0 rfl) ?_
              refine gx_aald C h 4 rfl x3 k (rfl) (by omega) dX1_poke_59 ?_
              obtain ⟨o_, hld⟩ : ∃ o_, ld k = o_ := ⟨_, rfl⟩
              cases o_ with
              | some d =>
                obtain ⟨s0, f0, l1, -, -, -⟩ := (hLL k (by omega)).2 d hld
                rw [l1]
                refine lv_ifnonnull (tgt := 72) hx hb dX1_poke_60 (by decide) ?_
                refine lv_bipush (v := (-3)) hx hb dX1_poke_72 (by decide) ?_
                have eq : opPoke (cn, ru, fu, ch, dk, wt, ld, pl, st, kp) x i q = (-3, (cn, ru, fu, ch, dk, wt, ld, pl, st, kp)) := by unfold opPoke; dsimp only; rw [if_neg (show ¬ ru = false by rw [c1]; decide), hk]; dsimp only; rw [if_neg hnr, if_pos (Or.inl (by rw [hld]; rfl))]
                exact gr_i C h (ty := .int) rfl (rfl) (by rw [eq]; exact ⟨rfl, fP, fl, lb, wE, sE, kE, hX⟩) (Nat.le_of_ble_eq_true rfl) (Nat.le_of_ble_eq_true rfl) dX1_poke_74
              | none =>
                have l1 := (hLL k (by omega)).1 hld
                rw [l1]
                refine lv_ifnonnullN hx hb dX1_poke_60 ?_
                refine lv_aload_n hx hb dX1_poke_63 rfl (lv_at hl 1 rfl) ?_
                refine lv_iload hx hb dX1_poke_64 (lv_at hl 0 rfl) ?_
                refine gc_i (va_runV (As := [.int (nI k)]) (rest := []) C.fix (m_X1_isWaiting l g w v ad cn ru fu ch dk wt ld pl st kp fP fl lb wE sE kE hX hI k (by omega)) (cwV 1 hts (lw_V q554 q556 qs20 q43 q557) rfl rfl rfl (by decide +kernel) ⟨Nat.le_of_ble_eq_true rfl, Nat.le_of_ble_eq_true rfl⟩) (gp_V C h [.int (nI k)] (Cn := RX1) (T := TX1) (N := 10) rfl x0) rfl rfl hl.1 rfl (lv_room (Nat.le_of_ble_eq_true rfl)) dX1_poke_66 ⟨Nat.le_of_ble_eq_true rfl, Nat.le_of_ble_eq_true rfl⟩) h (fun r_3 w_4 H locs hp h => ?_)
                obtain ⟨rw_, xw_⟩ := hp
                rw [rw_]
                have f_5 : w_4 (ad 0) = some (ob 0 [.ref (ad 1), .int (nI cn), .int (bI ru), .int (bI fu), .ref (ad 2), .ref (ad 3), .int (bI ch), .ref (ad 4), .ref (ad 5), .ref (ad 6)]) := xw_.of x0
                have f_6 : w_4 (ad 1) = some (eB g (32 * cn) dk) := xw_.of x1
                have f_7 : w_4 (ad 2) = some (eI g 30 fP) := xw_.of x2
                have f_8 : w_4 (ad 3) = some (eS g 64 fl) := xw_.of x3
                have hX_9 := hX.ext xw_
                have hE_10 : Ext w w_4 := XK.trans XK.rfl' xw_
                refine lv_if_eq (tgt := 75) hx hb dX1_poke_69 (by decide) (fun c8 => ?_) (fun c8 => ?_)
                · skip
                  have c8 : (wt.any (fun x => decide (x.1 = k))) = false := bI_eq0.mp c8
                  have hK0 : XK (fun z => z ≠ 100 + 32 * cn) w w_4 := Ext.xk hE_10
                  refine lv_aload_n hx hb dX1_poke_75 rfl (lv_at hl 1 rfl) ?_
                  refine gx_get C h f_5 (Cn := RX1) (T := TX1) (N := 10) rfl in_X1 0 (by decide) q215 rfl rfl dX1_poke_76 ?_
                  refine lv_bipush (v := nI 32) hx hb dX1_poke_79 (by decide) ?_
                  refine lv_iload hx hb dX1_poke_81 (lv_at hl 0 rfl) ?_
                  refine gn_imul hx hb dX1_poke_83 ?_
                  refine lv_iload_n hx hb dX1_poke_84 rfl (lv_at hl 3 rfl) ?_
                  refine gn_iadd hx hb dX1_poke_85 ?_
                  refine lv_dup2_11 hx hb dX1_poke_86 rfl rfl ?_
                  refine gx_bald C h f_6 ((32 * k) + ii) (rfl) (by omega) dX1_poke_87 ?_
                  refine lv_iload_n hx hb dX1_poke_88 rfl (lv_at hl 4 rfl) ?_
                  refine lv_i2b hx hb dX1_poke_89 rfl ?_
                  refine lv_ixor hx hb dX1_poke_90 ?_
                  refine lv_i2b hx hb dX1_poke_91 rfl ?_
                  refine gx_bast C h f_6 ((32 * k) + ii) (rfl) (by omega) dX1_poke_92 (fun H locs h => ?_)
                  obtain ⟨w_11, ew_11⟩ : ∃ z_ : GW, z_ = gu w_4 (ad 1) (eB g (32 * cn) (va_up dk (32 * k + ii) (((dk (32 * k + ii)).toInt32 ^^^ q.toInt8.toInt32).toInt8.toInt32.toInt8))) := ⟨_, rfl⟩
                  have h : SH g w_11 v s H locs := by rw [ew_11]; exact h
                  have f_12 : w_11 (ad 0) = some (ob 0 [.ref (ad 1), .int (nI cn), .int (bI ru), .int (bI fu), .ref (ad 2), .ref (ad 3), .int (bI ch), .ref (ad 4), .ref (ad 5), .ref (ad 6)]) := by rw [ew_11]; exact (gu_n n01).trans f_5
                  have f_13 : w_11 (ad 1) = some (eB g (32 * cn) (va_up dk (32 * k + ii) (((dk (32 * k + ii)).toInt32 ^^^ q.toInt8.toInt32).toInt8.toInt32.toInt8))) := by rw [ew_11]; exact gu_s
                  have f_14 : w_11 (ad 2) = some (eI g 30 fP) := by rw [ew_11]; exact (gu_n (Ne.symm n12)).trans f_7
                  have f_15 : w_11 (ad 3) = some (eS g 64 fl) := by rw [ew_11]; exact (gu_n (Ne.symm n13)).trans f_8
                  have hK_16 : XK (fun z => z ≠ 100 + 32 * cn) w w_11 := by rw [ew_11]; exact XK.put hK0 f_6 (by simp [kn])
                  have hx8 : ((dk (32 * k + ii)).toInt32 ^^^ q.toInt8.toInt32).toInt8.toInt32.toInt8 = dk (32 * k + ii) ^^^ q.toInt8 := xor8 _ _
                  refine lv_aload_n hx hb dX1_poke_93 rfl (lv_at hl 1 rfl) ?_
                  refine gx_get C h f_12 (Cn := RX1) (T := TX1) (N := 10) rfl in_X1 0 (by decide) q215 rfl rfl dX1_poke_94 ?_
                  refine lv_bipush (v := nI 32) hx hb dX1_poke_97 (by decide) ?_
                  refine lv_iload hx hb dX1_poke_99 (lv_at hl 0 rfl) ?_
                  refine gn_imul hx hb dX1_poke_101 ?_
                  refine lv_iload_n hx hb dX1_poke_102 rfl (lv_at hl 3 rfl) ?_
                  refine gn_iadd hx hb dX1_poke_103 ?_
                  refine gx_bald C h f_13 ((32 * k) + ii) (rfl) (by omega) dX1_poke_104 ?_
                  refine lv_sipush (v := nI 255) hx hb dX1_poke_105 (by decide) ?_
                  refine lv_iand hx hb dX1_poke_108 ?_
                  have eq : opPoke (cn, ru, fu, ch, dk, wt, ld, pl, st, kp) x i q = (ub (dk (32 * k + ii) ^^^ q.toInt8), (cn, ru, fu, ch, va_up dk (32 * k + ii) (dk (32 * k + ii) ^^^ q.toInt8), wt, ld, pl, st, kp)) := by unfold opPoke; dsimp only; rw [if_neg (show ¬ ru = false by rw [c1]; decide), hk]; dsimp only; rw [if_neg hnr, if_neg (fun z => by rw [hld, c8] at z; exact absurd z (by decide)), hic]
                  exact gr_i C h (ty := .int) rfl (rfl) (by rw [eq, ← hx8]; exact ⟨by simp [va_up, ub], fP, fl, lb, wE, sE, kE, hX.core hK_16 (by refine ⟨?_, ?_, ?_, ?_, ?_, ?_, ?_⟩ <;> intro q <;> omega) ⟨f_12, f_13, f_14, f_15⟩ hpl⟩) (Nat.le_of_ble_eq_true rfl) (Nat.le_of_ble_eq_true rfl) dX1_poke_109
                · skip
                  have c8 : (wt.any (fun x => decide (x.1 = k))) = true := bI_ne0.mp c8
                  refine lv_bipush (v := (-3)) hx hb dX1_poke_72 (by decide) ?_
                  have eq : opPoke (cn, ru, fu, ch, dk, wt, ld, pl, st, kp) x i q = (-3, (cn, ru, fu, ch, dk, wt, ld, pl, st, kp)) := by unfold opPoke; dsimp only; rw [if_neg (show ¬ ru = false by rw [c1]; decide), hk]; dsimp only; rw [if_neg hnr, if_pos (Or.inr c8)]
                  exact gr_i C h (ty := .int) rfl (rfl) (by rw [eq]; exact ⟨rfl, fP, fl, lb, wE, sE, kE, hX_9⟩) (Nat.le_of_ble_eq_true rfl) (Nat.le_of_ble_eq_true rfl) dX1_poke_74
            · skip
              refine lv_bipush (v := (-2)) hx hb dX1_poke_42 (by decide) ?_
              have eq : opPoke (cn, ru, fu, ch, dk, wt, ld, pl, st, kp) x i q = (-2, (cn, ru, fu, ch, dk, wt, ld, pl, st, kp)) := by unfold opPoke; dsimp only; rw [if_neg (show ¬ ru = false by rw [c1]; decide), hk]; dsimp only; rw [if_pos (Or.inr (Or.inr (Or.inr (Int32.not_le.mp c6))))]
              exact gr_i C h (ty := .int) rfl (rfl) (by rw [eq]; exact ⟨rfl, fP, fl, lb, wE, sE, kE, hX⟩) (Nat.le_of_ble_eq_true rfl) (Nat.le_of_ble_eq_true rfl) dX1_poke_44
    · skip
      have c2 : (pgOf pl x).isSome = false := bI_eq0.mp c2
      have hk : pgOf pl x = none := Option.not_isSome_iff_eq_none.mp (by rw [c2]; decide)
      refine lv_iconst (v := (-1)) hx hb dX1_poke_18 (by decide) ?_
      have eq : opPoke (cn, ru, fu, ch, dk, wt, ld, pl, st, kp) x i q = (-1, (cn, ru, fu, ch, dk, wt, ld, pl, st, kp)) := by unfold opPoke; dsimp only; rw [if_neg (show ¬ ru = false by rw [c1]; decide), hk]
      exact gr_i C h (ty := .int) rfl (rfl) (by rw [eq]; exact ⟨rfl, fP, fl, lb, wE, sE, kE, hX⟩) (Nat.le_of_ble_eq_true rfl) (Nat.le_of_ble_eq_true rfl) dX1_poke_19
  · skip
    have c1 : ru = false := bI_eq0.mp c1
    refine lv_bipush (v := (-3)) hx hb dX1_poke_7 (by decide) ?_
    have eq : opPoke (cn, ru, fu, ch, dk, wt, ld, pl, st, kp) x i q = (-3, (cn, ru, fu, ch, dk, wt, ld, pl, st, kp)) := by unfold opPoke; dsimp only; rw [if_pos c1]
    exact gr_i C h (ty := .int) rfl (rfl) (by rw [eq]; exact ⟨rfl, fP, fl, lb, wE, sE, kE, hX⟩) (Nat.le_of_ble_eq_true rfl) (Nat.le_of_ble_eq_true rfl) dX1_poke_9
