set_option maxRecDepth 100000
theorem tear_mm (t : Int32) : (if nI 0 < (if nI 32 < t then nI 32 else t) then (if nI 32 < t then nI 32 else t) else nI 0) = nI (tearN t) := by
  by_cases c1 : nI 32 < t
  · rw [if_pos c1, if_pos (by decide)]
    unfold tearN
    rw [if_neg (fun q => absurd (Int32.lt_trans c1 q) (by decide)), if_pos c1]
  · rw [if_neg c1]
    by_cases c2 : nI 0 < t
    · rw [if_pos c2]
      exact (tearN_mid (Int32.le_of_lt c2) (Int32.not_lt.mp c1)).symm
    · rw [if_neg c2]
      by_cases c3 : t < 0
      · unfold tearN
        rw [if_pos c3]
      · have : t = 0 := Int32.le_antisymm (Int32.not_lt.mp c2) (Int32.not_lt.mp c3)
        rw [this]
        decide
set_option maxHeartbeats 4000000 in
theorem m_X1_cut (l : Launch) (g : GG) (w v : GW) (ad : Nat → Nat) (cn : Nat) (ru fu ch : Bool) (dk : Sec) (wt : List (Nat × Sec)) (ld : Nat → Option Sec) (pl : Nat → Option Nat) (st kp : List (Int32 × Int64)) (hR : RX g w ad (cn, ru, fu, ch, dk, wt, ld, pl, st, kp)) (hI : InvK (cn, ru, fu, ch, dk, wt, ld, pl, st, kp)) (q t : Int32)  : Met l yX1_cut (ws_ yX1_cut cX1_cut 4 none) ({ frames := 8, cells := 2, slots := 202, locals := 480 } : Room) (gP g [.ref (ad 0), .int q, .int t] w v) (va_Qv (fun (w' : GW) => RX g w' ad (opCut (cn, ru, fu, ch, dk, wt, ld, pl, st, kp) q t)) (gB g v) (gA g)) 2 202 (gA g) := by
  refine gm_of (by decide) (Nat.le_of_ble_eq_true rfl) ?_
  intro p e s m below meth c ls C hnm h hl
  have C : Cx g p s m ([.ref (ad 0), .int q, .int t] : List Value).toArray meth c cX1_cut 4 RX1 none := C
  obtain ⟨hx, hb, hml, hown, hts, hr, hlk, hG⟩ := id C
  have hl : lv_has ls 4 [(0, .ref (ad 0)), (1, .int q), (2, .int t)] := hl
  obtain ⟨fP, fl, lb, wE, sE, kE, hX⟩ := id hR
  obtain ⟨⟨x0, x1, x2, x3⟩, hQW, hQS, hQK, hLL, hLi, hpl, hXD, h8⟩ := id hX
  obtain ⟨i1, i2, i3, i4, i5, i6, i7, i8, i9⟩ := id hI
  have n01 : ad 0 ≠ ad 1 := g_ne x0 x1 (kn_ne (show 0 ≠ 100 + 32 * cn by omega))
  have n02 : ad 0 ≠ ad 2 := g_ne x0 x2 (kn_ne (show 0 ≠ 130 by omega))
  have n03 : ad 0 ≠ ad 3 := g_ne x0 x3 (kn_ne (show 0 ≠ 50 by omega))
  have n12 : ad 1 ≠ ad 2 := g_ne x1 x2 (kn_ne (show 100 + 32 * cn ≠ 130 by omega))
  have n13 : ad 1 ≠ ad 3 := g_ne x1 x3 (kn_ne (show 100 + 32 * cn ≠ 50 by omega))
  have n23 : ad 2 ≠ ad 3 := g_ne x2 x3 (kn_ne (show 130 ≠ 50 by omega))
  have hw200 : wt.length < 200 := by obtain ⟨n_, f_, hd_, xs_, hD_, hL_⟩ := id hQW; have := hD_.2.2.2.1; have := hD_.2.2.2.2.1; have := hL_.1; omega
  refine lv_aload_n hx hb dX1_cut_0 rfl (lv_at hl 0 rfl) ?_
  refine gx_get C h x0 (Cn := RX1) (T := TX1) (N := 10) rfl in_X1 2 (by decide) q217 rfl rfl dX1_cut_1 ?_
  refine lv_if_ne (tgt := 8) hx hb dX1_cut_4 (by decide) (fun c1 => ?_) (fun c1 => ?_)
  · skip
    have c1 : ru = true := bI_ne0.mp c1
    have fin : ∀ (dk1 : Sec) (wt1 : List (Nat × Sec)) (w1 : GW) (H : Heap) (locs : List Loc) (ls : Array Slot), (dk1 = cutD dk wt q.toNatClampNeg t) → (XW g w1 ad cn ru fu ch dk1 wt1 ld pl st kp fP fl lb wE sE kE) → SH g w1 v s H locs → lv_has ls 4 [(0, .ref (ad 0))] → W p l e ({ frames := 8, cells := 2, slots := 202, locals := 480 } : Room) s m ([.ref (ad 0), .int q, .int t] : List Value).toArray below meth c H locs 0 0 (MQ below (va_Qv (fun (w' : GW) => RX g w' ad (opCut (cn, ru, fu, ch, dk, wt, ld, pl, st, kp) q t)) (gB g v) (gA g)) ([.ref (ad 0), .int q, .int t] : List Value).toArray s 2 202 (gA g)) (F0 m 81 ls []) := by
      intro dk1 wt1 w1 H locs ls hdk hX1 h hl
      obtain ⟨⟨y0, y1, y2, y3⟩, -⟩ := id hX1
      have hK0 : XK (fun k => k ≠ 0) w1 w1 := XK.rfl'
      refine lv_aload_n hx hb dX1_cut_81 rfl (lv_at hl 0 rfl) ?_
      refine lv_iconst (v := bI false) hx hb dX1_cut_82 (by decide) ?_
      refine gx_put C h y0 (Cn := RX1) (T := TX1) (N := 10) (x := .int (bI false)) rfl in_X1 tyX1 tyX1_ok nmX1 2 (by decide) q217 rfl rfl (bI_n _) (bI_f _) (Nat.le_of_ble_eq_true rfl) dX1_cut_83 (fun H locs h => ?_)
      obtain ⟨w_1, ew_1⟩ : ∃ z_ : GW, z_ = gu w1 (ad 0) (ob 0 [.ref (ad 1), .int (nI cn), .int (bI false), .int (bI fu), .ref (ad 2), .ref (ad 3), .int (bI ch), .ref (ad 4), .ref (ad 5), .ref (ad 6)]) := ⟨_, rfl⟩
      have h : SH g w_1 v s H locs := by rw [ew_1]; exact h
      have f_2 : w_1 (ad 0) = some (ob 0 [.ref (ad 1), .int (nI cn), .int (bI false), .int (bI fu), .ref (ad 2), .ref (ad 3), .int (bI ch), .ref (ad 4), .ref (ad 5), .ref (ad 6)]) := by rw [ew_1]; exact gu_s
      have f_3 : w_1 (ad 1) = some (eB g (32 * cn) dk1) := by rw [ew_1]; exact (gu_n (Ne.symm n01)).trans y1
      have f_4 : w_1 (ad 2) = some (eI g 30 fP) := by rw [ew_1]; exact (gu_n (Ne.symm n02)).trans y2
      have f_5 : w_1 (ad 3) = some (eS g 64 fl) := by rw [ew_1]; exact (gu_n (Ne.symm n03)).trans y3
      have hK1 : XK (fun k => k ≠ 0) w1 w_1 := by rw [ew_1]; exact XK.put XK.rfl' y0 (by simp [kn])
      have hX2 : XW g w_1 ad cn false fu ch dk1 wt1 ld pl st kp fP fl lb wE sE kE := hX1.core hK1 (by simp) ⟨f_2, f_3, f_4, f_5⟩ hX1.2.2.2.2.2.2.1
      refine lv_aload_n hx hb dX1_cut_86 rfl (lv_at hl 0 rfl) ?_
      refine gx_new C h (ci := 2) (fs := [.int (nI 0), .long 0]) (Cn := RX2) (T := TX2) (N := 2) rfl in_X2 tyX2 tyX2_ok q133 q134 q50 (fun j hj => by rcases (show j = 0 ∨ j = 1 by omega) with rfl | rfl <;> rfl) (Nat.le_of_ble_eq_true rfl) (Nat.le_of_ble_eq_true rfl) dX1_cut_87 (fun a H hn_6 hn_6v h => ?_)
      obtain ⟨w_7, ew_7⟩ : ∃ z_ : GW, z_ = gu w_1 a (ob 2 [.int (nI 0), .long 0]) := ⟨_, rfl⟩
      have h : SH g w_7 v s H locs := by rw [ew_7]; exact h
      have f_8 : w_7 (ad 0) = some (ob 0 [.ref (ad 1), .int (nI cn), .int (bI false), .int (bI fu), .ref (ad 2), .ref (ad 3), .int (bI ch), .ref (ad 4), .ref (ad 5), .ref (ad 6)]) := by rw [ew_7]; exact (gu_n (g_neN f_2 hn_6)).trans f_2
      have f_9 : w_7 (ad 1) = some (eB g (32 * cn) dk1) := by rw [ew_7]; exact (gu_n (g_neN f_3 hn_6)).trans f_3
      have f_10 : w_7 (ad 2) = some (eI g 30 fP) := by rw [ew_7]; exact (gu_n (g_neN f_4 hn_6)).trans f_4
      have f_11 : w_7 (ad 3) = some (eS g 64 fl) := by rw [ew_7]; exact (gu_n (g_neN f_5 hn_6)).trans f_5
      have f_12 : w_7 a = some (ob 2 [.int (nI 0), .long 0]) := by rw [ew_7]; exact gu_s
      refine lv_dup hx hb dX1_cut_90 rfl ?_
      refine lv_iconst (v := nI 0) hx hb dX1_cut_91 (by decide) ?_
      refine lv_lconst (v := 0) hx hb dX1_cut_92 (by decide) ?_
      refine gc_v (va_runIN (As := [.int (nI 0), .long 0]) (rest := [.ref a, .ref (ad 0)]) C.fix (m_X2_init l g w_7 v a (nI 0) 0 f_12) ⟨va_cnB 2 hts (lw_meth q137) rfl rfl rfl (hG.2.2.1 _ q135 rfl) (hts _ q50) (by decide +kernel) ⟨Nat.le_of_ble_eq_true rfl, Nat.le_of_ble_eq_true rfl⟩, rfl, hts _ q136⟩ (gp_S C h _) rfl rfl hl.1 rfl (lv_room (Nat.le_of_ble_eq_true rfl)) dX1_cut_93 ⟨Nat.le_of_ble_eq_true rfl, Nat.le_of_ble_eq_true rfl⟩) h (fun w_14 H locs hpa h => ?_)
      have xa : Ext w_1 w_14 := by rw [hpa, ew_7]; exact (XK.rfl'.putn hn_6).putn hn_6
      have fa : w_14 a = some (ob 2 [.int (nI 0), .long 0]) := by rw [hpa]; exact gu_s
      have f_15 : w_14 (ad 0) = some (ob 0 [.ref (ad 1), .int (nI cn), .int (bI false), .int (bI fu), .ref (ad 2), .ref (ad 3), .int (bI ch), .ref (ad 4), .ref (ad 5), .ref (ad 6)]) := xa.of f_2
      have f_16 : w_14 (ad 1) = some (eB g (32 * cn) dk1) := xa.of f_3
      have f_17 : w_14 (ad 2) = some (eI g 30 fP) := xa.of f_4
      have f_18 : w_14 (ad 3) = some (eS g 64 fl) := xa.of f_5
      have hX_19 := hX2.ext xa
      refine gc_v (va_runV (As := [.ref a]) (rest := []) C.fix (m_X1_begin l g w_14 v ad cn false fu ch dk1 wt1 ld pl st kp fP fl lb wE sE kE hX_19 a (nI 0) 0 fa) (cwV 1 hts (lw_V q150 q152 qs0 q43 q153) rfl rfl rfl (by decide +kernel) ⟨Nat.le_of_ble_eq_true rfl, Nat.le_of_ble_eq_true rfl⟩) (gp_V C h [.ref a] (Cn := RX1) (T := TX1) (N := 10) rfl f_15) rfl rfl hl.1 rfl (lv_room (Nat.le_of_ble_eq_true rfl)) dX1_cut_96 ⟨Nat.le_of_ble_eq_true rfl, Nat.le_of_ble_eq_true rfl⟩) h (fun w_21 H locs hp h => ?_)
      have eq : opCut (cn, ru, fu, ch, dk, wt, ld, pl, st, kp) q t = beginK cn false fu (cutD dk wt q.toNatClampNeg t) (0, 0) := by unfold opCut; dsimp only; rw [if_neg (show ¬ ru = false by rw [c1]; decide)]
      exact gr_v C h (by rw [eq, ← hdk]; exact hp) (Nat.le_of_ble_eq_true rfl) (Nat.le_of_ble_eq_true rfl) dX1_cut_99
    refine lv_iconst (v := nI 0) hx hb dX1_cut_8 (by decide) ?_
    refine lv_istore_n (lv' := [(3, .int (nI 0)), (0, .ref (ad 0)), (1, .int q), (2, .int t)]) hx hb dX1_cut_9 rfl hl (by decide) rfl (fun ls hl => ?_)
    have loop : ∀ (n_ : Nat) (i : Nat) (dk1 : Sec) (wt1 : List (Nat × Sec)) (w1 : GW) (H : Heap) (locs : List Loc) (ls : Array Slot), wt1.length < n_ → (i + wt1.length = wt.length) → (∀ x, x ∈ wt1 → x ∈ wt) → (cutD dk1 wt1 (q.toNatClampNeg - i) t = cutD dk wt q.toNatClampNeg t) → (XW g w1 ad cn ru fu ch dk1 wt1 ld pl st kp fP fl lb wE sE kE) → SH g w1 v s H locs → lv_has ls 4 [(0, .ref (ad 0)), (1, .int q), (2, .int t), (3, .int (nI i))] → W p l e ({ frames := 8, cells := 2, slots := 202, locals := 480 } : Room) s m ([.ref (ad 0), .int q, .int t] : List Value).toArray below meth c H locs 0 0 (MQ below (va_Qv (fun (w' : GW) => RX g w' ad (opCut (cn, ru, fu, ch, dk, wt, ld, pl, st, kp) q t)) (gB g v) (gA g)) ([.ref (ad 0), .int q, .int t] : List Value).toArray s 2 202 (gA g)) (F0 m 10 ls []) := by
      intro n_
      induction n_ with
      | zero => intros; exact absurd ‹_ < 0› (Nat.not_lt_zero _)
      | succ n_ ih =>
        intro i dk1 wt1 w1 H locs ls hf hlen hsub hall hX1  h hl
        obtain ⟨⟨y0, y1_, y2, y3⟩, hQW, -⟩ := id hX1
        obtain ⟨wn, wf, wh, ws, hDw, hWL⟩ := id hQW
        refine lv_iload_n hx hb dX1_cut_10 rfl (lv_at hl 3 rfl) ?_
        refine lv_iload_n hx hb dX1_cut_11 rfl (lv_at hl 1 rfl) ?_
        refine lv_icmp_ge (tgt := 47) hx hb dX1_cut_12 (by decide) (fun c2 => ?_) (fun c2 => ?_)
        · skip
          have hz : q.toNatClampNeg - i = 0 := by have := (clamp_le (by omega)).mp c2; omega
          refine lv_aload_n hx hb dX1_cut_47 rfl (lv_at hl 0 rfl) ?_
          refine gx_get C h y0 (Cn := RX1) (T := TX1) (N := 10) rfl in_X1 7 (by decide) q222 rfl rfl dX1_cut_48 ?_
          refine gc_i (va_runV (As := []) (rest := []) C.fix (m_J1_isEmpty l g w1 v (ad 4) wE wn wf wh ws hDw) (cwV 0 hts (lw_V q505 q506 q507 q45 q508) rfl rfl rfl (by decide +kernel) ⟨Nat.le_of_ble_eq_true rfl, Nat.le_of_ble_eq_true rfl⟩) (gp_V C h [] (Cn := RJ1) (T := TJ1) (N := 3) rfl hDw.1) rfl rfl hl.1 rfl (lv_room (Nat.le_of_ble_eq_true rfl)) dX1_cut_51 ⟨Nat.le_of_ble_eq_true rfl, Nat.le_of_ble_eq_true rfl⟩) h (fun r_22 w_23 H locs hp h => ?_)
          obtain ⟨er_r_22, ew_r_22⟩ := hp
          rw [er_r_22]
          rw [ew_r_22] at h
          refine lv_if_ne (tgt := 81) hx hb dX1_cut_54 (by decide) (fun c3 => ?_) (fun c3 => ?_)
          · skip
            have c3 : decide (ws = []) = true := bI_ne0.mp c3
            have hnil : wt1 = [] := List.eq_nil_of_length_eq_zero (by rw [← hWL.1, of_decide_eq_true c3]; rfl)
            subst hnil
            exact fin dk1 [] _ _ _ _ (by rw [← hall]; cases (q.toNatClampNeg - i) <;> rfl) hX1 h (lv_sub hl [0] rfl)
          · skip
            have c3 : decide (ws = []) = false := bI_eq0.mp c3
            obtain ⟨x, xs, hxs⟩ : ∃ x xs, ws = x :: xs := by cases ws with | nil => cases c3 | cons a b => exact ⟨a, b, rfl⟩
            subst hxs
            obtain ⟨y1, wt2, hst⟩ : ∃ q1 st2, wt1 = q1 :: st2 := by cases wt1 with | nil => have := hWL.1; cases this | cons a b => exact ⟨a, b, rfl⟩
            subst hst
            refine lv_aload_n hx hb dX1_cut_57 rfl (lv_at hl 0 rfl) ?_
            refine lv_aload_n hx hb dX1_cut_58 rfl (lv_at hl 0 rfl) ?_
            refine gx_get C h y0 (Cn := RX1) (T := TX1) (N := 10) rfl in_X1 7 (by decide) q222 rfl rfl dX1_cut_59 ?_
            refine gc_q (va_runV (As := []) (rest := [.ref (ad 0)]) C.fix (m_J1_poll l g w1 v (ad 4) wE wn wf wh x xs hDw) (cwV 0 hts (lw_V q509 q510 q511 q45 q512) rfl rfl rfl (by decide +kernel) ⟨Nat.le_of_ble_eq_true rfl, Nat.le_of_ble_eq_true rfl⟩) (gp_V C h [] (Cn := RJ1) (T := TJ1) (N := 3) rfl hDw.1) rfl rfl hl.1 rfl (lv_room (Nat.le_of_ble_eq_true rfl)) dX1_cut_62 ⟨Nat.le_of_ble_eq_true rfl, Nat.le_of_ble_eq_true rfl⟩) h (fun r_24 w_25 H locs hpp h => ?_)
            obtain ⟨pr, pw⟩ := hpp
            rw [pr]
            obtain ⟨s1, b1, s1a, s1b, s1c, s1d⟩ := hWL.2 0 _ _ rfl rfl
            have pk : ∀ b, b ≠ ad 4 → b ≠ wE → w_25 b = w1 b := fun b b1 b2 => by rw [pw, gu_n b1, gu_n b2]
            have hX2 : XW g w_25 ad cn ru fu ch dk1 wt2 ld pl st kp fP fl lb wE sE kE := hX1.setW ⟨wn, _, _, xs, hDw.poll (by rw [pw]; exact gu_s) (by rw [pw, gu_n (g_ne hDw.2.1 hDw.1 (by simp))]; exact gu_s), WL.tail hWL (fun x e hx k5 => (pk x (g_ne hx hDw.1 (kn_ne k5.1)) (g_ne hx hDw.2.1 (kn_ne k5.2))).trans hx)⟩ (Or.inl rfl) (fun b b1 b2 _ => pk b b1 b2)
            have g1 := (pk _ (g_ne s1a hDw.1 (by simp)) (g_ne s1a hDw.2.1 (by simp))).trans s1a
            have g2 := (pk _ (g_ne s1b hDw.1 (by simp)) (g_ne s1b hDw.2.1 (by simp))).trans s1b
            have g3 := (pk _ (g_ne s1c hDw.1 (by simp)) (g_ne s1c hDw.2.1 (by simp))).trans s1c
            obtain ⟨⟨u0, u1, u2, u3⟩, -⟩ := id hX2
            refine gx_cast C h (Cn := RX5) (T := TX5) (N := 2) rfl g1 q330 dX1_cut_65 ?_
            refine lv_iconst (v := nI 0) hx hb dX1_cut_68 (by decide) ?_
            refine lv_iload_n hx hb dX1_cut_69 rfl (lv_at hl 2 rfl) ?_
            refine lv_bipush (v := nI 32) hx hb dX1_cut_70 (by decide) ?_
            refine gc_i (va_runS (As := [.int t, .int (nI 32)]) (rest := [.int (nI 0), .ref x, .ref (ad 0)]) C.fix (m_J4_min l g w_25 v t (nI 32)) (va_cwS 2 hts (lw_S q525 q205 q48 q206) rfl rfl rfl (by decide +kernel) ⟨Nat.le_of_ble_eq_true rfl, Nat.le_of_ble_eq_true rfl⟩) (gp_S C h _) rfl rfl hl.1 rfl (lv_room (Nat.le_of_ble_eq_true rfl)) dX1_cut_72 ⟨Nat.le_of_ble_eq_true rfl, Nat.le_of_ble_eq_true rfl⟩) h (fun r_26 w_27 H locs hp h => ?_)
            obtain ⟨er_r_26, ew_r_26⟩ := hp
            rw [er_r_26]
            rw [ew_r_26] at h
            refine gc_i (va_runS (As := [.int (nI 0), .int ((if nI 32 < t then nI 32 else t))]) (rest := [.ref x, .ref (ad 0)]) C.fix (m_J4_max l g w_25 v (nI 0) (if nI 32 < t then nI 32 else t)) (va_cwS 2 hts (lw_S q526 q527 q48 q528) rfl rfl rfl (by decide +kernel) ⟨Nat.le_of_ble_eq_true rfl, Nat.le_of_ble_eq_true rfl⟩) (gp_S C h _) rfl rfl hl.1 rfl (lv_room (Nat.le_of_ble_eq_true rfl)) dX1_cut_75 ⟨Nat.le_of_ble_eq_true rfl, Nat.le_of_ble_eq_true rfl⟩) h (fun r_28 w_29 H locs hp h => ?_)
            obtain ⟨er_r_28, ew_r_28⟩ := hp
            rw [er_r_28]
            rw [ew_r_28] at h
            refine W.eq (congrArg (fun z_ => F0 m 78 ls [.int z_, .ref x, .ref (ad 0)]) (tear_mm t)) ?_
            refine gc_v (va_runV (As := [.ref x, .int (nI (tearN t))]) (rest := []) C.fix (m_X1_write l g w_25 v ad cn ru fu ch dk1 x s1 b1 y1.1 ((tearN t)) y1.2 u0 u1 g1 g2 g3 (i4 y1 (hsub y1 List.mem_cons_self)).1 i1 (tearN_le t)) (cwV 2 hts (lw_V q517 q519 qs18 q43 q520) rfl rfl rfl (by decide +kernel) ⟨Nat.le_of_ble_eq_true rfl, Nat.le_of_ble_eq_true rfl⟩) (gp_V C h [.ref x, .int (nI (tearN t))] (Cn := RX1) (T := TX1) (N := 10) rfl u0) rfl rfl hl.1 rfl (lv_room (Nat.le_of_ble_eq_true rfl)) dX1_cut_78 ⟨Nat.le_of_ble_eq_true rfl, Nat.le_of_ble_eq_true rfl⟩) h (fun w_31 H locs hpw h => ?_)
            have hX3 : XW g w_31 ad cn ru fu ch (wrD dk1 y1 (tearN t)) wt2 ld pl st kp fP fl lb wE sE kE := wr_x hX2 hpw
            exact fin _ wt2 _ _ _ _ (by rw [← hall, hz]; rfl) hX3 h (lv_sub hl [0] rfl)
        · skip
          refine lv_aload_n hx hb dX1_cut_15 rfl (lv_at hl 0 rfl) ?_
          refine gx_get C h y0 (Cn := RX1) (T := TX1) (N := 10) rfl in_X1 7 (by decide) q222 rfl rfl dX1_cut_16 ?_
          refine gc_i (va_runV (As := []) (rest := []) C.fix (m_J1_isEmpty l g w1 v (ad 4) wE wn wf wh ws hDw) (cwV 0 hts (lw_V q505 q506 q507 q45 q508) rfl rfl rfl (by decide +kernel) ⟨Nat.le_of_ble_eq_true rfl, Nat.le_of_ble_eq_true rfl⟩) (gp_V C h [] (Cn := RJ1) (T := TJ1) (N := 3) rfl hDw.1) rfl rfl hl.1 rfl (lv_room (Nat.le_of_ble_eq_true rfl)) dX1_cut_19 ⟨Nat.le_of_ble_eq_true rfl, Nat.le_of_ble_eq_true rfl⟩) h (fun r_32 w_33 H locs hp h => ?_)
          obtain ⟨er_r_32, ew_r_32⟩ := hp
          rw [er_r_32]
          rw [ew_r_32] at h
          refine lv_if_ne (tgt := 47) hx hb dX1_cut_22 (by decide) (fun c3 => ?_) (fun c3 => ?_)
          · skip
            have c3 : decide (ws = []) = true := bI_ne0.mp c3
            have hnil : wt1 = [] := List.eq_nil_of_length_eq_zero (by rw [← hWL.1, of_decide_eq_true c3]; rfl)
            subst hnil
            refine lv_aload_n hx hb dX1_cut_47 rfl (lv_at hl 0 rfl) ?_
            refine gx_get C h y0 (Cn := RX1) (T := TX1) (N := 10) rfl in_X1 7 (by decide) q222 rfl rfl dX1_cut_48 ?_
            refine gc_i (va_runV (As := []) (rest := []) C.fix (m_J1_isEmpty l g w1 v (ad 4) wE wn wf wh ws hDw) (cwV 0 hts (lw_V q505 q506 q507 q45 q508) rfl rfl rfl (by decide +kernel) ⟨Nat.le_of_ble_eq_true rfl, Nat.le_of_ble_eq_true rfl⟩) (gp_V C h [] (Cn := RJ1) (T := TJ1) (N := 3) rfl hDw.1) rfl rfl hl.1 rfl (lv_room (Nat.le_of_ble_eq_true rfl)) dX1_cut_51 ⟨Nat.le_of_ble_eq_true rfl, Nat.le_of_ble_eq_true rfl⟩) h (fun r_34 w_35 H locs hp h => ?_)
            obtain ⟨er_r_34, ew_r_34⟩ := hp
            rw [er_r_34]
            rw [ew_r_34] at h
            refine lv_if_ne (tgt := 81) hx hb dX1_cut_54 (by decide) (fun c4 => ?_) (fun c4 => ?_)
            · skip
              have c4 : decide (ws = []) = true := bI_ne0.mp c4
              exact fin dk1 [] _ _ _ _ (by rw [← hall]; cases (q.toNatClampNeg - i) <;> rfl) hX1 h (lv_sub hl [0] rfl)
            · skip
              have c4 : decide (ws = []) = false := bI_eq0.mp c4
              rw [c3] at c4; cases c4
          · skip
            have c3 : decide (ws = []) = false := bI_eq0.mp c3
            obtain ⟨x, xs, hxs⟩ : ∃ x xs, ws = x :: xs := by cases ws with | nil => cases c3 | cons a b => exact ⟨a, b, rfl⟩
            subst hxs
            obtain ⟨y1, wt2, hst⟩ : ∃ q1 st2, wt1 = q1 :: st2 := by cases wt1 with | nil => have := hWL.1; cases this | cons a b => exact ⟨a, b, rfl⟩
            subst hst
            have hq1 : ¬ q.toNatClampNeg ≤ i := fun z => c2 ((clamp_le (by omega)).mpr z)
            obtain ⟨m1, hm1⟩ : ∃ m1, q.toNatClampNeg - i = m1 + 1 := ⟨q.toNatClampNeg - i - 1, by omega⟩
            refine lv_aload_n hx hb dX1_cut_25 rfl (lv_at hl 0 rfl) ?_
            refine lv_aload_n hx hb dX1_cut_26 rfl (lv_at hl 0 rfl) ?_
            refine gx_get C h y0 (Cn := RX1) (T := TX1) (N := 10) rfl in_X1 7 (by decide) q222 rfl rfl dX1_cut_27 ?_
            refine gc_q (va_runV (As := []) (rest := [.ref (ad 0)]) C.fix (m_J1_poll l g w1 v (ad 4) wE wn wf wh x xs hDw) (cwV 0 hts (lw_V q509 q510 q511 q45 q512) rfl rfl rfl (by decide +kernel) ⟨Nat.le_of_ble_eq_true rfl, Nat.le_of_ble_eq_true rfl⟩) (gp_V C h [] (Cn := RJ1) (T := TJ1) (N := 3) rfl hDw.1) rfl rfl hl.1 rfl (lv_room (Nat.le_of_ble_eq_true rfl)) dX1_cut_30 ⟨Nat.le_of_ble_eq_true rfl, Nat.le_of_ble_eq_true rfl⟩) h (fun r_36 w_37 H locs hpp h => ?_)
            obtain ⟨pr, pw⟩ := hpp
            rw [pr]
            obtain ⟨s1, b1, s1a, s1b, s1c, s1d⟩ := hWL.2 0 _ _ rfl rfl
            have pk : ∀ b, b ≠ ad 4 → b ≠ wE → w_37 b = w1 b := fun b b1 b2 => by rw [pw, gu_n b1, gu_n b2]
            have hX2 : XW g w_37 ad cn ru fu ch dk1 wt2 ld pl st kp fP fl lb wE sE kE := hX1.setW ⟨wn, _, _, xs, hDw.poll (by rw [pw]; exact gu_s) (by rw [pw, gu_n (g_ne hDw.2.1 hDw.1 (by simp))]; exact gu_s), WL.tail hWL (fun x e hx k5 => (pk x (g_ne hx hDw.1 (kn_ne k5.1)) (g_ne hx hDw.2.1 (kn_ne k5.2))).trans hx)⟩ (Or.inl rfl) (fun b b1 b2 _ => pk b b1 b2)
            have g1 := (pk _ (g_ne s1a hDw.1 (by simp)) (g_ne s1a hDw.2.1 (by simp))).trans s1a
            have g2 := (pk _ (g_ne s1b hDw.1 (by simp)) (g_ne s1b hDw.2.1 (by simp))).trans s1b
            have g3 := (pk _ (g_ne s1c hDw.1 (by simp)) (g_ne s1c hDw.2.1 (by simp))).trans s1c
            obtain ⟨⟨u0, u1, u2, u3⟩, -⟩ := id hX2
            refine gx_cast C h (Cn := RX5) (T := TX5) (N := 2) rfl g1 q330 dX1_cut_33 ?_
            refine lv_bipush (v := nI 32) hx hb dX1_cut_36 (by decide) ?_
            refine gc_v (va_runV (As := [.ref x, .int (nI 32)]) (rest := []) C.fix (m_X1_write l g w_37 v ad cn ru fu ch dk1 x s1 b1 y1.1 32 y1.2 u0 u1 g1 g2 g3 (i4 y1 (hsub y1 List.mem_cons_self)).1 i1 (Nat.le_refl _)) (cwV 2 hts (lw_V q517 q519 qs18 q43 q520) rfl rfl rfl (by decide +kernel) ⟨Nat.le_of_ble_eq_true rfl, Nat.le_of_ble_eq_true rfl⟩) (gp_V C h [.ref x, .int (nI 32)] (Cn := RX1) (T := TX1) (N := 10) rfl u0) rfl rfl hl.1 rfl (lv_room (Nat.le_of_ble_eq_true rfl)) dX1_cut_38 ⟨Nat.le_of_ble_eq_true rfl, Nat.le_of_ble_eq_true rfl⟩) h (fun w_39 H locs hpw h => ?_)
            have hX3 : XW g w_39 ad cn ru fu ch (wrD dk1 y1 32) wt2 ld pl st kp fP fl lb wE sE kE := wr_x hX2 hpw
            refine lv_iinc (v := nI (i + 1)) (lv' := [(3, .int (nI (i + 1))), (0, .ref (ad 0)), (1, .int q), (2, .int t)]) hx hb dX1_cut_41 hl (k := 3) rfl (gi_inc _ 1) (by decide) rfl (fun ls hl => ?_)
            refine lv_goto (tgt := 10) hx hb dX1_cut_44 (by decide) ?_
            exact ih (i + 1) _ wt2 _ _ _ _ (by simp at hf ⊢; omega) (by simp at hlen; omega) (fun x hx => hsub x (List.mem_cons_of_mem _ hx)) (by rw [← hall, hm1, show q.toNatClampNeg - (i + 1) = m1 by omega]; rfl) hX3  h (lv_sub hl [1, 2, 3, 0] rfl)
    exact loop (wt.length + 1) 0 dk wt w _ _ _ (by omega) (by omega) (fun _ h => h) rfl hX h (lv_sub hl [1, 2, 3, 0] rfl)
  · skip
    have c1 : ru = false := bI_eq0.mp c1
    exact gr_v C h (by rw [show opCut (cn, ru, fu, ch, dk, wt, ld, pl, st, kp) q t = (cn, ru, fu, ch, dk, wt, ld, pl, st, kp) by unfold opCut; dsimp only; rw [if_pos c1]]; exact ⟨fP, fl, lb, wE, sE, kE, hX⟩) (Nat.le_of_ble_eq_true rfl) (Nat.le_of_ble_eq_true rfl) dX1_cut_7
