set_option maxRecDepth 100000
theorem SL.last {w : GW} {xs : List Nat} {st : List (Int32 × Int64)} (h : SL w xs st) (hn : st ≠ []) : ∃ e, xs[xs.length - 1]? = some e ∧ w e = some (ob 2 [.int (lastS st).1, .long (lastS st).2]) := by
  have hl : 0 < st.length := List.length_pos_iff.mpr hn
  have h1 := h.1
  refine ⟨_, List.getElem?_eq_getElem (show xs.length - 1 < xs.length by omega), ?_⟩
  refine h.2 (xs.length - 1) _ (lastS st) (List.getElem?_eq_getElem (show xs.length - 1 < xs.length by omega)) ?_
  unfold lastS
  rw [List.getD_eq_getElem?_getD, h1, List.getElem?_eq_getElem (show st.length - 1 < st.length by omega)]
  rfl
set_option maxHeartbeats 4000000 in
theorem m_X1_held (l : Launch) (g : GG) (w v : GW) (ad : Nat → Nat) (cn : Nat) (ru fu ch : Bool) (dk : Sec) (wt : List (Nat × Sec)) (ld : Nat → Option Sec) (pl : Nat → Option Nat) (st kp : List (Int32 × Int64)) (fP : Nat → Int32) (fl : Nat → Option Nat) (lb : Nat → Nat) (wE sE kE : Nat) (hX : XW g w ad cn ru fu ch dk wt ld pl st kp fP fl lb wE sE kE) (hI : InvK (cn, ru, fu, ch, dk, wt, ld, pl, st, kp))  : Met l yX1_held (ws_ yX1_held cX1_held 5 (some .long)) ({ frames := 5, cells := 3, slots := 12, locals := 300 } : Room) (gP g [.ref (ad 0)] w v) (va_Ql (fun (r : Int64) (w' : GW) => (∀ k, k < 64 → bitL r k = hel wt pl st kp k) ∧ Ext w w') (gB g v) (gA g)) 3 12 (gA g) := by
  refine gm_of (by decide) (Nat.le_of_ble_eq_true rfl) ?_
  intro p e s m below meth c ls C hnm h hl
  have C : Cx g p s m ([.ref (ad 0)] : List Value).toArray meth c cX1_held 5 RX1 (some .long) := C
  obtain ⟨hx, hb, hml, hown, hts, hr, hlk, hG⟩ := id C
  have hl : lv_has ls 5 [(0, .ref (ad 0))] := hl
  obtain ⟨⟨x0, x1, x2, x3⟩, hQW, hQS, hQK, hLL, hLi, hpl, hXD, h8⟩ := id hX
  obtain ⟨i1, i2, i3, i4, i5, i6, i7, i8, i9⟩ := id hI
  have n01 : ad 0 ≠ ad 1 := g_ne x0 x1 (kn_ne (show 0 ≠ 100 + 32 * cn by omega))
  have n02 : ad 0 ≠ ad 2 := g_ne x0 x2 (kn_ne (show 0 ≠ 130 by omega))
  have n03 : ad 0 ≠ ad 3 := g_ne x0 x3 (kn_ne (show 0 ≠ 50 by omega))
  have n12 : ad 1 ≠ ad 2 := g_ne x1 x2 (kn_ne (show 100 + 32 * cn ≠ 130 by omega))
  have n13 : ad 1 ≠ ad 3 := g_ne x1 x3 (kn_ne (show 100 + 32 * cn ≠ 50 by omega))
  have n23 : ad 2 ≠ ad 3 := g_ne x2 x3 (kn_ne (show 130 ≠ 50 by omega))
  have cW : ∀ (bs : Int64) (wa : GW) (H : Heap) (locs : List Loc) (ls : Array Slot), (Ext w wa) → (∀ k, k < 64 → bitL bs k = ((bitL (openL pl 30) k || st.any (fun s => bitL s.2 k)) || kp.any (fun s => bitL s.2 k))) → SH g wa v s H locs → lv_has ls 5 [(0, .ref (ad 0)), (1, .long bs)] → W p l e ({ frames := 5, cells := 3, slots := 12, locals := 300 } : Room) s m ([.ref (ad 0)] : List Value).toArray below meth c H locs 2 8 (MQ below (va_Ql (fun (r : Int64) (w' : GW) => (∀ k, k < 64 → bitL r k = hel wt pl st kp k) ∧ Ext w w') (gB g v) (gA g)) ([.ref (ad 0)] : List Value).toArray s 3 12 (gA g)) (F0 m 83 ls []) := by
    intro bs wa H locs ls hxa hbs h hl
    have hXa := hX.ext hxa
    obtain ⟨⟨y0, y1, y2, y3⟩, hQW, hQS, hQK, hLL, hLi, hpl, hXD, h8⟩ := id hXa
    have n01 : ad 0 ≠ ad 1 := g_ne y0 y1 (kn_ne (show 0 ≠ 100 + 32 * cn by omega))
    have n02 : ad 0 ≠ ad 2 := g_ne y0 y2 (kn_ne (show 0 ≠ 130 by omega))
    have n03 : ad 0 ≠ ad 3 := g_ne y0 y3 (kn_ne (show 0 ≠ 50 by omega))
    have n12 : ad 1 ≠ ad 2 := g_ne y1 y2 (kn_ne (show 100 + 32 * cn ≠ 130 by omega))
    have n13 : ad 1 ≠ ad 3 := g_ne y1 y3 (kn_ne (show 100 + 32 * cn ≠ 50 by omega))
    have n23 : ad 2 ≠ ad 3 := g_ne y2 y3 (kn_ne (show 130 ≠ 50 by omega))
    obtain ⟨wn, wf, wh, ws, hDw, hWL⟩ := id hQW
    refine lv_aload_n hx hb dX1_held_83 rfl (lv_at hl 0 rfl) ?_
    refine gx_get C h y0 (Cn := RX1) (T := TX1) (N := 10) rfl in_X1 7 (by decide) q222 rfl rfl dX1_held_84 ?_
    refine gc_q (va_runV (As := []) (rest := []) C.fix (m_J1_iterator l g wa v (ad 4) wE wn wf wh ws hDw) (cwV 0 hts (lw_V q262 q263 q264 q45 q265) rfl rfl rfl (by decide +kernel) ⟨Nat.le_of_ble_eq_true rfl, Nat.le_of_ble_eq_true rfl⟩) (gp_V C h [] (Cn := RJ1) (T := TJ1) (N := 3) rfl (hDw.1)) rfl rfl hl.1 rfl (lv_room (Nat.le_of_ble_eq_true rfl)) dX1_held_87 ⟨Nat.le_of_ble_eq_true rfl, Nat.le_of_ble_eq_true rfl⟩) h (fun r_1 w_2 H locs hpq h => ?_)
    obtain ⟨q, qr, qn, qv, qw⟩ := hpq
    rw [qr]
    have xq : Ext wa w_2 := by rw [qw]; exact XK.rfl'.putn qn
    have fq : w_2 q = some (ob 7 [.int (nI (wr wn (wh + 0))), .int (nI (ws.length - 0)), .int (-1), .ref (ad 4)]) := by rw [qw, Nat.add_zero, Nat.sub_zero, wr_small hDw.2.2.1]; exact gu_s
    have f_3 : w_2 (ad 0) = some (ob 0 [.ref (ad 1), .int (nI cn), .int (bI ru), .int (bI fu), .ref (ad 2), .ref (ad 3), .int (bI ch), .ref (ad 4), .ref (ad 5), .ref (ad 6)]) := xq.of y0
    have f_4 : w_2 (ad 1) = some (eB g (32 * cn) dk) := xq.of y1
    have f_5 : w_2 (ad 2) = some (eI g 30 fP) := xq.of y2
    have f_6 : w_2 (ad 3) = some (eS g 64 fl) := xq.of y3
    have f_7 : w_2 (ad 4) = some (ob 5 [.ref wE, .int (nI wh), .int (nI (wr wn (wh + ws.length)))]) := xq.of (hDw.1)
    have hX_8 := hXa.ext xq
    have hE_9 : Ext w w_2 := XK.trans hxa xq
    refine lv_astore_n (lv' := [(3, .ref q), (0, .ref (ad 0)), (1, .long bs)]) hx hb dX1_held_90 rfl hl (by decide) rfl (fun ls hl => ?_)
    have loop : ∀ (n_ : Nat) (i : Nat) (lr : Int32) (bt : Int64) (w1 : GW) (H : Heap) (locs : List Loc) (ls : Array Slot), ws.length - i < n_ → (i ≤ ws.length) → (Ext wa w1) → (∀ k, k < 64 → bitL bt k = (bitL bs k || (wt.take i).any (fun x => decide (x.1 = k)))) → (w1 q = some (ob 7 [.int (nI (wr wn (wh + i))), .int (nI (ws.length - i)), .int lr, .ref (ad 4)])) → SH g w1 v s H locs → lv_has ls 5 [(0, .ref (ad 0)), (1, .long bt), (3, .ref q)] → W p l e ({ frames := 5, cells := 3, slots := 12, locals := 300 } : Room) s m ([.ref (ad 0)] : List Value).toArray below meth c H locs 3 12 (MQ below (va_Ql (fun (r : Int64) (w' : GW) => (∀ k, k < 64 → bitL r k = hel wt pl st kp k) ∧ Ext w w') (gB g v) (gA g)) ([.ref (ad 0)] : List Value).toArray s 3 12 (gA g)) (F0 m 91 ls []) := by
      intro n_
      induction n_ with
      | zero => intros; exact absurd ‹_ < 0› (Nat.not_lt_zero _)
      | succ n_ ih =>
        intro i lr bt w1 H locs ls hf hi hx1 hbt hq h hl
        have f_10 : w1 (ad 0) = some (ob 0 [.ref (ad 1), .int (nI cn), .int (bI ru), .int (bI fu), .ref (ad 2), .ref (ad 3), .int (bI ch), .ref (ad 4), .ref (ad 5), .ref (ad 6)]) := hx1.of y0
        have f_11 : w1 (ad 1) = some (eB g (32 * cn) dk) := hx1.of y1
        have f_12 : w1 (ad 2) = some (eI g 30 fP) := hx1.of y2
        have f_13 : w1 (ad 3) = some (eS g 64 fl) := hx1.of y3
        have f_14 : w1 (ad 4) = some (ob 5 [.ref wE, .int (nI wh), .int (nI (wr wn (wh + ws.length)))]) := hx1.of hDw.1
        have f_15 := hx1.of hDw.2.1
        have hX_16 := hXa.ext hx1
        have hE_17 : Ext w w1 := XK.trans hxa hx1
        refine lv_aload_n hx hb dX1_held_91 rfl (lv_at hl 2 rfl) ?_
        refine gc_Fi (va_runF (As := []) (rest := []) (hG.1.1 7 _ rfl).2 C.fix (m_J7_hasNext l g w1 v q (wr wn (wh + i)) (ws.length - i) lr (ad 4) hq (by have := hDw.2.2.2.1; have := hDw.2.2.2.2.1; omega)) (va_cwF (x := iHas) 0 hts (lw_F q293 q297 q299 q54 q301) rfl rfl rfl hG.2.2.2.2.1.1 (by decide +kernel) ⟨Nat.le_of_ble_eq_true rfl, Nat.le_of_ble_eq_true rfl⟩) (gp_V C h [] (Cn := RJ7) (T := TJ7) (N := 4) rfl hq) rfl rfl hl.1 rfl (lv_room (Nat.le_of_ble_eq_true rfl)) dX1_held_92 ⟨Nat.le_of_ble_eq_true rfl, Nat.le_of_ble_eq_true rfl⟩) h (fun r_18 w_19 H locs hp h => ?_)
        obtain ⟨er_r_18, ew_r_18⟩ := hp
        rw [er_r_18]
        rw [ew_r_18] at h
        refine lv_if_eq (tgt := 124) hx hb dX1_held_97 (by decide) (fun cn_ => ?_) (fun cn_ => ?_)
        · skip
          have cn_ : decide (0 < ws.length - i) = false := bI_eq0.mp cn_
          have hil : i = wt.length := by have := of_decide_eq_false cn_; have := hWL.1; omega
          refine lv_lload_n hx hb dX1_held_124 rfl (lv_at hl 1 rfl) ?_
          exact gr_l C h (⟨fun k hk => by rw [hbt k hk, hbs k hk, openL_bit 30 (fun p k h1 h2 => by have := i2 p k h1 h2; omega) hk, hil, List.take_length]; unfold hel; generalize anyB (fun p => decide (pl p = some k)) 30 = b1; generalize st.any (fun s => bitL s.2 k) = b2; generalize kp.any (fun s => bitL s.2 k) = b3; generalize wt.any (fun x => decide (x.1 = k)) = b4; revert b1 b2 b3 b4; decide, hE_17⟩) (Nat.le_of_ble_eq_true rfl) (Nat.le_of_ble_eq_true rfl) dX1_held_125
        · skip
          have cn_ : decide (0 < ws.length - i) = true := bI_ne0.mp cn_
          have hlt : i < ws.length := by have := of_decide_eq_true cn_; omega
          obtain ⟨e1, he1⟩ : ∃ z_, ws[i]? = some z_ := ⟨_, List.getElem?_eq_getElem hlt⟩
          refine lv_aload_n hx hb dX1_held_100 rfl (lv_at hl 2 rfl) ?_
          refine gc_Fq (va_runF (As := []) (rest := []) (hG.1.1 7 _ rfl).2 C.fix (m_J7_next l g w1 v q (wr wn (wh + i)) (ws.length - i) lr (ad 4) wE wn wf e1 _ _ hq f_14 f_15 (by have := hDw.2.2.2.1; have := hDw.2.2.2.2.1; omega) (wr_lt (by have := hDw.2.2.1; have := hDw.2.2.2.1; omega)) hDw.2.2.2.2.1 (hDw.2.2.2.2.2 i e1 he1)) (va_cwF (x := iNext) 0 hts (lw_F q309 q312 q314 q54 q316) rfl rfl rfl hG.2.2.2.2.1.2.1 (by decide +kernel) ⟨Nat.le_of_ble_eq_true rfl, Nat.le_of_ble_eq_true rfl⟩) (gp_V C h [] (Cn := RJ7) (T := TJ7) (N := 4) rfl hq) rfl rfl hl.1 rfl (lv_room (Nat.le_of_ble_eq_true rfl)) dX1_held_101 ⟨Nat.le_of_ble_eq_true rfl, Nat.le_of_ble_eq_true rfl⟩) h (fun r_20 w_21 H locs hp h => ?_)
          obtain ⟨er_, ew_⟩ := hp
          rw [er_]
          rw [wr_next hDw.2.2.1 (by have := hDw.2.2.2.1; omega)] at ew_
          have x2_ : Ext wa w_21 := by rw [ew_]; exact XK.putn hx1 qn
          have f2_ : w_21 q = some (ob 7 [.int (nI (wr wn (wh + (i + 1)))), .int (nI (ws.length - (i + 1))), .int (nI (wr wn (wh + i))), .ref (ad 4)]) := by rw [ew_, Nat.sub_add_eq]; exact gu_s
          have f_22 : w_21 (ad 0) = some (ob 0 [.ref (ad 1), .int (nI cn), .int (bI ru), .int (bI fu), .ref (ad 2), .ref (ad 3), .int (bI ch), .ref (ad 4), .ref (ad 5), .ref (ad 6)]) := x2_.of y0
          have f_23 : w_21 (ad 1) = some (eB g (32 * cn) dk) := x2_.of y1
          have f_24 : w_21 (ad 2) = some (eI g 30 fP) := x2_.of y2
          have f_25 : w_21 (ad 3) = some (eS g 64 fl) := x2_.of y3
          have f_26 : w_21 (ad 4) = some (ob 5 [.ref wE, .int (nI wh), .int (nI (wr wn (wh + ws.length)))]) := x2_.of hDw.1
          have f_27 := x2_.of hDw.2.1
          obtain ⟨y1, hy1⟩ : ∃ z_, wt[i]? = some z_ := ⟨_, List.getElem?_eq_getElem (by have := hWL.1; omega)⟩
          obtain ⟨s1, b1, s1a, s1b, s1c, s1d⟩ := hWL.2 i e1 y1 he1 hy1
          have g1_ := x2_.of s1a
          refine gx_cast C h (Cn := RX5) (T := TX5) (N := 2) rfl g1_ q330 dX1_held_106 ?_
          refine lv_astore (lv' := [(4, .ref e1), (0, .ref (ad 0)), (1, .long bt), (3, .ref q)]) hx hb dX1_held_109 hl (by decide) rfl (fun ls hl => ?_)
          refine lv_lload_n hx hb dX1_held_111 rfl (lv_at hl 2 rfl) ?_
          refine lv_lconst (v := 1) hx hb dX1_held_112 (by decide) ?_
          refine lv_aload hx hb dX1_held_113 (lv_at hl 0 rfl) ?_
          refine gc_i (va_runV (As := []) (rest := [.long 1, .long bt]) C.fix (m_X5_to l g w_21 v e1 (nI y1.1) s1 g1_) (cwV 0 hts (lw_V q331 q332 q333 q60 q334) rfl rfl rfl (by decide +kernel) ⟨Nat.le_of_ble_eq_true rfl, Nat.le_of_ble_eq_true rfl⟩) (gp_V C h [] (Cn := RX5) (T := TX5) (N := 2) rfl g1_) rfl rfl hl.1 rfl (lv_room (Nat.le_of_ble_eq_true rfl)) dX1_held_115 ⟨Nat.le_of_ble_eq_true rfl, Nat.le_of_ble_eq_true rfl⟩) h (fun r_28 w_29 H locs hp h => ?_)
          obtain ⟨er_r_28, ew_r_28⟩ := hp
          rw [er_r_28]
          rw [ew_r_28] at h
          have hy64 : y1.1 < 64 := by have := (i4 y1 (List.mem_of_getElem? hy1)).1; omega
          refine lv_lshl hx hb dX1_held_118 rfl ?_
          refine lv_lor hx hb dX1_held_119 ?_
          refine lv_lstore_n (lv' := [(1, .long (bt ||| (1 <<< ((nI y1.1).toInt64 &&& 63)))), (4, .ref e1), (0, .ref (ad 0)), (3, .ref q)]) hx hb dX1_held_120 rfl hl (by decide) rfl (fun ls hl => ?_)
          refine lv_goto (tgt := 91) hx hb dX1_held_121 (by decide) ?_
          exact ih (i + 1) (nI (wr wn (wh + i))) _ _ _ _ _ (by omega) (by omega) x2_ (fun k hk => by rw [bitL_or _ _ hk, bitL_shl hy64 hk, hbt k hk, any_take hy1, Bool.or_assoc]) f2_ h (lv_sub hl [2, 0, 3] rfl)
    exact loop (ws.length + 1) 0 (-1) bs _ _ _ _ (by omega) (by omega) xq (fun k hk => by simp) fq h (lv_sub hl [1, 2, 0] rfl)
  have cK : ∀ (bs : Int64) (wa : GW) (H : Heap) (locs : List Loc) (ls : Array Slot), (Ext w wa) → (∀ k, k < 64 → bitL bs k = (bitL (openL pl 30) k || st.any (fun s => bitL s.2 k))) → SH g wa v s H locs → lv_has ls 5 [(0, .ref (ad 0)), (1, .long bs)] → W p l e ({ frames := 5, cells := 3, slots := 12, locals := 300 } : Room) s m ([.ref (ad 0)] : List Value).toArray below meth c H locs 1 4 (MQ below (va_Ql (fun (r : Int64) (w' : GW) => (∀ k, k < 64 → bitL r k = hel wt pl st kp k) ∧ Ext w w') (gB g v) (gA g)) ([.ref (ad 0)] : List Value).toArray s 3 12 (gA g)) (F0 m 44 ls []) := by
    intro bs wa H locs ls hxa hbs h hl
    have hXa := hX.ext hxa
    obtain ⟨⟨y0, y1, y2, y3⟩, hQW, hQS, hQK, hLL, hLi, hpl, hXD, h8⟩ := id hXa
    have n01 : ad 0 ≠ ad 1 := g_ne y0 y1 (kn_ne (show 0 ≠ 100 + 32 * cn by omega))
    have n02 : ad 0 ≠ ad 2 := g_ne y0 y2 (kn_ne (show 0 ≠ 130 by omega))
    have n03 : ad 0 ≠ ad 3 := g_ne y0 y3 (kn_ne (show 0 ≠ 50 by omega))
    have n12 : ad 1 ≠ ad 2 := g_ne y1 y2 (kn_ne (show 100 + 32 * cn ≠ 130 by omega))
    have n13 : ad 1 ≠ ad 3 := g_ne y1 y3 (kn_ne (show 100 + 32 * cn ≠ 50 by omega))
    have n23 : ad 2 ≠ ad 3 := g_ne y2 y3 (kn_ne (show 130 ≠ 50 by omega))
    obtain ⟨kN, kf, km, ks, hAk, hSK⟩ := id hQK
    refine lv_aload_n hx hb dX1_held_44 rfl (lv_at hl 0 rfl) ?_
    refine gx_get C h y0 (Cn := RX1) (T := TX1) (N := 10) rfl in_X1 9 (by decide) q224 rfl rfl dX1_held_45 ?_
    refine gc_q (va_runV (As := []) (rest := []) C.fix (m_J3_iterator l g wa v (ad 6) km _ _ hAk.1) (cwV 0 hts (lw_V q402 q403 q404 q47 q405) rfl rfl rfl (by decide +kernel) ⟨Nat.le_of_ble_eq_true rfl, Nat.le_of_ble_eq_true rfl⟩) (gp_V C h [] (Cn := RJ3) (T := TJ3) (N := 3) rfl hAk.1) rfl rfl hl.1 rfl (lv_room (Nat.le_of_ble_eq_true rfl)) dX1_held_48 ⟨Nat.le_of_ble_eq_true rfl, Nat.le_of_ble_eq_true rfl⟩) h (fun r_30 w_31 H locs hpq h => ?_)
    obtain ⟨q, qr, qn, qv, qw⟩ := hpq
    rw [qr]
    have xq : Ext wa w_31 := by rw [qw]; exact XK.rfl'.putn qn
    have fq : w_31 q = some (ob 8 [.int (nI 0), .int (-1), .int km, .ref (ad 6)]) := by rw [qw]; exact gu_s
    refine lv_astore_n (lv' := [(3, .ref q), (0, .ref (ad 0)), (1, .long bs)]) hx hb dX1_held_51 rfl hl (by decide) rfl (fun ls hl => ?_)
    have loop : ∀ (n_ : Nat) (i : Nat) (lr : Int32) (bt : Int64) (w1 : GW) (H : Heap) (locs : List Loc) (ls : Array Slot), ks.length - i < n_ → (i ≤ ks.length) → (Ext wa w1) → (∀ k, k < 64 → bitL bt k = (bitL bs k || (kp.take i).any (fun s => bitL s.2 k))) → (w1 q = some (ob 8 [.int (nI i), .int lr, .int km, .ref (ad 6)])) → SH g w1 v s H locs → lv_has ls 5 [(0, .ref (ad 0)), (1, .long bt), (3, .ref q)] → W p l e ({ frames := 5, cells := 3, slots := 12, locals := 300 } : Room) s m ([.ref (ad 0)] : List Value).toArray below meth c H locs 2 8 (MQ below (va_Ql (fun (r : Int64) (w' : GW) => (∀ k, k < 64 → bitL r k = hel wt pl st kp k) ∧ Ext w w') (gB g v) (gA g)) ([.ref (ad 0)] : List Value).toArray s 3 12 (gA g)) (F0 m 52 ls []) := by
      intro n_
      induction n_ with
      | zero => intros; exact absurd ‹_ < 0› (Nat.not_lt_zero _)
      | succ n_ ih =>
        intro i lr bt w1 H locs ls hf hi hx1 hbt hq h hl
        have hk10 : ks.length ≤ 10 := Nat.le_trans hAk.2.2.1 hAk.n_le
        have f6 := hx1.of hAk.1
        have fkE := hx1.of hAk.2.1
        refine lv_aload_n hx hb dX1_held_52 rfl (lv_at hl 2 rfl) ?_
        refine gc_Fi (va_runF (As := []) (rest := []) (hG.1.1 8 _ rfl).2 C.fix (m_J9_hasNext l g w1 v q (ad 6) i ks.length lr km kE kN hq f6 (by omega)) (va_cwF (x := iHas) 0 hts (lw_F q293 q303 q305 q58 q307) rfl rfl rfl hG.2.2.2.2.1.2.2.1 (by decide +kernel) ⟨Nat.le_of_ble_eq_true rfl, Nat.le_of_ble_eq_true rfl⟩) (gp_V C h [] (Cn := RJ9) (T := TJ9) (N := 4) rfl hq) rfl rfl hl.1 rfl (lv_room (Nat.le_of_ble_eq_true rfl)) dX1_held_53 ⟨Nat.le_of_ble_eq_true rfl, Nat.le_of_ble_eq_true rfl⟩) h (fun r_32 w_33 H locs hp h => ?_)
        obtain ⟨er_r_32, ew_r_32⟩ := hp
        rw [er_r_32]
        rw [ew_r_32] at h
        refine lv_if_eq (tgt := 83) hx hb dX1_held_58 (by decide) (fun cn_ => ?_) (fun cn_ => ?_)
        · skip
          have cn_ : decide (i < ks.length) = false := bI_eq0.mp cn_
          have hil : i = kp.length := by have := of_decide_eq_false cn_; have := hSK.1; omega
          exact cW bt _ _ _ _ (XK.trans hxa hx1) (fun k hk => by rw [hbt k hk, hbs k hk, hil, List.take_length]) h (lv_sub hl [0, 1] rfl)
        · skip
          have cn_ : decide (i < ks.length) = true := bI_ne0.mp cn_
          have hlt : i < ks.length := of_decide_eq_true cn_
          obtain ⟨e1, he1⟩ : ∃ z_, ks[i]? = some z_ := ⟨_, List.getElem?_eq_getElem hlt⟩
          refine lv_aload_n hx hb dX1_held_61 rfl (lv_at hl 2 rfl) ?_
          refine gc_Fq (va_runF (As := []) (rest := []) (hG.1.1 8 _ rfl).2 C.fix (m_J9_next l g w1 v q (ad 6) i ks.length lr km kE kN kf e1 hq f6 (by omega) fkE (by have := hAk.2.2.1; have := hAk.n_le; omega) (hAk.2.2.2.1 i e1 he1)) (va_cwF (x := iNext) 0 hts (lw_F q309 q321 q323 q58 q325) rfl rfl rfl hG.2.2.2.2.1.2.2.2 (by decide +kernel) ⟨Nat.le_of_ble_eq_true rfl, Nat.le_of_ble_eq_true rfl⟩) (gp_V C h [] (Cn := RJ9) (T := TJ9) (N := 4) rfl hq) rfl rfl hl.1 rfl (lv_room (Nat.le_of_ble_eq_true rfl)) dX1_held_62 ⟨Nat.le_of_ble_eq_true rfl, Nat.le_of_ble_eq_true rfl⟩) h (fun r_34 w_35 H locs hp h => ?_)
          obtain ⟨er_, ew_⟩ := hp
          rw [er_]
          have x2_ : Ext wa w_35 := by rw [ew_]; exact XK.putn hx1 qn
          have f2_ : w_35 q = some (ob 8 [.int (nI (i + 1)), .int (nI i), .int km, .ref (ad 6)]) := by rw [ew_]; exact gu_s
          obtain ⟨y1, hy1⟩ : ∃ z_, kp[i]? = some z_ := ⟨_, List.getElem?_eq_getElem (by have := hSK.1; omega)⟩
          have g1_ := x2_.of (hSK.2 i e1 y1 he1 hy1)
          refine gx_cast C h (Cn := RX2) (T := TX2) (N := 2) rfl g1_ q133 dX1_held_67 ?_
          refine lv_astore (lv' := [(4, .ref e1), (0, .ref (ad 0)), (1, .long bt), (3, .ref q)]) hx hb dX1_held_70 hl (by decide) rfl (fun ls hl => ?_)
          refine lv_lload_n hx hb dX1_held_72 rfl (lv_at hl 2 rfl) ?_
          refine lv_aload hx hb dX1_held_73 (lv_at hl 0 rfl) ?_
          refine gc_l (va_runV (As := []) (rest := [.long bt]) C.fix (m_X2_sectors l g w_35 v e1 y1.1 y1.2 g1_) (cwV 0 hts (lw_V q398 q399 q400 q50 q401) rfl rfl rfl (by decide +kernel) ⟨Nat.le_of_ble_eq_true rfl, Nat.le_of_ble_eq_true rfl⟩) (gp_V C h [] (Cn := RX2) (T := TX2) (N := 2) rfl g1_) rfl rfl hl.1 rfl (lv_room (Nat.le_of_ble_eq_true rfl)) dX1_held_75 ⟨Nat.le_of_ble_eq_true rfl, Nat.le_of_ble_eq_true rfl⟩) h (fun r_36 w_37 H locs hp h => ?_)
          obtain ⟨er_r_36, ew_r_36⟩ := hp
          rw [er_r_36]
          rw [ew_r_36] at h
          refine lv_lor hx hb dX1_held_78 ?_
          refine lv_lstore_n (lv' := [(1, .long (bt ||| y1.2)), (4, .ref e1), (0, .ref (ad 0)), (3, .ref q)]) hx hb dX1_held_79 rfl hl (by decide) rfl (fun ls hl => ?_)
          refine lv_goto (tgt := 52) hx hb dX1_held_80 (by decide) ?_
          exact ih (i + 1) (nI i) _ _ _ _ _ (by omega) (by omega) x2_ (fun k hk => by rw [bitL_or _ _ hk, hbt k hk, any_take hy1, Bool.or_assoc]) f2_ h (lv_sub hl [2, 0, 3] rfl)
    exact loop (ks.length + 1) 0 (-1) bs _ _ _ _ (by omega) (by omega) xq (fun k hk => by simp) fq h (lv_sub hl [1, 2, 0] rfl)
  refine lv_aload_n hx hb dX1_held_0 rfl (lv_at hl 0 rfl) ?_
  refine gc_l (va_runV (As := []) (rest := []) C.fix (m_X1_open l g w v ad cn ru fu ch dk wt ld pl st kp fP fl lb wE sE kE hX hI) (cwV 0 hts (lw_V q394 q396 qs13 q43 q397) rfl rfl rfl (by decide +kernel) ⟨Nat.le_of_ble_eq_true rfl, Nat.le_of_ble_eq_true rfl⟩) (gp_V C h [] (Cn := RX1) (T := TX1) (N := 10) rfl x0) rfl rfl hl.1 rfl (lv_room (Nat.le_of_ble_eq_true rfl)) dX1_held_1 ⟨Nat.le_of_ble_eq_true rfl, Nat.le_of_ble_eq_true rfl⟩) h (fun r_38 w_39 H locs hp h => ?_)
  obtain ⟨er_r_38, ew_r_38⟩ := hp
  rw [er_r_38]
  rw [ew_r_38] at h
  obtain ⟨sn, sf, sh, ss, hDs, hSL⟩ := id hQS
  refine lv_lstore_n (lv' := [(1, .long (openL pl 30)), (0, .ref (ad 0))]) hx hb dX1_held_4 rfl hl (by decide) rfl (fun ls hl => ?_)
  refine lv_aload_n hx hb dX1_held_5 rfl (lv_at hl 1 rfl) ?_
  refine gx_get C h x0 (Cn := RX1) (T := TX1) (N := 10) rfl in_X1 8 (by decide) q223 rfl rfl dX1_held_6 ?_
  refine gc_q (va_runV (As := []) (rest := []) C.fix (m_J1_iterator l g w v (ad 5) sE sn sf sh ss hDs) (cwV 0 hts (lw_V q262 q263 q264 q45 q265) rfl rfl rfl (by decide +kernel) ⟨Nat.le_of_ble_eq_true rfl, Nat.le_of_ble_eq_true rfl⟩) (gp_V C h [] (Cn := RJ1) (T := TJ1) (N := 3) rfl (show w (ad 5) = _ from hDs.1)) rfl rfl hl.1 rfl (lv_room (Nat.le_of_ble_eq_true rfl)) dX1_held_9 ⟨Nat.le_of_ble_eq_true rfl, Nat.le_of_ble_eq_true rfl⟩) h (fun r_40 w_41 H locs hpq h => ?_)
  obtain ⟨q, qr, qn, qv, qw⟩ := hpq
  rw [qr]
  have xq : Ext w w_41 := by rw [qw]; exact XK.rfl'.putn qn
  have fq : w_41 q = some (ob 7 [.int (nI (wr sn (sh + 0))), .int (nI (ss.length - 0)), .int (-1), .ref (ad 5)]) := by rw [qw, Nat.add_zero, Nat.sub_zero, wr_small hDs.2.2.1]; exact gu_s
  have f_42 : w_41 (ad 0) = some (ob 0 [.ref (ad 1), .int (nI cn), .int (bI ru), .int (bI fu), .ref (ad 2), .ref (ad 3), .int (bI ch), .ref (ad 4), .ref (ad 5), .ref (ad 6)]) := xq.of x0
  have f_43 : w_41 (ad 1) = some (eB g (32 * cn) dk) := xq.of x1
  have f_44 : w_41 (ad 2) = some (eI g 30 fP) := xq.of x2
  have f_45 : w_41 (ad 3) = some (eS g 64 fl) := xq.of x3
  have f_46 : w_41 (ad 5) = some (ob 5 [.ref sE, .int (nI sh), .int (nI (wr sn (sh + ss.length)))]) := xq.of (show w (ad 5) = _ from hDs.1)
  have hX_47 := hX.ext xq
  have hE_48 : Ext w w_41 := XK.trans XK.rfl' xq
  refine lv_astore_n (lv' := [(3, .ref q), (1, .long (openL pl 30)), (0, .ref (ad 0))]) hx hb dX1_held_12 rfl hl (by decide) rfl (fun ls hl => ?_)
  have loop : ∀ (n_ : Nat) (i : Nat) (lr : Int32) (bt : Int64) (w1 : GW) (H : Heap) (locs : List Loc) (ls : Array Slot), ss.length - i < n_ → (i ≤ ss.length) → (Ext w w1) → (∀ k, k < 64 → bitL bt k = (bitL (openL pl 30) k || (st.take i).any (fun s => bitL s.2 k))) → (w1 q = some (ob 7 [.int (nI (wr sn (sh + i))), .int (nI (ss.length - i)), .int lr, .ref (ad 5)])) → SH g w1 v s H locs → lv_has ls 5 [(0, .ref (ad 0)), (1, .long bt), (3, .ref q)] → W p l e ({ frames := 5, cells := 3, slots := 12, locals := 300 } : Room) s m ([.ref (ad 0)] : List Value).toArray below meth c H locs 1 4 (MQ below (va_Ql (fun (r : Int64) (w' : GW) => (∀ k, k < 64 → bitL r k = hel wt pl st kp k) ∧ Ext w w') (gB g v) (gA g)) ([.ref (ad 0)] : List Value).toArray s 3 12 (gA g)) (F0 m 13 ls []) := by
    intro n_
    induction n_ with
    | zero => intros; exact absurd ‹_ < 0› (Nat.not_lt_zero _)
    | succ n_ ih =>
      intro i lr bt w1 H locs ls hf hi hx1 hbt hq h hl
      have f_49 : w1 (ad 0) = some (ob 0 [.ref (ad 1), .int (nI cn), .int (bI ru), .int (bI fu), .ref (ad 2), .ref (ad 3), .int (bI ch), .ref (ad 4), .ref (ad 5), .ref (ad 6)]) := hx1.of x0
      have f_50 : w1 (ad 1) = some (eB g (32 * cn) dk) := hx1.of x1
      have f_51 : w1 (ad 2) = some (eI g 30 fP) := hx1.of x2
      have f_52 : w1 (ad 3) = some (eS g 64 fl) := hx1.of x3
      have f_53 : w1 (ad 5) = some (ob 5 [.ref sE, .int (nI sh), .int (nI (wr sn (sh + ss.length)))]) := hx1.of hDs.1
      have f_54 := hx1.of hDs.2.1
      have hX_55 := hX.ext hx1
      have hE_56 : Ext w w1 := XK.trans (XK.rfl' (T := fun _ => True) (w := w)) hx1
      refine lv_aload_n hx hb dX1_held_13 rfl (lv_at hl 2 rfl) ?_
      refine gc_Fi (va_runF (As := []) (rest := []) (hG.1.1 7 _ rfl).2 C.fix (m_J7_hasNext l g w1 v q (wr sn (sh + i)) (ss.length - i) lr (ad 5) hq (by have := hDs.2.2.2.1; have := hDs.2.2.2.2.1; omega)) (va_cwF (x := iHas) 0 hts (lw_F q293 q297 q299 q54 q301) rfl rfl rfl hG.2.2.2.2.1.1 (by decide +kernel) ⟨Nat.le_of_ble_eq_true rfl, Nat.le_of_ble_eq_true rfl⟩) (gp_V C h [] (Cn := RJ7) (T := TJ7) (N := 4) rfl hq) rfl rfl hl.1 rfl (lv_room (Nat.le_of_ble_eq_true rfl)) dX1_held_14 ⟨Nat.le_of_ble_eq_true rfl, Nat.le_of_ble_eq_true rfl⟩) h (fun r_57 w_58 H locs hp h => ?_)
      obtain ⟨er_r_57, ew_r_57⟩ := hp
      rw [er_r_57]
      rw [ew_r_57] at h
      refine lv_if_eq (tgt := 44) hx hb dX1_held_19 (by decide) (fun cn_ => ?_) (fun cn_ => ?_)
      · skip
        have cn_ : decide (0 < ss.length - i) = false := bI_eq0.mp cn_
        have hil : i = st.length := by have := of_decide_eq_false cn_; have := hSL.1; omega
        exact cK bt _ _ _ _ hE_56 (fun k hk => by rw [hbt k hk, hil, List.take_length]) h (lv_sub hl [0, 1] rfl)
      · skip
        have cn_ : decide (0 < ss.length - i) = true := bI_ne0.mp cn_
        have hlt : i < ss.length := by have := of_decide_eq_true cn_; omega
        obtain ⟨e1, he1⟩ : ∃ z_, ss[i]? = some z_ := ⟨_, List.getElem?_eq_getElem hlt⟩
        refine lv_aload_n hx hb dX1_held_22 rfl (lv_at hl 2 rfl) ?_
        refine gc_Fq (va_runF (As := []) (rest := []) (hG.1.1 7 _ rfl).2 C.fix (m_J7_next l g w1 v q (wr sn (sh + i)) (ss.length - i) lr (ad 5) sE sn sf e1 _ _ hq f_53 f_54 (by have := hDs.2.2.2.1; have := hDs.2.2.2.2.1; omega) (wr_lt (by have := hDs.2.2.1; have := hDs.2.2.2.1; omega)) hDs.2.2.2.2.1 (hDs.2.2.2.2.2 i e1 he1)) (va_cwF (x := iNext) 0 hts (lw_F q309 q312 q314 q54 q316) rfl rfl rfl hG.2.2.2.2.1.2.1 (by decide +kernel) ⟨Nat.le_of_ble_eq_true rfl, Nat.le_of_ble_eq_true rfl⟩) (gp_V C h [] (Cn := RJ7) (T := TJ7) (N := 4) rfl hq) rfl rfl hl.1 rfl (lv_room (Nat.le_of_ble_eq_true rfl)) dX1_held_23 ⟨Nat.le_of_ble_eq_true rfl, Nat.le_of_ble_eq_true rfl⟩) h (fun r_59 w_60 H locs hp h => ?_)
        obtain ⟨er_, ew_⟩ := hp
        rw [er_]
        rw [wr_next hDs.2.2.1 (by have := hDs.2.2.2.1; omega)] at ew_
        have x2_ : Ext w w_60 := by rw [ew_]; exact XK.putn hx1 qn
        have f2_ : w_60 q = some (ob 7 [.int (nI (wr sn (sh + (i + 1)))), .int (nI (ss.length - (i + 1))), .int (nI (wr sn (sh + i))), .ref (ad 5)]) := by rw [ew_, Nat.sub_add_eq]; exact gu_s
        have f_61 : w_60 (ad 0) = some (ob 0 [.ref (ad 1), .int (nI cn), .int (bI ru), .int (bI fu), .ref (ad 2), .ref (ad 3), .int (bI ch), .ref (ad 4), .ref (ad 5), .ref (ad 6)]) := x2_.of x0
        have f_62 : w_60 (ad 1) = some (eB g (32 * cn) dk) := x2_.of x1
        have f_63 : w_60 (ad 2) = some (eI g 30 fP) := x2_.of x2
        have f_64 : w_60 (ad 3) = some (eS g 64 fl) := x2_.of x3
        have f_65 : w_60 (ad 5) = some (ob 5 [.ref sE, .int (nI sh), .int (nI (wr sn (sh + ss.length)))]) := x2_.of hDs.1
        have f_66 := x2_.of hDs.2.1
        obtain ⟨y1, hy1⟩ : ∃ z_, st[i]? = some z_ := ⟨_, List.getElem?_eq_getElem (by have := hSL.1; omega)⟩
        have s1a := hSL.2 i e1 y1 he1 hy1
        have g1_ := x2_.of s1a
        refine gx_cast C h (Cn := RX2) (T := TX2) (N := 2) rfl g1_ q133 dX1_held_28 ?_
        refine lv_astore (lv' := [(4, .ref e1), (0, .ref (ad 0)), (1, .long bt), (3, .ref q)]) hx hb dX1_held_31 hl (by decide) rfl (fun ls hl => ?_)
        refine lv_lload_n hx hb dX1_held_33 rfl (lv_at hl 2 rfl) ?_
        refine lv_aload hx hb dX1_held_34 (lv_at hl 0 rfl) ?_
        refine gc_l (va_runV (As := []) (rest := [.long bt]) C.fix (m_X2_sectors l g w_60 v e1 y1.1 y1.2 g1_) (cwV 0 hts (lw_V q398 q399 q400 q50 q401) rfl rfl rfl (by decide +kernel) ⟨Nat.le_of_ble_eq_true rfl, Nat.le_of_ble_eq_true rfl⟩) (gp_V C h [] (Cn := RX2) (T := TX2) (N := 2) rfl g1_) rfl rfl hl.1 rfl (lv_room (Nat.le_of_ble_eq_true rfl)) dX1_held_36 ⟨Nat.le_of_ble_eq_true rfl, Nat.le_of_ble_eq_true rfl⟩) h (fun r_67 w_68 H locs hp h => ?_)
        obtain ⟨er_r_67, ew_r_67⟩ := hp
        rw [er_r_67]
        rw [ew_r_67] at h
        refine lv_lor hx hb dX1_held_39 ?_
        refine lv_lstore_n (lv' := [(1, .long (bt ||| y1.2)), (4, .ref e1), (0, .ref (ad 0)), (3, .ref q)]) hx hb dX1_held_40 rfl hl (by decide) rfl (fun ls hl => ?_)
        refine lv_goto (tgt := 13) hx hb dX1_held_41 (by decide) ?_
        exact ih (i + 1) (nI (wr sn (sh + i))) _ _ _ _ _ (by omega) (by omega) x2_ (fun k hk => by rw [bitL_or _ _ hk, hbt k hk, any_take hy1, Bool.or_assoc]) f2_ h (lv_sub hl [2, 0, 3] rfl)
  exact loop (ss.length + 1) 0 (-1) (openL pl 30) _ _ _ _ (by omega) (by omega) xq (fun k hk => by simp) fq h (lv_sub hl [2, 1, 0] rfl)
set_option maxHeartbeats 4000000 in
theorem m_X1_free (l : Launch) (g : GG) (w v : GW) (ad : Nat → Nat) (cn : Nat) (ru fu ch : Bool) (dk : Sec) (wt : List (Nat × Sec)) (ld : Nat → Option Sec) (pl : Nat → Option Nat) (st kp : List (Int32 × Int64)) (fP : Nat → Int32) (fl : Nat → Option Nat) (lb : Nat → Nat) (wE sE kE : Nat) (hX : XW g w ad cn ru fu ch dk wt ld pl st kp fP fl lb wE sE kE) (hI : InvK (cn, ru, fu, ch, dk, wt, ld, pl, st, kp))  : Met l yX1_free (ws_ yX1_free cX1_free 4 (some .int)) ({ frames := 6, cells := 3, slots := 12, locals := 360 } : Room) (gP g [.ref (ad 0)] w v) (va_Qi (fun (r : Int32) (w' : GW) => r = (if frS cn wt pl st kp < cn then nI (frS cn wt pl st kp) else -1) ∧ Ext w w') (gB g v) (gA g)) 3 12 (gA g) := by
  refine gm_of (by decide) (Nat.le_of_ble_eq_true rfl) ?_
  intro p e s m below meth c ls C hnm h hl
  have C : Cx g p s m ([.ref (ad 0)] : List Value).toArray meth c cX1_free 4 RX1 (some .int) := C
  obtain ⟨hx, hb, hml, hown, hts, hr, hlk, hG⟩ := id C
  have hl : lv_has ls 4 [(0, .ref (ad 0))] := hl
  obtain ⟨⟨x0, x1, x2, x3⟩, hQW, hQS, hQK, hLL, hLi, hpl, hXD, h8⟩ := id hX
  obtain ⟨i1, i2, i3, i4, i5, i6, i7, i8, i9⟩ := id hI
  have n01 : ad 0 ≠ ad 1 := g_ne x0 x1 (kn_ne (show 0 ≠ 100 + 32 * cn by omega))
  have n02 : ad 0 ≠ ad 2 := g_ne x0 x2 (kn_ne (show 0 ≠ 130 by omega))
  have n03 : ad 0 ≠ ad 3 := g_ne x0 x3 (kn_ne (show 0 ≠ 50 by omega))
  have n12 : ad 1 ≠ ad 2 := g_ne x1 x2 (kn_ne (show 100 + 32 * cn ≠ 130 by omega))
  have n13 : ad 1 ≠ ad 3 := g_ne x1 x3 (kn_ne (show 100 + 32 * cn ≠ 50 by omega))
  have n23 : ad 2 ≠ ad 3 := g_ne x2 x3 (kn_ne (show 130 ≠ 50 by omega))
  refine lv_aload_n hx hb dX1_free_0 rfl (lv_at hl 0 rfl) ?_
  refine gc_l (va_runV (As := []) (rest := []) C.fix (m_X1_held l g w v ad cn ru fu ch dk wt ld pl st kp fP fl lb wE sE kE hX hI) (cwV 0 hts (lw_V q390 q392 qs12 q43 q393) rfl rfl rfl (by decide +kernel) ⟨Nat.le_of_ble_eq_true rfl, Nat.le_of_ble_eq_true rfl⟩) (gp_V C h [] (Cn := RX1) (T := TX1) (N := 10) rfl x0) rfl rfl hl.1 rfl (lv_room (Nat.le_of_ble_eq_true rfl)) dX1_free_1 ⟨Nat.le_of_ble_eq_true rfl, Nat.le_of_ble_eq_true rfl⟩) h (fun r_1 w_2 H locs hp h => ?_)
  obtain ⟨hbits, hxh⟩ := hp
  have f_3 : w_2 (ad 0) = some (ob 0 [.ref (ad 1), .int (nI cn), .int (bI ru), .int (bI fu), .ref (ad 2), .ref (ad 3), .int (bI ch), .ref (ad 4), .ref (ad 5), .ref (ad 6)]) := hxh.of x0
  have f_4 : w_2 (ad 1) = some (eB g (32 * cn) dk) := hxh.of x1
  have f_5 : w_2 (ad 2) = some (eI g 30 fP) := hxh.of x2
  have f_6 : w_2 (ad 3) = some (eS g 64 fl) := hxh.of x3
  have hX_7 := hX.ext hxh
  have hE_8 : Ext w w_2 := XK.trans XK.rfl' hxh
  refine lv_lstore_n (lv' := [(1, .long r_1), (0, .ref (ad 0))]) hx hb dX1_free_4 rfl hl (by decide) rfl (fun ls hl => ?_)
  refine lv_iconst (v := nI 2) hx hb dX1_free_5 (by decide) ?_
  refine lv_istore_n (lv' := [(3, .int (nI 2)), (1, .long r_1), (0, .ref (ad 0))]) hx hb dX1_free_6 rfl hl (by decide) rfl (fun ls hl => ?_)
  have loop : ∀ (n_ : Nat) (k : Nat) (w1 : GW) (H : Heap) (locs : List Loc) (ls : Array Slot), cn - k < n_ → (2 ≤ k ∧ k ≤ cn) → (lf (hel wt pl st kp) (cn - k) k = frS cn wt pl st kp) → (w1 = w_2) → SH g w1 v s H locs → lv_has ls 4 [(0, .ref (ad 0)), (1, .long r_1), (3, .int (nI k))] → W p l e ({ frames := 6, cells := 3, slots := 12, locals := 360 } : Room) s m ([.ref (ad 0)] : List Value).toArray below meth c H locs 3 12 (MQ below (va_Qi (fun (r : Int32) (w' : GW) => r = (if frS cn wt pl st kp < cn then nI (frS cn wt pl st kp) else -1) ∧ Ext w w') (gB g v) (gA g)) ([.ref (ad 0)] : List Value).toArray s 3 12 (gA g)) (F0 m 7 ls []) := by
    intro n_
    induction n_ with
    | zero => intros; exact absurd ‹_ < 0› (Nat.not_lt_zero _)
    | succ n_ ih =>
      intro k w1 H locs ls hf hk hlf hw  h hl
      rw [hw] at h
      refine lv_iload_n hx hb dX1_free_7 rfl (lv_at hl 2 rfl) ?_
      refine lv_aload_n hx hb dX1_free_8 rfl (lv_at hl 0 rfl) ?_
      refine gx_get C h f_3 (Cn := RX1) (T := TX1) (N := 10) rfl in_X1 1 (by decide) q216 rfl rfl dX1_free_9 ?_
      refine lv_icmp_ge (tgt := 31) hx hb dX1_free_12 (by decide) (fun c1 => ?_) (fun c1 => ?_)
      · skip
        have c1 : cn ≤ k := (nI_leI (by omega) (by omega)).mp c1
        have hkc : k = cn := by omega
        rw [hkc, Nat.sub_self] at hlf
        refine lv_iload_n hx hb dX1_free_31 rfl (lv_at hl 2 rfl) ?_
        refine lv_aload_n hx hb dX1_free_32 rfl (lv_at hl 0 rfl) ?_
        refine gx_get C h f_3 (Cn := RX1) (T := TX1) (N := 10) rfl in_X1 1 (by decide) q216 rfl rfl dX1_free_33 ?_
        refine lv_icmp_ge (tgt := 43) hx hb dX1_free_36 (by decide) (fun c2 => ?_) (fun c2 => ?_)
        · skip
          have c2 : cn ≤ k := (nI_leI (by omega) (by omega)).mp c2
          refine lv_iconst (v := (-1)) hx hb dX1_free_43 (by decide) ?_
          exact gr_i C h (ty := .int) rfl (rfl) (⟨by rw [← hlf]; exact (if_neg (Nat.lt_irrefl _)).symm, hE_8⟩) (Nat.le_of_ble_eq_true rfl) (Nat.le_of_ble_eq_true rfl) dX1_free_44
        · skip
          have c2 : ¬ (cn ≤ k) := fun q => c2 ((nI_leI (by omega) (by omega)).mpr q)
          omega
      · skip
        have c1 : ¬ (cn ≤ k) := fun q => c1 ((nI_leI (by omega) (by omega)).mpr q)
        obtain ⟨q, hq⟩ : ∃ q, cn - k = q + 1 := ⟨cn - k - 1, by omega⟩
        rw [hq] at hlf
        refine lv_lload_n hx hb dX1_free_15 rfl (lv_at hl 1 rfl) ?_
        refine lv_iload_n hx hb dX1_free_16 rfl (lv_at hl 2 rfl) ?_
        refine lv_lshr hx hb dX1_free_17 rfl ?_
        refine lv_lconst (v := 1) hx hb dX1_free_18 (by decide) ?_
        refine lv_land hx hb dX1_free_19 ?_
        refine lv_lconst (v := 1) hx hb dX1_free_20 (by decide) ?_
        refine W.lcmp hx hb dX1_free_21 ?_
        refine lv_if_ne (tgt := 31) hx hb dX1_free_22 (by decide) (fun c2 => ?_) (fun c2 => ?_)
        · skip
          have hb_ := bitL_f c2
          rw [hbits k (by omega)] at hb_
          rw [lf_f hb_] at hlf
          refine lv_iload_n hx hb dX1_free_31 rfl (lv_at hl 2 rfl) ?_
          refine lv_aload_n hx hb dX1_free_32 rfl (lv_at hl 0 rfl) ?_
          refine gx_get C h f_3 (Cn := RX1) (T := TX1) (N := 10) rfl in_X1 1 (by decide) q216 rfl rfl dX1_free_33 ?_
          refine lv_icmp_ge (tgt := 43) hx hb dX1_free_36 (by decide) (fun c3 => ?_) (fun c3 => ?_)
          · skip
            have c3 : cn ≤ k := (nI_leI (by omega) (by omega)).mp c3
            omega
          · skip
            have c3 : ¬ (cn ≤ k) := fun q => c3 ((nI_leI (by omega) (by omega)).mpr q)
            refine lv_iload_n hx hb dX1_free_39 rfl (lv_at hl 2 rfl) ?_
            refine lv_goto (tgt := 44) hx hb dX1_free_40 (by decide) ?_
            exact gr_i C h (ty := .int) rfl (rfl) (⟨by rw [← hlf, if_pos (by omega)], hE_8⟩) (Nat.le_of_ble_eq_true rfl) (Nat.le_of_ble_eq_true rfl) dX1_free_44
        · skip
          have hb_ := bitL_t c2
          rw [hbits k (by omega)] at hb_
          rw [lf_t hb_] at hlf
          refine lv_iinc (v := nI (k + 1)) (lv' := [(3, .int (nI (k + 1))), (0, .ref (ad 0)), (1, .long r_1)]) hx hb dX1_free_25 hl (k := 2) rfl (gi_inc _ 1) (by decide) rfl (fun ls hl => ?_)
          refine lv_goto (tgt := 7) hx hb dX1_free_28 (by decide) ?_
          exact ih (k + 1) _ _ _ _ (by omega) (by omega) (by rw [← hlf]; congr 1; omega) rfl  h (lv_sub hl [1, 2, 0] rfl)
  exact loop (cn + 1) 2 w_2 _ _ _ (by omega) (by omega) rfl rfl h (lv_sub hl [2, 1, 0] rfl)
set_option maxHeartbeats 4000000 in
theorem m_X1_latest (l : Launch) (g : GG) (w v : GW) (ad : Nat → Nat) (cn : Nat) (ru fu ch : Bool) (dk : Sec) (wt : List (Nat × Sec)) (ld : Nat → Option Sec) (pl : Nat → Option Nat) (st kp : List (Int32 × Int64)) (fP : Nat → Int32) (fl : Nat → Option Nat) (lb : Nat → Nat) (wE sE kE : Nat) (hX : XW g w ad cn ru fu ch dk wt ld pl st kp fP fl lb wE sE kE) (hn : st ≠ [])  : Met l yX1_latest (ws_ yX1_latest cX1_latest 1 (some (.object "KnowDisk$State"))) ({ frames := 3, cells := 0, slots := 0, locals := 180 } : Room) (gP g [.ref (ad 0)] w v) (va_Qq (fun (r : Option Nat) (w' : GW) => ∃ a : Nat, r = some a ∧ w a = some (ob 2 [.int (lastS st).1, .long (lastS st).2]) ∧ w' = w) (gB g v) (gA g)) 0 0 (gA g) := by
  refine gm_of (by decide) (Nat.le_of_ble_eq_true rfl) ?_
  intro p e s m below meth c ls C hnm h hl
  have C : Cx g p s m ([.ref (ad 0)] : List Value).toArray meth c cX1_latest 1 RX1 (some (.object "KnowDisk$State")) := C
  obtain ⟨hx, hb, hml, hown, hts, hr, hlk, hG⟩ := id C
  have hl : lv_has ls 1 [(0, .ref (ad 0))] := hl
  obtain ⟨⟨x0, x1, x2, x3⟩, hQW, hQS, hQK, hLL, hLi, hpl, hXD, h8⟩ := id hX
  have n01 : ad 0 ≠ ad 1 := g_ne x0 x1 (kn_ne (show 0 ≠ 100 + 32 * cn by omega))
  have n02 : ad 0 ≠ ad 2 := g_ne x0 x2 (kn_ne (show 0 ≠ 130 by omega))
  have n03 : ad 0 ≠ ad 3 := g_ne x0 x3 (kn_ne (show 0 ≠ 50 by omega))
  have n12 : ad 1 ≠ ad 2 := g_ne x1 x2 (kn_ne (show 100 + 32 * cn ≠ 130 by omega))
  have n13 : ad 1 ≠ ad 3 := g_ne x1 x3 (kn_ne (show 100 + 32 * cn ≠ 50 by omega))
  have n23 : ad 2 ≠ ad 3 := g_ne x2 x3 (kn_ne (show 130 ≠ 50 by omega))
  obtain ⟨sn, sf, sh, ss, hDs, hSL⟩ := id hQS
  obtain ⟨e1, he1, hx1⟩ := SL.last hSL hn
  refine lv_aload_n hx hb dX1_latest_0 rfl (lv_at hl 0 rfl) ?_
  refine gx_get C h x0 (Cn := RX1) (T := TX1) (N := 10) rfl in_X1 8 (by decide) q223 rfl rfl dX1_latest_1 ?_
  refine gc_q (va_runV (As := []) (rest := []) C.fix (m_J1_peekLast l g w v (ad 5) sE sn sf sh ss hDs e1 he1) (cwV 0 hts (lw_V q466 q467 q468 q45 q469) rfl rfl rfl (by decide +kernel) ⟨Nat.le_of_ble_eq_true rfl, Nat.le_of_ble_eq_true rfl⟩) (gp_V C h [] (Cn := RJ1) (T := TJ1) (N := 3) rfl hDs.1) rfl rfl hl.1 rfl (lv_room (Nat.le_of_ble_eq_true rfl)) dX1_latest_4 ⟨Nat.le_of_ble_eq_true rfl, Nat.le_of_ble_eq_true rfl⟩) h (fun r_1 w_2 H locs hp h => ?_)
  obtain ⟨er_r_1, ew_r_1⟩ := hp
  rw [er_r_1]
  rw [ew_r_1] at h
  refine gx_cast C h (Cn := RX2) (T := TX2) (N := 2) rfl hx1 q133 dX1_latest_7 ?_
  exact gr_q C h (x := some e1) (ty := (.object "KnowDisk$State")) rfl (Or.inl ⟨_, rfl⟩) (⟨e1, rfl, hx1, rfl⟩) (Nat.le_of_ble_eq_true rfl) (Nat.le_of_ble_eq_true rfl) dX1_latest_10
