set_option maxRecDepth 100000
theorem wr_small {n i : Nat} (h : i < n) : wr n i = i := by unfold wr; rw [if_pos h]
theorem wr_next {n hd i : Nat} (h : hd < n) (h2 : i + 1 ≤ n) : wr n (wr n (hd + i) + 1) = wr n (hd + (i + 1)) := by
  unfold wr
  repeat' split
  all_goals omega
theorem any_take {α : Type} {l : List α} {P : α → Bool} {i : Nat} {y : α} (h : l[i]? = some y) : (l.take (i + 1)).any P = ((l.take i).any P || P y) := by
  rw [List.take_succ, h, List.any_append]
  simp
theorem any_mem {α : Type} {l : List α} {P : α → Bool} {i : Nat} {y : α} (h : l[i]? = some y) (hy : P y = true) : l.any P = true := List.any_eq_true.mpr ⟨y, List.mem_of_getElem? h, hy⟩
def latT (wt : List (Nat × Sec)) (k i : Nat) (s0 : Sec) : Sec := (wt.take i).foldl (fun s x => if x.1 = k then x.2 else s) s0
theorem latT_s {wt : List (Nat × Sec)} {k i : Nat} {y : Nat × Sec} (h : wt[i]? = some y) (s0 : Sec) : latT wt k (i + 1) s0 = if y.1 = k then y.2 else latT wt k i s0 := by
  unfold latT
  rw [List.take_succ, h, List.foldl_append]
  rfl
theorem latT_all {dk : Sec} {wt : List (Nat × Sec)} {k : Nat} : latT wt k wt.length (sec dk k) = lat dk wt k := by
  unfold latT lat
  rw [List.take_length]
set_option maxHeartbeats 4000000 in
theorem m_X1_isWaiting (l : Launch) (g : GG) (w v : GW) (ad : Nat → Nat) (cn : Nat) (ru fu ch : Bool) (dk : Sec) (wt : List (Nat × Sec)) (ld : Nat → Option Sec) (pl : Nat → Option Nat) (st kp : List (Int32 × Int64)) (fP : Nat → Int32) (fl : Nat → Option Nat) (lb : Nat → Nat) (wE sE kE : Nat) (hX : XW g w ad cn ru fu ch dk wt ld pl st kp fP fl lb wE sE kE) (hI : InvK (cn, ru, fu, ch, dk, wt, ld, pl, st, kp)) (k : Nat) (hk : k < 64)  : Met l yX1_isWaiting (ws_ yX1_isWaiting cX1_isWaiting 4 (some .boolean)) ({ frames := 5, cells := 1, slots := 4, locals := 300 } : Room) (gP g [.ref (ad 0), .int (nI k)] w v) (va_Qi (fun (r : Int32) (w' : GW) => r = bI (wt.any (fun x => decide (x.1 = k))) ∧ Ext w w') (gB g v) (gA g)) 1 4 (gA g) := by
  refine gm_of (by decide) (Nat.le_of_ble_eq_true rfl) ?_
  intro p e s m below meth c ls C hnm h hl
  have C : Cx g p s m ([.ref (ad 0), .int (nI k)] : List Value).toArray meth c cX1_isWaiting 4 RX1 (some .boolean) := C
  obtain ⟨hx, hb, hml, hown, hts, hr, hlk, hG⟩ := id C
  have hl : lv_has ls 4 [(0, .ref (ad 0)), (1, .int (nI k))] := hl
  obtain ⟨⟨x0, x1, x2, x3⟩, hQW, hQS, hQK, hLL, hLi, hpl, hXD, h8⟩ := id hX
  obtain ⟨i1, i2, i3, i4, i5, i6, i7, i8, i9⟩ := id hI
  have n01 : ad 0 ≠ ad 1 := g_ne x0 x1 (kn_ne (show 0 ≠ 100 + 32 * cn by omega))
  have n02 : ad 0 ≠ ad 2 := g_ne x0 x2 (kn_ne (show 0 ≠ 130 by omega))
  have n03 : ad 0 ≠ ad 3 := g_ne x0 x3 (kn_ne (show 0 ≠ 50 by omega))
  have n12 : ad 1 ≠ ad 2 := g_ne x1 x2 (kn_ne (show 100 + 32 * cn ≠ 130 by omega))
  have n13 : ad 1 ≠ ad 3 := g_ne x1 x3 (kn_ne (show 100 + 32 * cn ≠ 50 by omega))
  have n23 : ad 2 ≠ ad 3 := g_ne x2 x3 (kn_ne (show 130 ≠ 50 by omega))
  obtain ⟨wn, wf, wh, ws, hDw, hWL⟩ := id hQW
  refine lv_aload_n hx hb dX1_isWaiting_0 rfl (lv_at hl 0 rfl) ?_
  refine gx_get C h x0 (Cn := RX1) (T := TX1) (N := 10) rfl in_X1 7 (by decide) q222 rfl rfl dX1_isWaiting_1 ?_
  refine gc_q (va_runV (As := []) (rest := []) C.fix (m_J1_iterator l g w v (ad 4) wE wn wf wh ws hDw) (cwV 0 hts (lw_V q262 q263 q264 q45 q265) rfl rfl rfl (by decide +kernel) ⟨Nat.le_of_ble_eq_true rfl, Nat.le_of_ble_eq_true rfl⟩) (gp_V C h [] (Cn := RJ1) (T := TJ1) (N := 3) rfl (show w (ad 4) = _ from hDw.1)) rfl rfl hl.1 rfl (lv_room (Nat.le_of_ble_eq_true rfl)) dX1_isWaiting_4 ⟨Nat.le_of_ble_eq_true rfl, Nat.le_of_ble_eq_true rfl⟩) h (fun r_1 w_2 H locs hpq h => ?_)
  obtain ⟨q, qr, qn, qv, qw⟩ := hpq
  rw [qr]
  have xq : Ext w w_2 := by rw [qw]; exact XK.rfl'.putn qn
  have fq : w_2 q = some (ob 7 [.int (nI (wr wn (wh + 0))), .int (nI (ws.length - 0)), .int (-1), .ref (ad 4)]) := by rw [qw, Nat.add_zero, Nat.sub_zero, wr_small hDw.2.2.1]; exact gu_s
  have f_3 : w_2 (ad 0) = some (ob 0 [.ref (ad 1), .int (nI cn), .int (bI ru), .int (bI fu), .ref (ad 2), .ref (ad 3), .int (bI ch), .ref (ad 4), .ref (ad 5), .ref (ad 6)]) := xq.of x0
  have f_4 : w_2 (ad 1) = some (eB g (32 * cn) dk) := xq.of x1
  have f_5 : w_2 (ad 2) = some (eI g 30 fP) := xq.of x2
  have f_6 : w_2 (ad 3) = some (eS g 64 fl) := xq.of x3
  have f_7 : w_2 (ad 4) = some (ob 5 [.ref wE, .int (nI wh), .int (nI (wr wn (wh + ws.length)))]) := xq.of (show w (ad 4) = _ from hDw.1)
  have hX_8 := hX.ext xq
  have hE_9 : Ext w w_2 := XK.trans XK.rfl' xq
  refine lv_astore_n (lv' := [(2, .ref q), (0, .ref (ad 0)), (1, .int (nI k))]) hx hb dX1_isWaiting_7 rfl hl (by decide) rfl (fun ls hl => ?_)
  have loop : ∀ (n_ : Nat) (i : Nat) (lr : Int32)  (w1 : GW) (H : Heap) (locs : List Loc) (ls : Array Slot), ws.length - i < n_ → (i ≤ ws.length) → (Ext w w1) → ((wt.take i).any (fun x => decide (x.1 = k)) = false) → (w1 q = some (ob 7 [.int (nI (wr wn (wh + i))), .int (nI (ws.length - i)), .int lr, .ref (ad 4)])) → SH g w1 v s H locs → lv_has ls 4 [(0, .ref (ad 0)), (1, .int (nI k)), (2, .ref q)] → W p l e ({ frames := 5, cells := 1, slots := 4, locals := 300 } : Room) s m ([.ref (ad 0), .int (nI k)] : List Value).toArray below meth c H locs 1 4 (MQ below (va_Qi (fun (r : Int32) (w' : GW) => r = bI (wt.any (fun x => decide (x.1 = k))) ∧ Ext w w') (gB g v) (gA g)) ([.ref (ad 0), .int (nI k)] : List Value).toArray s 1 4 (gA g)) (F0 m 8 ls []) := by
    intro n_
    induction n_ with
    | zero => intros; exact absurd ‹_ < 0› (Nat.not_lt_zero _)
    | succ n_ ih =>
      intro i lr w1 H locs ls hf hi hx1 hno hq h hl
      have f_10 : w1 (ad 0) = some (ob 0 [.ref (ad 1), .int (nI cn), .int (bI ru), .int (bI fu), .ref (ad 2), .ref (ad 3), .int (bI ch), .ref (ad 4), .ref (ad 5), .ref (ad 6)]) := hx1.of x0
      have f_11 : w1 (ad 1) = some (eB g (32 * cn) dk) := hx1.of x1
      have f_12 : w1 (ad 2) = some (eI g 30 fP) := hx1.of x2
      have f_13 : w1 (ad 3) = some (eS g 64 fl) := hx1.of x3
      have f_14 : w1 (ad 4) = some (ob 5 [.ref wE, .int (nI wh), .int (nI (wr wn (wh + ws.length)))]) := hx1.of hDw.1
      have f_15 := hx1.of hDw.2.1
      have hX_16 := hX.ext hx1
      have hE_17 : Ext w w1 := XK.trans (XK.rfl' (T := fun _ => True) (w := w)) hx1
      refine lv_aload_n hx hb dX1_isWaiting_8 rfl (lv_at hl 2 rfl) ?_
      refine gc_Fi (va_runF (As := []) (rest := []) (hG.1.1 7 _ rfl).2 C.fix (m_J7_hasNext l g w1 v q (wr wn (wh + i)) (ws.length - i) lr (ad 4) hq (by have := hDw.2.2.2.1; have := hDw.2.2.2.2.1; omega)) (va_cwF (x := iHas) 0 hts (lw_F q293 q297 q299 q54 q301) rfl rfl rfl hG.2.2.2.2.1.1 (by decide +kernel) ⟨Nat.le_of_ble_eq_true rfl, Nat.le_of_ble_eq_true rfl⟩) (gp_V C h [] (Cn := RJ7) (T := TJ7) (N := 4) rfl hq) rfl rfl hl.1 rfl (lv_room (Nat.le_of_ble_eq_true rfl)) dX1_isWaiting_9 ⟨Nat.le_of_ble_eq_true rfl, Nat.le_of_ble_eq_true rfl⟩) h (fun r_18 w_19 H locs hp h => ?_)
      obtain ⟨er_r_18, ew_r_18⟩ := hp
      rw [er_r_18]
      rw [ew_r_18] at h
      refine lv_if_eq (tgt := 40) hx hb dX1_isWaiting_14 (by decide) (fun cn_ => ?_) (fun cn_ => ?_)
      · skip
        have cn_ : decide (0 < ws.length - i) = false := bI_eq0.mp cn_
        have hil : i = ws.length := by have := of_decide_eq_false cn_; omega
        refine lv_iconst (v := bI false) hx hb dX1_isWaiting_40 (by decide) ?_
        exact gr_i C h (ty := .boolean) rfl (bI_n _) (⟨by rw [hil, hWL.1, List.take_length] at hno; rw [hno], hE_17⟩) (Nat.le_of_ble_eq_true rfl) (Nat.le_of_ble_eq_true rfl) dX1_isWaiting_41
      · skip
        have cn_ : decide (0 < ws.length - i) = true := bI_ne0.mp cn_
        have hlt : i < ws.length := by have := of_decide_eq_true cn_; omega
        obtain ⟨e1, he1⟩ : ∃ z_, ws[i]? = some z_ := ⟨_, List.getElem?_eq_getElem hlt⟩
        refine lv_aload_n hx hb dX1_isWaiting_17 rfl (lv_at hl 2 rfl) ?_
        refine gc_Fq (va_runF (As := []) (rest := []) (hG.1.1 7 _ rfl).2 C.fix (m_J7_next l g w1 v q (wr wn (wh + i)) (ws.length - i) lr (ad 4) wE wn wf e1 _ _ hq f_14 f_15 (by have := hDw.2.2.2.1; have := hDw.2.2.2.2.1; omega) (wr_lt (by have := hDw.2.2.1; have := hDw.2.2.2.1; omega)) hDw.2.2.2.2.1 (hDw.2.2.2.2.2 i e1 he1)) (va_cwF (x := iNext) 0 hts (lw_F q309 q312 q314 q54 q316) rfl rfl rfl hG.2.2.2.2.1.2.1 (by decide +kernel) ⟨Nat.le_of_ble_eq_true rfl, Nat.le_of_ble_eq_true rfl⟩) (gp_V C h [] (Cn := RJ7) (T := TJ7) (N := 4) rfl hq) rfl rfl hl.1 rfl (lv_room (Nat.le_of_ble_eq_true rfl)) dX1_isWaiting_18 ⟨Nat.le_of_ble_eq_true rfl, Nat.le_of_ble_eq_true rfl⟩) h (fun r_20 w_21 H locs hp h => ?_)
        obtain ⟨er_, ew_⟩ := hp
        rw [er_]
        rw [wr_next hDw.2.2.1 (by have := hDw.2.2.2.1; omega)] at ew_
        have x2_ : Ext w w_21 := by rw [ew_]; exact XK.putn hx1 qn
        have f2_ : w_21 q = some (ob 7 [.int (nI (wr wn (wh + (i + 1)))), .int (nI (ws.length - (i + 1))), .int (nI (wr wn (wh + i))), .ref (ad 4)]) := by rw [ew_, Nat.sub_add_eq]; exact gu_s
        have f_22 : w_21 (ad 0) = some (ob 0 [.ref (ad 1), .int (nI cn), .int (bI ru), .int (bI fu), .ref (ad 2), .ref (ad 3), .int (bI ch), .ref (ad 4), .ref (ad 5), .ref (ad 6)]) := x2_.of x0
        have f_23 : w_21 (ad 1) = some (eB g (32 * cn) dk) := x2_.of x1
        have f_24 : w_21 (ad 2) = some (eI g 30 fP) := x2_.of x2
        have f_25 : w_21 (ad 3) = some (eS g 64 fl) := x2_.of x3
        have f_26 : w_21 (ad 4) = some (ob 5 [.ref wE, .int (nI wh), .int (nI (wr wn (wh + ws.length)))]) := x2_.of hDw.1
        have f_27 := x2_.of hDw.2.1
        obtain ⟨y1, hy1⟩ : ∃ z_, wt[i]? = some z_ := ⟨_, List.getElem?_eq_getElem (by have := hWL.1; omega)⟩
        obtain ⟨s1, b1, s1a, s1b, s1c, s1d⟩ := hWL.2 i e1 y1 he1 hy1
        have g1_ := x2_.of s1a
        refine gx_cast C h (Cn := RX5) (T := TX5) (N := 2) rfl g1_ q330 dX1_isWaiting_23 ?_
        refine lv_astore_n (lv' := [(3, .ref e1), (0, .ref (ad 0)), (1, .int (nI k)), (2, .ref q)]) hx hb dX1_isWaiting_26 rfl hl (by decide) rfl (fun ls hl => ?_)
        refine lv_aload_n hx hb dX1_isWaiting_27 rfl (lv_at hl 0 rfl) ?_
        refine gc_i (va_runV (As := []) (rest := []) C.fix (m_X5_to l g w_21 v e1 (nI y1.1) s1 g1_) (cwV 0 hts (lw_V q331 q332 q333 q60 q334) rfl rfl rfl (by decide +kernel) ⟨Nat.le_of_ble_eq_true rfl, Nat.le_of_ble_eq_true rfl⟩) (gp_V C h [] (Cn := RX5) (T := TX5) (N := 2) rfl g1_) rfl rfl hl.1 rfl (lv_room (Nat.le_of_ble_eq_true rfl)) dX1_isWaiting_28 ⟨Nat.le_of_ble_eq_true rfl, Nat.le_of_ble_eq_true rfl⟩) h (fun r_28 w_29 H locs hp h => ?_)
        obtain ⟨er_r_28, ew_r_28⟩ := hp
        rw [er_r_28]
        rw [ew_r_28] at h
        refine lv_iload_n hx hb dX1_isWaiting_31 rfl (lv_at hl 2 rfl) ?_
        have hy64 : y1.1 < 64 := by have := (i4 y1 (List.mem_of_getElem? hy1)).1; omega
        refine lv_icmp_ne (tgt := 37) hx hb dX1_isWaiting_32 (by decide) (fun c2 => ?_) (fun c2 => ?_)
        · skip
          have c2 : ¬ (y1.1 = k) := fun q => c2 ((nI_eq (by omega) (by omega)).mpr q)
          refine lv_goto (tgt := 8) hx hb dX1_isWaiting_37 (by decide) ?_
          exact ih (i + 1) (nI (wr wn (wh + i)))  _ _ _ _ (by omega) (by omega) x2_ (by rw [any_take hy1, hno, decide_eq_false c2]; rfl) f2_ h (lv_sub hl [1, 2, 3] rfl)
        · skip
          have c2 : y1.1 = k := (nI_eq (by omega) (by omega)).mp c2
          refine lv_iconst (v := bI true) hx hb dX1_isWaiting_35 (by decide) ?_
          exact gr_i C h (ty := .boolean) rfl (bI_n _) (⟨by rw [any_mem hy1 (decide_eq_true c2)], x2_⟩) (Nat.le_of_ble_eq_true rfl) (Nat.le_of_ble_eq_true rfl) dX1_isWaiting_36
  exact loop (ws.length + 1) 0 (-1)  _ _ _ _ (by omega) (by omega) xq rfl fq h (lv_sub hl [1, 2, 0] rfl)
set_option maxHeartbeats 4000000 in
theorem m_X1_sector (l : Launch) (g : GG) (w v : GW) (ad : Nat → Nat) (cn : Nat) (ru fu ch : Bool) (dk : Sec) (wt : List (Nat × Sec)) (ld : Nat → Option Sec) (pl : Nat → Option Nat) (st kp : List (Int32 × Int64)) (fP : Nat → Int32) (fl : Nat → Option Nat) (lb : Nat → Nat) (wE sE kE : Nat) (hX : XW g w ad cn ru fu ch dk wt ld pl st kp fP fl lb wE sE kE) (hI : InvK (cn, ru, fu, ch, dk, wt, ld, pl, st, kp)) (k : Nat) (hk : k < cn)  : Met l yX1_sector (ws_ yX1_sector cX1_sector 5 (some (.object "KnowDisk$Sector"))) ({ frames := 5, cells := 3, slots := 37, locals := 300 } : Room) (gP g [.ref (ad 0), .int (nI k)] w v) (va_Qq (fun (r : Option Nat) (w' : GW) => ∃ (a b : Nat) (f : Sec), r = some a ∧ Ext w w' ∧ w' a = some (ob 1 [.ref b]) ∧ w' b = some (eB g 32 f) ∧ (∀ i, 4 ≤ i → f i = cur dk wt ld k i) ∧ (ld k = none → f = lat dk wt k)) (gB g v) (gA g)) 3 37 (gA g) := by
  refine gm_of (by decide) (Nat.le_of_ble_eq_true rfl) ?_
  intro p e s m below meth c ls C hnm h hl
  have C : Cx g p s m ([.ref (ad 0), .int (nI k)] : List Value).toArray meth c cX1_sector 5 RX1 (some (.object "KnowDisk$Sector")) := C
  obtain ⟨hx, hb, hml, hown, hts, hr, hlk, hG⟩ := id C
  have hl : lv_has ls 5 [(0, .ref (ad 0)), (1, .int (nI k))] := hl
  obtain ⟨⟨x0, x1, x2, x3⟩, hQW, hQS, hQK, hLL, hLi, hpl, hXD, h8⟩ := id hX
  obtain ⟨i1, i2, i3, i4, i5, i6, i7, i8, i9⟩ := id hI
  have n01 : ad 0 ≠ ad 1 := g_ne x0 x1 (kn_ne (show 0 ≠ 100 + 32 * cn by omega))
  have n02 : ad 0 ≠ ad 2 := g_ne x0 x2 (kn_ne (show 0 ≠ 130 by omega))
  have n03 : ad 0 ≠ ad 3 := g_ne x0 x3 (kn_ne (show 0 ≠ 50 by omega))
  have n12 : ad 1 ≠ ad 2 := g_ne x1 x2 (kn_ne (show 100 + 32 * cn ≠ 130 by omega))
  have n13 : ad 1 ≠ ad 3 := g_ne x1 x3 (kn_ne (show 100 + 32 * cn ≠ 50 by omega))
  have n23 : ad 2 ≠ ad 3 := g_ne x2 x3 (kn_ne (show 130 ≠ 50 by omega))
  obtain ⟨wn, wf, wh, ws, hDw, hWL⟩ := id hQW
  have hk64 : k < 64 := by omega
  obtain ⟨o_, hld⟩ : ∃ o_, ld k = o_ := ⟨_, rfl⟩
  cases o_ with
  | some d =>
    obtain ⟨s0, f0, l1, l2, l3, l4⟩ := (hLL k hk64).2 d hld
    refine lv_aload_n hx hb dX1_sector_0 rfl (lv_at hl 0 rfl) ?_
    refine gx_get C h x0 (Cn := RX1) (T := TX1) (N := 10) rfl in_X1 5 (by decide) q220 rfl rfl dX1_sector_1 ?_
    refine lv_iload_n hx hb dX1_sector_4 rfl (lv_at hl 1 rfl) ?_
    refine gx_aald C h 4 rfl x3 k (rfl) (by omega) dX1_sector_5 ?_
    rw [l1]
    refine lv_ifnull hx hb dX1_sector_6 ?_
    refine lv_aload_n hx hb dX1_sector_9 rfl (lv_at hl 0 rfl) ?_
    refine gx_get C h x0 (Cn := RX1) (T := TX1) (N := 10) rfl in_X1 5 (by decide) q220 rfl rfl dX1_sector_10 ?_
    refine lv_iload_n hx hb dX1_sector_13 rfl (lv_at hl 1 rfl) ?_
    refine gx_aald C h 4 rfl x3 k (rfl) (by omega) dX1_sector_14 ?_
    rw [l1]
    exact gr_q C h (x := some s0) (ty := (.object "KnowDisk$Sector")) rfl (Or.inl ⟨_, rfl⟩) (⟨s0, lb k, f0, rfl, XK.rfl', l2, l3, fun i hi => by unfold cur; rw [hld]; show _ = d i; rw [← l4, closeB_4 f0 hi], fun q => by rw [hld] at q; cases q⟩) (Nat.le_of_ble_eq_true rfl) (Nat.le_of_ble_eq_true rfl) dX1_sector_15
  | none =>
    have hfl := (hLL k hk64).1 hld
    refine lv_aload_n hx hb dX1_sector_0 rfl (lv_at hl 0 rfl) ?_
    refine gx_get C h x0 (Cn := RX1) (T := TX1) (N := 10) rfl in_X1 5 (by decide) q220 rfl rfl dX1_sector_1 ?_
    refine lv_iload_n hx hb dX1_sector_4 rfl (lv_at hl 1 rfl) ?_
    refine gx_aald C h 4 rfl x3 k (rfl) (by omega) dX1_sector_5 ?_
    rw [hfl]
    refine lv_ifnullN (tgt := 16) hx hb dX1_sector_6 (by decide) ?_
    refine lv_null hx hb dX1_sector_16 ?_
    refine lv_astore_nN (lv' := [(2, .null), (0, .ref (ad 0)), (1, .int (nI k))]) hx hb dX1_sector_17 rfl hl (by decide) rfl (fun ls hl => ?_)
    refine lv_aload_n hx hb dX1_sector_18 rfl (lv_at hl 1 rfl) ?_
    refine gx_get C h x0 (Cn := RX1) (T := TX1) (N := 10) rfl in_X1 7 (by decide) q222 rfl rfl dX1_sector_19 ?_
    refine gc_q (va_runV (As := []) (rest := []) C.fix (m_J1_iterator l g w v (ad 4) wE wn wf wh ws hDw) (cwV 0 hts (lw_V q262 q263 q264 q45 q265) rfl rfl rfl (by decide +kernel) ⟨Nat.le_of_ble_eq_true rfl, Nat.le_of_ble_eq_true rfl⟩) (gp_V C h [] (Cn := RJ1) (T := TJ1) (N := 3) rfl (show w (ad 4) = _ from hDw.1)) rfl rfl hl.1 rfl (lv_room (Nat.le_of_ble_eq_true rfl)) dX1_sector_22 ⟨Nat.le_of_ble_eq_true rfl, Nat.le_of_ble_eq_true rfl⟩) h (fun r_1 w_2 H locs hpq h => ?_)
    obtain ⟨q, qr, qn, qv, qw⟩ := hpq
    rw [qr]
    have xq : Ext w w_2 := by rw [qw]; exact XK.rfl'.putn qn
    have fq : w_2 q = some (ob 7 [.int (nI (wr wn (wh + 0))), .int (nI (ws.length - 0)), .int (-1), .ref (ad 4)]) := by rw [qw, Nat.add_zero, Nat.sub_zero, wr_small hDw.2.2.1]; exact gu_s
    have f_3 : w_2 (ad 0) = some (ob 0 [.ref (ad 1), .int (nI cn), .int (bI ru), .int (bI fu), .ref (ad 2), .ref (ad 3), .int (bI ch), .ref (ad 4), .ref (ad 5), .ref (ad 6)]) := xq.of x0
    have f_4 : w_2 (ad 1) = some (eB g (32 * cn) dk) := xq.of x1
    have f_5 : w_2 (ad 2) = some (eI g 30 fP) := xq.of x2
    have f_6 : w_2 (ad 3) = some (eS g 64 fl) := xq.of x3
    have f_7 : w_2 (ad 4) = some (ob 5 [.ref wE, .int (nI wh), .int (nI (wr wn (wh + ws.length)))]) := xq.of (show w (ad 4) = _ from hDw.1)
    have hX_8 := hX.ext xq
    have hE_9 : Ext w w_2 := XK.trans XK.rfl' xq
    refine lv_astore_n (lv' := [(3, .ref q), (2, .null), (0, .ref (ad 0)), (1, .int (nI k))]) hx hb dX1_sector_25 rfl hl (by decide) rfl (fun ls hl => ?_)
    have loop : ∀ (n_ : Nat) (i : Nat) (lr : Int32) (so : Option Nat) (w1 : GW) (H : Heap) (locs : List Loc) (ls : Array Slot), ws.length - i < n_ → (i ≤ ws.length) → (Ext w w1) → (so = none → ∀ s0, latT wt k i s0 = s0) → (∀ a, so = some a → ∃ (b : Nat) (f : Sec), w a = some (ob 1 [.ref b]) ∧ w b = some (eB g 32 f) ∧ ∀ s0, latT wt k i s0 = f) → (w1 q = some (ob 7 [.int (nI (wr wn (wh + i))), .int (nI (ws.length - i)), .int lr, .ref (ad 4)])) → SH g w1 v s H locs → lv_has ls 5 [(0, .ref (ad 0)), (1, .int (nI k)), (2, va_rf so), (3, .ref q)] → W p l e ({ frames := 5, cells := 3, slots := 37, locals := 300 } : Room) s m ([.ref (ad 0), .int (nI k)] : List Value).toArray below meth c H locs 1 4 (MQ below (va_Qq (fun (r : Option Nat) (w' : GW) => ∃ (a b : Nat) (f : Sec), r = some a ∧ Ext w w' ∧ w' a = some (ob 1 [.ref b]) ∧ w' b = some (eB g 32 f) ∧ (∀ i, 4 ≤ i → f i = cur dk wt ld k i) ∧ (ld k = none → f = lat dk wt k)) (gB g v) (gA g)) ([.ref (ad 0), .int (nI k)] : List Value).toArray s 3 37 (gA g)) (F0 m 26 ls []) := by
      intro n_
      induction n_ with
      | zero => intros; exact absurd ‹_ < 0› (Nat.not_lt_zero _)
      | succ n_ ih =>
        intro i lr so w1 H locs ls hf hi hx1 hs1 hs2 hq h hl
        have f_10 : w1 (ad 0) = some (ob 0 [.ref (ad 1), .int (nI cn), .int (bI ru), .int (bI fu), .ref (ad 2), .ref (ad 3), .int (bI ch), .ref (ad 4), .ref (ad 5), .ref (ad 6)]) := hx1.of x0
        have f_11 : w1 (ad 1) = some (eB g (32 * cn) dk) := hx1.of x1
        have f_12 : w1 (ad 2) = some (eI g 30 fP) := hx1.of x2
        have f_13 : w1 (ad 3) = some (eS g 64 fl) := hx1.of x3
        have f_14 : w1 (ad 4) = some (ob 5 [.ref wE, .int (nI wh), .int (nI (wr wn (wh + ws.length)))]) := hx1.of hDw.1
        have f_15 := hx1.of hDw.2.1
        have hX_16 := hX.ext hx1
        have hE_17 : Ext w w1 := XK.trans (XK.rfl' (T := fun _ => True) (w := w)) hx1
        refine lv_aload_n hx hb dX1_sector_26 rfl (lv_at hl 3 rfl) ?_
        refine gc_Fi (va_runF (As := []) (rest := []) (hG.1.1 7 _ rfl).2 C.fix (m_J7_hasNext l g w1 v q (wr wn (wh + i)) (ws.length - i) lr (ad 4) hq (by have := hDw.2.2.2.1; have := hDw.2.2.2.2.1; omega)) (va_cwF (x := iHas) 0 hts (lw_F q293 q297 q299 q54 q301) rfl rfl rfl hG.2.2.2.2.1.1 (by decide +kernel) ⟨Nat.le_of_ble_eq_true rfl, Nat.le_of_ble_eq_true rfl⟩) (gp_V C h [] (Cn := RJ7) (T := TJ7) (N := 4) rfl hq) rfl rfl hl.1 rfl (lv_room (Nat.le_of_ble_eq_true rfl)) dX1_sector_27 ⟨Nat.le_of_ble_eq_true rfl, Nat.le_of_ble_eq_true rfl⟩) h (fun r_18 w_19 H locs hp h => ?_)
        obtain ⟨er_r_18, ew_r_18⟩ := hp
        rw [er_r_18]
        rw [ew_r_18] at h
        refine lv_if_eq (tgt := 64) hx hb dX1_sector_32 (by decide) (fun cn_ => ?_) (fun cn_ => ?_)
        · skip
          have cn_ : decide (0 < ws.length - i) = false := bI_eq0.mp cn_
          have hil : i = wt.length := by have := of_decide_eq_false cn_; have := hWL.1; omega
          rcases so with _ | a0
          · skip
            have hl : lv_has ls 5 [(0, .ref (ad 0)), (1, .int (nI k)), (2, .null), (3, .ref q)] := hl
            have hlat : lat dk wt k = sec dk k := by have := hs1 rfl (sec dk k); rw [hil, latT_all] at this; exact this
            refine lv_aload_nN hx hb dX1_sector_64 rfl (lv_at hl 2 rfl) ?_
            refine lv_ifnonnullN hx hb dX1_sector_65 ?_
            refine lv_aload_n hx hb dX1_sector_68 rfl (lv_at hl 0 rfl) ?_
            refine lv_iload_n hx hb dX1_sector_69 rfl (lv_at hl 1 rfl) ?_
            refine gc_q (va_runV (As := [.int (nI k)]) (rest := []) C.fix (m_X1_read l g w1 v ad cn ru fu ch dk wt ld pl st kp fP fl lb wE sE kE hX_16 hI k hk) (cwV 1 hts (lw_V q339 q341 qs6 q43 q342) rfl rfl rfl (by decide +kernel) ⟨Nat.le_of_ble_eq_true rfl, Nat.le_of_ble_eq_true rfl⟩) (gp_V C h [.int (nI k)] (Cn := RX1) (T := TX1) (N := 10) rfl f_10) rfl rfl hl.1 rfl (lv_room (Nat.le_of_ble_eq_true rfl)) dX1_sector_70 ⟨Nat.le_of_ble_eq_true rfl, Nat.le_of_ble_eq_true rfl⟩) h (fun r_20 w_21 H locs hp h => ?_)
            obtain ⟨a, b, ra, rb, rc_, rd⟩ := hp
            rw [ra]
            refine lv_goto (tgt := 77) hx hb dX1_sector_73 (by decide) ?_
            exact gr_q C h (x := some a) (ty := (.object "KnowDisk$Sector")) rfl (Or.inl ⟨_, rfl⟩) (⟨a, b, _, rfl, XK.trans hE_17 rb, rc_, rd, fun i hi => by unfold cur; rw [hld, hlat], fun _ => hlat.symm⟩) (Nat.le_of_ble_eq_true rfl) (Nat.le_of_ble_eq_true rfl) dX1_sector_77
          · skip
            have hl : lv_has ls 5 [(0, .ref (ad 0)), (1, .int (nI k)), (2, .ref a0), (3, .ref q)] := hl
            obtain ⟨b, f, z1, z2, z3⟩ := hs2 a0 rfl
            have hlat : lat dk wt k = f := by have := z3 (sec dk k); rw [hil, latT_all] at this; exact this
            refine lv_aload_n hx hb dX1_sector_64 rfl (lv_at hl 2 rfl) ?_
            refine lv_ifnonnull (tgt := 76) hx hb dX1_sector_65 (by decide) ?_
            refine lv_aload_n hx hb dX1_sector_76 rfl (lv_at hl 2 rfl) ?_
            exact gr_q C h (x := some a0) (ty := (.object "KnowDisk$Sector")) rfl (Or.inl ⟨_, rfl⟩) (⟨a0, b, f, rfl, hE_17, hE_17.of z1, hE_17.of z2, fun i hi => by unfold cur; rw [hld, hlat], fun _ => hlat.symm⟩) (Nat.le_of_ble_eq_true rfl) (Nat.le_of_ble_eq_true rfl) dX1_sector_77
        · skip
          have cn_ : decide (0 < ws.length - i) = true := bI_ne0.mp cn_
          have hlt : i < ws.length := by have := of_decide_eq_true cn_; omega
          obtain ⟨e1, he1⟩ : ∃ z_, ws[i]? = some z_ := ⟨_, List.getElem?_eq_getElem hlt⟩
          refine lv_aload_n hx hb dX1_sector_35 rfl (lv_at hl 3 rfl) ?_
          refine gc_Fq (va_runF (As := []) (rest := []) (hG.1.1 7 _ rfl).2 C.fix (m_J7_next l g w1 v q (wr wn (wh + i)) (ws.length - i) lr (ad 4) wE wn wf e1 _ _ hq f_14 f_15 (by have := hDw.2.2.2.1; have := hDw.2.2.2.2.1; omega) (wr_lt (by have := hDw.2.2.1; have := hDw.2.2.2.1; omega)) hDw.2.2.2.2.1 (hDw.2.2.2.2.2 i e1 he1)) (va_cwF (x := iNext) 0 hts (lw_F q309 q312 q314 q54 q316) rfl rfl rfl hG.2.2.2.2.1.2.1 (by decide +kernel) ⟨Nat.le_of_ble_eq_true rfl, Nat.le_of_ble_eq_true rfl⟩) (gp_V C h [] (Cn := RJ7) (T := TJ7) (N := 4) rfl hq) rfl rfl hl.1 rfl (lv_room (Nat.le_of_ble_eq_true rfl)) dX1_sector_36 ⟨Nat.le_of_ble_eq_true rfl, Nat.le_of_ble_eq_true rfl⟩) h (fun r_22 w_23 H locs hp h => ?_)
          obtain ⟨er_, ew_⟩ := hp
          rw [er_]
          rw [wr_next hDw.2.2.1 (by have := hDw.2.2.2.1; omega)] at ew_
          have x2_ : Ext w w_23 := by rw [ew_]; exact XK.putn hx1 qn
          have f2_ : w_23 q = some (ob 7 [.int (nI (wr wn (wh + (i + 1)))), .int (nI (ws.length - (i + 1))), .int (nI (wr wn (wh + i))), .ref (ad 4)]) := by rw [ew_, Nat.sub_add_eq]; exact gu_s
          have f_24 : w_23 (ad 0) = some (ob 0 [.ref (ad 1), .int (nI cn), .int (bI ru), .int (bI fu), .ref (ad 2), .ref (ad 3), .int (bI ch), .ref (ad 4), .ref (ad 5), .ref (ad 6)]) := x2_.of x0
          have f_25 : w_23 (ad 1) = some (eB g (32 * cn) dk) := x2_.of x1
          have f_26 : w_23 (ad 2) = some (eI g 30 fP) := x2_.of x2
          have f_27 : w_23 (ad 3) = some (eS g 64 fl) := x2_.of x3
          have f_28 : w_23 (ad 4) = some (ob 5 [.ref wE, .int (nI wh), .int (nI (wr wn (wh + ws.length)))]) := x2_.of hDw.1
          have f_29 := x2_.of hDw.2.1
          obtain ⟨y1, hy1⟩ : ∃ z_, wt[i]? = some z_ := ⟨_, List.getElem?_eq_getElem (by have := hWL.1; omega)⟩
          obtain ⟨s1, b1, s1a, s1b, s1c, s1d⟩ := hWL.2 i e1 y1 he1 hy1
          have g1_ := x2_.of s1a
          refine gx_cast C h (Cn := RX5) (T := TX5) (N := 2) rfl g1_ q330 dX1_sector_41 ?_
          refine lv_astore (lv' := [(4, .ref e1), (0, .ref (ad 0)), (1, .int (nI k)), (2, va_rf so), (3, .ref q)]) hx hb dX1_sector_44 hl (by decide) rfl (fun ls hl => ?_)
          refine lv_aload hx hb dX1_sector_46 (lv_at hl 0 rfl) ?_
          refine gc_i (va_runV (As := []) (rest := []) C.fix (m_X5_to l g w_23 v e1 (nI y1.1) s1 g1_) (cwV 0 hts (lw_V q331 q332 q333 q60 q334) rfl rfl rfl (by decide +kernel) ⟨Nat.le_of_ble_eq_true rfl, Nat.le_of_ble_eq_true rfl⟩) (gp_V C h [] (Cn := RX5) (T := TX5) (N := 2) rfl g1_) rfl rfl hl.1 rfl (lv_room (Nat.le_of_ble_eq_true rfl)) dX1_sector_48 ⟨Nat.le_of_ble_eq_true rfl, Nat.le_of_ble_eq_true rfl⟩) h (fun r_30 w_31 H locs hp h => ?_)
          obtain ⟨er_r_30, ew_r_30⟩ := hp
          rw [er_r_30]
          rw [ew_r_30] at h
          refine lv_iload_n hx hb dX1_sector_51 rfl (lv_at hl 2 rfl) ?_
          have hy64 : y1.1 < 64 := by have := (i4 y1 (List.mem_of_getElem? hy1)).1; omega
          refine lv_icmp_ne (tgt := 61) hx hb dX1_sector_52 (by decide) (fun c2 => ?_) (fun c2 => ?_)
          · skip
            have c2 : ¬ (y1.1 = k) := fun q => c2 ((nI_eq (by omega) (by omega)).mpr q)
            refine lv_goto (tgt := 26) hx hb dX1_sector_61 (by decide) ?_
            exact ih (i + 1) (nI (wr wn (wh + i))) so _ _ _ _ (by omega) (by omega) x2_ (fun q s0 => by rw [latT_s hy1, if_neg c2]; exact hs1 q s0) (fun a q => by obtain ⟨b, f, z1, z2, z3⟩ := hs2 a q; exact ⟨b, f, z1, z2, fun s0 => by rw [latT_s hy1, if_neg c2]; exact z3 s0⟩) f2_ h (lv_sub hl [1, 2, 3, 4] rfl)
          · skip
            have c2 : y1.1 = k := (nI_eq (by omega) (by omega)).mp c2
            refine lv_aload hx hb dX1_sector_55 (lv_at hl 0 rfl) ?_
            refine gc_q (va_runV (As := []) (rest := []) C.fix (m_X5_sector l g w_23 v e1 (nI y1.1) s1 g1_) (cwV 0 hts (lw_V q335 q336 q337 q60 q338) rfl rfl rfl (by decide +kernel) ⟨Nat.le_of_ble_eq_true rfl, Nat.le_of_ble_eq_true rfl⟩) (gp_V C h [] (Cn := RX5) (T := TX5) (N := 2) rfl g1_) rfl rfl hl.1 rfl (lv_room (Nat.le_of_ble_eq_true rfl)) dX1_sector_57 ⟨Nat.le_of_ble_eq_true rfl, Nat.le_of_ble_eq_true rfl⟩) h (fun r_32 w_33 H locs hp h => ?_)
            obtain ⟨er_r_32, ew_r_32⟩ := hp
            rw [er_r_32]
            rw [ew_r_32] at h
            refine lv_astore_n (lv' := [(2, .ref s1), (4, .ref e1), (0, .ref (ad 0)), (1, .int (nI k)), (3, .ref q)]) hx hb dX1_sector_60 rfl hl (by decide) rfl (fun ls hl => ?_)
            refine lv_goto (tgt := 26) hx hb dX1_sector_61 (by decide) ?_
            exact ih (i + 1) (nI (wr wn (wh + i))) (some s1) _ _ _ _ (by omega) (by omega) x2_ (fun q => by cases q) (fun a q => by cases q; exact ⟨b1, y1.2, s1b, s1c, fun s0 => by rw [latT_s hy1, if_pos c2]⟩) f2_ h (lv_sub hl [2, 3, 0, 4] rfl)
    exact loop (ws.length + 1) 0 (-1) none _ _ _ _ (by omega) (by omega) xq (fun _ _ => rfl) (fun a q => by cases q) fq h (lv_sub hl [2, 3, 1, 0] rfl)
set_option maxHeartbeats 4000000 in
theorem m_X1_pageAt (l : Launch) (g : GG) (w v : GW) (ad : Nat → Nat) (cn : Nat) (ru fu ch : Bool) (dk : Sec) (wt : List (Nat × Sec)) (ld : Nat → Option Sec) (pl : Nat → Option Nat) (st kp : List (Int32 × Int64)) (fP : Nat → Int32) (fl : Nat → Option Nat) (lb : Nat → Nat) (wE sE kE : Nat) (hX : XW g w ad cn ru fu ch dk wt ld pl st kp fP fl lb wE sE kE) (hI : InvK (cn, ru, fu, ch, dk, wt, ld, pl, st, kp)) (j k : Nat) (hj : j < 30) (hpj : pl j = some k)  : Met l yX1_pageAt (ws_ yX1_pageAt cX1_pageAt 2 (some (.object "KnowDisk$Sector"))) ({ frames := 6, cells := 3, slots := 37, locals := 360 } : Room) (gP g [.ref (ad 0), .int (nI j)] w v) (va_Qq (fun (r : Option Nat) (w' : GW) => ∃ (a b : Nat) (f : Sec), r = some a ∧ Ext w w' ∧ w' a = some (ob 1 [.ref b]) ∧ w' b = some (eB g 32 f) ∧ (∀ i, 4 ≤ i → f i = cur dk wt ld k i) ∧ (ld k = none → f = lat dk wt k)) (gB g v) (gA g)) 3 37 (gA g) := by
  refine gm_of (by decide) (Nat.le_of_ble_eq_true rfl) ?_
  intro p e s m below meth c ls C hnm h hl
  have C : Cx g p s m ([.ref (ad 0), .int (nI j)] : List Value).toArray meth c cX1_pageAt 2 RX1 (some (.object "KnowDisk$Sector")) := C
  obtain ⟨hx, hb, hml, hown, hts, hr, hlk, hG⟩ := id C
  have hl : lv_has ls 2 [(0, .ref (ad 0)), (1, .int (nI j))] := hl
  obtain ⟨⟨x0, x1, x2, x3⟩, hQW, hQS, hQK, hLL, hLi, hpl, hXD, h8⟩ := id hX
  obtain ⟨i1, i2, i3, i4, i5, i6, i7, i8, i9⟩ := id hI
  have n01 : ad 0 ≠ ad 1 := g_ne x0 x1 (kn_ne (show 0 ≠ 100 + 32 * cn by omega))
  have n02 : ad 0 ≠ ad 2 := g_ne x0 x2 (kn_ne (show 0 ≠ 130 by omega))
  have n03 : ad 0 ≠ ad 3 := g_ne x0 x3 (kn_ne (show 0 ≠ 50 by omega))
  have n12 : ad 1 ≠ ad 2 := g_ne x1 x2 (kn_ne (show 100 + 32 * cn ≠ 130 by omega))
  have n13 : ad 1 ≠ ad 3 := g_ne x1 x3 (kn_ne (show 100 + 32 * cn ≠ 50 by omega))
  have n23 : ad 2 ≠ ad 3 := g_ne x2 x3 (kn_ne (show 130 ≠ 50 by omega))
  refine lv_aload_n hx hb dX1_pageAt_0 rfl (lv_at hl 0 rfl) ?_
  refine lv_aload_n hx hb dX1_pageAt_1 rfl (lv_at hl 0 rfl) ?_
  refine gx_get C h x0 (Cn := RX1) (T := TX1) (N := 10) rfl in_X1 4 (by decide) q219 rfl rfl dX1_pageAt_2 ?_
  refine lv_iload_n hx hb dX1_pageAt_5 rfl (lv_at hl 1 rfl) ?_
  refine gx_iald C h x2 j (rfl) (by omega) dX1_pageAt_6 ?_
  rw [hpl j hj, hpj]
  refine gc_q (va_runV (As := [.int (nI k)]) (rest := []) C.fix (m_X1_sector l g w v ad cn ru fu ch dk wt ld pl st kp fP fl lb wE sE kE hX hI k (i2 j k hj hpj).2) (cwV 1 hts (lw_V q258 q260 qs5 q43 q261) rfl rfl rfl (by decide +kernel) ⟨Nat.le_of_ble_eq_true rfl, Nat.le_of_ble_eq_true rfl⟩) (gp_V C h [.int (nI k)] (Cn := RX1) (T := TX1) (N := 10) rfl x0) rfl rfl hl.1 rfl (lv_room (Nat.le_of_ble_eq_true rfl)) dX1_pageAt_7 ⟨Nat.le_of_ble_eq_true rfl, Nat.le_of_ble_eq_true rfl⟩) h (fun r_1 w_2 H locs hp h => ?_)
  obtain ⟨a, b, f, ra, rb⟩ := hp
  rw [ra]
  exact gr_q C h (x := some a) (ty := (.object "KnowDisk$Sector")) rfl (Or.inl ⟨_, rfl⟩) (⟨a, b, f, rfl, rb⟩) (Nat.le_of_ble_eq_true rfl) (Nat.le_of_ble_eq_true rfl) dX1_pageAt_10
