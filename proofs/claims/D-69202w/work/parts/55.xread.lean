set_option maxRecDepth 100000
set_option maxHeartbeats 4000000 in
theorem m_X1_isPage (l : Launch) (g : GG) (w v : GW) (ad : Nat → Nat) (cn : Nat) (ru fu ch : Bool) (dk : Sec) (wt : List (Nat × Sec)) (ld : Nat → Option Sec) (pl : Nat → Option Nat) (st kp : List (Int32 × Int64)) (fP : Nat → Int32) (fl : Nat → Option Nat) (lb : Nat → Nat) (wE sE kE : Nat) (hX : XW g w ad cn ru fu ch dk wt ld pl st kp fP fl lb wE sE kE) (hI : InvK (cn, ru, fu, ch, dk, wt, ld, pl, st, kp)) (x : Int32)  : Met l yX1_isPage (ws_ yX1_isPage cX1_isPage 2 (some .boolean)) ({ frames := 1, cells := 0, slots := 0, locals := 60 } : Room) (gP g [.ref (ad 0), .int x] w v) (va_Qi (fun (r : Int32) (w' : GW) => r = bI (pgOf pl x).isSome ∧ w' = w) (gB g v) (gA g)) 0 0 (gA g) := by
  refine gm_of (by decide) (Nat.le_of_ble_eq_true rfl) ?_
  intro p e s m below meth c ls C hnm h hl
  have C : Cx g p s m ([.ref (ad 0), .int x] : List Value).toArray meth c cX1_isPage 2 RX1 (some .boolean) := C
  obtain ⟨hx, hb, hml, hown, hts, hr, hlk, hG⟩ := id C
  have hl : lv_has ls 2 [(0, .ref (ad 0)), (1, .int x)] := hl
  obtain ⟨⟨x0, x1, x2, x3⟩, hQW, hQS, hQK, hLL, hLi, hpl, hXD, h8⟩ := id hX
  obtain ⟨i1, i2, i3, i4, i5, i6, i7, i8, i9⟩ := id hI
  have n01 : ad 0 ≠ ad 1 := g_ne x0 x1 (kn_ne (show 0 ≠ 100 + 32 * cn by omega))
  have n02 : ad 0 ≠ ad 2 := g_ne x0 x2 (kn_ne (show 0 ≠ 130 by omega))
  have n03 : ad 0 ≠ ad 3 := g_ne x0 x3 (kn_ne (show 0 ≠ 50 by omega))
  have n12 : ad 1 ≠ ad 2 := g_ne x1 x2 (kn_ne (show 100 + 32 * cn ≠ 130 by omega))
  have n13 : ad 1 ≠ ad 3 := g_ne x1 x3 (kn_ne (show 100 + 32 * cn ≠ 50 by omega))
  have n23 : ad 2 ≠ ad 3 := g_ne x2 x3 (kn_ne (show 130 ≠ 50 by omega))
  rw [← br_pg i1.2 i2 hpl x]
  refine lv_iload_n hx hb dX1_isPage_0 rfl (lv_at hl 1 rfl) ?_
  refine lv_if_lt (tgt := 24) hx hb dX1_isPage_1 (by decide) (fun c1 => ?_) (fun c1 => ?_)
  · skip
    refine lv_iconst (v := bI false) hx hb dX1_isPage_24 (by decide) ?_
    exact gr_i C h (ty := .boolean) rfl (bI_n _) (⟨by rw [isPgI, decide_eq_false (fun q => q.1 c1)], rfl⟩) (Nat.le_of_ble_eq_true rfl) (Nat.le_of_ble_eq_true rfl) dX1_isPage_25
  · skip
    refine lv_iload_n hx hb dX1_isPage_4 rfl (lv_at hl 1 rfl) ?_
    refine lv_bipush (v := nI 30) hx hb dX1_isPage_5 (by decide) ?_
    refine lv_icmp_ge (tgt := 24) hx hb dX1_isPage_7 (by decide) (fun c2 => ?_) (fun c2 => ?_)
    · skip
      refine lv_iconst (v := bI false) hx hb dX1_isPage_24 (by decide) ?_
      exact gr_i C h (ty := .boolean) rfl (bI_n _) (⟨by rw [isPgI, decide_eq_false (fun q => q.2.1 c2)], rfl⟩) (Nat.le_of_ble_eq_true rfl) (Nat.le_of_ble_eq_true rfl) dX1_isPage_25
    · skip
      obtain ⟨j, hj, hxj, hcl⟩ := pg_ix ⟨c1, c2⟩
      refine lv_aload_n hx hb dX1_isPage_10 rfl (lv_at hl 0 rfl) ?_
      refine gx_get C h x0 (Cn := RX1) (T := TX1) (N := 10) rfl in_X1 4 (by decide) q219 rfl rfl dX1_isPage_11 ?_
      refine lv_iload_n hx hb dX1_isPage_14 rfl (lv_at hl 1 rfl) ?_
      refine gx_iald C h x2 j (hxj) (by omega) dX1_isPage_15 ?_
      refine lv_iconst (v := (-1)) hx hb dX1_isPage_16 (by decide) ?_
      refine lv_icmp_eq (tgt := 24) hx hb dX1_isPage_17 (by decide) (fun c3 => ?_) (fun c3 => ?_)
      · skip
        refine lv_iconst (v := bI false) hx hb dX1_isPage_24 (by decide) ?_
        exact gr_i C h (ty := .boolean) rfl (bI_n _) (⟨by rw [isPgI, decide_eq_false (fun q => q.2.2 (by rw [hcl]; exact c3))], rfl⟩) (Nat.le_of_ble_eq_true rfl) (Nat.le_of_ble_eq_true rfl) dX1_isPage_25
      · skip
        refine lv_iconst (v := bI true) hx hb dX1_isPage_20 (by decide) ?_
        refine lv_goto (tgt := 25) hx hb dX1_isPage_21 (by decide) ?_
        exact gr_i C h (ty := .boolean) rfl (bI_n _) (⟨by rw [isPgI, decide_eq_true ⟨c1, c2, by rw [hcl]; exact c3⟩], rfl⟩) (Nat.le_of_ble_eq_true rfl) (Nat.le_of_ble_eq_true rfl) dX1_isPage_25
set_option maxHeartbeats 4000000 in
theorem m_X1_freePage (l : Launch) (g : GG) (w v : GW) (ad : Nat → Nat) (cn : Nat) (ru fu ch : Bool) (dk : Sec) (wt : List (Nat × Sec)) (ld : Nat → Option Sec) (pl : Nat → Option Nat) (st kp : List (Int32 × Int64)) (fP : Nat → Int32) (fl : Nat → Option Nat) (lb : Nat → Nat) (wE sE kE : Nat) (hX : XW g w ad cn ru fu ch dk wt ld pl st kp fP fl lb wE sE kE) (hI : InvK (cn, ru, fu, ch, dk, wt, ld, pl, st, kp))  : Met l yX1_freePage (ws_ yX1_freePage cX1_freePage 2 (some .int)) ({ frames := 1, cells := 0, slots := 0, locals := 60 } : Room) (gP g [.ref (ad 0)] w v) (va_Qi (fun (r : Int32) (w' : GW) => r = plI (frPo pl) ∧ w' = w) (gB g v) (gA g)) 0 0 (gA g) := by
  refine gm_of (by decide) (Nat.le_of_ble_eq_true rfl) ?_
  intro p e s m below meth c ls C hnm h hl
  have C : Cx g p s m ([.ref (ad 0)] : List Value).toArray meth c cX1_freePage 2 RX1 (some .int) := C
  obtain ⟨hx, hb, hml, hown, hts, hr, hlk, hG⟩ := id C
  have hl : lv_has ls 2 [(0, .ref (ad 0))] := hl
  obtain ⟨⟨x0, x1, x2, x3⟩, hQW, hQS, hQK, hLL, hLi, hpl, hXD, h8⟩ := id hX
  obtain ⟨i1, i2, i3, i4, i5, i6, i7, i8, i9⟩ := id hI
  have n01 : ad 0 ≠ ad 1 := g_ne x0 x1 (kn_ne (show 0 ≠ 100 + 32 * cn by omega))
  have n02 : ad 0 ≠ ad 2 := g_ne x0 x2 (kn_ne (show 0 ≠ 130 by omega))
  have n03 : ad 0 ≠ ad 3 := g_ne x0 x3 (kn_ne (show 0 ≠ 50 by omega))
  have n12 : ad 1 ≠ ad 2 := g_ne x1 x2 (kn_ne (show 100 + 32 * cn ≠ 130 by omega))
  have n13 : ad 1 ≠ ad 3 := g_ne x1 x3 (kn_ne (show 100 + 32 * cn ≠ 50 by omega))
  have n23 : ad 2 ≠ ad 3 := g_ne x2 x3 (kn_ne (show 130 ≠ 50 by omega))
  have hfp : plI (frPo pl) = (if lf (fun p => decide (¬ fP p = -1)) 30 0 < 30 then nI (lf (fun p => decide (¬ fP p = -1)) 30 0) else -1) := by rw [← frPo_pl, ← br_frP i1.2 i2 hpl]
  refine lv_iconst (v := nI 0) hx hb dX1_freePage_0 (by decide) ?_
  refine lv_istore_n (lv' := [(1, .int (nI 0)), (0, .ref (ad 0))]) hx hb dX1_freePage_1 rfl hl (by decide) rfl (fun ls hl => ?_)
  have loop : ∀ (n_ : Nat) (k : Nat) (w1 : GW) (H : Heap) (locs : List Loc) (ls : Array Slot), 30 - k < n_ → (k ≤ 30) → (lf (fun p => decide (¬ fP p = -1)) (30 - k) k = lf (fun p => decide (¬ fP p = -1)) 30 0) → (w1 = w) → SH g w1 v s H locs → lv_has ls 2 [(0, .ref (ad 0)), (1, .int (nI k))] → W p l e ({ frames := 1, cells := 0, slots := 0, locals := 60 } : Room) s m ([.ref (ad 0)] : List Value).toArray below meth c H locs 0 0 (MQ below (va_Qi (fun (r : Int32) (w' : GW) => r = plI (frPo pl) ∧ w' = w) (gB g v) (gA g)) ([.ref (ad 0)] : List Value).toArray s 0 0 (gA g)) (F0 m 2 ls []) := by
    intro n_
    induction n_ with
    | zero => intros; exact absurd ‹_ < 0› (Nat.not_lt_zero _)
    | succ n_ ih =>
      intro k w1 H locs ls hf hk hlf hw  h hl
      rw [hw] at h
      refine lv_iload_n hx hb dX1_freePage_2 rfl (lv_at hl 1 rfl) ?_
      refine lv_bipush (v := nI 30) hx hb dX1_freePage_3 (by decide) ?_
      refine lv_icmp_ge (tgt := 24) hx hb dX1_freePage_5 (by decide) (fun c1 => ?_) (fun c1 => ?_)
      · skip
        have c1 : 30 ≤ k := (nI_leI (by omega) (by omega)).mp c1
        have hk30 : k = 30 := by omega
        rw [hk30] at hlf
        refine lv_iload_n hx hb dX1_freePage_24 rfl (lv_at hl 1 rfl) ?_
        refine lv_bipush (v := nI 30) hx hb dX1_freePage_25 (by decide) ?_
        refine lv_icmp_ge (tgt := 34) hx hb dX1_freePage_27 (by decide) (fun c2 => ?_) (fun c2 => ?_)
        · skip
          have c2 : 30 ≤ k := (nI_leI (by omega) (by omega)).mp c2
          refine lv_iconst (v := (-1)) hx hb dX1_freePage_34 (by decide) ?_
          exact gr_i C h (ty := .int) rfl (rfl) (⟨by rw [hfp, ← hlf]; rfl, rfl⟩) (Nat.le_of_ble_eq_true rfl) (Nat.le_of_ble_eq_true rfl) dX1_freePage_35
        · skip
          have c2 : ¬ (30 ≤ k) := fun q => c2 ((nI_leI (by omega) (by omega)).mpr q)
          omega
      · skip
        have c1 : ¬ (30 ≤ k) := fun q => c1 ((nI_leI (by omega) (by omega)).mpr q)
        obtain ⟨q, hq⟩ : ∃ q, 30 - k = q + 1 := ⟨30 - k - 1, by omega⟩
        rw [hq] at hlf
        refine lv_aload_n hx hb dX1_freePage_8 rfl (lv_at hl 0 rfl) ?_
        refine gx_get C h x0 (Cn := RX1) (T := TX1) (N := 10) rfl in_X1 4 (by decide) q219 rfl rfl dX1_freePage_9 ?_
        refine lv_iload_n hx hb dX1_freePage_12 rfl (lv_at hl 1 rfl) ?_
        refine gx_iald C h x2 k (rfl) (by omega) dX1_freePage_13 ?_
        refine lv_iconst (v := (-1)) hx hb dX1_freePage_14 (by decide) ?_
        refine lv_icmp_eq (tgt := 24) hx hb dX1_freePage_15 (by decide) (fun c2 => ?_) (fun c2 => ?_)
        · skip
          rw [lf_f (decide_eq_false (fun q => q c2))] at hlf
          refine lv_iload_n hx hb dX1_freePage_24 rfl (lv_at hl 1 rfl) ?_
          refine lv_bipush (v := nI 30) hx hb dX1_freePage_25 (by decide) ?_
          refine lv_icmp_ge (tgt := 34) hx hb dX1_freePage_27 (by decide) (fun c3 => ?_) (fun c3 => ?_)
          · skip
            have c3 : 30 ≤ k := (nI_leI (by omega) (by omega)).mp c3
            omega
          · skip
            have c3 : ¬ (30 ≤ k) := fun q => c3 ((nI_leI (by omega) (by omega)).mpr q)
            refine lv_iload_n hx hb dX1_freePage_30 rfl (lv_at hl 1 rfl) ?_
            refine lv_goto (tgt := 35) hx hb dX1_freePage_31 (by decide) ?_
            exact gr_i C h (ty := .int) rfl (rfl) (⟨by rw [hfp, ← hlf, if_pos (by omega)], rfl⟩) (Nat.le_of_ble_eq_true rfl) (Nat.le_of_ble_eq_true rfl) dX1_freePage_35
        · skip
          rw [lf_t (decide_eq_true c2)] at hlf
          refine lv_iinc (v := nI (k + 1)) (lv' := [(1, .int (nI (k + 1))), (0, .ref (ad 0))]) hx hb dX1_freePage_18 hl (k := 1) rfl (gi_inc _ 1) (by decide) rfl (fun ls hl => ?_)
          refine lv_goto (tgt := 2) hx hb dX1_freePage_21 (by decide) ?_
          exact ih (k + 1) _ _ _ _ (by omega) (by omega) (by rw [← hlf]; congr 1; omega) rfl  h (lv_sub hl [1, 0] rfl)
  exact loop 31 0 w _ _ _ (by omega) (by omega) rfl rfl h (lv_sub hl [1, 0] rfl)
set_option maxHeartbeats 4000000 in
theorem m_X1_open (l : Launch) (g : GG) (w v : GW) (ad : Nat → Nat) (cn : Nat) (ru fu ch : Bool) (dk : Sec) (wt : List (Nat × Sec)) (ld : Nat → Option Sec) (pl : Nat → Option Nat) (st kp : List (Int32 × Int64)) (fP : Nat → Int32) (fl : Nat → Option Nat) (lb : Nat → Nat) (wE sE kE : Nat) (hX : XW g w ad cn ru fu ch dk wt ld pl st kp fP fl lb wE sE kE) (hI : InvK (cn, ru, fu, ch, dk, wt, ld, pl, st, kp))  : Met l yX1_open (ws_ yX1_open cX1_open 7 (some .long)) ({ frames := 1, cells := 0, slots := 0, locals := 60 } : Room) (gP g [.ref (ad 0)] w v) (va_Ql (fun (r : Int64) (w' : GW) => r = openL pl 30 ∧ w' = w) (gB g v) (gA g)) 0 0 (gA g) := by
  refine gm_of (by decide) (Nat.le_of_ble_eq_true rfl) ?_
  intro p e s m below meth c ls C hnm h hl
  have C : Cx g p s m ([.ref (ad 0)] : List Value).toArray meth c cX1_open 7 RX1 (some .long) := C
  obtain ⟨hx, hb, hml, hown, hts, hr, hlk, hG⟩ := id C
  have hl : lv_has ls 7 [(0, .ref (ad 0))] := hl
  obtain ⟨⟨x0, x1, x2, x3⟩, hQW, hQS, hQK, hLL, hLi, hpl, hXD, h8⟩ := id hX
  obtain ⟨i1, i2, i3, i4, i5, i6, i7, i8, i9⟩ := id hI
  have n01 : ad 0 ≠ ad 1 := g_ne x0 x1 (kn_ne (show 0 ≠ 100 + 32 * cn by omega))
  have n02 : ad 0 ≠ ad 2 := g_ne x0 x2 (kn_ne (show 0 ≠ 130 by omega))
  have n03 : ad 0 ≠ ad 3 := g_ne x0 x3 (kn_ne (show 0 ≠ 50 by omega))
  have n12 : ad 1 ≠ ad 2 := g_ne x1 x2 (kn_ne (show 100 + 32 * cn ≠ 130 by omega))
  have n13 : ad 1 ≠ ad 3 := g_ne x1 x3 (kn_ne (show 100 + 32 * cn ≠ 50 by omega))
  have n23 : ad 2 ≠ ad 3 := g_ne x2 x3 (kn_ne (show 130 ≠ 50 by omega))
  refine lv_lconst (v := 0) hx hb dX1_open_0 (by decide) ?_
  refine lv_lstore_n (lv' := [(1, .long 0), (0, .ref (ad 0))]) hx hb dX1_open_1 rfl hl (by decide) rfl (fun ls hl => ?_)
  refine lv_aload_n hx hb dX1_open_2 rfl (lv_at hl 1 rfl) ?_
  refine gx_get C h x0 (Cn := RX1) (T := TX1) (N := 10) rfl in_X1 4 (by decide) q219 rfl rfl dX1_open_3 ?_
  refine lv_astore_n (lv' := [(3, .ref (ad 2)), (1, .long 0), (0, .ref (ad 0))]) hx hb dX1_open_6 rfl hl (by decide) rfl (fun ls hl => ?_)
  refine lv_aload_n hx hb dX1_open_7 rfl (lv_at hl 0 rfl) ?_
  refine gx_alen C h (t := 1) rfl x2 dX1_open_8 ?_
  refine lv_istore (lv' := [(4, .int (nI 30)), (3, .ref (ad 2)), (1, .long 0), (0, .ref (ad 0))]) hx hb dX1_open_9 hl (by decide) rfl (fun ls hl => ?_)
  refine lv_iconst (v := nI 0) hx hb dX1_open_11 (by decide) ?_
  refine lv_istore (lv' := [(5, .int (nI 0)), (4, .int (nI 30)), (3, .ref (ad 2)), (1, .long 0), (0, .ref (ad 0))]) hx hb dX1_open_12 hl (by decide) rfl (fun ls hl => ?_)
  have hl := hl
  have hl : lv_has ls 7 [(5, .int (nI 0)), (4, .int (nI 30)), (3, .ref (ad 2)), (1, .long (openL pl 0)), (0, .ref (ad 0))] := by exact hl
  have loop : ∀ (n_ : Nat) (i : Nat) (w1 : GW) (H : Heap) (locs : List Loc) (ls : Array Slot), 30 - i < n_ → (i ≤ 30) → (w1 = w) → SH g w1 v s H locs → lv_has ls 7 [(0, .ref (ad 0)), (1, .long (openL pl i)), (3, .ref (ad 2)), (4, .int (nI 30)), (5, .int (nI i))] → W p l e ({ frames := 1, cells := 0, slots := 0, locals := 60 } : Room) s m ([.ref (ad 0)] : List Value).toArray below meth c H locs 0 0 (MQ below (va_Ql (fun (r : Int64) (w' : GW) => r = openL pl 30 ∧ w' = w) (gB g v) (gA g)) ([.ref (ad 0)] : List Value).toArray s 0 0 (gA g)) (F0 m 14 ls []) := by
    intro n_
    induction n_ with
    | zero => intros; exact absurd ‹_ < 0› (Nat.not_lt_zero _)
    | succ n_ ih =>
      intro i w1 H locs ls hf hi hw  h hl
      rw [hw] at h
      refine lv_iload hx hb dX1_open_14 (lv_at hl 4 rfl) ?_
      refine lv_iload hx hb dX1_open_16 (lv_at hl 3 rfl) ?_
      refine lv_icmp_ge (tgt := 46) hx hb dX1_open_18 (by decide) (fun c1 => ?_) (fun c1 => ?_)
      · skip
        have c1 : 30 ≤ i := (nI_leI (by omega) (by omega)).mp c1
        have hi30 : i = 30 := by omega
        refine lv_lload_n hx hb dX1_open_46 rfl (lv_at hl 1 rfl) ?_
        exact gr_l C h (⟨by rw [hi30], rfl⟩) (Nat.le_of_ble_eq_true rfl) (Nat.le_of_ble_eq_true rfl) dX1_open_47
      · skip
        have c1 : ¬ (30 ≤ i) := fun q => c1 ((nI_leI (by omega) (by omega)).mpr q)
        refine lv_aload_n hx hb dX1_open_21 rfl (lv_at hl 2 rfl) ?_
        refine lv_iload hx hb dX1_open_22 (lv_at hl 4 rfl) ?_
        refine gx_iald C h x2 i (rfl) (by omega) dX1_open_24 ?_
        rw [hpl i (by omega)]
        refine lv_istore (lv' := [(6, .int (plI (pl i))), (0, .ref (ad 0)), (1, .long (openL pl i)), (3, .ref (ad 2)), (4, .int (nI 30)), (5, .int (nI i))]) hx hb dX1_open_25 hl (by decide) rfl (fun ls hl => ?_)
        refine lv_iload hx hb dX1_open_27 (lv_at hl 0 rfl) ?_
        refine lv_iconst (v := (-1)) hx hb dX1_open_29 (by decide) ?_
        refine lv_icmp_eq (tgt := 40) hx hb dX1_open_30 (by decide) (fun c2 => ?_) (fun c2 => ?_)
        · skip
          have hn : openL pl (i + 1) = openL pl i := by unfold openL; rw [(plI_m1 (br_pl i1.2 i2 (by omega))).mp c2]; cases i <;> rfl
          refine lv_iinc (v := nI (i + 1)) (lv' := [(5, .int (nI (i + 1))), (6, .int (plI (pl i))), (0, .ref (ad 0)), (1, .long (openL pl i)), (3, .ref (ad 2)), (4, .int (nI 30))]) hx hb dX1_open_40 hl (k := 5) rfl (gi_inc _ 1) (by decide) rfl (fun ls hl => ?_)
          refine lv_goto (tgt := 14) hx hb dX1_open_43 (by decide) ?_
          have hl : lv_has ls 7 [(5, .int (nI (i + 1))), (6, .int (plI (pl i))), (0, .ref (ad 0)), (1, .long (openL pl (i + 1))), (3, .ref (ad 2)), (4, .int (nI 30))] := by rw [hn]; exact hl
          exact ih (i + 1) _ _ _ _ (by omega) (by omega) rfl  h (lv_sub hl [2, 3, 4, 5, 0] rfl)
        · skip
          obtain ⟨k, hk⟩ : ∃ k, pl i = some k := by cases hq : pl i with | none => exact absurd (by rw [hq]; rfl) c2 | some k => exact ⟨k, rfl⟩
          have hn : openL pl (i + 1) = openL pl i ||| ((1 : Int64) <<< ((nI k).toInt64 &&& 63)) := by show (match pl i with | none => openL pl i | some k => openL pl i ||| ((1 : Int64) <<< ((nI k).toInt64 &&& 63))) = _; rw [hk]
          have hpk : plI (pl i) = nI k := by rw [hk]; rfl
          refine lv_lload_n hx hb dX1_open_33 rfl (lv_at hl 2 rfl) ?_
          refine lv_lconst (v := 1) hx hb dX1_open_34 (by decide) ?_
          refine lv_iload hx hb dX1_open_35 (lv_at hl 0 rfl) ?_
          refine lv_lshl hx hb dX1_open_37 rfl ?_
          refine lv_lor hx hb dX1_open_38 ?_
          refine lv_lstore_n (lv' := [(1, .long ((openL pl i) ||| (1 <<< (((plI (pl i))).toInt64 &&& 63)))), (6, .int (plI (pl i))), (0, .ref (ad 0)), (3, .ref (ad 2)), (4, .int (nI 30)), (5, .int (nI i))]) hx hb dX1_open_39 rfl hl (by decide) rfl (fun ls hl => ?_)
          refine lv_iinc (v := nI (i + 1)) (lv' := [(5, .int (nI (i + 1))), (1, .long ((openL pl i) ||| (1 <<< (((plI (pl i))).toInt64 &&& 63)))), (6, .int (plI (pl i))), (0, .ref (ad 0)), (3, .ref (ad 2)), (4, .int (nI 30))]) hx hb dX1_open_40 hl (k := 5) rfl (gi_inc _ 1) (by decide) rfl (fun ls hl => ?_)
          refine lv_goto (tgt := 14) hx hb dX1_open_43 (by decide) ?_
          have hl : lv_has ls 7 [(5, .int (nI (i + 1))), (1, .long (openL pl (i + 1))), (6, .int (plI (pl i))), (0, .ref (ad 0)), (3, .ref (ad 2)), (4, .int (nI 30))] := by rw [hn, ← hpk]; exact hl
          exact ih (i + 1) _ _ _ _ (by omega) (by omega) rfl  h (lv_sub hl [3, 1, 4, 5, 0] rfl)
  exact loop 31 0 w _ _ _ (by omega) (by omega) rfl h (lv_sub hl [4, 3, 2, 1, 0] rfl)
set_option maxHeartbeats 4000000 in
theorem m_X1_read (l : Launch) (g : GG) (w v : GW) (ad : Nat → Nat) (cn : Nat) (ru fu ch : Bool) (dk : Sec) (wt : List (Nat × Sec)) (ld : Nat → Option Sec) (pl : Nat → Option Nat) (st kp : List (Int32 × Int64)) (fP : Nat → Int32) (fl : Nat → Option Nat) (lb : Nat → Nat) (wE sE kE : Nat) (hX : XW g w ad cn ru fu ch dk wt ld pl st kp fP fl lb wE sE kE) (hI : InvK (cn, ru, fu, ch, dk, wt, ld, pl, st, kp)) (k : Nat) (hk : k < cn)  : Met l yX1_read (ws_ yX1_read cX1_read 3 (some (.object "KnowDisk$Sector"))) ({ frames := 2, cells := 2, slots := 33, locals := 120 } : Room) (gP g [.ref (ad 0), .int (nI k)] w v) (va_Qq (fun (r : Option Nat) (w' : GW) => ∃ a b : Nat, r = some a ∧ Ext w w' ∧ w' a = some (ob 1 [.ref b]) ∧ w' b = some (eB g 32 (sec dk k))) (gB g v) (gA g)) 2 33 (gA g) := by
  refine gm_of (by decide) (Nat.le_of_ble_eq_true rfl) ?_
  intro p e s m below meth c ls C hnm h hl
  have C : Cx g p s m ([.ref (ad 0), .int (nI k)] : List Value).toArray meth c cX1_read 3 RX1 (some (.object "KnowDisk$Sector")) := C
  obtain ⟨hx, hb, hml, hown, hts, hr, hlk, hG⟩ := id C
  have hl : lv_has ls 3 [(0, .ref (ad 0)), (1, .int (nI k))] := hl
  obtain ⟨⟨x0, x1, x2, x3⟩, hQW, hQS, hQK, hLL, hLi, hpl, hXD, h8⟩ := id hX
  obtain ⟨i1, i2, i3, i4, i5, i6, i7, i8, i9⟩ := id hI
  have n01 : ad 0 ≠ ad 1 := g_ne x0 x1 (kn_ne (show 0 ≠ 100 + 32 * cn by omega))
  have n02 : ad 0 ≠ ad 2 := g_ne x0 x2 (kn_ne (show 0 ≠ 130 by omega))
  have n03 : ad 0 ≠ ad 3 := g_ne x0 x3 (kn_ne (show 0 ≠ 50 by omega))
  have n12 : ad 1 ≠ ad 2 := g_ne x1 x2 (kn_ne (show 100 + 32 * cn ≠ 130 by omega))
  have n13 : ad 1 ≠ ad 3 := g_ne x1 x3 (kn_ne (show 100 + 32 * cn ≠ 50 by omega))
  have n23 : ad 2 ≠ ad 3 := g_ne x2 x3 (kn_ne (show 130 ≠ 50 by omega))
  refine gx_new C h (ci := 1) (fs := [.null]) (Cn := RX4) (T := TX4) (N := 1) rfl in_X4 tyX4 tyX4_ok q78 q343 q55 (fun j hj => by rcases (show j = 0 by omega) with rfl <;> rfl) (Nat.le_of_ble_eq_true rfl) (Nat.le_of_ble_eq_true rfl) dX1_read_0 (fun a H hn_1 hn_1v h => ?_)
  obtain ⟨w_2, ew_2⟩ : ∃ z_ : GW, z_ = gu w a (ob 1 [.null]) := ⟨_, rfl⟩
  have h : SH g w_2 v s H [] := by rw [ew_2]; exact h
  have f_3 : w_2 (ad 0) = some (ob 0 [.ref (ad 1), .int (nI cn), .int (bI ru), .int (bI fu), .ref (ad 2), .ref (ad 3), .int (bI ch), .ref (ad 4), .ref (ad 5), .ref (ad 6)]) := by rw [ew_2]; exact (gu_n (g_neN x0 hn_1)).trans x0
  have f_4 : w_2 (ad 1) = some (eB g (32 * cn) dk) := by rw [ew_2]; exact (gu_n (g_neN x1 hn_1)).trans x1
  have f_5 : w_2 (ad 2) = some (eI g 30 fP) := by rw [ew_2]; exact (gu_n (g_neN x2 hn_1)).trans x2
  have f_6 : w_2 (ad 3) = some (eS g 64 fl) := by rw [ew_2]; exact (gu_n (g_neN x3 hn_1)).trans x3
  have f_7 : w_2 a = some (ob 1 [.null]) := by rw [ew_2]; exact gu_s
  refine lv_dup hx hb dX1_read_3 rfl ?_
  refine gc_v (va_runIN (As := []) (rest := [.ref a]) C.fix (m_X4_init l g w_2 v a f_7) ⟨va_cnB 0 hts (lw_meth q346) rfl rfl rfl (hG.2.2.1 _ q344 rfl) (hts _ q55) (by decide +kernel) ⟨Nat.le_of_ble_eq_true rfl, Nat.le_of_ble_eq_true rfl⟩, rfl, hts _ q345⟩ (gp_S C h _) rfl rfl hl.1 rfl (lv_room (Nat.le_of_ble_eq_true rfl)) dX1_read_4 ⟨Nat.le_of_ble_eq_true rfl, Nat.le_of_ble_eq_true rfl⟩) h (fun w_9 H locs hpa h => ?_)
  obtain ⟨b, b1, b2, b3⟩ := hpa
  have nab : a ≠ b := g_neN f_7 b1
  have b0 : w b = none := by have q := b1; rw [ew_2, gu_n (Ne.symm nab)] at q; exact q
  have xa : Ext w w_9 := by rw [b3, ew_2]; exact ((XK.rfl'.putn hn_1).putn b0).putn hn_1
  have fa : w_9 a = some (ob 1 [.ref b]) := by rw [b3]; exact gu_s
  have fb : w_9 b = some (eB g 32 (fun _ => 0)) := by rw [b3]; exact (gu_n (Ne.symm nab)).trans gu_s
  have f_10 : w_9 (ad 0) = some (ob 0 [.ref (ad 1), .int (nI cn), .int (bI ru), .int (bI fu), .ref (ad 2), .ref (ad 3), .int (bI ch), .ref (ad 4), .ref (ad 5), .ref (ad 6)]) := xa.of x0
  have f_11 : w_9 (ad 1) = some (eB g (32 * cn) dk) := xa.of x1
  have f_12 : w_9 (ad 2) = some (eI g 30 fP) := xa.of x2
  have f_13 : w_9 (ad 3) = some (eS g 64 fl) := xa.of x3
  have hX_14 := hX.ext xa
  have hE_15 : Ext w w_9 := XK.trans XK.rfl' xa
  refine lv_astore_n (lv' := [(2, .ref a), (0, .ref (ad 0)), (1, .int (nI k))]) hx hb dX1_read_7 rfl hl (by decide) rfl (fun ls hl => ?_)
  refine lv_aload_n hx hb dX1_read_8 rfl (lv_at hl 1 rfl) ?_
  refine gx_get C h f_10 (Cn := RX1) (T := TX1) (N := 10) rfl in_X1 0 (by decide) q215 rfl rfl dX1_read_9 ?_
  refine lv_bipush (v := nI 32) hx hb dX1_read_12 (by decide) ?_
  refine lv_iload_n hx hb dX1_read_14 rfl (lv_at hl 2 rfl) ?_
  refine gn_imul hx hb dX1_read_15 ?_
  refine lv_aload_n hx hb dX1_read_16 rfl (lv_at hl 0 rfl) ?_
  refine gx_getN C h fa (Cn := RX4) (T := TX4) (N := 1) rfl in_X4 0 (by decide) q349 rfl rfl dX1_read_17 ?_
  refine lv_iconst (v := nI 0) hx hb dX1_read_20 (by decide) ?_
  refine lv_bipush (v := nI 32) hx hb dX1_read_21 (by decide) ?_
  refine gx_copyB C h hl.1 q353 f_11 fb (32 * k) 0 32 (by omega) (by omega) (by omega) (Nat.le_of_ble_eq_true rfl) (Nat.le_of_ble_eq_true rfl) dX1_read_23 (fun H locs h => ?_)
  obtain ⟨w_16, ew_16⟩ : ∃ z_ : GW, z_ = gu w_9 b (eB g 32 (va_cpy dk (fun _ => 0) (32 * k) 0 32)) := ⟨_, rfl⟩
  have h : SH g w_16 v s H locs := by rw [ew_16]; exact h
  have f_17 : w_16 (ad 0) = some (ob 0 [.ref (ad 1), .int (nI cn), .int (bI ru), .int (bI fu), .ref (ad 2), .ref (ad 3), .int (bI ch), .ref (ad 4), .ref (ad 5), .ref (ad 6)]) := by rw [ew_16]; exact (gu_n (g_neN x0 b0)).trans f_10
  have f_18 : w_16 (ad 1) = some (eB g (32 * cn) dk) := by rw [ew_16]; exact (gu_n (g_neN x1 b0)).trans f_11
  have f_19 : w_16 (ad 2) = some (eI g 30 fP) := by rw [ew_16]; exact (gu_n (g_neN x2 b0)).trans f_12
  have f_20 : w_16 (ad 3) = some (eS g 64 fl) := by rw [ew_16]; exact (gu_n (g_neN x3 b0)).trans f_13
  have f_21 : w_16 a = some (ob 1 [.ref b]) := by rw [ew_16]; exact (gu_n nab).trans fa
  have f_22 : w_16 b = some (eB g 32 (va_cpy dk (fun _ => 0) (32 * k) 0 32)) := by rw [ew_16]; exact gu_s
  refine lv_aload_n hx hb dX1_read_26 rfl (lv_at hl 0 rfl) ?_
  exact gr_q C h (x := some a) (ty := (.object "KnowDisk$Sector")) rfl (Or.inl ⟨_, rfl⟩) (⟨a, b, rfl, by rw [ew_16]; exact XK.putn hE_15 b0, f_21, f_22⟩) (Nat.le_of_ble_eq_true rfl) (Nat.le_of_ble_eq_true rfl) dX1_read_27
