set_option maxRecDepth 100000
theorem pgOf_out {pl : Nat → Option Nat} {x : Int32} (h : ¬ vp_in x 30) : pgOf pl x = none := by
  cases hq : pgOf pl x with
  | none => rfl
  | some k =>
    obtain ⟨j, j1, j2, -, -⟩ := pgOf_some hq
    rw [j2] at h
    exact absurd (vp_in_nI j1 (by decide)) h
theorem at_in {i : Int32} : vp_in i 32 ↔ ¬ (i < 0 ∨ nI 32 ≤ i) := by
  rw [vp_in_iff, Int32.lt_iff_toInt_lt, Int32.le_iff_toInt_le, show (nI 32).toInt = 32 by decide, show (0 : Int32).toInt = 0 by decide]
  omega
theorem opAt_n {cn : Nat} {ru fu ch : Bool} {dk : Sec} {wt : List (Nat × Sec)} {ld : Nat → Option Sec} {pl : Nat → Option Nat} {st kp : List (Int32 × Int64)} {x i : Int32} (h : pgOf pl x = none) : opAt (cn, ru, fu, ch, dk, wt, ld, pl, st, kp) x i = none := by
  unfold opAt
  dsimp only
  rw [h]
theorem opAt_s {cn : Nat} {ru fu ch : Bool} {dk : Sec} {wt : List (Nat × Sec)} {ld : Nat → Option Sec} {pl : Nat → Option Nat} {st kp : List (Int32 × Int64)} {x i : Int32} {k : Nat} (h : pgOf pl x = some k) (hi : vp_in i 32) : opAt (cn, ru, fu, ch, dk, wt, ld, pl, st, kp) x i = some (cur dk wt ld k i.toNatClampNeg) := by
  unfold opAt
  dsimp only
  rw [h]
  exact if_neg (at_in.mp hi)
theorem opAt_o {cn : Nat} {ru fu ch : Bool} {dk : Sec} {wt : List (Nat × Sec)} {ld : Nat → Option Sec} {pl : Nat → Option Nat} {st kp : List (Int32 × Int64)} {x i : Int32} {k : Nat} (h : pgOf pl x = some k) (hi : ¬ vp_in i 32) : opAt (cn, ru, fu, ch, dk, wt, ld, pl, st, kp) x i = none := by
  unfold opAt
  dsimp only
  rw [h]
  exact if_pos (Classical.byContradiction (fun q => hi (at_in.mpr q)))
theorem cur_n {dk : Sec} {wt : List (Nat × Sec)} {ld : Nat → Option Sec} {k : Nat} (h : ld k = none) : cur dk wt ld k = lat dk wt k := by
  unfold cur
  rw [h]
theorem cur_s {dk : Sec} {wt : List (Nat × Sec)} {ld : Nat → Option Sec} {k : Nat} {d : Sec} (h : ld k = some d) : cur dk wt ld k = d := by
  unfold cur
  rw [h]
theorem vu_same {α : Type} {f : Nat → α} {k : Nat} {x : α} (h : f k = x) : va_up f k x = f := by
  funext j
  unfold va_up
  split
  · rename_i e; rw [e, h]
  · rfl
theorem nb8 (b : Int8) : narrow .byte (.int b.toInt32) = .int b.toInt32 := by
  have h : b.toInt32.toInt8 = b := Int8.toInt8_toInt32 b
  simp [narrow, h]
set_option maxHeartbeats 4000000 in
theorem m_X1_closed (l : Launch) (g : GG) (w v : GW) (a b : Nat) (f : Sec) (h0 : w a = some (ob 1 [.ref b])) (h1 : w b = some (eB g 32 f)) : Met l yX1_closed (ws_ yX1_closed cX1_closed 1 (some (.object "KnowDisk$Sector"))) ({ frames := 4, cells := 0, slots := 0, locals := 240 } : Room) (gP g [.ref a] w v) (va_Qq (fun (r : Option Nat) (w' : GW) => r = some a ∧ w' = gu w b (eB g 32 (closeB f))) (gB g v) (gA g)) 0 0 (gA g) := by
  refine gm_of (by decide) (Nat.le_of_ble_eq_true rfl) ?_
  intro p e s m below meth c ls C hnm h hl
  have C : Cx g p s m ([.ref a] : List Value).toArray meth c cX1_closed 1 RX1 (some (.object "KnowDisk$Sector")) := C
  obtain ⟨hx, hb, hml, hown, hts, hr, hlk, hG⟩ := id C
  have hl : lv_has ls 1 [(0, .ref a)] := hl
  refine lv_aload_n hx hb dX1_closed_0 rfl (lv_at hl 0 rfl) ?_
  refine gc_v (va_runV (As := []) (rest := []) C.fix (m_X4_close l g w v a b f h0 h1) (cwV 0 hts (lw_V q483 q484 q485 q55 q486) rfl rfl rfl (by decide +kernel) ⟨Nat.le_of_ble_eq_true rfl, Nat.le_of_ble_eq_true rfl⟩) (gp_V C h [] (Cn := RX4) (T := TX4) (N := 1) rfl h0) rfl rfl hl.1 rfl (lv_room (Nat.le_of_ble_eq_true rfl)) dX1_closed_1 ⟨Nat.le_of_ble_eq_true rfl, Nat.le_of_ble_eq_true rfl⟩) h (fun w_2 H locs hp h => ?_)
  refine lv_aload_n hx hb dX1_closed_4 rfl (lv_at hl 0 rfl) ?_
  exact gr_q C h (x := some a) (ty := (.object "KnowDisk$Sector")) rfl (Or.inl ⟨_, rfl⟩) (⟨rfl, hp⟩) (Nat.le_of_ble_eq_true rfl) (Nat.le_of_ble_eq_true rfl) dX1_closed_5
set_option maxHeartbeats 4000000 in
theorem m_X1_at (l : Launch) (hst : l.stackTraces = false) (g : GG) (w v : GW) (ad : Nat → Nat) (cn : Nat) (ru fu ch : Bool) (dk : Sec) (wt : List (Nat × Sec)) (ld : Nat → Option Sec) (pl : Nat → Option Nat) (st kp : List (Int32 × Int64)) (hR : RX g w ad (cn, ru, fu, ch, dk, wt, ld, pl, st, kp)) (hI : InvK (cn, ru, fu, ch, dk, wt, ld, pl, st, kp)) (x i : Int32)  : vx_Met l yX1_at (ws_ yX1_at cX1_at 5 (some .byte)) ({ frames := 9, cells := 6, slots := 259, locals := 10600 } : Room) (gP g [.ref (ad 0), .int x, .int i] w v) (va_Qi (fun (r : Int32) (w' : GW) => (∃ b, opAt (cn, ru, fu, ch, dk, wt, ld, pl, st, kp) x i = some b ∧ r = b.toInt32) ∧ RX g w' ad (cn, ru, fu, ch, dk, wt, ld, pl, st, kp)) (gB g v) (gA g)) (vx_X (fun (w' : GW) => opAt (cn, ru, fu, ch, dk, wt, ld, pl, st, kp) x i = none ∧ RX g w' ad (cn, ru, fu, ch, dk, wt, ld, pl, st, kp)) (fun E u t => E = exN ∧ GH g u v t.heap) (gA g)) 6 259 (gA g) := by
  refine gmx_of (by decide) (Nat.le_of_ble_eq_true rfl) ?_
  intro p e s m below meth c ls C hnm htb h hl
  have C : Cx g p s m ([.ref (ad 0), .int x, .int i] : List Value).toArray meth c cX1_at 5 RX1 (some .byte) := C
  obtain ⟨hx, hb, hml, hown, hts, hr, hlk, hG⟩ := id C
  have hl : lv_has ls 5 [(0, .ref (ad 0)), (1, .int x), (2, .int i)] := hl
  obtain ⟨fP, fl, lb, wE, sE, kE, hX⟩ := id hR
  obtain ⟨⟨x0, x1, x2, x3⟩, hQW, hQS, hQK, hLL, hLi, hpl, hXD, h8⟩ := id hX
  obtain ⟨i1, i2, i3, i4, i5, i6, i7, i8, i9⟩ := id hI
  have n01 : ad 0 ≠ ad 1 := g_ne x0 x1 (kn_ne (show 0 ≠ 100 + 32 * cn by omega))
  have n02 : ad 0 ≠ ad 2 := g_ne x0 x2 (kn_ne (show 0 ≠ 130 by omega))
  have n03 : ad 0 ≠ ad 3 := g_ne x0 x3 (kn_ne (show 0 ≠ 50 by omega))
  have n12 : ad 1 ≠ ad 2 := g_ne x1 x2 (kn_ne (show 100 + 32 * cn ≠ 130 by omega))
  have n13 : ad 1 ≠ ad 3 := g_ne x1 x3 (kn_ne (show 100 + 32 * cn ≠ 50 by omega))
  have n23 : ad 2 ≠ ad 3 := g_ne x2 x3 (kn_ne (show 130 ≠ 50 by omega))
  refine lv_aload_n hx hb dX1_at_0 rfl (lv_at hl 0 rfl) ?_
  refine gx_get C h x0 (Cn := RX1) (T := TX1) (N := 10) rfl in_X1 4 (by decide) q219 rfl rfl dX1_at_1 ?_
  refine lv_iload_n hx hb dX1_at_4 rfl (lv_at hl 1 rfl) ?_
  by_cases hin : vp_in x 30
  · skip
    obtain ⟨j, hj, hxj⟩ := vp_in_of hin (by decide)
    have hpx : pgOf pl x = pl j := by rw [hxj]; exact pgOf_nI hj
    refine gx_iald C h x2 j (hxj) (by omega) dX1_at_5 ?_
    rw [hpl j hj]
    rcases hp : pl j with _ | k
    · skip
      rw [hp] at hpx
      refine lv_istore_n (lv' := [(3, .int (-1)), (0, .ref (ad 0)), (1, .int x), (2, .int i)]) hx hb dX1_at_6 rfl hl (by decide) rfl (fun ls hl => ?_)
      refine lv_aload_n hx hb dX1_at_7 rfl (lv_at hl 1 rfl) ?_
      refine gx_get C h x0 (Cn := RX1) (T := TX1) (N := 10) rfl in_X1 5 (by decide) q220 rfl rfl dX1_at_8 ?_
      refine lv_iload_n hx hb dX1_at_11 rfl (lv_at hl 0 rfl) ?_
      refine gx_aaldZ C h x3 (by decide) (fun q => q (Or.inl (by decide))) dX1_at_12 (fun tx htx => ?_)
      refine gx_thr C h hst hl.1 (by decide) htx (Nat.le_of_ble_eq_true rfl) (Nat.le_of_ble_eq_true rfl) (Nat.le_of_ble_eq_true rfl) (Nat.le_of_ble_eq_true rfl) (fun H1 q9 ce h hce hcv hcl => ?_)
      exact gx_out C h htb hce hcv hcl (⟨opAt_n hpx, hR⟩) (Nat.le_of_ble_eq_true rfl) (Nat.le_of_ble_eq_true rfl)
    · skip
      rw [hp] at hpx
      have hkc := i2 j k hj hp
      refine lv_istore_n (lv' := [(3, .int (nI k)), (0, .ref (ad 0)), (1, .int x), (2, .int i)]) hx hb dX1_at_6 rfl hl (by decide) rfl (fun ls hl => ?_)
      refine lv_aload_n hx hb dX1_at_7 rfl (lv_at hl 1 rfl) ?_
      refine gx_get C h x0 (Cn := RX1) (T := TX1) (N := 10) rfl in_X1 5 (by decide) q220 rfl rfl dX1_at_8 ?_
      refine lv_iload_n hx hb dX1_at_11 rfl (lv_at hl 0 rfl) ?_
      refine gx_aald C h 4 rfl x3 k (rfl) (by omega) dX1_at_12 ?_
      rcases hld : ld k with _ | d
      · skip
        rw [(hLL k (by omega)).1 hld]
        refine lv_astoreN (lv' := [(4, .null), (3, .int (nI k)), (0, .ref (ad 0)), (1, .int x), (2, .int i)]) hx hb dX1_at_13 hl (by decide) rfl (fun ls hl => ?_)
        refine lv_aloadN hx hb dX1_at_15 (lv_at hl 0 rfl) ?_
        refine lv_ifnonnullN hx hb dX1_at_17 ?_
        refine lv_aload_n hx hb dX1_at_20 rfl (lv_at hl 2 rfl) ?_
        refine lv_iload_n hx hb dX1_at_21 rfl (lv_at hl 1 rfl) ?_
        refine gc_q (va_runV (As := [.int (nI k)]) (rest := []) C.fix (m_X1_sector l g w v ad cn ru fu ch dk wt ld pl st kp fP fl lb wE sE kE hX hI k hkc.2) (cwV 1 hts (lw_V q258 q260 qs5 q43 q261) rfl rfl rfl (by decide +kernel) ⟨Nat.le_of_ble_eq_true rfl, Nat.le_of_ble_eq_true rfl⟩) (gp_V C h [.int (nI k)] (Cn := RX1) (T := TX1) (N := 10) rfl x0) rfl rfl hl.1 rfl (lv_room (Nat.le_of_ble_eq_true rfl)) dX1_at_22 ⟨Nat.le_of_ble_eq_true rfl, Nat.le_of_ble_eq_true rfl⟩) h (fun r_1 w_2 H locs hp h => ?_)
        obtain ⟨a1, b1, f1, re1, xe1, fa1, fb1, -, hlt⟩ := hp
        rw [re1]
        refine gx_getN C h fa1 (Cn := RX4) (T := TX4) (N := 1) rfl in_X4 0 (by decide) q349 rfl rfl dX1_at_25 ?_
        refine lv_iload_n hx hb dX1_at_28 rfl (lv_at hl 4 rfl) ?_
        by_cases hin2 : vp_in i 32
        · skip
          obtain ⟨i2_, hi2, hxi⟩ := vp_in_of hin2 (by decide)
          refine gx_bald C h fb1 i2_ (hxi) (⟨hi2, by decide⟩) dX1_at_29 ?_
          refine vx_ret ?_
          exact gr_i C h (ty := .byte) rfl (nb8 _) (⟨⟨_, (opAt_s hpx hin2).trans (by rw [hxi, nI_clamp (by omega)]), by rw [cur_n hld, ← hlt hld]⟩, ⟨fP, fl, lb, wE, sE, kE, hX.ext xe1⟩⟩) (Nat.le_of_ble_eq_true rfl) (Nat.le_of_ble_eq_true rfl) dX1_at_30
        · skip
          refine gx_baldZ C h fb1 (by decide) hin2 dX1_at_29 (fun tx htx => ?_)
          refine gx_thr C h hst hl.1 (by decide) htx (Nat.le_of_ble_eq_true rfl) (Nat.le_of_ble_eq_true rfl) (Nat.le_of_ble_eq_true rfl) (Nat.le_of_ble_eq_true rfl) (fun H1 q9 ce h hce hcv hcl => ?_)
          exact gx_out C h htb hce hcv hcl (⟨opAt_o hpx hin2, ⟨fP, fl, lb, wE, sE, kE, hX.ext xe1⟩⟩) (Nat.le_of_ble_eq_true rfl) (Nat.le_of_ble_eq_true rfl)
      · skip
        obtain ⟨s1, f1, hfl, hs1, hb1, hcl1⟩ := (hLL k (by omega)).2 d hld
        rw [hfl]
        refine lv_astore (lv' := [(4, .ref s1), (3, .int (nI k)), (0, .ref (ad 0)), (1, .int x), (2, .int i)]) hx hb dX1_at_13 hl (by decide) rfl (fun ls hl => ?_)
        refine lv_aload hx hb dX1_at_15 (lv_at hl 0 rfl) ?_
        refine lv_ifnonnull (tgt := 31) hx hb dX1_at_17 (by decide) ?_
        refine lv_aload hx hb dX1_at_31 (lv_at hl 0 rfl) ?_
        refine gc_q (va_runS (As := [.ref s1]) (rest := []) C.fix (m_X1_closed l g w v s1 (lb k) f1 hs1 hb1) (va_cwS 1 hts (lw_S q718 q719 q43 q720) rfl rfl rfl (by decide +kernel) ⟨Nat.le_of_ble_eq_true rfl, Nat.le_of_ble_eq_true rfl⟩) (gp_S C h _) rfl rfl hl.1 rfl (lv_room (Nat.le_of_ble_eq_true rfl)) dX1_at_33 ⟨Nat.le_of_ble_eq_true rfl, Nat.le_of_ble_eq_true rfl⟩) h (fun r_3 w_4 H locs hp h => ?_)
        obtain ⟨re1, xe1⟩ := hp
        rw [re1]
        have fs1 : w_4 s1 = some (ob 1 [.ref (lb k)]) := by rw [xe1]; exact (gu_n (g_ne hs1 hb1 (by simp))).trans hs1
        have fb1 : w_4 (lb k) = some (eB g 32 (closeB f1)) := by rw [xe1]; exact gu_s
        have hX2 : RX g w_4 ad (cn, ru, fu, ch, dk, wt, ld, pl, st, kp) := ⟨fP, fl, lb, wE, sE, kE, by have q := hX.lby (by omega) hld hb1 xe1; rw [closeB_i, hcl1, vu_same hld] at q; exact q⟩
        refine gx_getN C h fs1 (Cn := RX4) (T := TX4) (N := 1) rfl in_X4 0 (by decide) q349 rfl rfl dX1_at_36 ?_
        refine lv_iload_n hx hb dX1_at_39 rfl (lv_at hl 4 rfl) ?_
        by_cases hin2 : vp_in i 32
        · skip
          obtain ⟨i2_, hi2, hxi⟩ := vp_in_of hin2 (by decide)
          refine gx_bald C h fb1 i2_ (hxi) (⟨hi2, by decide⟩) dX1_at_40 ?_
          refine vx_ret ?_
          exact gr_i C h (ty := .byte) rfl (nb8 _) (⟨⟨_, (opAt_s hpx hin2).trans (by rw [hxi, nI_clamp (by omega)]), by rw [cur_s hld, ← hcl1]⟩, hX2⟩) (Nat.le_of_ble_eq_true rfl) (Nat.le_of_ble_eq_true rfl) dX1_at_41
        · skip
          refine gx_baldZ C h fb1 (by decide) hin2 dX1_at_40 (fun tx htx => ?_)
          refine gx_thr C h hst hl.1 (by decide) htx (Nat.le_of_ble_eq_true rfl) (Nat.le_of_ble_eq_true rfl) (Nat.le_of_ble_eq_true rfl) (Nat.le_of_ble_eq_true rfl) (fun H1 q9 ce h hce hcv hcl => ?_)
          exact gx_out C h htb hce hcv hcl (⟨opAt_o hpx hin2, hX2⟩) (Nat.le_of_ble_eq_true rfl) (Nat.le_of_ble_eq_true rfl)
  · skip
    refine gx_ialdZ C h x2 (by decide) hin dX1_at_5 (fun tx htx => ?_)
    refine gx_thr C h hst hl.1 (by decide) htx (Nat.le_of_ble_eq_true rfl) (Nat.le_of_ble_eq_true rfl) (Nat.le_of_ble_eq_true rfl) (Nat.le_of_ble_eq_true rfl) (fun H1 q9 ce h hce hcv hcl => ?_)
    exact gx_out C h htb hce hcv hcl (⟨opAt_n (pgOf_out hin), hR⟩) (Nat.le_of_ble_eq_true rfl) (Nat.le_of_ble_eq_true rfl)
