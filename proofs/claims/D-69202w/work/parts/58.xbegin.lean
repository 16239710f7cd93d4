set_option maxRecDepth 100000
theorem DQ.empty {g : GG} {w : GW} {a E n : Nat} {f : Nat → Option Nat} (h1 : w a = some (ob 5 [.ref E, .int (nI 0), .int (nI 0)])) (h2 : w E = some (eO g n f)) (hn : 0 < n) (h3 : n ≤ 200) : DQ g w a E n f 0 [] := by
  refine ⟨?_, h2, hn, hn, h3, fun i x q => by cases q⟩
  rw [show wr n (0 + ([] : List Nat).length) = 0 from wr_small hn]
  exact h1
theorem vu_none {f : Nat → Option Nat} {k j : Nat} (h : j ≠ k → f j = none) : va_up f k none j = none := by
  unfold va_up
  by_cases q : j = k
  · rw [if_pos q]
  · rw [if_neg q]; exact h q
theorem upd_m1 {f : Nat → Int32} {k j : Nat} (h : j ≠ k → f j = -1) : upd f k (-1) j = -1 := by
  unfold upd
  by_cases q : j = k
  · rw [if_pos q]
  · rw [if_neg q]; exact h q
theorem WL.nil {g : GG} {w : GW} {P : Nat → Prop} : WL g w P [] [] := ⟨rfl, fun i x y q => by cases q⟩
theorem SL.nil {w : GW} : SL w [] [] := ⟨rfl, fun i x y q => by cases q⟩
theorem SL.one {w : GW} {a : Nat} {n : Int32} {y : Int64} (h : w a = some (ob 2 [.int n, .long y])) : SL w ([] ++ [a]) [(n, y)] := by
  refine ⟨rfl, fun i x z h1 h2 => ?_⟩
  cases i with
  | zero => cases h1; cases h2; exact h
  | succ i => cases h1
set_option maxHeartbeats 4000000 in
theorem m_X1_begin (l : Launch) (g : GG) (w v : GW) (ad : Nat → Nat) (cn : Nat) (ru fu ch : Bool) (dk : Sec) (wt : List (Nat × Sec)) (ld : Nat → Option Sec) (pl : Nat → Option Nat) (st kp : List (Int32 × Int64)) (fP : Nat → Int32) (fl : Nat → Option Nat) (lb : Nat → Nat) (wE sE kE : Nat) (hX : XW g w ad cn ru fu ch dk wt ld pl st kp fP fl lb wE sE kE) (a : Nat) (n : Int32) (y : Int64) (ha : w a = some (ob 2 [.int n, .long y])) : Met l yX1_begin (ws_ yX1_begin cX1_begin 3 none) ({ frames := 7, cells := 1, slots := 200, locals := 420 } : Room) (gP g [.ref (ad 0), .ref a] w v) (va_Qv (fun (w' : GW) => RX g w' ad (beginK cn ru fu dk (n, y))) (gB g v) (gA g)) 1 200 (gA g) := by
  refine gm_of (by decide) (Nat.le_of_ble_eq_true rfl) ?_
  intro p e s m below meth c ls C hnm h hl
  have C : Cx g p s m ([.ref (ad 0), .ref a] : List Value).toArray meth c cX1_begin 3 RX1 none := C
  obtain ⟨hx, hb, hml, hown, hts, hr, hlk, hG⟩ := id C
  have hl : lv_has ls 3 [(0, .ref (ad 0)), (1, .ref a)] := hl
  obtain ⟨⟨x0, x1, x2, x3⟩, hQW, hQS, hQK, hLL, hLi, hpl, hXD, h8⟩ := id hX
  have n01 : ad 0 ≠ ad 1 := g_ne x0 x1 (kn_ne (show 0 ≠ 100 + 32 * cn by omega))
  have n02 : ad 0 ≠ ad 2 := g_ne x0 x2 (kn_ne (show 0 ≠ 130 by omega))
  have n03 : ad 0 ≠ ad 3 := g_ne x0 x3 (kn_ne (show 0 ≠ 50 by omega))
  have n12 : ad 1 ≠ ad 2 := g_ne x1 x2 (kn_ne (show 100 + 32 * cn ≠ 130 by omega))
  have n13 : ad 1 ≠ ad 3 := g_ne x1 x3 (kn_ne (show 100 + 32 * cn ≠ 50 by omega))
  have n23 : ad 2 ≠ ad 3 := g_ne x2 x3 (kn_ne (show 130 ≠ 50 by omega))
  obtain ⟨wn, wf, wh, ws, hDw, hWL⟩ := id hQW
  obtain ⟨sn, sf, sh, ss, hDs, hSL⟩ := id hQS
  obtain ⟨kN, kf, km, ks, hAk, hSK⟩ := id hQK
  obtain ⟨d45, dws, dwk, dsk, d3w, d3s, d3k⟩ := id hXD
  refine lv_aload_n hx hb dX1_begin_0 rfl (lv_at hl 0 rfl) ?_
  refine gx_get C h x0 (Cn := RX1) (T := TX1) (N := 10) rfl in_X1 8 (by decide) q223 rfl rfl dX1_begin_1 ?_
  refine gc_v (va_runV (As := []) (rest := []) C.fix (m_J1_clear l g w v (ad 5) sE sn sf sh ss hDs) (cwV 0 hts (lw_V q154 q155 q156 q45 q157) rfl rfl rfl (by decide +kernel) ⟨Nat.le_of_ble_eq_true rfl, Nat.le_of_ble_eq_true rfl⟩) (gp_V C h [] (Cn := RJ1) (T := TJ1) (N := 3) rfl hDs.1) rfl rfl hl.1 rfl (lv_room (Nat.le_of_ble_eq_true rfl)) dX1_begin_4 ⟨Nat.le_of_ble_eq_true rfl, Nat.le_of_ble_eq_true rfl⟩) h (fun w_2 H locs hp h => ?_)
  obtain ⟨sf1, hp⟩ := hp
  obtain ⟨wm_3, ewm_3⟩ : ∃ z_ : GW, z_ = gu w sE (eO g sn sf1) := ⟨_, rfl⟩
  rw [← ewm_3] at hp
  have ew_4 : wm_3 = gu w sE (eO g sn sf1) := ewm_3
  have f_5 : wm_3 (ad 0) = some (ob 0 [.ref (ad 1), .int (nI cn), .int (bI ru), .int (bI fu), .ref (ad 2), .ref (ad 3), .int (bI ch), .ref (ad 4), .ref (ad 5), .ref (ad 6)]) := by rw [ew_4]; exact (gu_n (g_ne x0 hDs.2.1 (by simp))).trans x0
  have f_6 : wm_3 (ad 1) = some (eB g (32 * cn) dk) := by rw [ew_4]; exact (gu_n (g_ne x1 hDs.2.1 (by simp))).trans x1
  have f_7 : wm_3 (ad 2) = some (eI g 30 fP) := by rw [ew_4]; exact (gu_n (g_ne x2 hDs.2.1 (by simp))).trans x2
  have f_8 : wm_3 (ad 3) = some (eS g 64 fl) := by rw [ew_4]; exact (gu_n d3s).trans x3
  have f_9 : wm_3 (ad 4) = some (ob 5 [.ref wE, .int (nI wh), .int (nI (wr wn (wh + ws.length)))]) := by rw [ew_4]; exact (gu_n (g_ne hDw.1 hDs.2.1 (by simp))).trans hDw.1
  have f_10 : wm_3 wE = some (eO g wn wf) := by rw [ew_4]; exact (gu_n dws).trans hDw.2.1
  have f_11 : wm_3 (ad 5) = some (ob 5 [.ref sE, .int (nI sh), .int (nI (wr sn (sh + ss.length)))]) := by rw [ew_4]; exact (gu_n (g_ne hDs.1 hDs.2.1 (by simp))).trans hDs.1
  have f_12 : wm_3 sE = some (eO g sn sf1) := by rw [ew_4]; exact gu_s
  have f_13 : wm_3 (ad 6) = some (ob 6 [.int km, .ref kE, .int (nI ks.length)]) := by rw [ew_4]; exact (gu_n (g_ne hAk.1 hDs.2.1 (by simp))).trans hAk.1
  have f_14 : wm_3 kE = some (eO g kN kf) := by rw [ew_4]; exact (gu_n (Ne.symm dsk)).trans hAk.2.1
  have f_15 : wm_3 a = some (ob 2 [.int n, .long y]) := by rw [ew_4]; exact (gu_n (g_ne ha hDs.2.1 (by simp))).trans ha
  have ew_16 : w_2 = gu wm_3 (ad 5) (ob 5 [.ref sE, .int (nI 0), .int (nI 0)]) := hp
  have f_17 : w_2 (ad 0) = some (ob 0 [.ref (ad 1), .int (nI cn), .int (bI ru), .int (bI fu), .ref (ad 2), .ref (ad 3), .int (bI ch), .ref (ad 4), .ref (ad 5), .ref (ad 6)]) := by rw [ew_16]; exact (gu_n (g_ne f_5 f_11 (by simp))).trans f_5
  have f_18 : w_2 (ad 1) = some (eB g (32 * cn) dk) := by rw [ew_16]; exact (gu_n (g_ne f_6 f_11 (by simp))).trans f_6
  have f_19 : w_2 (ad 2) = some (eI g 30 fP) := by rw [ew_16]; exact (gu_n (g_ne f_7 f_11 (by simp))).trans f_7
  have f_20 : w_2 (ad 3) = some (eS g 64 fl) := by rw [ew_16]; exact (gu_n (g_ne f_8 f_11 (by simp))).trans f_8
  have f_21 : w_2 (ad 4) = some (ob 5 [.ref wE, .int (nI wh), .int (nI (wr wn (wh + ws.length)))]) := by rw [ew_16]; exact (gu_n d45).trans f_9
  have f_22 : w_2 wE = some (eO g wn wf) := by rw [ew_16]; exact (gu_n (g_ne f_10 f_11 (by simp))).trans f_10
  have f_23 : w_2 (ad 5) = some (ob 5 [.ref sE, .int (nI 0), .int (nI 0)]) := by rw [ew_16]; exact gu_s
  have f_24 : w_2 sE = some (eO g sn sf1) := by rw [ew_16]; exact (gu_n (g_ne f_12 f_11 (by simp))).trans f_12
  have f_25 : w_2 (ad 6) = some (ob 6 [.int km, .ref kE, .int (nI ks.length)]) := by rw [ew_16]; exact (gu_n (g_ne f_13 f_11 (by simp))).trans f_13
  have f_26 : w_2 kE = some (eO g kN kf) := by rw [ew_16]; exact (gu_n (g_ne f_14 f_11 (by simp))).trans f_14
  have f_27 : w_2 a = some (ob 2 [.int n, .long y]) := by rw [ew_16]; exact (gu_n (g_ne f_15 f_11 (by simp))).trans f_15
  have hD1 : DQ g w_2 (ad 5) sE sn sf1 0 [] := DQ.empty f_23 f_24 (by have := hDs.2.2.1; omega) hDs.2.2.2.2.1
  refine lv_aload_n hx hb dX1_begin_7 rfl (lv_at hl 0 rfl) ?_
  refine gx_get C h f_17 (Cn := RX1) (T := TX1) (N := 10) rfl in_X1 8 (by decide) q223 rfl rfl dX1_begin_8 ?_
  refine lv_aload_n hx hb dX1_begin_11 rfl (lv_at hl 1 rfl) ?_
  refine gc_i (va_runV (As := [.ref a]) (rest := []) C.fix (m_J1_add l g w_2 v (ad 5) sE sn sf1 0 ([]) hD1 a _ 2 (RX2, TX2, 2) rfl q951 f_27 (fun y hy => by cases hy) (Nat.zero_le _) (by decide)) (cwV 1 hts (lw_V q161 q162 q163 q45 q164) rfl rfl rfl (by decide +kernel) ⟨Nat.le_of_ble_eq_true rfl, Nat.le_of_ble_eq_true rfl⟩) (gp_V C h [.ref a] (Cn := RJ1) (T := TJ1) (N := 3) rfl f_23) rfl rfl hl.1 rfl (lv_room (Nat.le_of_ble_eq_true rfl)) dX1_begin_12 ⟨Nat.le_of_ble_eq_true rfl, Nat.le_of_ble_eq_true rfl⟩) h (fun r_28 w_29 H locs hpA h => ?_)
  obtain ⟨Ar, AE, An, Af, Ah, AD, Ae, Ak⟩ := hpA
  rw [Ar]
  have An_ad0 : ad 0 ≠ AE := Ae.elim (fun q => by rw [q]; exact (g_ne f_17 f_24 (by simp))) (fun q => g_neN f_17 q.1)
  have An_ad1 : ad 1 ≠ AE := Ae.elim (fun q => by rw [q]; exact (g_ne f_18 f_24 (by simp))) (fun q => g_neN f_18 q.1)
  have An_ad2 : ad 2 ≠ AE := Ae.elim (fun q => by rw [q]; exact (g_ne f_19 f_24 (by simp))) (fun q => g_neN f_19 q.1)
  have An_ad3 : ad 3 ≠ AE := Ae.elim (fun q => by rw [q]; exact d3s) (fun q => g_neN f_20 q.1)
  have An_ad4 : ad 4 ≠ AE := Ae.elim (fun q => by rw [q]; exact (g_ne f_21 f_24 (by simp))) (fun q => g_neN f_21 q.1)
  have An_wE : wE ≠ AE := Ae.elim (fun q => by rw [q]; exact dws) (fun q => g_neN f_22 q.1)
  have An_ad6 : ad 6 ≠ AE := Ae.elim (fun q => by rw [q]; exact (g_ne f_25 f_24 (by simp))) (fun q => g_neN f_25 q.1)
  have An_kE : kE ≠ AE := Ae.elim (fun q => by rw [q]; exact (Ne.symm dsk)) (fun q => g_neN f_26 q.1)
  have An_a : a ≠ AE := Ae.elim (fun q => by rw [q]; exact (g_ne f_27 f_24 (by simp))) (fun q => g_neN f_27 q.1)
  have f_30 : w_29 (ad 0) = some (ob 0 [.ref (ad 1), .int (nI cn), .int (bI ru), .int (bI fu), .ref (ad 2), .ref (ad 3), .int (bI ch), .ref (ad 4), .ref (ad 5), .ref (ad 6)]) := (Ak _ (g_ne f_17 f_23 (by simp)) (g_ne f_17 f_24 (by simp)) An_ad0).trans f_17
  have f_31 : w_29 (ad 1) = some (eB g (32 * cn) dk) := (Ak _ (g_ne f_18 f_23 (by simp)) (g_ne f_18 f_24 (by simp)) An_ad1).trans f_18
  have f_32 : w_29 (ad 2) = some (eI g 30 fP) := (Ak _ (g_ne f_19 f_23 (by simp)) (g_ne f_19 f_24 (by simp)) An_ad2).trans f_19
  have f_33 : w_29 (ad 3) = some (eS g 64 fl) := (Ak _ (g_ne f_20 f_23 (by simp)) d3s An_ad3).trans f_20
  have f_34 : w_29 (ad 4) = some (ob 5 [.ref wE, .int (nI wh), .int (nI (wr wn (wh + ws.length)))]) := (Ak _ d45 (g_ne f_21 f_24 (by simp)) An_ad4).trans f_21
  have f_35 : w_29 wE = some (eO g wn wf) := (Ak _ (g_ne f_22 f_23 (by simp)) dws An_wE).trans f_22
  have f_36 : w_29 (ad 6) = some (ob 6 [.int km, .ref kE, .int (nI ks.length)]) := (Ak _ (g_ne f_25 f_23 (by simp)) (g_ne f_25 f_24 (by simp)) An_ad6).trans f_25
  have f_37 : w_29 kE = some (eO g kN kf) := (Ak _ (g_ne f_26 f_23 (by simp)) (Ne.symm dsk) An_kE).trans f_26
  have f_38 : w_29 a = some (ob 2 [.int n, .long y]) := (Ak _ (g_ne f_27 f_23 (by simp)) (g_ne f_27 f_24 (by simp)) An_a).trans f_27
  refine lv_pop hx hb dX1_begin_15 rfl ?_
  refine lv_aload_n hx hb dX1_begin_16 rfl (lv_at hl 0 rfl) ?_
  refine gx_get C h f_30 (Cn := RX1) (T := TX1) (N := 10) rfl in_X1 9 (by decide) q224 rfl rfl dX1_begin_17 ?_
  have hA1 : AL g w_29 (ad 6) kE kN kf km ks := hAk.kept (f_36.trans hAk.1.symm) (f_37.trans hAk.2.1.symm)
  refine gc_v (va_runV (As := []) (rest := []) C.fix (m_J3_clear l g w_29 v (ad 6) kE kN kf km ks hA1) (cwV 0 hts (lw_V q211 q212 q213 q47 q214) rfl rfl rfl (by decide +kernel) ⟨Nat.le_of_ble_eq_true rfl, Nat.le_of_ble_eq_true rfl⟩) (gp_V C h [] (Cn := RJ3) (T := TJ3) (N := 3) rfl f_36) rfl rfl hl.1 rfl (lv_room (Nat.le_of_ble_eq_true rfl)) dX1_begin_20 ⟨Nat.le_of_ble_eq_true rfl, Nat.le_of_ble_eq_true rfl⟩) h (fun w_40 H locs hp h => ?_)
  obtain ⟨kf1, k1_, k2_, k3_⟩ := hp
  have f_41 : w_40 (ad 0) = some (ob 0 [.ref (ad 1), .int (nI cn), .int (bI ru), .int (bI fu), .ref (ad 2), .ref (ad 3), .int (bI ch), .ref (ad 4), .ref (ad 5), .ref (ad 6)]) := (k3_ _ (g_ne f_30 f_36 (by simp)) (g_ne f_30 f_37 (by simp))).trans f_30
  have f_42 : w_40 (ad 1) = some (eB g (32 * cn) dk) := (k3_ _ (g_ne f_31 f_36 (by simp)) (g_ne f_31 f_37 (by simp))).trans f_31
  have f_43 : w_40 (ad 2) = some (eI g 30 fP) := (k3_ _ (g_ne f_32 f_36 (by simp)) (g_ne f_32 f_37 (by simp))).trans f_32
  have f_44 : w_40 (ad 3) = some (eS g 64 fl) := (k3_ _ (g_ne f_33 f_36 (by simp)) d3k).trans f_33
  have f_45 : w_40 (ad 4) = some (ob 5 [.ref wE, .int (nI wh), .int (nI (wr wn (wh + ws.length)))]) := (k3_ _ (g_ne f_34 f_36 (by simp)) (g_ne f_34 f_37 (by simp))).trans f_34
  have f_46 : w_40 wE = some (eO g wn wf) := (k3_ _ (g_ne f_35 f_36 (by simp)) dwk).trans f_35
  have f_47 : w_40 a = some (ob 2 [.int n, .long y]) := (k3_ _ (g_ne f_38 f_36 (by simp)) (g_ne f_38 f_37 (by simp))).trans f_38
  have f_48 : w_40 (ad 5) = some (ob 5 [.ref AE, .int (nI Ah), .int (nI (wr An (Ah + (([]) ++ [a]).length)))]) := (k3_ _ (g_ne AD.1 f_36 (by simp)) (g_ne AD.1 f_37 (by simp))).trans AD.1
  have f_49 : w_40 AE = some (eO g An Af) := (k3_ _ (Ne.symm An_ad6) (Ne.symm An_kE)).trans AD.2.1
  refine lv_aload_n hx hb dX1_begin_23 rfl (lv_at hl 0 rfl) ?_
  refine gx_get C h f_41 (Cn := RX1) (T := TX1) (N := 10) rfl in_X1 7 (by decide) q222 rfl rfl dX1_begin_24 ?_
  have hD2 : DQ g w_40 (ad 4) wE wn wf wh ws := hDw.kept (f_45.trans hDw.1.symm) (f_46.trans hDw.2.1.symm)
  refine gc_v (va_runV (As := []) (rest := []) C.fix (m_J1_clear l g w_40 v (ad 4) wE wn wf wh ws hD2) (cwV 0 hts (lw_V q154 q155 q156 q45 q157) rfl rfl rfl (by decide +kernel) ⟨Nat.le_of_ble_eq_true rfl, Nat.le_of_ble_eq_true rfl⟩) (gp_V C h [] (Cn := RJ1) (T := TJ1) (N := 3) rfl f_45) rfl rfl hl.1 rfl (lv_room (Nat.le_of_ble_eq_true rfl)) dX1_begin_27 ⟨Nat.le_of_ble_eq_true rfl, Nat.le_of_ble_eq_true rfl⟩) h (fun w_51 H locs hp h => ?_)
  obtain ⟨wf1, hp⟩ := hp
  obtain ⟨wm_52, ewm_52⟩ : ∃ z_ : GW, z_ = gu w_40 wE (eO g wn wf1) := ⟨_, rfl⟩
  rw [← ewm_52] at hp
  have ew_53 : wm_52 = gu w_40 wE (eO g wn wf1) := ewm_52
  have f_54 : wm_52 (ad 0) = some (ob 0 [.ref (ad 1), .int (nI cn), .int (bI ru), .int (bI fu), .ref (ad 2), .ref (ad 3), .int (bI ch), .ref (ad 4), .ref (ad 5), .ref (ad 6)]) := by rw [ew_53]; exact (gu_n (g_ne f_41 f_46 (by simp))).trans f_41
  have f_55 : wm_52 (ad 1) = some (eB g (32 * cn) dk) := by rw [ew_53]; exact (gu_n (g_ne f_42 f_46 (by simp))).trans f_42
  have f_56 : wm_52 (ad 2) = some (eI g 30 fP) := by rw [ew_53]; exact (gu_n (g_ne f_43 f_46 (by simp))).trans f_43
  have f_57 : wm_52 (ad 3) = some (eS g 64 fl) := by rw [ew_53]; exact (gu_n d3w).trans f_44
  have f_58 : wm_52 (ad 4) = some (ob 5 [.ref wE, .int (nI wh), .int (nI (wr wn (wh + ws.length)))]) := by rw [ew_53]; exact (gu_n (g_ne f_45 f_46 (by simp))).trans f_45
  have f_59 : wm_52 wE = some (eO g wn wf1) := by rw [ew_53]; exact gu_s
  have f_60 : wm_52 a = some (ob 2 [.int n, .long y]) := by rw [ew_53]; exact (gu_n (g_ne f_47 f_46 (by simp))).trans f_47
  have f_61 : wm_52 (ad 5) = some (ob 5 [.ref AE, .int (nI Ah), .int (nI (wr An (Ah + (([]) ++ [a]).length)))]) := by rw [ew_53]; exact (gu_n (g_ne f_48 f_46 (by simp))).trans f_48
  have f_62 : wm_52 AE = some (eO g An Af) := by rw [ew_53]; exact (gu_n (Ne.symm An_wE)).trans f_49
  have f_63 : wm_52 (ad 6) = some (ob 6 [.int (km + nI 1), .ref kE, .int (nI 0)]) := by rw [ew_53]; exact (gu_n (g_ne k1_ f_46 (by simp))).trans k1_
  have f_64 : wm_52 kE = some (eO g kN kf1) := by rw [ew_53]; exact (gu_n (Ne.symm dwk)).trans k2_
  have ew_65 : w_51 = gu wm_52 (ad 4) (ob 5 [.ref wE, .int (nI 0), .int (nI 0)]) := hp
  have f_66 : w_51 (ad 0) = some (ob 0 [.ref (ad 1), .int (nI cn), .int (bI ru), .int (bI fu), .ref (ad 2), .ref (ad 3), .int (bI ch), .ref (ad 4), .ref (ad 5), .ref (ad 6)]) := by rw [ew_65]; exact (gu_n (g_ne f_54 f_58 (by simp))).trans f_54
  have f_67 : w_51 (ad 1) = some (eB g (32 * cn) dk) := by rw [ew_65]; exact (gu_n (g_ne f_55 f_58 (by simp))).trans f_55
  have f_68 : w_51 (ad 2) = some (eI g 30 fP) := by rw [ew_65]; exact (gu_n (g_ne f_56 f_58 (by simp))).trans f_56
  have f_69 : w_51 (ad 3) = some (eS g 64 fl) := by rw [ew_65]; exact (gu_n (g_ne f_57 f_58 (by simp))).trans f_57
  have f_70 : w_51 (ad 4) = some (ob 5 [.ref wE, .int (nI 0), .int (nI 0)]) := by rw [ew_65]; exact gu_s
  have f_71 : w_51 wE = some (eO g wn wf1) := by rw [ew_65]; exact (gu_n (g_ne f_59 f_58 (by simp))).trans f_59
  have f_72 : w_51 a = some (ob 2 [.int n, .long y]) := by rw [ew_65]; exact (gu_n (g_ne f_60 f_58 (by simp))).trans f_60
  have f_73 : w_51 (ad 5) = some (ob 5 [.ref AE, .int (nI Ah), .int (nI (wr An (Ah + (([]) ++ [a]).length)))]) := by rw [ew_65]; exact (gu_n (Ne.symm d45)).trans f_61
  have f_74 : w_51 AE = some (eO g An Af) := by rw [ew_65]; exact (gu_n (Ne.symm An_ad4)).trans f_62
  have f_75 : w_51 (ad 6) = some (ob 6 [.int (km + nI 1), .ref kE, .int (nI 0)]) := by rw [ew_65]; exact (gu_n (g_ne f_63 f_58 (by simp))).trans f_63
  have f_76 : w_51 kE = some (eO g kN kf1) := by rw [ew_65]; exact (gu_n (g_ne f_64 f_58 (by simp))).trans f_64
  refine lv_iconst (v := nI 0) hx hb dX1_begin_30 (by decide) ?_
  refine lv_istore_n (lv' := [(2, .int (nI 0)), (0, .ref (ad 0)), (1, .ref a)]) hx hb dX1_begin_31 rfl hl (by decide) rfl (fun ls hl => ?_)
  have loop2 : ∀ (n_ : Nat) (k : Nat) (fQ : Nat → Int32) (fM : Nat → Option Nat) (w1 : GW) (H : Heap) (locs : List Loc) (ls : Array Slot), 64 - k < n_ → (k ≤ 64) → (∀ j, j < 30 → fQ j = -1) → (∀ j, j < k → fM j = none) → (w1 (ad 0) = some (ob 0 [.ref (ad 1), .int (nI cn), .int (bI ru), .int (bI fu), .ref (ad 2), .ref (ad 3), .int (bI ch), .ref (ad 4), .ref (ad 5), .ref (ad 6)])) → (w1 (ad 1) = some (eB g (32 * cn) dk)) → (w1 (ad 4) = some (ob 5 [.ref wE, .int (nI 0), .int (nI 0)])) → (w1 wE = some (eO g wn wf1)) → (w1 a = some (ob 2 [.int n, .long y])) → (w1 (ad 5) = some (ob 5 [.ref AE, .int (nI Ah), .int (nI (wr An (Ah + (([]) ++ [a]).length)))])) → (w1 AE = some (eO g An Af)) → (w1 (ad 6) = some (ob 6 [.int (km + nI 1), .ref kE, .int (nI 0)])) → (w1 kE = some (eO g kN kf1)) → (w1 (ad 2) = some (eI g 30 fQ)) → (w1 (ad 3) = some (eS g 64 fM)) → SH g w1 v s H locs → lv_has ls 3 [(0, .ref (ad 0)), (2, .int (nI k))] → W p l e ({ frames := 7, cells := 1, slots := 200, locals := 420 } : Room) s m ([.ref (ad 0), .ref a] : List Value).toArray below meth c H locs 1 200 (MQ below (va_Qv (fun (w' : GW) => RX g w' ad (beginK cn ru fu dk (n, y))) (gB g v) (gA g)) ([.ref (ad 0), .ref a] : List Value).toArray s 1 200 (gA g)) (F0 m 53 ls []) := by
    intro n_
    induction n_ with
    | zero => intros; exact absurd ‹_ < 0› (Nat.not_lt_zero _)
    | succ n_ ih =>
      intro k fQ fM w1 H locs ls hf hk hq1 hq2 cf0 cf1 cf4 cf5 cf6 cf7 cf8 cf9 cf10 cP cL h hl
      refine lv_iload_n hx hb dX1_begin_53 rfl (lv_at hl 1 rfl) ?_
      refine lv_bipush (v := nI 64) hx hb dX1_begin_54 (by decide) ?_
      refine lv_icmp_ge (tgt := 72) hx hb dX1_begin_56 (by decide) (fun c1 => ?_) (fun c1 => ?_)
      · skip
        have c1 : 64 ≤ k := (nI_leI (by omega) (by omega)).mp c1
        refine lv_aload_n hx hb dX1_begin_72 rfl (lv_at hl 0 rfl) ?_
        refine lv_iconst (v := bI false) hx hb dX1_begin_73 (by decide) ?_
        refine gx_put C h cf0 (Cn := RX1) (T := TX1) (N := 10) (x := .int (bI false)) rfl in_X1 tyX1 tyX1_ok nmX1 6 (by decide) q221 rfl rfl (bI_n _) (bI_f _) (Nat.le_of_ble_eq_true rfl) dX1_begin_74 (fun H locs h => ?_)
        obtain ⟨w_77, ew_77⟩ : ∃ z_ : GW, z_ = gu w1 (ad 0) (ob 0 [.ref (ad 1), .int (nI cn), .int (bI ru), .int (bI fu), .ref (ad 2), .ref (ad 3), .int (bI false), .ref (ad 4), .ref (ad 5), .ref (ad 6)]) := ⟨_, rfl⟩
        have h : SH g w_77 v s H locs := by rw [ew_77]; exact h
        have f_78 : w_77 (ad 0) = some (ob 0 [.ref (ad 1), .int (nI cn), .int (bI ru), .int (bI fu), .ref (ad 2), .ref (ad 3), .int (bI false), .ref (ad 4), .ref (ad 5), .ref (ad 6)]) := by rw [ew_77]; exact gu_s
        have f_79 : w_77 (ad 1) = some (eB g (32 * cn) dk) := by rw [ew_77]; exact (gu_n (Ne.symm n01)).trans cf1
        have f_80 : w_77 (ad 4) = some (ob 5 [.ref wE, .int (nI 0), .int (nI 0)]) := by rw [ew_77]; exact (gu_n (g_ne cf4 cf0 (by simp))).trans cf4
        have f_81 : w_77 wE = some (eO g wn wf1) := by rw [ew_77]; exact (gu_n (g_ne cf5 cf0 (by simp))).trans cf5
        have f_82 : w_77 a = some (ob 2 [.int n, .long y]) := by rw [ew_77]; exact (gu_n (g_ne cf6 cf0 (by simp))).trans cf6
        have f_83 : w_77 (ad 5) = some (ob 5 [.ref AE, .int (nI Ah), .int (nI (wr An (Ah + (([]) ++ [a]).length)))]) := by rw [ew_77]; exact (gu_n (g_ne cf7 cf0 (by simp))).trans cf7
        have f_84 : w_77 AE = some (eO g An Af) := by rw [ew_77]; exact (gu_n (Ne.symm An_ad0)).trans cf8
        have f_85 : w_77 (ad 6) = some (ob 6 [.int (km + nI 1), .ref kE, .int (nI 0)]) := by rw [ew_77]; exact (gu_n (g_ne cf9 cf0 (by simp))).trans cf9
        have f_86 : w_77 kE = some (eO g kN kf1) := by rw [ew_77]; exact (gu_n (g_ne cf10 cf0 (by simp))).trans cf10
        have f_87 : w_77 (ad 2) = some (eI g 30 fQ) := by rw [ew_77]; exact (gu_n (Ne.symm n02)).trans cP
        have f_88 : w_77 (ad 3) = some (eS g 64 fM) := by rw [ew_77]; exact (gu_n (Ne.symm n03)).trans cL
        have hD3 : DQ g w_77 (ad 5) AE An Af Ah ([] ++ [a]) := AD.kept (f_83.trans AD.1.symm) (f_84.trans AD.2.1.symm)
        exact gr_v C h (⟨fQ, fM, lb, wE, AE, kE, ⟨f_78, f_79, f_87, f_88⟩, ⟨wn, wf1, 0, [], DQ.empty f_80 f_81 (by have := hDw.2.2.1; omega) hDw.2.2.2.2.1, WL.nil⟩, ⟨An, Af, Ah, _, hD3, SL.one f_82⟩, ⟨kN, kf1, _, [], ⟨f_85, f_86, Nat.zero_le _, (fun i x q => by cases q), hAk.2.2.2.2⟩, SL.nil⟩, fun j hj => ⟨fun _ => hq2 j (by omega), (fun d q => by cases q)⟩, (fun j k _ _ q => by cases q), fun p hp => hq1 p hp, ⟨d45, An_wE, dwk, Ne.symm An_kE, d3w, An_ad3, d3k⟩, h8⟩) (Nat.le_of_ble_eq_true rfl) (Nat.le_of_ble_eq_true rfl) dX1_begin_77
      · skip
        have c1 : ¬ (64 ≤ k) := fun q => c1 ((nI_leI (by omega) (by omega)).mpr q)
        refine lv_aload_n hx hb dX1_begin_59 rfl (lv_at hl 0 rfl) ?_
        refine gx_get C h cf0 (Cn := RX1) (T := TX1) (N := 10) rfl in_X1 5 (by decide) q220 rfl rfl dX1_begin_60 ?_
        refine lv_iload_n hx hb dX1_begin_63 rfl (lv_at hl 1 rfl) ?_
        refine lv_null hx hb dX1_begin_64 ?_
        refine gx_aastN C h 4 rfl cL k (rfl) (by omega) dX1_begin_65 (fun H locs h => ?_)
        obtain ⟨w_89, ew_89⟩ : ∃ z_ : GW, z_ = gu w1 (ad 3) (eS g 64 (va_up fM k none)) := ⟨_, rfl⟩
        have h : SH g w_89 v s H locs := by rw [ew_89]; exact h
        have f_90 : w_89 (ad 0) = some (ob 0 [.ref (ad 1), .int (nI cn), .int (bI ru), .int (bI fu), .ref (ad 2), .ref (ad 3), .int (bI ch), .ref (ad 4), .ref (ad 5), .ref (ad 6)]) := by rw [ew_89]; exact (gu_n n03).trans cf0
        have f_91 : w_89 (ad 1) = some (eB g (32 * cn) dk) := by rw [ew_89]; exact (gu_n n13).trans cf1
        have f_92 : w_89 (ad 4) = some (ob 5 [.ref wE, .int (nI 0), .int (nI 0)]) := by rw [ew_89]; exact (gu_n (g_ne cf4 cL (by simp))).trans cf4
        have f_93 : w_89 wE = some (eO g wn wf1) := by rw [ew_89]; exact (gu_n (Ne.symm d3w)).trans cf5
        have f_94 : w_89 a = some (ob 2 [.int n, .long y]) := by rw [ew_89]; exact (gu_n (g_ne cf6 cL (by simp))).trans cf6
        have f_95 : w_89 (ad 5) = some (ob 5 [.ref AE, .int (nI Ah), .int (nI (wr An (Ah + (([]) ++ [a]).length)))]) := by rw [ew_89]; exact (gu_n (g_ne cf7 cL (by simp))).trans cf7
        have f_96 : w_89 AE = some (eO g An Af) := by rw [ew_89]; exact (gu_n (Ne.symm An_ad3)).trans cf8
        have f_97 : w_89 (ad 6) = some (ob 6 [.int (km + nI 1), .ref kE, .int (nI 0)]) := by rw [ew_89]; exact (gu_n (g_ne cf9 cL (by simp))).trans cf9
        have f_98 : w_89 kE = some (eO g kN kf1) := by rw [ew_89]; exact (gu_n (Ne.symm d3k)).trans cf10
        have f_99 : w_89 (ad 2) = some (eI g 30 fQ) := by rw [ew_89]; exact (gu_n n23).trans cP
        have f_100 : w_89 (ad 3) = some (eS g 64 (va_up fM k none)) := by rw [ew_89]; exact gu_s
        refine lv_iinc (v := nI (k + 1)) (lv' := [(2, .int (nI (k + 1))), (0, .ref (ad 0))]) hx hb dX1_begin_66 hl (k := 1) rfl (gi_inc _ 1) (by decide) rfl (fun ls hl => ?_)
        refine lv_goto (tgt := 53) hx hb dX1_begin_69 (by decide) ?_
        exact ih (k + 1) fQ (va_up fM k none) _ _ _ _ (by omega) (by omega) hq1 (fun j hj => vu_none (fun q => hq2 j (by omega))) f_90 f_91 f_92 f_93 f_94 f_95 f_96 f_97 f_98 f_99 f_100 h (lv_sub hl [1, 0] rfl)
  have loop : ∀ (n_ : Nat) (k : Nat) (fQ : Nat → Int32) (w1 : GW) (H : Heap) (locs : List Loc) (ls : Array Slot), 30 - k < n_ → (k ≤ 30) → (∀ j, j < k → fQ j = -1) → (w1 (ad 0) = some (ob 0 [.ref (ad 1), .int (nI cn), .int (bI ru), .int (bI fu), .ref (ad 2), .ref (ad 3), .int (bI ch), .ref (ad 4), .ref (ad 5), .ref (ad 6)])) → (w1 (ad 1) = some (eB g (32 * cn) dk)) → (w1 (ad 4) = some (ob 5 [.ref wE, .int (nI 0), .int (nI 0)])) → (w1 wE = some (eO g wn wf1)) → (w1 a = some (ob 2 [.int n, .long y])) → (w1 (ad 5) = some (ob 5 [.ref AE, .int (nI Ah), .int (nI (wr An (Ah + (([]) ++ [a]).length)))])) → (w1 AE = some (eO g An Af)) → (w1 (ad 6) = some (ob 6 [.int (km + nI 1), .ref kE, .int (nI 0)])) → (w1 kE = some (eO g kN kf1)) → (w1 (ad 2) = some (eI g 30 fQ)) → (w1 (ad 3) = some (eS g 64 fl)) → SH g w1 v s H locs → lv_has ls 3 [(0, .ref (ad 0)), (2, .int (nI k))] → W p l e ({ frames := 7, cells := 1, slots := 200, locals := 420 } : Room) s m ([.ref (ad 0), .ref a] : List Value).toArray below meth c H locs 1 200 (MQ below (va_Qv (fun (w' : GW) => RX g w' ad (beginK cn ru fu dk (n, y))) (gB g v) (gA g)) ([.ref (ad 0), .ref a] : List Value).toArray s 1 200 (gA g)) (F0 m 32 ls []) := by
    intro n_
    induction n_ with
    | zero => intros; exact absurd ‹_ < 0› (Nat.not_lt_zero _)
    | succ n_ ih =>
      intro k fQ w1 H locs ls hf hk hq1 cf0 cf1 cf4 cf5 cf6 cf7 cf8 cf9 cf10 cP cL h hl
      refine lv_iload_n hx hb dX1_begin_32 rfl (lv_at hl 1 rfl) ?_
      refine lv_bipush (v := nI 30) hx hb dX1_begin_33 (by decide) ?_
      refine lv_icmp_ge (tgt := 51) hx hb dX1_begin_35 (by decide) (fun c1 => ?_) (fun c1 => ?_)
      · skip
        have c1 : 30 ≤ k := (nI_leI (by omega) (by omega)).mp c1
        have hk30 : k = 30 := by omega
        rw [hk30] at hq1
        refine lv_iconst (v := nI 0) hx hb dX1_begin_51 (by decide) ?_
        refine lv_istore_n (lv' := [(2, .int (nI 0)), (0, .ref (ad 0))]) hx hb dX1_begin_52 rfl hl (by decide) rfl (fun ls hl => ?_)
        exact loop2 65 0 fQ fl _ _ _ _ (by omega) (by omega) hq1 (fun j hj => by omega) cf0 cf1 cf4 cf5 cf6 cf7 cf8 cf9 cf10 cP cL h (lv_sub hl [1, 0] rfl)
      · skip
        have c1 : ¬ (30 ≤ k) := fun q => c1 ((nI_leI (by omega) (by omega)).mpr q)
        refine lv_aload_n hx hb dX1_begin_38 rfl (lv_at hl 0 rfl) ?_
        refine gx_get C h cf0 (Cn := RX1) (T := TX1) (N := 10) rfl in_X1 4 (by decide) q219 rfl rfl dX1_begin_39 ?_
        refine lv_iload_n hx hb dX1_begin_42 rfl (lv_at hl 1 rfl) ?_
        refine lv_iconst (v := (-1)) hx hb dX1_begin_43 (by decide) ?_
        refine gx_iast C h cP k (rfl) (by omega) dX1_begin_44 (fun H locs h => ?_)
        obtain ⟨w_101, ew_101⟩ : ∃ z_ : GW, z_ = gu w1 (ad 2) (eI g 30 (upd fQ k ((-1)))) := ⟨_, rfl⟩
        have h : SH g w_101 v s H locs := by rw [ew_101]; exact h
        have f_102 : w_101 (ad 0) = some (ob 0 [.ref (ad 1), .int (nI cn), .int (bI ru), .int (bI fu), .ref (ad 2), .ref (ad 3), .int (bI ch), .ref (ad 4), .ref (ad 5), .ref (ad 6)]) := by rw [ew_101]; exact (gu_n n02).trans cf0
        have f_103 : w_101 (ad 1) = some (eB g (32 * cn) dk) := by rw [ew_101]; exact (gu_n n12).trans cf1
        have f_104 : w_101 (ad 4) = some (ob 5 [.ref wE, .int (nI 0), .int (nI 0)]) := by rw [ew_101]; exact (gu_n (g_ne cf4 cP (by simp))).trans cf4
        have f_105 : w_101 wE = some (eO g wn wf1) := by rw [ew_101]; exact (gu_n (g_ne cf5 cP (by simp))).trans cf5
        have f_106 : w_101 a = some (ob 2 [.int n, .long y]) := by rw [ew_101]; exact (gu_n (g_ne cf6 cP (by simp))).trans cf6
        have f_107 : w_101 (ad 5) = some (ob 5 [.ref AE, .int (nI Ah), .int (nI (wr An (Ah + (([]) ++ [a]).length)))]) := by rw [ew_101]; exact (gu_n (g_ne cf7 cP (by simp))).trans cf7
        have f_108 : w_101 AE = some (eO g An Af) := by rw [ew_101]; exact (gu_n (Ne.symm An_ad2)).trans cf8
        have f_109 : w_101 (ad 6) = some (ob 6 [.int (km + nI 1), .ref kE, .int (nI 0)]) := by rw [ew_101]; exact (gu_n (g_ne cf9 cP (by simp))).trans cf9
        have f_110 : w_101 kE = some (eO g kN kf1) := by rw [ew_101]; exact (gu_n (g_ne cf10 cP (by simp))).trans cf10
        have f_111 : w_101 (ad 2) = some (eI g 30 (upd fQ k ((-1)))) := by rw [ew_101]; exact gu_s
        have f_112 : w_101 (ad 3) = some (eS g 64 fl) := by rw [ew_101]; exact (gu_n (Ne.symm n23)).trans cL
        refine lv_iinc (v := nI (k + 1)) (lv' := [(2, .int (nI (k + 1))), (0, .ref (ad 0))]) hx hb dX1_begin_45 hl (k := 1) rfl (gi_inc _ 1) (by decide) rfl (fun ls hl => ?_)
        refine lv_goto (tgt := 32) hx hb dX1_begin_48 (by decide) ?_
        exact ih (k + 1) (upd fQ k ((-1))) _ _ _ _ (by omega) (by omega) (fun j hj => upd_m1 (fun q => hq1 j (by omega))) f_102 f_103 f_104 f_105 f_106 f_107 f_108 f_109 f_110 f_111 f_112 h (lv_sub hl [1, 0] rfl)
  exact loop 31 0 fP _ _ _ _ (by omega) (by omega) (fun j hj => by omega) f_66 f_67 f_70 f_71 f_72 f_73 f_74 f_75 f_76 f_68 f_69 h (lv_sub hl [1, 0] rfl)
