set_option maxRecDepth 100000
theorem numB_c {f d : Sec} (h : ∀ i, 4 ≤ i → f i = d i) {k : Nat} (hk : 4 ≤ k) : numB f k = numB d k := by
  unfold numB numI
  dsimp only
  rw [h k hk, h (k + 1) (by omega), h (k + 2) (by omega), h (k + 3) (by omega)]
theorem wideB_c {f d : Sec} (h : ∀ i, 4 ≤ i → f i = d i) : wideB f 8 = wideB d 8 := by
  have e : ∀ k, 4 ≤ k → numI (fun j => ub (f j)) k = numI (fun j => ub (d j)) k := fun k hk => numB_c h hk
  unfold wideB wideI
  rw [e _ (by omega), e _ (by omega)]
theorem del_x {g : GG} {w w' : GW} {ad : Nat → Nat} {cn : Nat} {ru fu ch : Bool} {dk : Sec} {wt : List (Nat × Sec)} {ld : Nat → Option Sec} {pl : Nat → Option Nat} {st kp : List (Int32 × Int64)} {fP : Nat → Int32} {fl : Nat → Option Nat} {lb : Nat → Nat} {wE sE kE : Nat} {T : Nat → Prop} {j k : Nat} (h : XW g w ad cn ru fu ch dk wt ld pl st kp fP fl lb wE sE kE) (kk : XK T w w') (hT : T 1 ∧ T 2 ∧ T 3 ∧ T 132 ∧ T 5 ∧ T 6) (hE : w' wE = w wE ∧ w' sE = w sE ∧ w' kE = w kE) (hj : j < 30) (hc : XC g w' ad cn ru fu true dk (upd fP j (-1)) (va_up fl k none)) :
    XW g w' ad cn ru fu true dk wt (va_up ld k none) (va_up pl j none) st kp (upd fP j (-1)) (va_up fl k none) lb wE sE kE := by
  have hL := h.2.2.2.2.1
  have hLi := h.2.2.2.2.2.1
  have hpl := h.2.2.2.2.2.2.1
  have hs : ∀ i, (va_up ld k none i).isSome = true → (ld i).isSome = true := by
    intro i hi
    unfold va_up at hi
    split at hi
    · cases hi
    · exact hi
  refine h.coreL kk hT hE hc ?_ ?_ ?_ ?_
  · intro q hq
    unfold upd va_up
    by_cases c : q = j
    · rw [if_pos c, if_pos c]; rfl
    · rw [if_neg c, if_neg c]; exact hpl q hq
  · intro i hi
    unfold va_up
    by_cases c : i = k
    · simp only [if_pos c]
      exact ⟨fun _ => trivial, (fun d q => by cases q)⟩
    · simp only [if_neg c]
      exact (hL.fr kk hT.1 hT.2.2.2.1) i hi
  · exact fun i i' h1 h2 h3 h4 h5 => hLi i i' h1 h2 (hs i h3) (hs i' h4) h5
  · exact fun b e _ hP i hi h1 => hP i hi (hs i h1)
set_option maxHeartbeats 4000000 in
theorem m_X1_page (l : Launch) (g : GG) (w v : GW) (ad : Nat → Nat) (cn : Nat) (ru fu ch : Bool) (dk : Sec) (wt : List (Nat × Sec)) (ld : Nat → Option Sec) (pl : Nat → Option Nat) (st kp : List (Int32 × Int64)) (hR : RX g w ad (cn, ru, fu, ch, dk, wt, ld, pl, st, kp)) (hI : InvK (cn, ru, fu, ch, dk, wt, ld, pl, st, kp)) (kd x : Int32) (y : Int64)  : Met l yX1_page (ws_ yX1_page cX1_page 6 (some .int)) ({ frames := 8, cells := 11, slots := 119, locals := 480 } : Room) (gP g [.ref (ad 0), .int kd, .int x, .long y] w v) (va_Qi (fun (r : Int32) (w' : GW) => r = (opPage (cn, ru, fu, ch, dk, wt, ld, pl, st, kp) kd x y).1 ∧ RX g w' ad (opPage (cn, ru, fu, ch, dk, wt, ld, pl, st, kp) kd x y).2) (gB g v) (gA g)) 11 119 (gA g) := by
  refine gm_of (by decide) (Nat.le_of_ble_eq_true rfl) ?_
  intro p e s m below meth c ls C hnm h hl
  have C : Cx g p s m ([.ref (ad 0), .int kd, .int x, .long y] : List Value).toArray meth c cX1_page 6 RX1 (some .int) := C
  obtain ⟨hx, hb, hml, hown, hts, hr, hlk, hG⟩ := id C
  have hl : lv_has ls 6 [(0, .ref (ad 0)), (1, .int kd), (2, .int x), (3, .long y)] := hl
  obtain ⟨fP, fl, lb, wE, sE, kE, hX⟩ := id hR
  obtain ⟨⟨x0, x1, x2, x3⟩, hQW, hQS, hQK, hLL, hLi, hpl, hXD, h8⟩ := id hX
  obtain ⟨i1, i2, i3, i4, i5, i6, i7, i8, i9⟩ := id hI
  have n01 : ad 0 ≠ ad 1 := g_ne x0 x1 (kn_ne (show 0 ≠ 100 + 32 * cn by omega))
  have n02 : ad 0 ≠ ad 2 := g_ne x0 x2 (kn_ne (show 0 ≠ 130 by omega))
  have n03 : ad 0 ≠ ad 3 := g_ne x0 x3 (kn_ne (show 0 ≠ 50 by omega))
  have n12 : ad 1 ≠ ad 2 := g_ne x1 x2 (kn_ne (show 100 + 32 * cn ≠ 130 by omega))
  have n13 : ad 1 ≠ ad 3 := g_ne x1 x3 (kn_ne (show 100 + 32 * cn ≠ 50 by omega))
  have n23 : ad 2 ≠ ad 3 := g_ne x2 x3 (kn_ne (show 130 ≠ 50 by omega))
  refine lv_aload_n hx hb dX1_page_0 rfl (lv_at hl 0 rfl) ?_
  refine gx_get C h x0 (Cn := RX1) (T := TX1) (N := 10) rfl in_X1 2 (by decide) q217 rfl rfl dX1_page_1 ?_
  refine lv_if_ne (tgt := 10) hx hb dX1_page_4 (by decide) (fun c1 => ?_) (fun c1 => ?_)
  · skip
    have c1 : ru = true := bI_ne0.mp c1
    refine lv_iload_n hx hb dX1_page_10 rfl (lv_at hl 1 rfl) ?_
    refine lv_if_lt (tgt := 19) hx hb dX1_page_11 (by decide) (fun c2 => ?_) (fun c2 => ?_)
    · skip
      refine lv_bipush (v := (-2)) hx hb dX1_page_19 (by decide) ?_
      have eq : opPage (cn, ru, fu, ch, dk, wt, ld, pl, st, kp) kd x y = (-2, (cn, ru, fu, ch, dk, wt, ld, pl, st, kp)) := by unfold opPage; dsimp only; rw [if_neg (show ¬ ru = false by rw [c1]; decide), if_pos (Or.inl c2)]
      exact gr_i C h (ty := .int) rfl (rfl) (by rw [eq]; exact ⟨rfl, fP, fl, lb, wE, sE, kE, hX⟩) (Nat.le_of_ble_eq_true rfl) (Nat.le_of_ble_eq_true rfl) dX1_page_21
    · skip
      refine lv_iload_n hx hb dX1_page_14 rfl (lv_at hl 1 rfl) ?_
      refine lv_iconst (v := nI 3) hx hb dX1_page_15 (by decide) ?_
      refine lv_icmp_le (tgt := 22) hx hb dX1_page_16 (by decide) (fun c3 => ?_) (fun c3 => ?_)
      · skip
        have hk0 : ¬ (kd < 0 ∨ nI 3 < kd) := fun q => q.elim c2 (fun q => Int32.not_lt.mpr c3 q)
        have c43 : ∀ (b : Bool) (wa : GW) (H : Heap) (locs : List Loc) (ls : Array Slot), (wa = w) → (b = decide (x = -1 ∧ 0 < kd ∧ kd < nI 3)) → SH g wa v s H locs → lv_has ls 6 [(0, .ref (ad 0)), (1, .int kd), (2, .int x), (3, .long y), (5, .int (bI b))] → W p l e ({ frames := 8, cells := 11, slots := 119, locals := 480 } : Room) s m ([.ref (ad 0), .int kd, .int x, .long y] : List Value).toArray below meth c H locs 0 0 (MQ below (va_Qi (fun (r : Int32) (w' : GW) => r = (opPage (cn, ru, fu, ch, dk, wt, ld, pl, st, kp) kd x y).1 ∧ RX g w' ad (opPage (cn, ru, fu, ch, dk, wt, ld, pl, st, kp) kd x y).2) (gB g v) (gA g)) ([.ref (ad 0), .int kd, .int x, .long y] : List Value).toArray s 11 119 (gA g)) (F0 m 43 ls []) := by
          intro b wa H locs ls hw hfb h hl
          rw [hw] at h
          refine lv_iload hx hb dX1_page_43 (lv_at hl 4 rfl) ?_
          refine lv_if_ne (tgt := 56) hx hb dX1_page_45 (by decide) (fun c4 => ?_) (fun c4 => ?_)
          · skip
            have c4 : b = true := bI_ne0.mp c4
            have hF := of_decide_eq_true (hfb.symm.trans c4)
            refine lv_iload_n hx hb dX1_page_56 rfl (lv_at hl 1 rfl) ?_
            refine lv_iconst (v := nI 3) hx hb dX1_page_57 (by decide) ?_
            refine lv_icmp_ne (tgt := 75) hx hb dX1_page_58 (by decide) (fun c5 => ?_) (fun c5 => ?_)
            · skip
              refine lv_iload_n hx hb dX1_page_75 rfl (lv_at hl 1 rfl) ?_
              refine lv_iconst (v := nI 3) hx hb dX1_page_76 (by decide) ?_
              refine lv_icmp_ne (tgt := 102) hx hb dX1_page_77 (by decide) (fun c6 => ?_) (fun c6 => ?_)
              · skip
                refine lv_iload_n hx hb dX1_page_102 rfl (lv_at hl 1 rfl) ?_
                refine lv_if_le (tgt := 129) hx hb dX1_page_103 (by decide) (fun c7 => ?_) (fun c7 => ?_)
                · skip
                  exact absurd hF.2.1 (Int32.not_lt.mpr c7)
                · skip
                  refine lv_aload_n hx hb dX1_page_106 rfl (lv_at hl 0 rfl) ?_
                  refine lv_iload_n hx hb dX1_page_107 rfl (lv_at hl 1 rfl) ?_
                  refine lv_iload hx hb dX1_page_108 (lv_at hl 4 rfl) ?_
                  refine lv_if_eq (tgt := 120) hx hb dX1_page_110 (by decide) (fun c8 => ?_) (fun c8 => ?_)
                  · skip
                    have c8 : b = false := bI_eq0.mp c8
                    rw [c4] at c8; cases c8
                  · skip
                    have c8 : b = true := bI_ne0.mp c8
                    refine lv_aload_n hx hb dX1_page_113 rfl (lv_at hl 0 rfl) ?_
                    refine gc_i (va_runV (As := []) (rest := [.int kd, .ref (ad 0)]) C.fix (m_X1_freePage l g w v ad cn ru fu ch dk wt ld pl st kp fP fl lb wE sE kE hX hI) (cwV 0 hts (lw_V q358 q360 qs7 q43 q361) rfl rfl rfl (by decide +kernel) ⟨Nat.le_of_ble_eq_true rfl, Nat.le_of_ble_eq_true rfl⟩) (gp_V C h [] (Cn := RX1) (T := TX1) (N := 10) rfl x0) rfl rfl hl.1 rfl (lv_room (Nat.le_of_ble_eq_true rfl)) dX1_page_114 ⟨Nat.le_of_ble_eq_true rfl, Nat.le_of_ble_eq_true rfl⟩) h (fun r_1 w_2 H locs hp h => ?_)
                    obtain ⟨er_r_1, ew_r_1⟩ := hp
                    rw [er_r_1]
                    rw [ew_r_1] at h
                    refine lv_goto (tgt := 121) hx hb dX1_page_117 (by decide) ?_
                    refine lv_sipush (v := nI 255) hx hb dX1_page_121 (by decide) ?_
                    refine lv_lload_n hx hb dX1_page_124 rfl (lv_at hl 3 rfl) ?_
                    refine gc_i (va_runV (As := [.int kd, .int (plI (frPo pl)), .int (nI 255), .long y]) (rest := []) C.fix (m_X1_lay l g w v ad cn ru fu ch dk wt ld pl st kp fP fl lb wE sE kE hX hI kd (frPo pl) (nI 255) y (fun q hq => frPo_lt hq) (plI (frPo pl)) rfl) (cwV 4 hts (lw_V q382 q384 qs10 q43 q385) rfl rfl rfl (by decide +kernel) ⟨Nat.le_of_ble_eq_true rfl, Nat.le_of_ble_eq_true rfl⟩) (gp_V C h [.int kd, .int (plI (frPo pl)), .int (nI 255), .long y] (Cn := RX1) (T := TX1) (N := 10) rfl x0) rfl rfl hl.1 rfl (lv_room (Nat.le_of_ble_eq_true rfl)) dX1_page_125 ⟨Nat.le_of_ble_eq_true rfl, Nat.le_of_ble_eq_true rfl⟩) h (fun r_3 w_4 H locs hp h => ?_)
                    have eq : opPage (cn, ru, fu, ch, dk, wt, ld, pl, st, kp) kd x y = layF (cn, ru, fu, ch, dk, wt, ld, pl, st, kp) kd (frPo pl) (nI 255) y := by unfold opPage; dsimp only; rw [if_neg (show ¬ ru = false by rw [c1]; decide), if_neg hk0, if_pos hF]
                    exact gr_i C h (ty := .int) rfl (rfl) (by rw [eq]; exact hp) (Nat.le_of_ble_eq_true rfl) (Nat.le_of_ble_eq_true rfl) dX1_page_128
              · skip
                exact absurd c6 c5
            · skip
              exact absurd hF.2.2 (by rw [c5]; decide)
          · skip
            have c4 : b = false := bI_eq0.mp c4
            have hF : ¬ (x = -1 ∧ 0 < kd ∧ kd < nI 3) := of_decide_eq_false (hfb.symm.trans c4)
            refine lv_aload_n hx hb dX1_page_48 rfl (lv_at hl 0 rfl) ?_
            refine lv_iload_n hx hb dX1_page_49 rfl (lv_at hl 2 rfl) ?_
            refine gc_i (va_runV (As := [.int x]) (rest := []) C.fix (m_X1_isPage l g w v ad cn ru fu ch dk wt ld pl st kp fP fl lb wE sE kE hX hI x) (cwV 1 hts (lw_V q250 q252 qs3 q43 q253) rfl rfl rfl (by decide +kernel) ⟨Nat.le_of_ble_eq_true rfl, Nat.le_of_ble_eq_true rfl⟩) (gp_V C h [.int x] (Cn := RX1) (T := TX1) (N := 10) rfl x0) rfl rfl hl.1 rfl (lv_room (Nat.le_of_ble_eq_true rfl)) dX1_page_50 ⟨Nat.le_of_ble_eq_true rfl, Nat.le_of_ble_eq_true rfl⟩) h (fun r_5 w_6 H locs hp h => ?_)
            obtain ⟨er_r_5, ew_r_5⟩ := hp
            rw [er_r_5]
            rw [ew_r_5] at h
            refine lv_if_eq (tgt := 73) hx hb dX1_page_53 (by decide) (fun c5 => ?_) (fun c5 => ?_)
            · skip
              have c5 : (pgOf pl x).isSome = false := bI_eq0.mp c5
              refine lv_iconst (v := (-1)) hx hb dX1_page_73 (by decide) ?_
              have eq : opPage (cn, ru, fu, ch, dk, wt, ld, pl, st, kp) kd x y = (-1, (cn, ru, fu, ch, dk, wt, ld, pl, st, kp)) := by unfold opPage; dsimp only; rw [if_neg (show ¬ ru = false by rw [c1]; decide), if_neg hk0, if_neg hF, Option.isNone_iff_eq_none.mp (isNone_t c5)]
              exact gr_i C h (ty := .int) rfl (rfl) (by rw [eq]; exact ⟨rfl, fP, fl, lb, wE, sE, kE, hX⟩) (Nat.le_of_ble_eq_true rfl) (Nat.le_of_ble_eq_true rfl) dX1_page_74
            · skip
              have c5 : (pgOf pl x).isSome = true := bI_ne0.mp c5
              obtain ⟨k, hk⟩ := Option.isSome_iff_exists.mp c5
              obtain ⟨j, hj30, hxj, hcl, hjk⟩ := pgOf_some hk
              have hk64 := i2 j k hj30 hjk
              refine lv_iload_n hx hb dX1_page_56 rfl (lv_at hl 1 rfl) ?_
              refine lv_iconst (v := nI 3) hx hb dX1_page_57 (by decide) ?_
              refine lv_icmp_ne (tgt := 75) hx hb dX1_page_58 (by decide) (fun c6 => ?_) (fun c6 => ?_)
              · skip
                refine lv_iload_n hx hb dX1_page_75 rfl (lv_at hl 1 rfl) ?_
                refine lv_iconst (v := nI 3) hx hb dX1_page_76 (by decide) ?_
                refine lv_icmp_ne (tgt := 102) hx hb dX1_page_77 (by decide) (fun c7 => ?_) (fun c7 => ?_)
                · skip
                  refine lv_iload_n hx hb dX1_page_102 rfl (lv_at hl 1 rfl) ?_
                  refine lv_if_le (tgt := 129) hx hb dX1_page_103 (by decide) (fun c8 => ?_) (fun c8 => ?_)
                  · skip
                    have hkz : kd = 0 := Int32.le_antisymm c8 (Int32.not_lt.mp c2)
                    obtain ⟨wn, wf, wh, ws, hDw, hWL⟩ := id hQW
                    obtain ⟨sn, sf, sh, ss, hDs, hSL⟩ := id hQS
                    obtain ⟨kN, kf, km, ks, hAk, hSK⟩ := id hQK
                    obtain ⟨d45, dws, dwk, dsk, d3w, d3s, d3k⟩ := id hXD
                    refine lv_aload_n hx hb dX1_page_129 rfl (lv_at hl 0 rfl) ?_
                    refine gx_get C h x0 (Cn := RX1) (T := TX1) (N := 10) rfl in_X1 5 (by decide) q220 rfl rfl dX1_page_130 ?_
                    refine lv_aload_n hx hb dX1_page_133 rfl (lv_at hl 0 rfl) ?_
                    refine gx_get C h x0 (Cn := RX1) (T := TX1) (N := 10) rfl in_X1 4 (by decide) q219 rfl rfl dX1_page_134 ?_
                    refine lv_iload_n hx hb dX1_page_137 rfl (lv_at hl 2 rfl) ?_
                    refine gx_iald C h x2 j (hxj) (by omega) dX1_page_138 ?_
                    rw [hpl j hj30, hjk]
                    refine lv_null hx hb dX1_page_139 ?_
                    refine gx_aastN C h 4 rfl x3 k (rfl) (by omega) dX1_page_140 (fun H locs h => ?_)
                    obtain ⟨w_7, ew_7⟩ : ∃ z_ : GW, z_ = gu w (ad 3) (eS g 64 (va_up fl k none)) := ⟨_, rfl⟩
                    have h : SH g w_7 v s H locs := by rw [ew_7]; exact h
                    have f_8 : w_7 (ad 0) = some (ob 0 [.ref (ad 1), .int (nI cn), .int (bI ru), .int (bI fu), .ref (ad 2), .ref (ad 3), .int (bI ch), .ref (ad 4), .ref (ad 5), .ref (ad 6)]) := by rw [ew_7]; exact (gu_n n03).trans x0
                    have f_9 : w_7 (ad 1) = some (eB g (32 * cn) dk) := by rw [ew_7]; exact (gu_n n13).trans x1
                    have f_10 : w_7 (ad 2) = some (eI g 30 fP) := by rw [ew_7]; exact (gu_n n23).trans x2
                    have f_11 : w_7 (ad 3) = some (eS g 64 (va_up fl k none)) := by rw [ew_7]; exact gu_s
                    have f_12 : w_7 (ad 4) = some (ob 5 [.ref wE, .int (nI wh), .int (nI (wr wn (wh + ws.length)))]) := by rw [ew_7]; exact (gu_n (g_ne hDw.1 x3 (by simp))).trans hDw.1
                    have f_13 : w_7 wE = some (eO g wn wf) := by rw [ew_7]; exact (gu_n (Ne.symm d3w)).trans hDw.2.1
                    have f_14 : w_7 (ad 5) = some (ob 5 [.ref sE, .int (nI sh), .int (nI (wr sn (sh + ss.length)))]) := by rw [ew_7]; exact (gu_n (g_ne hDs.1 x3 (by simp))).trans hDs.1
                    have f_15 : w_7 sE = some (eO g sn sf) := by rw [ew_7]; exact (gu_n (Ne.symm d3s)).trans hDs.2.1
                    have f_16 : w_7 (ad 6) = some (ob 6 [.int km, .ref kE, .int (nI ks.length)]) := by rw [ew_7]; exact (gu_n (g_ne hAk.1 x3 (by simp))).trans hAk.1
                    have f_17 : w_7 kE = some (eO g kN kf) := by rw [ew_7]; exact (gu_n (Ne.symm d3k)).trans hAk.2.1
                    have hK_18 : XK (fun k => k ≠ 0 ∧ k ≠ 50 ∧ k ≠ 130) w w_7 := by rw [ew_7]; exact XK.put XK.rfl' x3 (by simp [kn])
                    refine lv_aload_n hx hb dX1_page_141 rfl (lv_at hl 0 rfl) ?_
                    refine gx_get C h f_8 (Cn := RX1) (T := TX1) (N := 10) rfl in_X1 4 (by decide) q219 rfl rfl dX1_page_142 ?_
                    refine lv_iload_n hx hb dX1_page_145 rfl (lv_at hl 2 rfl) ?_
                    refine lv_iconst (v := (-1)) hx hb dX1_page_146 (by decide) ?_
                    refine gx_iast C h f_10 j (hxj) (by omega) dX1_page_147 (fun H locs h => ?_)
                    obtain ⟨w_19, ew_19⟩ : ∃ z_ : GW, z_ = gu w_7 (ad 2) (eI g 30 (upd fP j ((-1)))) := ⟨_, rfl⟩
                    have h : SH g w_19 v s H locs := by rw [ew_19]; exact h
                    have f_20 : w_19 (ad 0) = some (ob 0 [.ref (ad 1), .int (nI cn), .int (bI ru), .int (bI fu), .ref (ad 2), .ref (ad 3), .int (bI ch), .ref (ad 4), .ref (ad 5), .ref (ad 6)]) := by rw [ew_19]; exact (gu_n n02).trans f_8
                    have f_21 : w_19 (ad 1) = some (eB g (32 * cn) dk) := by rw [ew_19]; exact (gu_n n12).trans f_9
                    have f_22 : w_19 (ad 2) = some (eI g 30 (upd fP j ((-1)))) := by rw [ew_19]; exact gu_s
                    have f_23 : w_19 (ad 3) = some (eS g 64 (va_up fl k none)) := by rw [ew_19]; exact (gu_n (Ne.symm n23)).trans f_11
                    have f_24 : w_19 (ad 4) = some (ob 5 [.ref wE, .int (nI wh), .int (nI (wr wn (wh + ws.length)))]) := by rw [ew_19]; exact (gu_n (g_ne f_12 f_10 (by simp))).trans f_12
                    have f_25 : w_19 wE = some (eO g wn wf) := by rw [ew_19]; exact (gu_n (g_ne f_13 f_10 (by simp))).trans f_13
                    have f_26 : w_19 (ad 5) = some (ob 5 [.ref sE, .int (nI sh), .int (nI (wr sn (sh + ss.length)))]) := by rw [ew_19]; exact (gu_n (g_ne f_14 f_10 (by simp))).trans f_14
                    have f_27 : w_19 sE = some (eO g sn sf) := by rw [ew_19]; exact (gu_n (g_ne f_15 f_10 (by simp))).trans f_15
                    have f_28 : w_19 (ad 6) = some (ob 6 [.int km, .ref kE, .int (nI ks.length)]) := by rw [ew_19]; exact (gu_n (g_ne f_16 f_10 (by simp))).trans f_16
                    have f_29 : w_19 kE = some (eO g kN kf) := by rw [ew_19]; exact (gu_n (g_ne f_17 f_10 (by simp))).trans f_17
                    have hK_30 : XK (fun k => k ≠ 0 ∧ k ≠ 50 ∧ k ≠ 130) w w_19 := by rw [ew_19]; exact XK.put hK_18 f_10 (by simp [kn])
                    refine lv_aload_n hx hb dX1_page_148 rfl (lv_at hl 0 rfl) ?_
                    refine lv_iconst (v := bI true) hx hb dX1_page_149 (by decide) ?_
                    refine gx_put C h f_20 (Cn := RX1) (T := TX1) (N := 10) (x := .int (bI true)) rfl in_X1 tyX1 tyX1_ok nmX1 6 (by decide) q221 rfl rfl (bI_n _) (bI_f _) (Nat.le_of_ble_eq_true rfl) dX1_page_150 (fun H locs h => ?_)
                    obtain ⟨w_31, ew_31⟩ : ∃ z_ : GW, z_ = gu w_19 (ad 0) (ob 0 [.ref (ad 1), .int (nI cn), .int (bI ru), .int (bI fu), .ref (ad 2), .ref (ad 3), .int (bI true), .ref (ad 4), .ref (ad 5), .ref (ad 6)]) := ⟨_, rfl⟩
                    have h : SH g w_31 v s H locs := by rw [ew_31]; exact h
                    have f_32 : w_31 (ad 0) = some (ob 0 [.ref (ad 1), .int (nI cn), .int (bI ru), .int (bI fu), .ref (ad 2), .ref (ad 3), .int (bI true), .ref (ad 4), .ref (ad 5), .ref (ad 6)]) := by rw [ew_31]; exact gu_s
                    have f_33 : w_31 (ad 1) = some (eB g (32 * cn) dk) := by rw [ew_31]; exact (gu_n (Ne.symm n01)).trans f_21
                    have f_34 : w_31 (ad 2) = some (eI g 30 (upd fP j ((-1)))) := by rw [ew_31]; exact (gu_n (Ne.symm n02)).trans f_22
                    have f_35 : w_31 (ad 3) = some (eS g 64 (va_up fl k none)) := by rw [ew_31]; exact (gu_n (Ne.symm n03)).trans f_23
                    have f_36 : w_31 (ad 4) = some (ob 5 [.ref wE, .int (nI wh), .int (nI (wr wn (wh + ws.length)))]) := by rw [ew_31]; exact (gu_n (g_ne f_24 f_20 (by simp))).trans f_24
                    have f_37 : w_31 wE = some (eO g wn wf) := by rw [ew_31]; exact (gu_n (g_ne f_25 f_20 (by simp))).trans f_25
                    have f_38 : w_31 (ad 5) = some (ob 5 [.ref sE, .int (nI sh), .int (nI (wr sn (sh + ss.length)))]) := by rw [ew_31]; exact (gu_n (g_ne f_26 f_20 (by simp))).trans f_26
                    have f_39 : w_31 sE = some (eO g sn sf) := by rw [ew_31]; exact (gu_n (g_ne f_27 f_20 (by simp))).trans f_27
                    have f_40 : w_31 (ad 6) = some (ob 6 [.int km, .ref kE, .int (nI ks.length)]) := by rw [ew_31]; exact (gu_n (g_ne f_28 f_20 (by simp))).trans f_28
                    have f_41 : w_31 kE = some (eO g kN kf) := by rw [ew_31]; exact (gu_n (g_ne f_29 f_20 (by simp))).trans f_29
                    have hK_42 : XK (fun k => k ≠ 0 ∧ k ≠ 50 ∧ k ≠ 130) w w_31 := by rw [ew_31]; exact XK.put hK_30 f_20 (by simp [kn])
                    refine lv_iload_n hx hb dX1_page_153 rfl (lv_at hl 2 rfl) ?_
                    have eq : opPage (cn, ru, fu, ch, dk, wt, ld, pl, st, kp) kd x y = (x, (cn, ru, fu, true, dk, wt, va_up ld k none, va_up pl x.toNatClampNeg none, st, kp)) := by unfold opPage; dsimp only; rw [if_neg (show ¬ ru = false by rw [c1]; decide), if_neg hk0, if_neg hF, hk]; dsimp only; rw [if_neg c6, if_neg (Int32.not_lt.mpr c8)]
                    exact gr_i C h (ty := .int) rfl (rfl) (by rw [eq, hcl]; exact ⟨rfl, _, _, lb, wE, sE, kE, del_x hX hK_42 (by simp) ⟨f_37.trans hDw.2.1.symm, f_39.trans hDs.2.1.symm, f_41.trans hAk.2.1.symm⟩ hj30 ⟨f_32, f_33, f_34, f_35⟩⟩) (Nat.le_of_ble_eq_true rfl) (Nat.le_of_ble_eq_true rfl) dX1_page_154
                  · skip
                    refine lv_aload_n hx hb dX1_page_106 rfl (lv_at hl 0 rfl) ?_
                    refine lv_iload_n hx hb dX1_page_107 rfl (lv_at hl 1 rfl) ?_
                    refine lv_iload hx hb dX1_page_108 (lv_at hl 4 rfl) ?_
                    refine lv_if_eq (tgt := 120) hx hb dX1_page_110 (by decide) (fun c9 => ?_) (fun c9 => ?_)
                    · skip
                      have c9 : b = false := bI_eq0.mp c9
                      refine lv_iload_n hx hb dX1_page_120 rfl (lv_at hl 2 rfl) ?_
                      refine lv_sipush (v := nI 255) hx hb dX1_page_121 (by decide) ?_
                      refine lv_lload_n hx hb dX1_page_124 rfl (lv_at hl 3 rfl) ?_
                      refine gc_i (va_runV (As := [.int kd, .int x, .int (nI 255), .long y]) (rest := []) C.fix (m_X1_lay l g w v ad cn ru fu ch dk wt ld pl st kp fP fl lb wE sE kE hX hI kd (some j) (nI 255) y (fun q hq => by cases hq; exact hj30) x (by rw [hxj]; rfl)) (cwV 4 hts (lw_V q382 q384 qs10 q43 q385) rfl rfl rfl (by decide +kernel) ⟨Nat.le_of_ble_eq_true rfl, Nat.le_of_ble_eq_true rfl⟩) (gp_V C h [.int kd, .int x, .int (nI 255), .long y] (Cn := RX1) (T := TX1) (N := 10) rfl x0) rfl rfl hl.1 rfl (lv_room (Nat.le_of_ble_eq_true rfl)) dX1_page_125 ⟨Nat.le_of_ble_eq_true rfl, Nat.le_of_ble_eq_true rfl⟩) h (fun r_43 w_44 H locs hp h => ?_)
                      have eq : opPage (cn, ru, fu, ch, dk, wt, ld, pl, st, kp) kd x y = layF (cn, ru, fu, ch, dk, wt, ld, pl, st, kp) kd (some j) (nI 255) y := by unfold opPage; dsimp only; rw [if_neg (show ¬ ru = false by rw [c1]; decide), if_neg hk0, if_neg hF, hk]; dsimp only; rw [if_neg c6, if_pos (Int32.not_le.mp c8), hcl]
                      exact gr_i C h (ty := .int) rfl (rfl) (by rw [eq]; exact hp) (Nat.le_of_ble_eq_true rfl) (Nat.le_of_ble_eq_true rfl) dX1_page_128
                    · skip
                      have c9 : b = true := bI_ne0.mp c9
                      rw [c4] at c9; cases c9
                · skip
                  exact absurd c7 c6
              · skip
                have hpa := fun w_ (hX_ : XW g w_ ad cn ru fu ch dk wt ld pl st kp fP fl lb wE sE kE) => m_X1_pageAt l g w_ v ad cn ru fu ch dk wt ld pl st kp fP fl lb wE sE kE hX_ hI j k hj30 hjk
                refine lv_aload_n hx hb dX1_page_61 rfl (lv_at hl 0 rfl) ?_
                refine lv_iload_n hx hb dX1_page_62 rfl (lv_at hl 2 rfl) ?_
                refine W.eq (congrArg (fun z_ => F0 m 63 ls ([.int z_, .ref (ad 0)] ++ [])) hxj) ?_
                refine gc_q (va_runV (As := [.int (nI j)]) (rest := []) C.fix (hpa w hX) (cwV 1 hts (lw_V q254 q256 qs4 q43 q257) rfl rfl rfl (by decide +kernel) ⟨Nat.le_of_ble_eq_true rfl, Nat.le_of_ble_eq_true rfl⟩) (gp_V C h [.int (nI j)] (Cn := RX1) (T := TX1) (N := 10) rfl x0) rfl rfl hl.1 rfl (lv_room (Nat.le_of_ble_eq_true rfl)) dX1_page_63 ⟨Nat.le_of_ble_eq_true rfl, Nat.le_of_ble_eq_true rfl⟩) h (fun r_45 w_46 H locs hp h => ?_)
                obtain ⟨a, b, f, ra, xa, fa, fb, hf, gf⟩ := hp
                rw [ra]
                have f_47 : w_46 (ad 0) = some (ob 0 [.ref (ad 1), .int (nI cn), .int (bI ru), .int (bI fu), .ref (ad 2), .ref (ad 3), .int (bI ch), .ref (ad 4), .ref (ad 5), .ref (ad 6)]) := xa.of x0
                have f_48 : w_46 (ad 1) = some (eB g (32 * cn) dk) := xa.of x1
                have f_49 : w_46 (ad 2) = some (eI g 30 fP) := xa.of x2
                have f_50 : w_46 (ad 3) = some (eS g 64 fl) := xa.of x3
                have hX_51 := hX.ext xa
                have hE_52 : Ext w w_46 := XK.trans XK.rfl' xa
                refine gc_i (va_runV (As := []) (rest := []) C.fix (m_X4_kind l g w_46 v a b f fa fb) (cwV 0 hts (lw_V q354 q355 q356 q55 q357) rfl rfl rfl (by decide +kernel) ⟨Nat.le_of_ble_eq_true rfl, Nat.le_of_ble_eq_true rfl⟩) (gp_V C h [] (Cn := RX4) (T := TX4) (N := 1) rfl fa) rfl rfl hl.1 rfl (lv_room (Nat.le_of_ble_eq_true rfl)) dX1_page_66 ⟨Nat.le_of_ble_eq_true rfl, Nat.le_of_ble_eq_true rfl⟩) h (fun r_53 w_54 H locs hp h => ?_)
                obtain ⟨er_r_53, ew_r_53⟩ := hp
                rw [er_r_53]
                rw [ew_r_53] at h
                rw [hf 4 (by omega)]
                refine lv_iconst (v := nI 3) hx hb dX1_page_69 (by decide) ?_
                refine lv_icmp_ne (tgt := 75) hx hb dX1_page_70 (by decide) (fun c7 => ?_) (fun c7 => ?_)
                · skip
                  refine lv_iload_n hx hb dX1_page_75 rfl (lv_at hl 1 rfl) ?_
                  refine lv_iconst (v := nI 3) hx hb dX1_page_76 (by decide) ?_
                  refine lv_icmp_ne (tgt := 102) hx hb dX1_page_77 (by decide) (fun c8 => ?_) (fun c8 => ?_)
                  · skip
                    exact absurd c6 c8
                  · skip
                    refine lv_aload_n hx hb dX1_page_80 rfl (lv_at hl 0 rfl) ?_
                    refine lv_iconst (v := nI 3) hx hb dX1_page_81 (by decide) ?_
                    refine lv_aload_n hx hb dX1_page_82 rfl (lv_at hl 0 rfl) ?_
                    refine gc_i (va_runV (As := []) (rest := [.int (nI 3), .ref (ad 0)]) C.fix (m_X1_freePage l g w_46 v ad cn ru fu ch dk wt ld pl st kp fP fl lb wE sE kE hX_51 hI) (cwV 0 hts (lw_V q358 q360 qs7 q43 q361) rfl rfl rfl (by decide +kernel) ⟨Nat.le_of_ble_eq_true rfl, Nat.le_of_ble_eq_true rfl⟩) (gp_V C h [] (Cn := RX1) (T := TX1) (N := 10) rfl f_47) rfl rfl hl.1 rfl (lv_room (Nat.le_of_ble_eq_true rfl)) dX1_page_83 ⟨Nat.le_of_ble_eq_true rfl, Nat.le_of_ble_eq_true rfl⟩) h (fun r_55 w_56 H locs hp h => ?_)
                    obtain ⟨er_r_55, ew_r_55⟩ := hp
                    rw [er_r_55]
                    rw [ew_r_55] at h
                    refine lv_iload_n hx hb dX1_page_86 rfl (lv_at hl 2 rfl) ?_
                    refine lv_aload_n hx hb dX1_page_87 rfl (lv_at hl 0 rfl) ?_
                    refine lv_iload_n hx hb dX1_page_88 rfl (lv_at hl 2 rfl) ?_
                    refine W.eq (congrArg (fun z_ => F0 m 89 ls ([.int z_, .ref (ad 0)] ++ [.int x, .int (plI (frPo pl)), .int (nI 3), .ref (ad 0)])) hxj) ?_
                    refine gc_q (va_runV (As := [.int (nI j)]) (rest := [.int x, .int (plI (frPo pl)), .int (nI 3), .ref (ad 0)]) C.fix (hpa w_46 hX_51) (cwV 1 hts (lw_V q254 q256 qs4 q43 q257) rfl rfl rfl (by decide +kernel) ⟨Nat.le_of_ble_eq_true rfl, Nat.le_of_ble_eq_true rfl⟩) (gp_V C h [.int (nI j)] (Cn := RX1) (T := TX1) (N := 10) rfl f_47) rfl rfl hl.1 rfl (lv_room (Nat.le_of_ble_eq_true rfl)) dX1_page_89 ⟨Nat.le_of_ble_eq_true rfl, Nat.le_of_ble_eq_true rfl⟩) h (fun r_57 w_58 H locs hp h => ?_)
                    obtain ⟨a2, b2, f2, ra2, xa2, fa2, fb2, hf2, gf2⟩ := hp
                    rw [ra2]
                    have f_59 : w_58 (ad 0) = some (ob 0 [.ref (ad 1), .int (nI cn), .int (bI ru), .int (bI fu), .ref (ad 2), .ref (ad 3), .int (bI ch), .ref (ad 4), .ref (ad 5), .ref (ad 6)]) := xa2.of f_47
                    have f_60 : w_58 (ad 1) = some (eB g (32 * cn) dk) := xa2.of f_48
                    have f_61 : w_58 (ad 2) = some (eI g 30 fP) := xa2.of f_49
                    have f_62 : w_58 (ad 3) = some (eS g 64 fl) := xa2.of f_50
                    have f_63 : w_58 a = some (ob 1 [.ref b]) := xa2.of fa
                    have f_64 : w_58 b = some (eB g 32 f) := xa2.of fb
                    have hX_65 := hX_51.ext xa2
                    have hE_66 : Ext w w_58 := XK.trans hE_52 xa2
                    refine gc_l (va_runV (As := []) (rest := [.int x, .int (plI (frPo pl)), .int (nI 3), .ref (ad 0)]) C.fix (m_X4_value l g w_58 v a2 b2 f2 fa2 fb2) (cwV 0 hts (lw_V q362 q363 q364 q55 q365) rfl rfl rfl (by decide +kernel) ⟨Nat.le_of_ble_eq_true rfl, Nat.le_of_ble_eq_true rfl⟩) (gp_V C h [] (Cn := RX4) (T := TX4) (N := 1) rfl fa2) rfl rfl hl.1 rfl (lv_room (Nat.le_of_ble_eq_true rfl)) dX1_page_92 ⟨Nat.le_of_ble_eq_true rfl, Nat.le_of_ble_eq_true rfl⟩) h (fun r_67 w_68 H locs hp h => ?_)
                    obtain ⟨er_r_67, ew_r_67⟩ := hp
                    rw [er_r_67]
                    rw [ew_r_67] at h
                    rw [wideB_c hf2]
                    refine gc_l (va_runS (As := [.long (wideB (cur dk wt ld k) 8)]) (rest := [.int x, .int (plI (frPo pl)), .int (nI 3), .ref (ad 0)]) C.fix (m_X1_derivedFrom l g w_58 v (wideB (cur dk wt ld k) 8)) (va_cwS 1 hts (lw_S q375 q376 q43 q377) rfl rfl rfl (by decide +kernel) ⟨Nat.le_of_ble_eq_true rfl, Nat.le_of_ble_eq_true rfl⟩) (gp_S C h _) rfl rfl hl.1 rfl (lv_room (Nat.le_of_ble_eq_true rfl)) dX1_page_95 ⟨Nat.le_of_ble_eq_true rfl, Nat.le_of_ble_eq_true rfl⟩) h (fun r_69 w_70 H locs hp h => ?_)
                    obtain ⟨er_r_69, ew_r_69⟩ := hp
                    rw [er_r_69]
                    rw [ew_r_69] at h
                    refine gc_i (va_runV (As := [.int (nI 3), .int (plI (frPo pl)), .int x, .long (turnL (wideB (cur dk wt ld k) 8))]) (rest := []) C.fix (m_X1_lay l g w_58 v ad cn ru fu ch dk wt ld pl st kp fP fl lb wE sE kE hX_65 hI (nI 3) (frPo pl) x (turnL (wideB (cur dk wt ld k) 8)) (fun q hq => frPo_lt hq) (plI (frPo pl)) rfl) (cwV 4 hts (lw_V q382 q384 qs10 q43 q385) rfl rfl rfl (by decide +kernel) ⟨Nat.le_of_ble_eq_true rfl, Nat.le_of_ble_eq_true rfl⟩) (gp_V C h [.int (nI 3), .int (plI (frPo pl)), .int x, .long (turnL (wideB (cur dk wt ld k) 8))] (Cn := RX1) (T := TX1) (N := 10) rfl f_59) rfl rfl hl.1 rfl (lv_room (Nat.le_of_ble_eq_true rfl)) dX1_page_98 ⟨Nat.le_of_ble_eq_true rfl, Nat.le_of_ble_eq_true rfl⟩) h (fun r_71 w_72 H locs hp h => ?_)
                    have eq : opPage (cn, ru, fu, ch, dk, wt, ld, pl, st, kp) kd x y = layF (cn, ru, fu, ch, dk, wt, ld, pl, st, kp) (nI 3) (frPo pl) x (turnL (wideB (cur dk wt ld k) 8)) := by unfold opPage; dsimp only; rw [if_neg (show ¬ ru = false by rw [c1]; decide), if_neg hk0, if_neg hF, hk]; dsimp only; rw [if_pos c6, if_neg c7]
                    exact gr_i C h (ty := .int) rfl (rfl) (by rw [eq]; exact hp) (Nat.le_of_ble_eq_true rfl) (Nat.le_of_ble_eq_true rfl) dX1_page_101
                · skip
                  refine lv_iconst (v := (-1)) hx hb dX1_page_73 (by decide) ?_
                  have eq : opPage (cn, ru, fu, ch, dk, wt, ld, pl, st, kp) kd x y = (-1, (cn, ru, fu, ch, dk, wt, ld, pl, st, kp)) := by unfold opPage; dsimp only; rw [if_neg (show ¬ ru = false by rw [c1]; decide), if_neg hk0, if_neg hF, hk]; dsimp only; rw [if_pos c6, if_pos c7]
                  exact gr_i C h (ty := .int) rfl (rfl) (by rw [eq]; exact ⟨rfl, fP, fl, lb, wE, sE, kE, hX_51⟩) (Nat.le_of_ble_eq_true rfl) (Nat.le_of_ble_eq_true rfl) dX1_page_74
        refine lv_iload_n hx hb dX1_page_22 rfl (lv_at hl 2 rfl) ?_
        refine lv_iconst (v := (-1)) hx hb dX1_page_23 (by decide) ?_
        refine lv_icmp_ne (tgt := 40) hx hb dX1_page_24 (by decide) (fun c4 => ?_) (fun c4 => ?_)
        · skip
          refine lv_iconst (v := bI false) hx hb dX1_page_40 (by decide) ?_
          refine lv_istore (lv' := [(5, .int (bI false)), (0, .ref (ad 0)), (1, .int kd), (2, .int x), (3, .long y)]) hx hb dX1_page_41 hl (by decide) rfl (fun ls hl => ?_)
          exact c43 false _ _ _ ls rfl ((decide_eq_false (fun q => c4 q.1)).symm) h (lv_sub hl [1, 2, 3, 4, 0] rfl)
        · skip
          refine lv_iload_n hx hb dX1_page_27 rfl (lv_at hl 1 rfl) ?_
          refine lv_if_le (tgt := 40) hx hb dX1_page_28 (by decide) (fun c5 => ?_) (fun c5 => ?_)
          · skip
            refine lv_iconst (v := bI false) hx hb dX1_page_40 (by decide) ?_
            refine lv_istore (lv' := [(5, .int (bI false)), (0, .ref (ad 0)), (1, .int kd), (2, .int x), (3, .long y)]) hx hb dX1_page_41 hl (by decide) rfl (fun ls hl => ?_)
            exact c43 false _ _ _ ls rfl ((decide_eq_false (fun q => absurd q.2.1 (Int32.not_lt.mpr c5))).symm) h (lv_sub hl [1, 2, 3, 4, 0] rfl)
          · skip
            refine lv_iload_n hx hb dX1_page_31 rfl (lv_at hl 1 rfl) ?_
            refine lv_iconst (v := nI 3) hx hb dX1_page_32 (by decide) ?_
            refine lv_icmp_ge (tgt := 40) hx hb dX1_page_33 (by decide) (fun c6 => ?_) (fun c6 => ?_)
            · skip
              refine lv_iconst (v := bI false) hx hb dX1_page_40 (by decide) ?_
              refine lv_istore (lv' := [(5, .int (bI false)), (0, .ref (ad 0)), (1, .int kd), (2, .int x), (3, .long y)]) hx hb dX1_page_41 hl (by decide) rfl (fun ls hl => ?_)
              exact c43 false _ _ _ ls rfl ((decide_eq_false (fun q => absurd q.2.2 (Int32.not_lt.mpr c6))).symm) h (lv_sub hl [1, 2, 3, 4, 0] rfl)
            · skip
              refine lv_iconst (v := bI true) hx hb dX1_page_36 (by decide) ?_
              refine lv_goto (tgt := 41) hx hb dX1_page_37 (by decide) ?_
              refine lv_istore (lv' := [(5, .int (bI true)), (0, .ref (ad 0)), (1, .int kd), (2, .int x), (3, .long y)]) hx hb dX1_page_41 hl (by decide) rfl (fun ls hl => ?_)
              exact c43 true _ _ _ ls rfl ((decide_eq_true ⟨c4, Int32.not_le.mp c5, Int32.not_le.mp c6⟩).symm) h (lv_sub hl [1, 2, 3, 4, 0] rfl)
      · skip
        refine lv_bipush (v := (-2)) hx hb dX1_page_19 (by decide) ?_
        have eq : opPage (cn, ru, fu, ch, dk, wt, ld, pl, st, kp) kd x y = (-2, (cn, ru, fu, ch, dk, wt, ld, pl, st, kp)) := by unfold opPage; dsimp only; rw [if_neg (show ¬ ru = false by rw [c1]; decide), if_pos (Or.inr (Int32.not_le.mp c3))]
        exact gr_i C h (ty := .int) rfl (rfl) (by rw [eq]; exact ⟨rfl, fP, fl, lb, wE, sE, kE, hX⟩) (Nat.le_of_ble_eq_true rfl) (Nat.le_of_ble_eq_true rfl) dX1_page_21
  · skip
    have c1 : ru = false := bI_eq0.mp c1
    refine lv_bipush (v := (-3)) hx hb dX1_page_7 (by decide) ?_
    have eq : opPage (cn, ru, fu, ch, dk, wt, ld, pl, st, kp) kd x y = (-3, (cn, ru, fu, ch, dk, wt, ld, pl, st, kp)) := by unfold opPage; dsimp only; rw [if_pos c1]
    exact gr_i C h (ty := .int) rfl (rfl) (by rw [eq]; exact ⟨rfl, fP, fl, lb, wE, sE, kE, hX⟩) (Nat.le_of_ble_eq_true rfl) (Nat.le_of_ble_eq_true rfl) dX1_page_9
set_option maxHeartbeats 4000000 in
theorem m_X1_full (l : Launch) (g : GG) (w v : GW) (ad : Nat → Nat) (cn : Nat) (ru fu ch : Bool) (dk : Sec) (wt : List (Nat × Sec)) (ld : Nat → Option Sec) (pl : Nat → Option Nat) (st kp : List (Int32 × Int64)) (hR : RX g w ad (cn, ru, fu, ch, dk, wt, ld, pl, st, kp)) (hI : InvK (cn, ru, fu, ch, dk, wt, ld, pl, st, kp)) (bb : Bool)  : Met l yX1_full (ws_ yX1_full cX1_full 3 (some .boolean)) ({ frames := 1, cells := 0, slots := 0, locals := 60 } : Room) (gP g [.ref (ad 0), .int (bI bb)] w v) (va_Qi (fun (r : Int32) (w' : GW) => r = (opFull (cn, ru, fu, ch, dk, wt, ld, pl, st, kp) bb).1 ∧ RX g w' ad (opFull (cn, ru, fu, ch, dk, wt, ld, pl, st, kp) bb).2) (gB g v) (gA g)) 0 0 (gA g) := by
  refine gm_of (by decide) (Nat.le_of_ble_eq_true rfl) ?_
  intro p e s m below meth c ls C hnm h hl
  have C : Cx g p s m ([.ref (ad 0), .int (bI bb)] : List Value).toArray meth c cX1_full 3 RX1 (some .boolean) := C
  obtain ⟨hx, hb, hml, hown, hts, hr, hlk, hG⟩ := id C
  have hl : lv_has ls 3 [(0, .ref (ad 0)), (1, .int (bI bb))] := hl
  obtain ⟨fP, fl, lb, wE, sE, kE, hX⟩ := id hR
  obtain ⟨⟨x0, x1, x2, x3⟩, hQW, hQS, hQK, hLL, hLi, hpl, hXD, h8⟩ := id hX
  obtain ⟨i1, i2, i3, i4, i5, i6, i7, i8, i9⟩ := id hI
  have n01 : ad 0 ≠ ad 1 := g_ne x0 x1 (kn_ne (show 0 ≠ 100 + 32 * cn by omega))
  have n02 : ad 0 ≠ ad 2 := g_ne x0 x2 (kn_ne (show 0 ≠ 130 by omega))
  have n03 : ad 0 ≠ ad 3 := g_ne x0 x3 (kn_ne (show 0 ≠ 50 by omega))
  have n12 : ad 1 ≠ ad 2 := g_ne x1 x2 (kn_ne (show 100 + 32 * cn ≠ 130 by omega))
  have n13 : ad 1 ≠ ad 3 := g_ne x1 x3 (kn_ne (show 100 + 32 * cn ≠ 50 by omega))
  have n23 : ad 2 ≠ ad 3 := g_ne x2 x3 (kn_ne (show 130 ≠ 50 by omega))
  refine lv_aload_n hx hb dX1_full_0 rfl (lv_at hl 0 rfl) ?_
  refine gx_get C h x0 (Cn := RX1) (T := TX1) (N := 10) rfl in_X1 3 (by decide) q218 rfl rfl dX1_full_1 ?_
  refine lv_istore_n (lv' := [(2, .int (bI fu)), (0, .ref (ad 0)), (1, .int (bI bb))]) hx hb dX1_full_4 rfl hl (by decide) rfl (fun ls hl => ?_)
  refine lv_aload_n hx hb dX1_full_5 rfl (lv_at hl 1 rfl) ?_
  refine lv_iload_n hx hb dX1_full_6 rfl (lv_at hl 2 rfl) ?_
  refine gx_put C h x0 (Cn := RX1) (T := TX1) (N := 10) (x := .int (bI bb)) rfl in_X1 tyX1 tyX1_ok nmX1 3 (by decide) q218 rfl rfl (bI_n _) (bI_f _) (Nat.le_of_ble_eq_true rfl) dX1_full_7 (fun H locs h => ?_)
  obtain ⟨w_1, ew_1⟩ : ∃ z_ : GW, z_ = gu w (ad 0) (ob 0 [.ref (ad 1), .int (nI cn), .int (bI ru), .int (bI bb), .ref (ad 2), .ref (ad 3), .int (bI ch), .ref (ad 4), .ref (ad 5), .ref (ad 6)]) := ⟨_, rfl⟩
  have h : SH g w_1 v s H locs := by rw [ew_1]; exact h
  have f_2 : w_1 (ad 0) = some (ob 0 [.ref (ad 1), .int (nI cn), .int (bI ru), .int (bI bb), .ref (ad 2), .ref (ad 3), .int (bI ch), .ref (ad 4), .ref (ad 5), .ref (ad 6)]) := by rw [ew_1]; exact gu_s
  have f_3 : w_1 (ad 1) = some (eB g (32 * cn) dk) := by rw [ew_1]; exact (gu_n (Ne.symm n01)).trans x1
  have f_4 : w_1 (ad 2) = some (eI g 30 fP) := by rw [ew_1]; exact (gu_n (Ne.symm n02)).trans x2
  have f_5 : w_1 (ad 3) = some (eS g 64 fl) := by rw [ew_1]; exact (gu_n (Ne.symm n03)).trans x3
  have hK_6 : XK (fun k => k ≠ 0) w w_1 := by rw [ew_1]; exact XK.put XK.rfl' x0 (by simp [kn])
  refine lv_iload_n hx hb dX1_full_10 rfl (lv_at hl 0 rfl) ?_
  exact gr_i C h (ty := .boolean) rfl (bI_n _) (⟨rfl, fP, fl, lb, wE, sE, kE, hX.core hK_6 (by simp) ⟨f_2, f_3, f_4, f_5⟩ hpl⟩) (Nat.le_of_ble_eq_true rfl) (Nat.le_of_ble_eq_true rfl) dX1_full_11
