set_option maxRecDepth 100000
theorem ext_none {w w' : GW} (h : Ext w w') {a : Nat} (hn : w' a = none) : w a = none := by
  cases q : w a with
  | none => rfl
  | some e => have := h.of q; rw [hn] at this; cases this
theorem hel_pl {wt : List (Nat × Sec)} {pl : Nat → Option Nat} {st kp : List (Int32 × Int64)} {p k : Nat} (hp : p < 30) (h : pl p = some k) : hel wt pl st kp k = true := by
  unfold hel
  rw [anyB_iff.mpr ⟨p, hp, decide_eq_true h⟩]
  simp
theorem lay_fl {pl : Nat → Option Nat} {fl : Nat → Option Nat} {p j0 K a : Nat} (hn : j0 ≠ K) (h : pl p = some j0) (j : Nat) : va_up (va_up fl K (some a)) j0 none j = if j = K then some a else if pl p = some j then none else fl j := by
  unfold va_up
  by_cases c1 : j = j0
  · subst c1; rw [if_pos rfl, if_neg hn, if_pos h]
  · rw [if_neg c1]
    by_cases c2 : j = K
    · rw [if_pos c2, if_pos c2]
    · rw [if_neg c2, if_neg c2, if_neg (fun q => c1 (Option.some.inj (h.symm.trans q)).symm)]
theorem lay_x {g : GG} {w w' : GW} {ad : Nat → Nat} {cn : Nat} {ru fu ch : Bool} {dk : Sec} {wt : List (Nat × Sec)} {ld : Nat → Option Sec} {pl : Nat → Option Nat} {st kp : List (Int32 × Int64)} {fP : Nat → Int32} {fl fl' : Nat → Option Nat} {lb : Nat → Nat} {wE sE kE : Nat} {T : Nat → Prop} {p K a b : Nat} {f : Sec} {kd so : Int32} {y : Int64} (h : XW g w ad cn ru fu ch dk wt ld pl st kp fP fl lb wE sE kE) (k : XK T w w') (hT : T 1 ∧ T 2 ∧ T 3 ∧ T 132 ∧ T 5 ∧ T 6) (hE : w' wE = w wE ∧ w' sE = w sE ∧ w' kE = w kE) (hK : K < 64) (hp30 : p < 30) (hb : w b = none) (hc : XC g w' ad cn ru fu true dk (upd fP p (nI K)) fl') (ha : w' a = some (ob 1 [.ref b])) (hbf : w' b = some (eB g 32 f)) (hf : closeB f = layC kd p so y) (hfl : ∀ j, fl' j = if j = K then some a else if pl p = some j then none else fl j) :
    XW g w' ad cn ru fu true dk wt (fun j => if j = K then some (layC kd p so y) else if pl p = some j then none else ld j) (va_up pl p (some K)) st kp (upd fP p (nI K)) fl' (fun j => if j = K then b else lb j) wE sE kE := by
  have hL := h.2.2.2.2.1
  have hLi := h.2.2.2.2.2.1
  have hpl := h.2.2.2.2.2.2.1
  have bne : ∀ j, j < 64 → (ld j).isSome = true → lb j ≠ b := by
    intro j hj hs
    obtain ⟨d, hd⟩ := Option.isSome_iff_exists.mp hs
    obtain ⟨s, f, -, -, l3, -⟩ := (hL j hj).2 d hd
    exact g_neN l3 hb
  refine h.coreL k hT hE hc ?_ ?_ ?_ ?_
  · intro q hq
    unfold upd va_up
    by_cases c : q = p
    · rw [if_pos c, if_pos c]; rfl
    · rw [if_neg c, if_neg c]; exact hpl q hq
  · intro j hj
    rw [hfl j]
    by_cases c1 : j = K
    · simp only [if_pos c1]
      refine ⟨(fun q => by cases q), (fun d q => ?_)⟩
      cases q
      exact ⟨a, f, rfl, ha, hbf, hf⟩
    · simp only [if_neg c1]
      by_cases c2 : pl p = some j
      · simp only [if_pos c2]
        exact ⟨fun _ => trivial, (fun d q => by cases q)⟩
      · simp only [if_neg c2]
        exact (hL.fr k hT.1 hT.2.2.2.1) j hj
  · intro i j hi hj h1 h2 h3
    dsimp only at h1 h2 h3
    by_cases c1 : i = K
    · by_cases c2 : j = K
      · rw [c1, c2]
      · rw [if_pos c1, if_neg c2] at h3
        rw [if_neg c2] at h2
        split at h2
        · cases h2
        · exact absurd h3.symm (bne j hj h2)
    · by_cases c2 : j = K
      · rw [if_neg c1, if_pos c2] at h3
        rw [if_neg c1] at h1
        split at h1
        · cases h1
        · exact absurd h3 (bne i hi h1)
      · rw [if_neg c1, if_neg c2] at h3
        rw [if_neg c1] at h1
        rw [if_neg c2] at h2
        split at h1
        · cases h1
        · split at h2
          · cases h2
          · exact hLi i j hi hj h1 h2 h3
  · intro b' e hb' hP j hj h1
    dsimp only at h1 ⊢
    by_cases c1 : j = K
    · rw [if_pos c1]
      intro q
      rw [← q, hb] at hb'
      cases hb'
    · rw [if_neg c1] at h1 ⊢
      split at h1
      · cases h1
      · exact hP j hj h1
set_option maxHeartbeats 4000000 in
theorem m_X1_lay (l : Launch) (g : GG) (w v : GW) (ad : Nat → Nat) (cn : Nat) (ru fu ch : Bool) (dk : Sec) (wt : List (Nat × Sec)) (ld : Nat → Option Sec) (pl : Nat → Option Nat) (st kp : List (Int32 × Int64)) (fP : Nat → Int32) (fl : Nat → Option Nat) (lb : Nat → Nat) (wE sE kE : Nat) (hX : XW g w ad cn ru fu ch dk wt ld pl st kp fP fl lb wE sE kE) (hI : InvK (cn, ru, fu, ch, dk, wt, ld, pl, st, kp)) (kd : Int32) (pg : Option Nat) (so : Int32) (y : Int64) (hpg : ∀ q, pg = some q → q < 30) (px : Int32) (hpx : px = plI pg)  : Met l yX1_lay (ws_ yX1_lay cX1_lay 7 (some .int)) ({ frames := 7, cells := 5, slots := 45, locals := 420 } : Room) (gP g [.ref (ad 0), .int kd, .int px, .int so, .long y] w v) (va_Qi (fun (r : Int32) (w' : GW) => r = (layF (cn, ru, fu, ch, dk, wt, ld, pl, st, kp) kd pg so y).1 ∧ RX g w' ad (layF (cn, ru, fu, ch, dk, wt, ld, pl, st, kp) kd pg so y).2) (gB g v) (gA g)) 5 45 (gA g) := by
  refine gm_of (by decide) (Nat.le_of_ble_eq_true rfl) ?_
  intro p e s m below meth c ls C hnm h hl
  have C : Cx g p s m ([.ref (ad 0), .int kd, .int px, .int so, .long y] : List Value).toArray meth c cX1_lay 7 RX1 (some .int) := C
  obtain ⟨hx, hb, hml, hown, hts, hr, hlk, hG⟩ := id C
  have hl : lv_has ls 7 [(0, .ref (ad 0)), (1, .int kd), (2, .int px), (3, .int so), (4, .long y)] := hl
  subst hpx
  obtain ⟨⟨x0, x1, x2, x3⟩, hQW, hQS, hQK, hLL, hLi, hpl, hXD, h8⟩ := id hX
  obtain ⟨i1, i2, i3, i4, i5, i6, i7, i8, i9⟩ := id hI
  have n01 : ad 0 ≠ ad 1 := g_ne x0 x1 (kn_ne (show 0 ≠ 100 + 32 * cn by omega))
  have n02 : ad 0 ≠ ad 2 := g_ne x0 x2 (kn_ne (show 0 ≠ 130 by omega))
  have n03 : ad 0 ≠ ad 3 := g_ne x0 x3 (kn_ne (show 0 ≠ 50 by omega))
  have n12 : ad 1 ≠ ad 2 := g_ne x1 x2 (kn_ne (show 100 + 32 * cn ≠ 130 by omega))
  have n13 : ad 1 ≠ ad 3 := g_ne x1 x3 (kn_ne (show 100 + 32 * cn ≠ 50 by omega))
  have n23 : ad 2 ≠ ad 3 := g_ne x2 x3 (kn_ne (show 130 ≠ 50 by omega))
  obtain ⟨wn, wf, wh, ws, hDw, hWL⟩ := id hQW
  obtain ⟨sn, sf, sh, ss, hDs, hSL⟩ := id hQS
  obtain ⟨kN, kf, km, ks, hAk, hSK⟩ := id hQK
  obtain ⟨d45, dws, dwk, dsk, d3w, d3s, d3k⟩ := id hXD
  refine lv_aload_n hx hb dX1_lay_0 rfl (lv_at hl 0 rfl) ?_
  refine gc_i (va_runV (As := []) (rest := []) C.fix (m_X1_free l g w v ad cn ru fu ch dk wt ld pl st kp fP fl lb wE sE kE hX hI) (cwV 0 hts (lw_V q386 q388 qs11 q43 q389) rfl rfl rfl (by decide +kernel) ⟨Nat.le_of_ble_eq_true rfl, Nat.le_of_ble_eq_true rfl⟩) (gp_V C h [] (Cn := RX1) (T := TX1) (N := 10) rfl x0) rfl rfl hl.1 rfl (lv_room (Nat.le_of_ble_eq_true rfl)) dX1_lay_1 ⟨Nat.le_of_ble_eq_true rfl, Nat.le_of_ble_eq_true rfl⟩) h (fun r_1 w_2 H locs hp h => ?_)
  obtain ⟨hk_, hxh⟩ := hp
  rw [hk_]
  have f_3 : w_2 (ad 0) = some (ob 0 [.ref (ad 1), .int (nI cn), .int (bI ru), .int (bI fu), .ref (ad 2), .ref (ad 3), .int (bI ch), .ref (ad 4), .ref (ad 5), .ref (ad 6)]) := hxh.of x0
  have f_4 : w_2 (ad 1) = some (eB g (32 * cn) dk) := hxh.of x1
  have f_5 : w_2 (ad 2) = some (eI g 30 fP) := hxh.of x2
  have f_6 : w_2 (ad 3) = some (eS g 64 fl) := hxh.of x3
  have f_7 : w_2 (ad 4) = some (ob 5 [.ref wE, .int (nI wh), .int (nI (wr wn (wh + ws.length)))]) := hxh.of hDw.1
  have f_8 : w_2 wE = some (eO g wn wf) := hxh.of hDw.2.1
  have f_9 : w_2 (ad 5) = some (ob 5 [.ref sE, .int (nI sh), .int (nI (wr sn (sh + ss.length)))]) := hxh.of hDs.1
  have f_10 : w_2 sE = some (eO g sn sf) := hxh.of hDs.2.1
  have f_11 : w_2 (ad 6) = some (ob 6 [.int km, .ref kE, .int (nI ks.length)]) := hxh.of hAk.1
  have f_12 : w_2 kE = some (eO g kN kf) := hxh.of hAk.2.1
  have hX_13 := hX.ext hxh
  have hE_14 : Ext w w_2 := XK.trans XK.rfl' hxh
  refine lv_istore (lv' := [(6, .int ((if (frS cn wt pl st kp) < cn then nI (frS cn wt pl st kp) else -1))), (0, .ref (ad 0)), (1, .int kd), (2, .int (plI pg)), (3, .int so), (4, .long y)]) hx hb dX1_lay_4 hl (by decide) rfl (fun ls hl => ?_)
  refine lv_iload_n hx hb dX1_lay_6 rfl (lv_at hl 3 rfl) ?_
  refine lv_iconst (v := (-1)) hx hb dX1_lay_7 (by decide) ?_
  rcases pg with _ | pq
  · skip
    have hl : lv_has ls 7 [(6, .int ((if (frS cn wt pl st kp) < cn then nI (frS cn wt pl st kp) else -1))), (0, .ref (ad 0)), (1, .int kd), (2, .int (-1)), (3, .int so), (4, .long y)] := hl
    refine lv_icmp_eq (tgt := 24) hx hb dX1_lay_8 (by decide) (fun c1 => ?_) (fun c1 => ?_)
    · skip
      refine lv_bipush (v := (-4)) hx hb dX1_lay_24 (by decide) ?_
      have eq : layF (cn, ru, fu, ch, dk, wt, ld, pl, st, kp) kd none so y = (-4, (cn, ru, fu, ch, dk, wt, ld, pl, st, kp)) := by rfl
      exact gr_i C h (ty := .int) rfl (rfl) (by rw [eq]; exact ⟨rfl, fP, fl, lb, wE, sE, kE, hX_13⟩) (Nat.le_of_ble_eq_true rfl) (Nat.le_of_ble_eq_true rfl) dX1_lay_26
    · skip
      exact absurd rfl c1
  · skip
    have hp30 : pq < 30 := hpg pq rfl
    have hl : lv_has ls 7 [(6, .int ((if (frS cn wt pl st kp) < cn then nI (frS cn wt pl st kp) else -1))), (0, .ref (ad 0)), (1, .int kd), (2, .int (nI pq)), (3, .int so), (4, .long y)] := hl
    refine lv_icmp_eq (tgt := 24) hx hb dX1_lay_8 (by decide) (fun c1 => ?_) (fun c1 => ?_)
    · skip
      exact absurd c1 (nm1 (by omega))
    · skip
      refine lv_iload hx hb dX1_lay_11 (lv_at hl 0 rfl) ?_
      refine lv_iconst (v := (-1)) hx hb dX1_lay_13 (by decide) ?_
      by_cases hfs : (frS cn wt pl st kp) < cn
      · skip
        rw [if_pos hfs] at hl ⊢
        have hl : lv_has ls 7 [(6, .int (nI ((frS cn wt pl st kp)))), (0, .ref (ad 0)), (1, .int kd), (2, .int (nI pq)), (3, .int so), (4, .long y)] := hl
        refine lv_icmp_eq (tgt := 24) hx hb dX1_lay_14 (by decide) (fun c2 => ?_) (fun c2 => ?_)
        · skip
          exact absurd c2 (nm1 (by omega))
        · skip
          refine lv_aload_n hx hb dX1_lay_17 rfl (lv_at hl 1 rfl) ?_
          refine gx_get C h f_3 (Cn := RX1) (T := TX1) (N := 10) rfl in_X1 3 (by decide) q218 rfl rfl dX1_lay_18 ?_
          refine lv_if_eq (tgt := 27) hx hb dX1_lay_21 (by decide) (fun c3 => ?_) (fun c3 => ?_)
          · skip
            have c3 : fu = false := bI_eq0.mp c3
            have hK0 : XK (fun k => k ≠ 0 ∧ k ≠ 50 ∧ k ≠ 130) w w_2 := Ext.xk hE_14
            refine lv_aload_n hx hb dX1_lay_27 rfl (lv_at hl 1 rfl) ?_
            refine gx_get C h f_3 (Cn := RX1) (T := TX1) (N := 10) rfl in_X1 5 (by decide) q220 rfl rfl dX1_lay_28 ?_
            refine lv_iload hx hb dX1_lay_31 (lv_at hl 0 rfl) ?_
            refine lv_iload_n hx hb dX1_lay_33 rfl (lv_at hl 2 rfl) ?_
            refine lv_iload_n hx hb dX1_lay_34 rfl (lv_at hl 3 rfl) ?_
            refine lv_iload_n hx hb dX1_lay_35 rfl (lv_at hl 4 rfl) ?_
            refine lv_lload hx hb dX1_lay_36 (lv_at hl 5 rfl) ?_
            refine lv_iconst (v := nI 0) hx hb dX1_lay_38 (by decide) ?_
            refine gc_q (va_runS (As := [.int kd, .int (nI pq), .int so, .long y, .int (nI 0)]) (rest := [.int (nI ((frS cn wt pl st kp))), .ref (ad 3)]) C.fix (m_X4_of l g w_2 v kd (nI pq) so y (nI 0)) (va_cwS 5 hts (lw_S q425 q426 q55 q427) rfl rfl rfl (by decide +kernel) ⟨Nat.le_of_ble_eq_true rfl, Nat.le_of_ble_eq_true rfl⟩) (gp_S C h _) rfl rfl hl.1 rfl (lv_room (Nat.le_of_ble_eq_true rfl)) dX1_lay_39 ⟨Nat.le_of_ble_eq_true rfl, Nat.le_of_ble_eq_true rfl⟩) h (fun r_15 w_16 H locs hp h => ?_)
            obtain ⟨a, b, ra, a1, a2, b1, b2, hab, hw2⟩ := hp
            rw [ra]
            have x2 : Ext w_2 w_16 := by rw [hw2]; exact (XK.rfl'.putn b1).putn a1
            have f_17 : w_16 (ad 0) = some (ob 0 [.ref (ad 1), .int (nI cn), .int (bI ru), .int (bI fu), .ref (ad 2), .ref (ad 3), .int (bI ch), .ref (ad 4), .ref (ad 5), .ref (ad 6)]) := x2.of f_3
            have f_18 : w_16 (ad 1) = some (eB g (32 * cn) dk) := x2.of f_4
            have f_19 : w_16 (ad 2) = some (eI g 30 fP) := x2.of f_5
            have f_20 : w_16 (ad 3) = some (eS g 64 fl) := x2.of f_6
            have f_21 : w_16 (ad 4) = some (ob 5 [.ref wE, .int (nI wh), .int (nI (wr wn (wh + ws.length)))]) := x2.of f_7
            have f_22 : w_16 wE = some (eO g wn wf) := x2.of f_8
            have f_23 : w_16 (ad 5) = some (ob 5 [.ref sE, .int (nI sh), .int (nI (wr sn (sh + ss.length)))]) := x2.of f_9
            have f_24 : w_16 sE = some (eO g sn sf) := x2.of f_10
            have f_25 : w_16 (ad 6) = some (ob 6 [.int km, .ref kE, .int (nI ks.length)]) := x2.of f_11
            have f_26 : w_16 kE = some (eO g kN kf) := x2.of f_12
            have hX_27 := hX_13.ext x2
            have hE_28 : Ext w w_16 := XK.trans hE_14 x2
            have fa : w_16 a = some (ob 1 [.ref b]) := by rw [hw2]; exact gu_s
            have fb : w_16 b = some (eB g 32 (ofB kd (nI pq) so y (nI 0))) := by rw [hw2]; exact (gu_n (Ne.symm hab)).trans gu_s
            have hK1 : XK (fun k => k ≠ 0 ∧ k ≠ 50 ∧ k ≠ 130) w w_16 := Ext.xk hE_28
            have hfree : hel wt pl st kp (frS cn wt pl st kp) = false := (lf_spec (hel wt pl st kp) (cn - 2) 2).2.2 (by show frS cn wt pl st kp < _; omega)
            have hF2 : 2 ≤ (frS cn wt pl st kp) := (lf_spec (hel wt pl st kp) (cn - 2) 2).1
            refine gx_aast C h 4 (ci := 1) (r := (RX4, TX4, 1)) rfl rfl f_20 fa ((frS cn wt pl st kp)) (rfl) (by omega) dX1_lay_42 (fun H locs h => ?_)
            obtain ⟨w_29, ew_29⟩ : ∃ z_ : GW, z_ = gu w_16 (ad 3) (eS g 64 (va_up fl ((frS cn wt pl st kp)) (some a))) := ⟨_, rfl⟩
            have h : SH g w_29 v s H locs := by rw [ew_29]; exact h
            have f_30 : w_29 (ad 0) = some (ob 0 [.ref (ad 1), .int (nI cn), .int (bI ru), .int (bI fu), .ref (ad 2), .ref (ad 3), .int (bI ch), .ref (ad 4), .ref (ad 5), .ref (ad 6)]) := by rw [ew_29]; exact (gu_n n03).trans f_17
            have f_31 : w_29 (ad 1) = some (eB g (32 * cn) dk) := by rw [ew_29]; exact (gu_n n13).trans f_18
            have f_32 : w_29 (ad 2) = some (eI g 30 fP) := by rw [ew_29]; exact (gu_n n23).trans f_19
            have f_33 : w_29 (ad 3) = some (eS g 64 (va_up fl ((frS cn wt pl st kp)) (some a))) := by rw [ew_29]; exact gu_s
            have f_34 : w_29 (ad 4) = some (ob 5 [.ref wE, .int (nI wh), .int (nI (wr wn (wh + ws.length)))]) := by rw [ew_29]; exact (gu_n (g_ne f_21 f_20 (by simp))).trans f_21
            have f_35 : w_29 wE = some (eO g wn wf) := by rw [ew_29]; exact (gu_n (Ne.symm d3w)).trans f_22
            have f_36 : w_29 (ad 5) = some (ob 5 [.ref sE, .int (nI sh), .int (nI (wr sn (sh + ss.length)))]) := by rw [ew_29]; exact (gu_n (g_ne f_23 f_20 (by simp))).trans f_23
            have f_37 : w_29 sE = some (eO g sn sf) := by rw [ew_29]; exact (gu_n (Ne.symm d3s)).trans f_24
            have f_38 : w_29 (ad 6) = some (ob 6 [.int km, .ref kE, .int (nI ks.length)]) := by rw [ew_29]; exact (gu_n (g_ne f_25 f_20 (by simp))).trans f_25
            have f_39 : w_29 kE = some (eO g kN kf) := by rw [ew_29]; exact (gu_n (Ne.symm d3k)).trans f_26
            have f_40 : w_29 a = some (ob 1 [.ref b]) := by rw [ew_29]; exact (gu_n (Ne.symm (g_neN f_6 a1))).trans fa
            have f_41 : w_29 b = some (eB g 32 (ofB kd (nI pq) so y (nI 0))) := by rw [ew_29]; exact (gu_n (Ne.symm (g_neN f_6 b1))).trans fb
            have hK_42 : XK (fun k => k ≠ 0 ∧ k ≠ 50 ∧ k ≠ 130) w w_29 := by rw [ew_29]; exact XK.put hK1 f_20 (by simp [kn])
            refine lv_aload_n hx hb dX1_lay_43 rfl (lv_at hl 1 rfl) ?_
            refine gx_get C h f_30 (Cn := RX1) (T := TX1) (N := 10) rfl in_X1 4 (by decide) q219 rfl rfl dX1_lay_44 ?_
            refine lv_iload_n hx hb dX1_lay_47 rfl (lv_at hl 3 rfl) ?_
            refine gx_iald C h f_32 pq (rfl) (by omega) dX1_lay_48 ?_
            rw [hpl pq hp30]
            refine lv_iconst (v := (-1)) hx hb dX1_lay_49 (by decide) ?_
            have w1a : w a = none := by have q := XK.trans hxh (XK.rfl' (w := w_2)); exact ext_none q a1
            have w1b : w b = none := ext_none hxh b1
            have eq : layF (cn, ru, fu, ch, dk, wt, ld, pl, st, kp) kd (some pq) so y = (nI pq, (cn, ru, fu, true, dk, wt, fun j => if j = (frS cn wt pl st kp) then some (layC kd pq so y) else if pl pq = some j then none else ld j, va_up pl pq (some (frS cn wt pl st kp)), st, kp)) := by show (if _ then _ else _) = _; rw [if_pos ⟨hfs, c3⟩]
            refine lv_icmp_eq (tgt := 65) hx hb dX1_lay_50 (by decide) (fun c4 => ?_) (fun c4 => ?_)
            · skip
              have hpn : pl pq = none := (plI_m1 (br_pl i1.2 i2 (by omega))).mp c4
              refine lv_aload_n hx hb dX1_lay_65 rfl (lv_at hl 1 rfl) ?_
              refine gx_get C h f_30 (Cn := RX1) (T := TX1) (N := 10) rfl in_X1 4 (by decide) q219 rfl rfl dX1_lay_66 ?_
              refine lv_iload_n hx hb dX1_lay_69 rfl (lv_at hl 3 rfl) ?_
              refine lv_iload hx hb dX1_lay_70 (lv_at hl 0 rfl) ?_
              refine gx_iast C h f_32 pq (rfl) (by omega) dX1_lay_72 (fun H locs h => ?_)
              obtain ⟨w_43, ew_43⟩ : ∃ z_ : GW, z_ = gu w_29 (ad 2) (eI g 30 (upd fP pq (nI ((frS cn wt pl st kp))))) := ⟨_, rfl⟩
              have h : SH g w_43 v s H locs := by rw [ew_43]; exact h
              have f_44 : w_43 (ad 0) = some (ob 0 [.ref (ad 1), .int (nI cn), .int (bI ru), .int (bI fu), .ref (ad 2), .ref (ad 3), .int (bI ch), .ref (ad 4), .ref (ad 5), .ref (ad 6)]) := by rw [ew_43]; exact (gu_n n02).trans f_30
              have f_45 : w_43 (ad 1) = some (eB g (32 * cn) dk) := by rw [ew_43]; exact (gu_n n12).trans f_31
              have f_46 : w_43 (ad 2) = some (eI g 30 (upd fP pq (nI ((frS cn wt pl st kp))))) := by rw [ew_43]; exact gu_s
              have f_47 : w_43 (ad 3) = some (eS g 64 (va_up fl ((frS cn wt pl st kp)) (some a))) := by rw [ew_43]; exact (gu_n (Ne.symm n23)).trans f_33
              have f_48 : w_43 (ad 4) = some (ob 5 [.ref wE, .int (nI wh), .int (nI (wr wn (wh + ws.length)))]) := by rw [ew_43]; exact (gu_n (g_ne f_34 f_32 (by simp))).trans f_34
              have f_49 : w_43 wE = some (eO g wn wf) := by rw [ew_43]; exact (gu_n (g_ne f_35 f_32 (by simp))).trans f_35
              have f_50 : w_43 (ad 5) = some (ob 5 [.ref sE, .int (nI sh), .int (nI (wr sn (sh + ss.length)))]) := by rw [ew_43]; exact (gu_n (g_ne f_36 f_32 (by simp))).trans f_36
              have f_51 : w_43 sE = some (eO g sn sf) := by rw [ew_43]; exact (gu_n (g_ne f_37 f_32 (by simp))).trans f_37
              have f_52 : w_43 (ad 6) = some (ob 6 [.int km, .ref kE, .int (nI ks.length)]) := by rw [ew_43]; exact (gu_n (g_ne f_38 f_32 (by simp))).trans f_38
              have f_53 : w_43 kE = some (eO g kN kf) := by rw [ew_43]; exact (gu_n (g_ne f_39 f_32 (by simp))).trans f_39
              have f_54 : w_43 a = some (ob 1 [.ref b]) := by rw [ew_43]; exact (gu_n (Ne.symm (g_neN f_5 a1))).trans f_40
              have f_55 : w_43 b = some (eB g 32 (ofB kd (nI pq) so y (nI 0))) := by rw [ew_43]; exact (gu_n (Ne.symm (g_neN f_5 b1))).trans f_41
              have hK_56 : XK (fun k => k ≠ 0 ∧ k ≠ 50 ∧ k ≠ 130) w w_43 := by rw [ew_43]; exact XK.put hK_42 f_32 (by simp [kn])
              refine lv_aload_n hx hb dX1_lay_73 rfl (lv_at hl 1 rfl) ?_
              refine lv_iconst (v := bI true) hx hb dX1_lay_74 (by decide) ?_
              refine gx_put C h f_44 (Cn := RX1) (T := TX1) (N := 10) (x := .int (bI true)) rfl in_X1 tyX1 tyX1_ok nmX1 6 (by decide) q221 rfl rfl (bI_n _) (bI_f _) (Nat.le_of_ble_eq_true rfl) dX1_lay_75 (fun H locs h => ?_)
              obtain ⟨w_57, ew_57⟩ : ∃ z_ : GW, z_ = gu w_43 (ad 0) (ob 0 [.ref (ad 1), .int (nI cn), .int (bI ru), .int (bI fu), .ref (ad 2), .ref (ad 3), .int (bI true), .ref (ad 4), .ref (ad 5), .ref (ad 6)]) := ⟨_, rfl⟩
              have h : SH g w_57 v s H locs := by rw [ew_57]; exact h
              have f_58 : w_57 (ad 0) = some (ob 0 [.ref (ad 1), .int (nI cn), .int (bI ru), .int (bI fu), .ref (ad 2), .ref (ad 3), .int (bI true), .ref (ad 4), .ref (ad 5), .ref (ad 6)]) := by rw [ew_57]; exact gu_s
              have f_59 : w_57 (ad 1) = some (eB g (32 * cn) dk) := by rw [ew_57]; exact (gu_n (Ne.symm n01)).trans f_45
              have f_60 : w_57 (ad 2) = some (eI g 30 (upd fP pq (nI ((frS cn wt pl st kp))))) := by rw [ew_57]; exact (gu_n (Ne.symm n02)).trans f_46
              have f_61 : w_57 (ad 3) = some (eS g 64 (va_up fl ((frS cn wt pl st kp)) (some a))) := by rw [ew_57]; exact (gu_n (Ne.symm n03)).trans f_47
              have f_62 : w_57 (ad 4) = some (ob 5 [.ref wE, .int (nI wh), .int (nI (wr wn (wh + ws.length)))]) := by rw [ew_57]; exact (gu_n (g_ne f_48 f_44 (by simp))).trans f_48
              have f_63 : w_57 wE = some (eO g wn wf) := by rw [ew_57]; exact (gu_n (g_ne f_49 f_44 (by simp))).trans f_49
              have f_64 : w_57 (ad 5) = some (ob 5 [.ref sE, .int (nI sh), .int (nI (wr sn (sh + ss.length)))]) := by rw [ew_57]; exact (gu_n (g_ne f_50 f_44 (by simp))).trans f_50
              have f_65 : w_57 sE = some (eO g sn sf) := by rw [ew_57]; exact (gu_n (g_ne f_51 f_44 (by simp))).trans f_51
              have f_66 : w_57 (ad 6) = some (ob 6 [.int km, .ref kE, .int (nI ks.length)]) := by rw [ew_57]; exact (gu_n (g_ne f_52 f_44 (by simp))).trans f_52
              have f_67 : w_57 kE = some (eO g kN kf) := by rw [ew_57]; exact (gu_n (g_ne f_53 f_44 (by simp))).trans f_53
              have f_68 : w_57 a = some (ob 1 [.ref b]) := by rw [ew_57]; exact (gu_n (Ne.symm (g_neN f_3 a1))).trans f_54
              have f_69 : w_57 b = some (eB g 32 (ofB kd (nI pq) so y (nI 0))) := by rw [ew_57]; exact (gu_n (Ne.symm (g_neN f_3 b1))).trans f_55
              have hK_70 : XK (fun k => k ≠ 0 ∧ k ≠ 50 ∧ k ≠ 130) w w_57 := by rw [ew_57]; exact XK.put hK_56 f_44 (by simp [kn])
              refine lv_iload_n hx hb dX1_lay_78 rfl (lv_at hl 3 rfl) ?_
              exact gr_i C h (ty := .int) rfl (rfl) (by rw [eq]; exact ⟨rfl, _, _, _, wE, sE, kE, lay_x hX hK_70 (by simp) ⟨f_63.trans hDw.2.1.symm, f_65.trans hDs.2.1.symm, f_67.trans hAk.2.1.symm⟩ (by omega) hp30 w1b ⟨f_58, f_59, f_60, f_61⟩ f_68 f_69 rfl (fun j => by rw [hpn]; unfold va_up; simp)⟩) (Nat.le_of_ble_eq_true rfl) (Nat.le_of_ble_eq_true rfl) dX1_lay_79
            · skip
              obtain ⟨j0, hj0⟩ : ∃ k, pl pq = some k := by cases hq : pl pq with | none => exact absurd (by rw [hq]; rfl) c4 | some k => exact ⟨k, rfl⟩
              have hj1 := i2 pq j0 hp30 hj0
              have hjn : j0 ≠ (frS cn wt pl st kp) := fun q => by rw [← q] at hfree; rw [hel_pl hp30 hj0] at hfree; cases hfree
              refine lv_aload_n hx hb dX1_lay_53 rfl (lv_at hl 1 rfl) ?_
              refine gx_get C h f_30 (Cn := RX1) (T := TX1) (N := 10) rfl in_X1 5 (by decide) q220 rfl rfl dX1_lay_54 ?_
              refine lv_aload_n hx hb dX1_lay_57 rfl (lv_at hl 1 rfl) ?_
              refine gx_get C h f_30 (Cn := RX1) (T := TX1) (N := 10) rfl in_X1 4 (by decide) q219 rfl rfl dX1_lay_58 ?_
              refine lv_iload_n hx hb dX1_lay_61 rfl (lv_at hl 3 rfl) ?_
              refine gx_iald C h f_32 pq (rfl) (by omega) dX1_lay_62 ?_
              rw [hpl pq hp30, hj0]
              refine lv_null hx hb dX1_lay_63 ?_
              refine gx_aastN C h 4 rfl f_33 j0 (rfl) (by omega) dX1_lay_64 (fun H locs h => ?_)
              obtain ⟨w_71, ew_71⟩ : ∃ z_ : GW, z_ = gu w_29 (ad 3) (eS g 64 (va_up (va_up fl ((frS cn wt pl st kp)) (some a)) j0 none)) := ⟨_, rfl⟩
              have h : SH g w_71 v s H locs := by rw [ew_71]; exact h
              have f_72 : w_71 (ad 0) = some (ob 0 [.ref (ad 1), .int (nI cn), .int (bI ru), .int (bI fu), .ref (ad 2), .ref (ad 3), .int (bI ch), .ref (ad 4), .ref (ad 5), .ref (ad 6)]) := by rw [ew_71]; exact (gu_n n03).trans f_30
              have f_73 : w_71 (ad 1) = some (eB g (32 * cn) dk) := by rw [ew_71]; exact (gu_n n13).trans f_31
              have f_74 : w_71 (ad 2) = some (eI g 30 fP) := by rw [ew_71]; exact (gu_n n23).trans f_32
              have f_75 : w_71 (ad 3) = some (eS g 64 (va_up (va_up fl ((frS cn wt pl st kp)) (some a)) j0 none)) := by rw [ew_71]; exact gu_s
              have f_76 : w_71 (ad 4) = some (ob 5 [.ref wE, .int (nI wh), .int (nI (wr wn (wh + ws.length)))]) := by rw [ew_71]; exact (gu_n (g_ne f_34 f_33 (by simp))).trans f_34
              have f_77 : w_71 wE = some (eO g wn wf) := by rw [ew_71]; exact (gu_n (Ne.symm d3w)).trans f_35
              have f_78 : w_71 (ad 5) = some (ob 5 [.ref sE, .int (nI sh), .int (nI (wr sn (sh + ss.length)))]) := by rw [ew_71]; exact (gu_n (g_ne f_36 f_33 (by simp))).trans f_36
              have f_79 : w_71 sE = some (eO g sn sf) := by rw [ew_71]; exact (gu_n (Ne.symm d3s)).trans f_37
              have f_80 : w_71 (ad 6) = some (ob 6 [.int km, .ref kE, .int (nI ks.length)]) := by rw [ew_71]; exact (gu_n (g_ne f_38 f_33 (by simp))).trans f_38
              have f_81 : w_71 kE = some (eO g kN kf) := by rw [ew_71]; exact (gu_n (Ne.symm d3k)).trans f_39
              have f_82 : w_71 a = some (ob 1 [.ref b]) := by rw [ew_71]; exact (gu_n (Ne.symm (g_neN f_6 a1))).trans f_40
              have f_83 : w_71 b = some (eB g 32 (ofB kd (nI pq) so y (nI 0))) := by rw [ew_71]; exact (gu_n (Ne.symm (g_neN f_6 b1))).trans f_41
              have hK_84 : XK (fun k => k ≠ 0 ∧ k ≠ 50 ∧ k ≠ 130) w w_71 := by rw [ew_71]; exact XK.put hK_42 f_33 (by simp [kn])
              refine lv_aload_n hx hb dX1_lay_65 rfl (lv_at hl 1 rfl) ?_
              refine gx_get C h f_72 (Cn := RX1) (T := TX1) (N := 10) rfl in_X1 4 (by decide) q219 rfl rfl dX1_lay_66 ?_
              refine lv_iload_n hx hb dX1_lay_69 rfl (lv_at hl 3 rfl) ?_
              refine lv_iload hx hb dX1_lay_70 (lv_at hl 0 rfl) ?_
              refine gx_iast C h f_74 pq (rfl) (by omega) dX1_lay_72 (fun H locs h => ?_)
              obtain ⟨w_85, ew_85⟩ : ∃ z_ : GW, z_ = gu w_71 (ad 2) (eI g 30 (upd fP pq (nI ((frS cn wt pl st kp))))) := ⟨_, rfl⟩
              have h : SH g w_85 v s H locs := by rw [ew_85]; exact h
              have f_86 : w_85 (ad 0) = some (ob 0 [.ref (ad 1), .int (nI cn), .int (bI ru), .int (bI fu), .ref (ad 2), .ref (ad 3), .int (bI ch), .ref (ad 4), .ref (ad 5), .ref (ad 6)]) := by rw [ew_85]; exact (gu_n n02).trans f_72
              have f_87 : w_85 (ad 1) = some (eB g (32 * cn) dk) := by rw [ew_85]; exact (gu_n n12).trans f_73
              have f_88 : w_85 (ad 2) = some (eI g 30 (upd fP pq (nI ((frS cn wt pl st kp))))) := by rw [ew_85]; exact gu_s
              have f_89 : w_85 (ad 3) = some (eS g 64 (va_up (va_up fl ((frS cn wt pl st kp)) (some a)) j0 none)) := by rw [ew_85]; exact (gu_n (Ne.symm n23)).trans f_75
              have f_90 : w_85 (ad 4) = some (ob 5 [.ref wE, .int (nI wh), .int (nI (wr wn (wh + ws.length)))]) := by rw [ew_85]; exact (gu_n (g_ne f_76 f_74 (by simp))).trans f_76
              have f_91 : w_85 wE = some (eO g wn wf) := by rw [ew_85]; exact (gu_n (g_ne f_77 f_74 (by simp))).trans f_77
              have f_92 : w_85 (ad 5) = some (ob 5 [.ref sE, .int (nI sh), .int (nI (wr sn (sh + ss.length)))]) := by rw [ew_85]; exact (gu_n (g_ne f_78 f_74 (by simp))).trans f_78
              have f_93 : w_85 sE = some (eO g sn sf) := by rw [ew_85]; exact (gu_n (g_ne f_79 f_74 (by simp))).trans f_79
              have f_94 : w_85 (ad 6) = some (ob 6 [.int km, .ref kE, .int (nI ks.length)]) := by rw [ew_85]; exact (gu_n (g_ne f_80 f_74 (by simp))).trans f_80
              have f_95 : w_85 kE = some (eO g kN kf) := by rw [ew_85]; exact (gu_n (g_ne f_81 f_74 (by simp))).trans f_81
              have f_96 : w_85 a = some (ob 1 [.ref b]) := by rw [ew_85]; exact (gu_n (Ne.symm (g_neN f_5 a1))).trans f_82
              have f_97 : w_85 b = some (eB g 32 (ofB kd (nI pq) so y (nI 0))) := by rw [ew_85]; exact (gu_n (Ne.symm (g_neN f_5 b1))).trans f_83
              have hK_98 : XK (fun k => k ≠ 0 ∧ k ≠ 50 ∧ k ≠ 130) w w_85 := by rw [ew_85]; exact XK.put hK_84 f_74 (by simp [kn])
              refine lv_aload_n hx hb dX1_lay_73 rfl (lv_at hl 1 rfl) ?_
              refine lv_iconst (v := bI true) hx hb dX1_lay_74 (by decide) ?_
              refine gx_put C h f_86 (Cn := RX1) (T := TX1) (N := 10) (x := .int (bI true)) rfl in_X1 tyX1 tyX1_ok nmX1 6 (by decide) q221 rfl rfl (bI_n _) (bI_f _) (Nat.le_of_ble_eq_true rfl) dX1_lay_75 (fun H locs h => ?_)
              obtain ⟨w_99, ew_99⟩ : ∃ z_ : GW, z_ = gu w_85 (ad 0) (ob 0 [.ref (ad 1), .int (nI cn), .int (bI ru), .int (bI fu), .ref (ad 2), .ref (ad 3), .int (bI true), .ref (ad 4), .ref (ad 5), .ref (ad 6)]) := ⟨_, rfl⟩
              have h : SH g w_99 v s H locs := by rw [ew_99]; exact h
              have f_100 : w_99 (ad 0) = some (ob 0 [.ref (ad 1), .int (nI cn), .int (bI ru), .int (bI fu), .ref (ad 2), .ref (ad 3), .int (bI true), .ref (ad 4), .ref (ad 5), .ref (ad 6)]) := by rw [ew_99]; exact gu_s
              have f_101 : w_99 (ad 1) = some (eB g (32 * cn) dk) := by rw [ew_99]; exact (gu_n (Ne.symm n01)).trans f_87
              have f_102 : w_99 (ad 2) = some (eI g 30 (upd fP pq (nI ((frS cn wt pl st kp))))) := by rw [ew_99]; exact (gu_n (Ne.symm n02)).trans f_88
              have f_103 : w_99 (ad 3) = some (eS g 64 (va_up (va_up fl ((frS cn wt pl st kp)) (some a)) j0 none)) := by rw [ew_99]; exact (gu_n (Ne.symm n03)).trans f_89
              have f_104 : w_99 (ad 4) = some (ob 5 [.ref wE, .int (nI wh), .int (nI (wr wn (wh + ws.length)))]) := by rw [ew_99]; exact (gu_n (g_ne f_90 f_86 (by simp))).trans f_90
              have f_105 : w_99 wE = some (eO g wn wf) := by rw [ew_99]; exact (gu_n (g_ne f_91 f_86 (by simp))).trans f_91
              have f_106 : w_99 (ad 5) = some (ob 5 [.ref sE, .int (nI sh), .int (nI (wr sn (sh + ss.length)))]) := by rw [ew_99]; exact (gu_n (g_ne f_92 f_86 (by simp))).trans f_92
              have f_107 : w_99 sE = some (eO g sn sf) := by rw [ew_99]; exact (gu_n (g_ne f_93 f_86 (by simp))).trans f_93
              have f_108 : w_99 (ad 6) = some (ob 6 [.int km, .ref kE, .int (nI ks.length)]) := by rw [ew_99]; exact (gu_n (g_ne f_94 f_86 (by simp))).trans f_94
              have f_109 : w_99 kE = some (eO g kN kf) := by rw [ew_99]; exact (gu_n (g_ne f_95 f_86 (by simp))).trans f_95
              have f_110 : w_99 a = some (ob 1 [.ref b]) := by rw [ew_99]; exact (gu_n (Ne.symm (g_neN f_3 a1))).trans f_96
              have f_111 : w_99 b = some (eB g 32 (ofB kd (nI pq) so y (nI 0))) := by rw [ew_99]; exact (gu_n (Ne.symm (g_neN f_3 b1))).trans f_97
              have hK_112 : XK (fun k => k ≠ 0 ∧ k ≠ 50 ∧ k ≠ 130) w w_99 := by rw [ew_99]; exact XK.put hK_98 f_86 (by simp [kn])
              refine lv_iload_n hx hb dX1_lay_78 rfl (lv_at hl 3 rfl) ?_
              exact gr_i C h (ty := .int) rfl (rfl) (by rw [eq]; exact ⟨rfl, _, _, _, wE, sE, kE, lay_x hX hK_112 (by simp) ⟨f_105.trans hDw.2.1.symm, f_107.trans hDs.2.1.symm, f_109.trans hAk.2.1.symm⟩ (by omega) hp30 w1b ⟨f_100, f_101, f_102, f_103⟩ f_110 f_111 rfl (fun j => lay_fl hjn hj0 j)⟩) (Nat.le_of_ble_eq_true rfl) (Nat.le_of_ble_eq_true rfl) dX1_lay_79
          · skip
            have c3 : fu = true := bI_ne0.mp c3
            refine lv_bipush (v := (-4)) hx hb dX1_lay_24 (by decide) ?_
            have eq : layF (cn, ru, fu, ch, dk, wt, ld, pl, st, kp) kd (some pq) so y = (-4, (cn, ru, fu, ch, dk, wt, ld, pl, st, kp)) := by show (if _ then _ else _) = _; exact if_neg (fun q => by rw [c3] at q; cases q.2)
            exact gr_i C h (ty := .int) rfl (rfl) (by rw [eq]; exact ⟨rfl, fP, fl, lb, wE, sE, kE, hX_13⟩) (Nat.le_of_ble_eq_true rfl) (Nat.le_of_ble_eq_true rfl) dX1_lay_26
      · skip
        rw [if_neg hfs] at hl ⊢
        have hl : lv_has ls 7 [(6, .int (-1)), (0, .ref (ad 0)), (1, .int kd), (2, .int (nI pq)), (3, .int so), (4, .long y)] := hl
        refine lv_icmp_eq (tgt := 24) hx hb dX1_lay_14 (by decide) (fun c2 => ?_) (fun c2 => ?_)
        · skip
          refine lv_bipush (v := (-4)) hx hb dX1_lay_24 (by decide) ?_
          have eq : layF (cn, ru, fu, ch, dk, wt, ld, pl, st, kp) kd (some pq) so y = (-4, (cn, ru, fu, ch, dk, wt, ld, pl, st, kp)) := by show (if _ then _ else _) = _; exact if_neg (fun q => hfs q.1)
          exact gr_i C h (ty := .int) rfl (rfl) (by rw [eq]; exact ⟨rfl, fP, fl, lb, wE, sE, kE, hX_13⟩) (Nat.le_of_ble_eq_true rfl) (Nat.le_of_ble_eq_true rfl) dX1_lay_26
        · skip
          exact absurd rfl c2
