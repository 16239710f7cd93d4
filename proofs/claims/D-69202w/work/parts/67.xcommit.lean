set_option maxRecDepth 100000
theorem nat_of_nn {n : Int32} (h : 0 ≤ n) : n.toNatClampNeg < 2 ^ 31 ∧ n = nI n.toNatClampNeg := by
  have h1 : 0 ≤ n.toInt := by have := Int32.le_iff_toInt_le.mp h; simpa using this
  have h2 := Int32.toInt_lt n
  have h3 : n.toNatClampNeg = n.toInt.toNat := rfl
  have h4 : n.toNatClampNeg < 2 ^ 31 := by rw [h3]; omega
  refine ⟨h4, Int32.toInt_inj.mp ?_⟩
  rw [nI_toInt h4, h3]
  omega
theorem and1_mod {n : Int32} (h : 0 ≤ n) : n &&& nI 1 = nI (n.toNatClampNeg % 2) := by
  obtain ⟨m, hm, e⟩ : ∃ m : Nat, m < 2 ^ 31 ∧ n = nI m := ⟨n.toNatClampNeg, nat_of_nn h⟩
  rw [e, nI_clamp hm]
  apply Int32.toBitVec_inj.mp
  apply BitVec.eq_of_toNat_eq
  rw [Int32.toBitVec_and, BitVec.toNat_and]
  show (BitVec.ofNat 32 m).toNat &&& (BitVec.ofNat 32 1).toNat = (BitVec.ofNat 32 (m % 2)).toNat
  rw [BitVec.toNat_ofNat, BitVec.toNat_ofNat, BitVec.toNat_ofNat, Nat.mod_eq_of_lt (show m < 2 ^ 32 by omega), Nat.mod_eq_of_lt (show m % 2 < 2 ^ 32 by omega)]
  exact Nat.and_two_pow_sub_one_eq_mod m 1
theorem WL.snoc {g : GG} {w w' : GW} {P : Nat → Prop} {xs : List Nat} {wt : List (Nat × Sec)} {a s b k : Nat} {f : Sec} (h : WL g w P xs wt) (hk : ∀ x e, w x = some e → kn e ≠ 5 → kn e ≠ 50 → w' x = some e) (ha : w a = some (ob 3 [.int (nI k), .ref s])) (hs : w s = some (ob 1 [.ref b])) (hb : w b = some (eB g 32 f)) (hP : P b) : WL g w' P (xs ++ [a]) (wt ++ [(k, f)]) := by
  refine ⟨by simp [h.1], fun i x y b1 b2 => ?_⟩
  by_cases c : i < xs.length
  · rw [List.getElem?_append_left c] at b1
    rw [List.getElem?_append_left (by have := h.1; omega)] at b2
    obtain ⟨s', b', c1, c2, c3, c4⟩ := h.2 i x y b1 b2
    exact ⟨s', b', hk _ _ c1 (by simp [kn]) (by simp [kn]), hk _ _ c2 (by simp [kn]) (by simp [kn]), hk _ _ c3 (by simp [kn]) (by simp [kn]), c4⟩
  · rw [List.getElem?_append_right (by omega)] at b1
    rw [List.getElem?_append_right (by have := h.1; omega)] at b2
    have hz : i - xs.length < 1 := (List.getElem?_eq_some_iff.mp b1).1
    have e1 : i - xs.length = 0 := by omega
    have e2 : i - wt.length = 0 := by have := h.1; omega
    rw [e1] at b1
    rw [e2] at b2
    cases b1; cases b2
    exact ⟨s, b, hk _ _ ha (by simp [kn]) (by simp [kn]), hk _ _ hs (by simp [kn]) (by simp [kn]), hk _ _ hb (by simp [kn]) (by simp [kn]), hP⟩
set_option maxHeartbeats 4000000 in
theorem m_X1_commit (l : Launch) (g : GG) (w v : GW) (ad : Nat → Nat) (cn : Nat) (ru fu ch : Bool) (dk : Sec) (wt : List (Nat × Sec)) (ld : Nat → Option Sec) (pl : Nat → Option Nat) (st kp : List (Int32 × Int64)) (hR : RX g w ad (cn, ru, fu, ch, dk, wt, ld, pl, st, kp)) (hI : InvK (cn, ru, fu, ch, dk, wt, ld, pl, st, kp)) (n : Int32) (hB : wt.length + cntL ld ≤ 64 ∧ st.length ≤ 64)  : Met l yX1_commit (ws_ yX1_commit cX1_commit 7 (some .int)) ({ frames := 8, cells := 316, slots := 15300, locals := 480 } : Room) (gP g [.ref (ad 0), .int n] w v) (va_Qi (fun (r : Int32) (w' : GW) => r = (opCommit (cn, ru, fu, ch, dk, wt, ld, pl, st, kp) n).1 ∧ RX g w' ad (opCommit (cn, ru, fu, ch, dk, wt, ld, pl, st, kp) n).2) (gB g v) (gA g)) 316 15300 (gA g) := by
  refine gm_of (by decide) (Nat.le_of_ble_eq_true rfl) ?_
  intro p e s m below meth c ls C hnm h hl
  have C : Cx g p s m ([.ref (ad 0), .int n] : List Value).toArray meth c cX1_commit 7 RX1 (some .int) := C
  obtain ⟨hx, hb, hml, hown, hts, hr, hlk, hG⟩ := id C
  have hl : lv_has ls 7 [(0, .ref (ad 0)), (1, .int n)] := hl
  obtain ⟨fP, fl, lb, wE, sE, kE, hX⟩ := id hR
  obtain ⟨⟨x0, x1, x2, x3⟩, hQW, hQS, hQK, hLL, hLi, hpl, hXD, h8⟩ := id hX
  obtain ⟨i1, i2, i3, i4, i5, i6, i7, i8, i9⟩ := id hI
  have n01 : ad 0 ≠ ad 1 := g_ne x0 x1 (kn_ne (show 0 ≠ 100 + 32 * cn by omega))
  have n02 : ad 0 ≠ ad 2 := g_ne x0 x2 (kn_ne (show 0 ≠ 130 by omega))
  have n03 : ad 0 ≠ ad 3 := g_ne x0 x3 (kn_ne (show 0 ≠ 50 by omega))
  have n12 : ad 1 ≠ ad 2 := g_ne x1 x2 (kn_ne (show 100 + 32 * cn ≠ 130 by omega))
  have n13 : ad 1 ≠ ad 3 := g_ne x1 x3 (kn_ne (show 100 + 32 * cn ≠ 50 by omega))
  have n23 : ad 2 ≠ ad 3 := g_ne x2 x3 (kn_ne (show 130 ≠ 50 by omega))
  refine lv_aload_n hx hb dX1_commit_0 rfl (lv_at hl 0 rfl) ?_
  refine gx_get C h x0 (Cn := RX1) (T := TX1) (N := 10) rfl in_X1 2 (by decide) q217 rfl rfl dX1_commit_1 ?_
  refine lv_if_eq (tgt := 14) hx hb dX1_commit_4 (by decide) (fun c1 => ?_) (fun c1 => ?_)
  · skip
    have c1 : ru = false := bI_eq0.mp c1
    refine lv_bipush (v := (-3)) hx hb dX1_commit_14 (by decide) ?_
    have eq : opCommit (cn, ru, fu, ch, dk, wt, ld, pl, st, kp) n = (-3, (cn, ru, fu, ch, dk, wt, ld, pl, st, kp)) := by unfold opCommit; dsimp only; rw [if_pos (Or.inl c1)]
    exact gr_i C h (ty := .int) rfl (rfl) (by rw [eq]; exact ⟨rfl, fP, fl, lb, wE, sE, kE, hX⟩) (Nat.le_of_ble_eq_true rfl) (Nat.le_of_ble_eq_true rfl) dX1_commit_16
  · skip
    have c1 : ru = true := bI_ne0.mp c1
    refine lv_aload_n hx hb dX1_commit_7 rfl (lv_at hl 0 rfl) ?_
    refine gx_get C h x0 (Cn := RX1) (T := TX1) (N := 10) rfl in_X1 6 (by decide) q221 rfl rfl dX1_commit_8 ?_
    refine lv_if_ne (tgt := 17) hx hb dX1_commit_11 (by decide) (fun c2 => ?_) (fun c2 => ?_)
    · skip
      have c2 : ch = true := bI_ne0.mp c2
      have hrc : ¬ (ru = false ∨ ch = false) := by rw [c1, c2]; decide
      refine lv_iload_n hx hb dX1_commit_17 rfl (lv_at hl 1 rfl) ?_
      refine lv_aload_n hx hb dX1_commit_18 rfl (lv_at hl 0 rfl) ?_
      refine gc_q (va_runV (As := []) (rest := [.int n]) C.fix (m_X1_latest l g w v ad cn ru fu ch dk wt ld pl st kp fP fl lb wE sE kE hX i6) (cwV 0 hts (lw_V q462 q464 qs17 q43 q465) rfl rfl rfl (by decide +kernel) ⟨Nat.le_of_ble_eq_true rfl, Nat.le_of_ble_eq_true rfl⟩) (gp_V C h [] (Cn := RX1) (T := TX1) (N := 10) rfl x0) rfl rfl hl.1 rfl (lv_room (Nat.le_of_ble_eq_true rfl)) dX1_commit_19 ⟨Nat.le_of_ble_eq_true rfl, Nat.le_of_ble_eq_true rfl⟩) h (fun r_1 w_2 H locs hp h => ?_)
      obtain ⟨e1, re1, fe1, xe1⟩ := hp
      rw [re1]
      rw [xe1] at h
      refine gc_i (va_runV (As := []) (rest := [.int n]) C.fix (m_X2_number l g w v e1 (lastS st).1 (lastS st).2 fe1) (cwV 0 hts (lw_V q476 q477 q478 q50 q479) rfl rfl rfl (by decide +kernel) ⟨Nat.le_of_ble_eq_true rfl, Nat.le_of_ble_eq_true rfl⟩) (gp_V C h [] (Cn := RX2) (T := TX2) (N := 2) rfl fe1) rfl rfl hl.1 rfl (lv_room (Nat.le_of_ble_eq_true rfl)) dX1_commit_22 ⟨Nat.le_of_ble_eq_true rfl, Nat.le_of_ble_eq_true rfl⟩) h (fun r_3 w_4 H locs hp h => ?_)
      obtain ⟨er_r_3, ew_r_3⟩ := hp
      rw [er_r_3]
      rw [ew_r_3] at h
      refine lv_icmp_le (tgt := 34) hx hb dX1_commit_25 (by decide) (fun c3 => ?_) (fun c3 => ?_)
      · skip
        refine lv_bipush (v := (-2)) hx hb dX1_commit_34 (by decide) ?_
        have eq : opCommit (cn, ru, fu, ch, dk, wt, ld, pl, st, kp) n = (-2, (cn, ru, fu, ch, dk, wt, ld, pl, st, kp)) := by unfold opCommit; dsimp only; rw [if_neg hrc, if_pos (Or.inl c3)]
        exact gr_i C h (ty := .int) rfl (rfl) (by rw [eq]; exact ⟨rfl, fP, fl, lb, wE, sE, kE, hX⟩) (Nat.le_of_ble_eq_true rfl) (Nat.le_of_ble_eq_true rfl) dX1_commit_36
      · skip
        refine lv_iload_n hx hb dX1_commit_28 rfl (lv_at hl 1 rfl) ?_
        refine lv_ldc (v := 1000000) hx hb hown (hts _ q480) dX1_commit_29 ?_
        refine lv_icmp_le (tgt := 37) hx hb dX1_commit_31 (by decide) (fun c4 => ?_) (fun c4 => ?_)
        · skip
          have hnn : ¬ (n ≤ (lastS st).1 ∨ 1000000 < n) := fun q => q.elim c3 (fun q => Int32.not_lt.mpr c4 q)
          obtain ⟨wn, wf, wh, ws, hDw, hWL⟩ := id hQW
          have hwl := hWL.1
          refine lv_aload_n hx hb dX1_commit_37 rfl (lv_at hl 0 rfl) ?_
          refine gx_get C h x0 (Cn := RX1) (T := TX1) (N := 10) rfl in_X1 7 (by decide) q222 rfl rfl dX1_commit_38 ?_
          refine gc_i (va_runV (As := []) (rest := []) C.fix (m_J1_size l g w v (ad 4) wE wn wf wh ws hDw) (cwV 0 hts (lw_V q481 q273 q274 q45 q275) rfl rfl rfl (by decide +kernel) ⟨Nat.le_of_ble_eq_true rfl, Nat.le_of_ble_eq_true rfl⟩) (gp_V C h [] (Cn := RJ1) (T := TJ1) (N := 3) rfl hDw.1) rfl rfl hl.1 rfl (lv_room (Nat.le_of_ble_eq_true rfl)) dX1_commit_41 ⟨Nat.le_of_ble_eq_true rfl, Nat.le_of_ble_eq_true rfl⟩) h (fun r_5 w_6 H locs hp h => ?_)
          obtain ⟨er_r_5, ew_r_5⟩ := hp
          rw [er_r_5]
          rw [ew_r_5] at h
          refine lv_istore_n (lv' := [(2, .int (nI ws.length)), (0, .ref (ad 0)), (1, .int n)]) hx hb dX1_commit_44 rfl hl (by decide) rfl (fun ls hl => ?_)
          refine lv_iconst (v := nI 2) hx hb dX1_commit_45 (by decide) ?_
          refine lv_istore_n (lv' := [(3, .int (nI 2)), (2, .int (nI ws.length)), (0, .ref (ad 0)), (1, .int n)]) hx hb dX1_commit_46 rfl hl (by decide) rfl (fun ls hl => ?_)
          rw [hwl] at hl
          have hI2 : InvK (cn, ru, fu, ch, dk, (wt ++ comW ld n (cn - 2)), (fun _ => none), pl, st, kp) := ⟨i1, i2, (fun k d q => by cases q), (fun x hx => (List.mem_append.mp hx).elim (i4 x) (fun q => by have := comW_mem _ q; exact ⟨by omega, fun _ => by omega⟩)), i5, i6, i7, i8, i9⟩
          have loop2 : ∀ (n_ : Nat) (i cc cs : Nat) (fl2 : Nat → Option Nat) (wE2 : Nat) (w1 : GW) (H : Heap) (locs : List Loc) (ls : Array Slot), (cn - 2) - i < n_ → (i ≤ cn - 2) → (cc ≤ 124 + 3 * i) → (cs ≤ 12524 + 37 * i) → (XW g w1 ad cn ru fu ch dk ((wt ++ comW ld n (cn - 2))) (fun _ => none) pl st kp fP fl2 lb wE2 sE kE) → SH g w1 v s H locs → lv_has ls 7 [(0, .ref (ad 0)), (1, .int n), (2, .int (nI wt.length)), (3, .long ((openL pl 30))), (5, .int (comX dk (wt ++ comW ld n (cn - 2)) (openL pl 30) i)), (6, .int (nI (2 + i)))] → W p l e ({ frames := 8, cells := 316, slots := 15300, locals := 480 } : Room) s m ([.ref (ad 0), .int n] : List Value).toArray below meth c H locs cc cs (MQ below (va_Qi (fun (r : Int32) (w' : GW) => r = (opCommit (cn, ru, fu, ch, dk, wt, ld, pl, st, kp) n).1 ∧ RX g w' ad (opCommit (cn, ru, fu, ch, dk, wt, ld, pl, st, kp) n).2) (gB g v) (gA g)) ([.ref (ad 0), .int n] : List Value).toArray s 316 15300 (gA g)) (F0 m 134 ls []) := by
            intro n_
            induction n_ with
            | zero => intros; exact absurd ‹_ < 0› (Nat.not_lt_zero _)
            | succ n_ ih =>
              intro i cc cs fl2 wE2 w1 H locs ls hf hi hc1 hc2 hX1  h hl
              obtain ⟨⟨y0, y1, y2, y3⟩, hQW, hQS, hQK, hLL, hLi, hpl_, hXD, -⟩ := id hX1
              obtain ⟨wn, wf, wh, ws, hDw, hWL⟩ := id hQW
              refine lv_iload hx hb dX1_commit_134 (lv_at hl 5 rfl) ?_
              refine lv_aload_n hx hb dX1_commit_136 rfl (lv_at hl 0 rfl) ?_
              refine gx_get C h y0 (Cn := RX1) (T := TX1) (N := 10) rfl in_X1 1 (by decide) q216 rfl rfl dX1_commit_137 ?_
              refine lv_icmp_ge (tgt := 175) hx hb dX1_commit_140 (by decide) (fun c5 => ?_) (fun c5 => ?_)
              · skip
                have c5 : cn ≤ (2 + i) := (nI_leI (by omega) (by omega)).mp c5
                have hie : i = cn - 2 := by omega
                subst hie
                have hwl2 := hWL.1
                have hcl := comW_len ld n (i := cn - 2) (by omega)
                have hl : lv_has ls 7 [(0, .ref (ad 0)), (1, .int n), (2, .int (nI wt.length)), (3, .long ((openL pl 30))), (5, .int (comX dk (wt ++ comW ld n (cn - 2)) (openL pl 30) (cn - 2))), (6, .int (nI (2 + (cn - 2))))] := hl
                obtain ⟨sn, sf, sh, ss, hDs, hSL⟩ := id hQS
                have hsl2 := hSL.1
                refine gx_new C h (ci := 1) (fs := [.null]) (Cn := RX4) (T := TX4) (N := 1) rfl in_X4 tyX4 tyX4_ok q78 q343 q55 (fun j hj => by rcases (show j = 0 by omega) with rfl <;> rfl) (by show cc + 1 ≤ 316; omega) (by show cs + 1 ≤ 15300; omega) dX1_commit_175 (fun a H hn_7 hn_7v h => ?_)
                obtain ⟨w_8, ew_8⟩ : ∃ z_ : GW, z_ = gu w1 a (ob 1 [.null]) := ⟨_, rfl⟩
                have h : SH g w_8 v s H locs := by rw [ew_8]; exact h
                have f_9 : w_8 (ad 0) = some (ob 0 [.ref (ad 1), .int (nI cn), .int (bI ru), .int (bI fu), .ref (ad 2), .ref (ad 3), .int (bI ch), .ref (ad 4), .ref (ad 5), .ref (ad 6)]) := by rw [ew_8]; exact (gu_n (g_neN y0 hn_7)).trans y0
                have f_10 : w_8 (ad 1) = some (eB g (32 * cn) dk) := by rw [ew_8]; exact (gu_n (g_neN y1 hn_7)).trans y1
                have f_11 : w_8 (ad 2) = some (eI g 30 fP) := by rw [ew_8]; exact (gu_n (g_neN y2 hn_7)).trans y2
                have f_12 : w_8 (ad 3) = some (eS g 64 fl2) := by rw [ew_8]; exact (gu_n (g_neN y3 hn_7)).trans y3
                have f_13 : w_8 a = some (ob 1 [.null]) := by rw [ew_8]; exact gu_s
                refine lv_dup hx hb dX1_commit_178 rfl ?_
                refine gc_v (va_runIN (As := []) (rest := [.ref a]) C.fix (m_X4_init l g w_8 v a f_13) ⟨va_cnB 0 hts (lw_meth q346) rfl rfl rfl (hG.2.2.1 _ q344 rfl) (hts _ q55) (by decide +kernel) ⟨Nat.le_of_ble_eq_true rfl, Nat.le_of_ble_eq_true rfl⟩, rfl, hts _ q345⟩ (gp_S C h _) rfl rfl hl.1 rfl (lv_room (Nat.le_of_ble_eq_true rfl)) dX1_commit_179 ⟨(by show cc + 1 + 1 ≤ 316; omega), (by show cs + 1 + 32 ≤ 15300; omega)⟩) h (fun w_15 H locs hpa h => ?_)
                obtain ⟨b, b1, b2, b3⟩ := hpa
                have nab : a ≠ b := g_neN f_13 b1
                have b0 : w1 b = none := by have q := b1; rw [ew_8, gu_n (Ne.symm nab)] at q; exact q
                have xa : Ext w1 w_15 := by rw [b3, ew_8]; exact ((XK.rfl'.putn hn_7).putn b0).putn hn_7
                have fa : w_15 a = some (ob 1 [.ref b]) := by rw [b3]; exact gu_s
                have fb : w_15 b = some (eB g 32 (fun _ => 0)) := by rw [b3]; exact (gu_n (Ne.symm nab)).trans gu_s
                refine lv_astore (lv' := [(6, .ref a), (0, .ref (ad 0)), (1, .int n), (2, .int (nI wt.length)), (3, .long ((openL pl 30))), (5, .int (comX dk (wt ++ comW ld n (cn - 2)) (openL pl 30) (cn - 2)))]) hx hb dX1_commit_182 hl (by decide) rfl (fun ls hl => ?_)
                refine lv_aload hx hb dX1_commit_184 (lv_at hl 0 rfl) ?_
                refine gx_getN C h fa (Cn := RX4) (T := TX4) (N := 1) rfl in_X4 0 (by decide) q349 rfl rfl dX1_commit_186 ?_
                refine lv_iconst (v := nI 4) hx hb dX1_commit_189 (by decide) ?_
                refine lv_bipush (v := nI 9) hx hb dX1_commit_190 (by decide) ?_
                refine gx_bast C h fb 4 (rfl) (by omega) dX1_commit_192 (fun H locs h => ?_)
                obtain ⟨w_16, ew_16⟩ : ∃ z_ : GW, z_ = gu w_15 b (eB g 32 (va_up (fun _ => 0) 4 9)) := ⟨_, rfl⟩
                have h : SH g w_16 v s H locs := by rw [ew_16]; exact h
                have f_17 : w_16 a = some (ob 1 [.ref b]) := by rw [ew_16]; exact (gu_n nab).trans fa
                have f_18 : w_16 b = some (eB g 32 (va_up (fun _ => 0) 4 9)) := by rw [ew_16]; exact gu_s
                have hE_19 : Ext w1 w_16 := by rw [ew_16]; exact XK.putn xa b0
                refine lv_aload hx hb dX1_commit_193 (lv_at hl 0 rfl) ?_
                refine lv_bipush (v := nI 8) hx hb dX1_commit_195 (by decide) ?_
                refine lv_lload_n hx hb dX1_commit_197 rfl (lv_at hl 4 rfl) ?_
                refine gc_v (va_runVN (As := [.int (nI 8), .long ((openL pl 30))]) (rest := []) C.fix (m_X4_setWide l g w_16 v a b (va_up (fun _ => 0) 4 9) f_17 f_18 8 (openL pl 30) (by omega)) ⟨va_cnB 2 hts (lw_meth q433) rfl rfl rfl (hG.2.2.1 _ q500 rfl) (hts _ q55) (by decide +kernel) ⟨Nat.le_of_ble_eq_true rfl, Nat.le_of_ble_eq_true rfl⟩, hts _ q432, hts _ qs14⟩ (gp_V C h [.int (nI 8), .long ((openL pl 30))] (Cn := RX4) (T := TX4) (N := 1) rfl f_17) rfl rfl hl.1 rfl (lv_room (Nat.le_of_ble_eq_true rfl)) dX1_commit_198 ⟨(by show cc + 1 + 1 + 0 ≤ 316; omega), (by show cs + 1 + 32 + 0 ≤ 15300; omega)⟩) h (fun w_21 H locs hp h => ?_)
                have ew_22 : w_21 = gu w_16 b (eB g 32 (setWB (va_up (fun _ => 0) 4 9) 8 (openL pl 30))) := hp
                have f_23 : w_21 a = some (ob 1 [.ref b]) := by rw [ew_22]; exact (gu_n nab).trans f_17
                have f_24 : w_21 b = some (eB g 32 (setWB (va_up (fun _ => 0) 4 9) 8 (openL pl 30))) := by rw [ew_22]; exact gu_s
                have hE_25 : Ext w1 w_21 := by rw [ew_22]; exact XK.putn hE_19 b0
                refine lv_aload hx hb dX1_commit_201 (lv_at hl 0 rfl) ?_
                refine lv_bipush (v := nI 16) hx hb dX1_commit_203 (by decide) ?_
                refine lv_iload_n hx hb dX1_commit_205 rfl (lv_at hl 2 rfl) ?_
                refine gc_v (va_runVN (As := [.int (nI 16), .int n]) (rest := []) C.fix (m_X4_set l g w_21 v a b (setWB (va_up (fun _ => 0) 4 9) 8 (openL pl 30)) f_23 f_24 16 n (by omega)) ⟨va_cnB 2 hts (lw_meth q437) rfl rfl rfl (hG.2.2.1 _ q482 rfl) (hts _ q55) (by decide +kernel) ⟨Nat.le_of_ble_eq_true rfl, Nat.le_of_ble_eq_true rfl⟩, hts _ q436, hts _ qs15⟩ (gp_V C h [.int (nI 16), .int n] (Cn := RX4) (T := TX4) (N := 1) rfl f_23) rfl rfl hl.1 rfl (lv_room (Nat.le_of_ble_eq_true rfl)) dX1_commit_206 ⟨(by show cc + 1 + 1 + 0 + 0 ≤ 316; omega), (by show cs + 1 + 32 + 0 + 0 ≤ 15300; omega)⟩) h (fun w_27 H locs hp h => ?_)
                have ew_28 : w_27 = gu w_21 b (eB g 32 (setB (setWB (va_up (fun _ => 0) 4 9) 8 (openL pl 30)) 16 n)) := hp
                have f_29 : w_27 a = some (ob 1 [.ref b]) := by rw [ew_28]; exact (gu_n nab).trans f_23
                have f_30 : w_27 b = some (eB g 32 (setB (setWB (va_up (fun _ => 0) 4 9) 8 (openL pl 30)) 16 n)) := by rw [ew_28]; exact gu_s
                have hE_31 : Ext w1 w_27 := by rw [ew_28]; exact XK.putn hE_25 b0
                refine lv_aload hx hb dX1_commit_209 (lv_at hl 0 rfl) ?_
                refine lv_bipush (v := nI 20) hx hb dX1_commit_211 (by decide) ?_
                refine lv_iload hx hb dX1_commit_213 (lv_at hl 5 rfl) ?_
                refine gc_v (va_runVN (As := [.int (nI 20), .int (comX dk (wt ++ comW ld n (cn - 2)) (openL pl 30) (cn - 2))]) (rest := []) C.fix (m_X4_set l g w_27 v a b (setB (setWB (va_up (fun _ => 0) 4 9) 8 (openL pl 30)) 16 n) f_29 f_30 20 (comX dk (wt ++ comW ld n (cn - 2)) (openL pl 30) (cn - 2)) (by omega)) ⟨va_cnB 2 hts (lw_meth q437) rfl rfl rfl (hG.2.2.1 _ q482 rfl) (hts _ q55) (by decide +kernel) ⟨Nat.le_of_ble_eq_true rfl, Nat.le_of_ble_eq_true rfl⟩, hts _ q436, hts _ qs15⟩ (gp_V C h [.int (nI 20), .int (comX dk (wt ++ comW ld n (cn - 2)) (openL pl 30) (cn - 2))] (Cn := RX4) (T := TX4) (N := 1) rfl f_29) rfl rfl hl.1 rfl (lv_room (Nat.le_of_ble_eq_true rfl)) dX1_commit_215 ⟨(by show cc + 1 + 1 + 0 + 0 + 0 ≤ 316; omega), (by show cs + 1 + 32 + 0 + 0 + 0 ≤ 15300; omega)⟩) h (fun w_33 H locs hp h => ?_)
                have ew_34 : w_33 = gu w_27 b (eB g 32 (setB (setB (setWB (va_up (fun _ => 0) 4 9) 8 (openL pl 30)) 16 n) 20 (comX dk (wt ++ comW ld n (cn - 2)) (openL pl 30) (cn - 2)))) := hp
                have f_35 : w_33 a = some (ob 1 [.ref b]) := by rw [ew_34]; exact (gu_n nab).trans f_29
                have f_36 : w_33 b = some (eB g 32 (setB (setB (setWB (va_up (fun _ => 0) 4 9) 8 (openL pl 30)) 16 n) 20 (comX dk (wt ++ comW ld n (cn - 2)) (openL pl 30) (cn - 2)))) := by rw [ew_34]; exact gu_s
                have hE_37 : Ext w1 w_33 := by rw [ew_34]; exact XK.putn hE_31 b0
                refine lv_aload hx hb dX1_commit_218 (lv_at hl 0 rfl) ?_
                refine gc_v (va_runV (As := []) (rest := []) C.fix (m_X4_close l g w_33 v a b (setB (setB (setWB (va_up (fun _ => 0) 4 9) 8 (openL pl 30)) 16 n) 20 (comX dk (wt ++ comW ld n (cn - 2)) (openL pl 30) (cn - 2))) f_35 f_36) (cwV 0 hts (lw_V q483 q484 q485 q55 q486) rfl rfl rfl (by decide +kernel) ⟨Nat.le_of_ble_eq_true rfl, Nat.le_of_ble_eq_true rfl⟩) (gp_V C h [] (Cn := RX4) (T := TX4) (N := 1) rfl f_35) rfl rfl hl.1 rfl (lv_room (Nat.le_of_ble_eq_true rfl)) dX1_commit_220 ⟨(by show cc + 1 + 1 + 0 + 0 + 0 + 0 ≤ 316; omega), (by show cs + 1 + 32 + 0 + 0 + 0 + 0 ≤ 15300; omega)⟩) h (fun w_39 H locs hp h => ?_)
                have ew_40 : w_39 = gu w_33 b (eB g 32 (headC (openL pl 30) n (comX dk (wt ++ comW ld n (cn - 2)) (openL pl 30) (cn - 2)))) := hp
                have f_41 : w_39 a = some (ob 1 [.ref b]) := by rw [ew_40]; exact (gu_n nab).trans f_35
                have f_42 : w_39 b = some (eB g 32 (headC (openL pl 30) n (comX dk (wt ++ comW ld n (cn - 2)) (openL pl 30) (cn - 2)))) := by rw [ew_40]; exact gu_s
                have hE_43 : Ext w1 w_39 := by rw [ew_40]; exact XK.putn hE_37 b0
                have hX4 := hX1.ext hE_43
                obtain ⟨⟨u0, u1, u2, u3⟩, hQW, hQS, hQK, hLL, hLi, hpl_, hXD, -⟩ := id hX4
                obtain ⟨wn, wf, wh, ws, hDw, hWL⟩ := id hQW
                have hwl2 := hWL.1
                refine lv_aload_n hx hb dX1_commit_223 rfl (lv_at hl 1 rfl) ?_
                refine gx_get C h u0 (Cn := RX1) (T := TX1) (N := 10) rfl in_X1 7 (by decide) q222 rfl rfl dX1_commit_224 ?_
                refine gx_new C h (ci := 3) (fs := [.int (nI 0), .null]) (Cn := RX5) (T := TX5) (N := 2) rfl in_X5 tyX5 tyX5_ok q330 q487 q60 (fun j hj => by rcases (show j = 0 ∨ j = 1 by omega) with rfl | rfl <;> rfl) (by show cc + 1 + 1 + 0 + 0 + 0 + 0 + 1 ≤ 316; omega) (by show cs + 1 + 32 + 0 + 0 + 0 + 0 + 2 ≤ 15300; omega) dX1_commit_227 (fun a2 H hn_44 hn_44v h => ?_)
                obtain ⟨w_45, ew_45⟩ : ∃ z_ : GW, z_ = gu w_39 a2 (ob 3 [.int (nI 0), .null]) := ⟨_, rfl⟩
                have h : SH g w_45 v s H locs := by rw [ew_45]; exact h
                have f_46 : w_45 (ad 0) = some (ob 0 [.ref (ad 1), .int (nI cn), .int (bI ru), .int (bI fu), .ref (ad 2), .ref (ad 3), .int (bI ch), .ref (ad 4), .ref (ad 5), .ref (ad 6)]) := by rw [ew_45]; exact (gu_n (g_neN u0 hn_44)).trans u0
                have f_47 : w_45 (ad 1) = some (eB g (32 * cn) dk) := by rw [ew_45]; exact (gu_n (g_neN u1 hn_44)).trans u1
                have f_48 : w_45 (ad 2) = some (eI g 30 fP) := by rw [ew_45]; exact (gu_n (g_neN u2 hn_44)).trans u2
                have f_49 : w_45 (ad 3) = some (eS g 64 fl2) := by rw [ew_45]; exact (gu_n (g_neN u3 hn_44)).trans u3
                have f_50 : w_45 a = some (ob 1 [.ref b]) := by rw [ew_45]; exact (gu_n (g_neN f_41 hn_44)).trans f_41
                have f_51 : w_45 b = some (eB g 32 (headC (openL pl 30) n (comX dk (wt ++ comW ld n (cn - 2)) (openL pl 30) (cn - 2)))) := by rw [ew_45]; exact (gu_n (g_neN f_42 hn_44)).trans f_42
                have f_52 : w_45 (ad 4) = some (ob 5 [.ref wE2, .int (nI wh), .int (nI (wr wn (wh + ws.length)))]) := by rw [ew_45]; exact (gu_n (g_neN hDw.1 hn_44)).trans hDw.1
                have f_53 : w_45 wE2 = some (eO g wn wf) := by rw [ew_45]; exact (gu_n (g_neN hDw.2.1 hn_44)).trans hDw.2.1
                have f_54 : w_45 a2 = some (ob 3 [.int (nI 0), .null]) := by rw [ew_45]; exact gu_s
                refine lv_dup hx hb dX1_commit_230 rfl ?_
                refine lv_iload_n hx hb dX1_commit_231 rfl (lv_at hl 2 rfl) ?_
                refine lv_iconst (v := nI 1) hx hb dX1_commit_232 (by decide) ?_
                refine lv_iand hx hb dX1_commit_233 ?_
                refine lv_aload hx hb dX1_commit_234 (lv_at hl 0 rfl) ?_
                refine gc_v (va_runIN (As := [.int (n &&& (nI 1)), .ref a]) (rest := [.ref a2, .ref (ad 4)]) C.fix (m_X5_init l g w_45 v a2 (n &&& nI 1) a f_54) ⟨va_cnB 2 hts (lw_meth q490) rfl rfl rfl (hG.2.2.1 _ q488 rfl) (hts _ q60) (by decide +kernel) ⟨Nat.le_of_ble_eq_true rfl, Nat.le_of_ble_eq_true rfl⟩, rfl, hts _ q489⟩ (gp_S C h _) rfl rfl hl.1 rfl (lv_room (Nat.le_of_ble_eq_true rfl)) dX1_commit_236 ⟨(by show cc + 1 + 1 + 0 + 0 + 0 + 0 + 1 + 0 ≤ 316; omega), (by show cs + 1 + 32 + 0 + 0 + 0 + 0 + 2 + 0 ≤ 15300; omega)⟩) h (fun w_56 H locs hpa2 h => ?_)
                have xa2 : Ext w_39 w_56 := by rw [hpa2, ew_45]; exact (XK.rfl'.putn hn_44).putn hn_44
                have fa2 : w_56 a2 = some (ob 3 [.int (n &&& nI 1), .ref a]) := by rw [hpa2]; exact gu_s
                have f_57 : w_56 (ad 0) = some (ob 0 [.ref (ad 1), .int (nI cn), .int (bI ru), .int (bI fu), .ref (ad 2), .ref (ad 3), .int (bI ch), .ref (ad 4), .ref (ad 5), .ref (ad 6)]) := xa2.of u0
                have f_58 : w_56 (ad 1) = some (eB g (32 * cn) dk) := xa2.of u1
                have f_59 : w_56 (ad 2) = some (eI g 30 fP) := xa2.of u2
                have f_60 : w_56 (ad 3) = some (eS g 64 fl2) := xa2.of u3
                have f_61 : w_56 a = some (ob 1 [.ref b]) := xa2.of f_41
                have f_62 : w_56 b = some (eB g 32 (headC (openL pl 30) n (comX dk (wt ++ comW ld n (cn - 2)) (openL pl 30) (cn - 2)))) := xa2.of f_42
                have f_63 : w_56 (ad 4) = some (ob 5 [.ref wE2, .int (nI wh), .int (nI (wr wn (wh + ws.length)))]) := xa2.of hDw.1
                have f_64 : w_56 wE2 = some (eO g wn wf) := xa2.of hDw.2.1
                have hX_65 := hX4.ext xa2
                have hDw := hDw.kept (f_63.trans hDw.1.symm) (f_64.trans hDw.2.1.symm)
                have hWL := hWL.fr xa2 trivial trivial trivial
                refine gc_i (va_runV (As := [.ref a2]) (rest := []) C.fix (m_J1_add l g w_56 v (ad 4) wE2 wn wf wh ws hDw a2 _ 3 (RX5, TX5, 2) rfl q955 fa2 (WL.cls hWL) (by rw [hwl2, List.length_append]; omega) (by decide)) (cwV 1 hts (lw_V q161 q162 q163 q45 q164) rfl rfl rfl (by decide +kernel) ⟨Nat.le_of_ble_eq_true rfl, Nat.le_of_ble_eq_true rfl⟩) (gp_V C h [.ref a2] (Cn := RJ1) (T := TJ1) (N := 3) rfl f_63) rfl rfl hl.1 rfl (lv_room (Nat.le_of_ble_eq_true rfl)) dX1_commit_239 ⟨(by show cc + 1 + 1 + 0 + 0 + 0 + 0 + 1 + 0 + 1 ≤ 316; omega), (by show cs + 1 + 32 + 0 + 0 + 0 + 0 + 2 + 0 + 200 ≤ 15300; omega)⟩) h (fun r_66 w_67 H locs hpA h => ?_)
                obtain ⟨Ar, AE, An, Af, Ah, AD, Ae, Ak⟩ := hpA
                rw [Ar]
                have hn0 : n &&& nI 1 = nI (n.toNatClampNeg % 2) := and1_mod (Int32.le_of_lt (Int32.lt_of_le_of_lt (i7 _ (lastS_mem i6)).1 (Int32.not_le.mp c3)))
                rw [hn0] at fa2
                have hX5 : XW g w_67 ad cn ru fu ch dk (((wt ++ comW ld n (cn - 2)) ++ [(n.toNatClampNeg % 2, headC (openL pl 30) n (comX dk (wt ++ comW ld n (cn - 2)) (openL pl 30) (cn - 2)))])) (fun _ => none) pl st kp fP fl2 lb AE sE kE := hX_65.setW ⟨An, Af, Ah, _, AD, WL.snoc hWL (fun x e_ hx k5 k50 => (Ak x (g_ne hx hDw.1 (kn_ne k5)) (g_ne hx hDw.2.1 (kn_ne k50)) (Ae.elim (fun q => by rw [q]; exact g_ne hx hDw.2.1 (kn_ne k50)) (fun q => g_neN hx q.1))).trans hx) fa2 f_61 f_62 (fun j _ q => by cases q)⟩ (Ae.imp_right And.left) Ak
                obtain ⟨⟨u0, u1, u2, u3⟩, -, hQS, -⟩ := id hX5
                obtain ⟨sn, sf, sh, ss, hDs, hSL⟩ := id hQS
                have hsl2 := hSL.1
                refine lv_pop hx hb dX1_commit_242 rfl ?_
                refine lv_aload_n hx hb dX1_commit_243 rfl (lv_at hl 1 rfl) ?_
                refine gx_get C h u0 (Cn := RX1) (T := TX1) (N := 10) rfl in_X1 8 (by decide) q223 rfl rfl dX1_commit_244 ?_
                refine gx_new C h (ci := 2) (fs := [.int (nI 0), .long 0]) (Cn := RX2) (T := TX2) (N := 2) rfl in_X2 tyX2 tyX2_ok q133 q134 q50 (fun j hj => by rcases (show j = 0 ∨ j = 1 by omega) with rfl | rfl <;> rfl) (by show cc + 1 + 1 + 0 + 0 + 0 + 0 + 1 + 0 + 1 + 1 ≤ 316; omega) (by show cs + 1 + 32 + 0 + 0 + 0 + 0 + 2 + 0 + 200 + 2 ≤ 15300; omega) dX1_commit_247 (fun a3 H hn_68 hn_68v h => ?_)
                obtain ⟨w_69, ew_69⟩ : ∃ z_ : GW, z_ = gu w_67 a3 (ob 2 [.int (nI 0), .long 0]) := ⟨_, rfl⟩
                have h : SH g w_69 v s H locs := by rw [ew_69]; exact h
                have f_70 : w_69 (ad 0) = some (ob 0 [.ref (ad 1), .int (nI cn), .int (bI ru), .int (bI fu), .ref (ad 2), .ref (ad 3), .int (bI ch), .ref (ad 4), .ref (ad 5), .ref (ad 6)]) := by rw [ew_69]; exact (gu_n (g_neN u0 hn_68)).trans u0
                have f_71 : w_69 (ad 1) = some (eB g (32 * cn) dk) := by rw [ew_69]; exact (gu_n (g_neN u1 hn_68)).trans u1
                have f_72 : w_69 (ad 2) = some (eI g 30 fP) := by rw [ew_69]; exact (gu_n (g_neN u2 hn_68)).trans u2
                have f_73 : w_69 (ad 3) = some (eS g 64 fl2) := by rw [ew_69]; exact (gu_n (g_neN u3 hn_68)).trans u3
                have f_74 : w_69 (ad 5) = some (ob 5 [.ref sE, .int (nI sh), .int (nI (wr sn (sh + ss.length)))]) := by rw [ew_69]; exact (gu_n (g_neN hDs.1 hn_68)).trans hDs.1
                have f_75 : w_69 sE = some (eO g sn sf) := by rw [ew_69]; exact (gu_n (g_neN hDs.2.1 hn_68)).trans hDs.2.1
                have f_76 : w_69 a3 = some (ob 2 [.int (nI 0), .long 0]) := by rw [ew_69]; exact gu_s
                refine lv_dup hx hb dX1_commit_250 rfl ?_
                refine lv_iload_n hx hb dX1_commit_251 rfl (lv_at hl 2 rfl) ?_
                refine lv_lload_n hx hb dX1_commit_252 rfl (lv_at hl 4 rfl) ?_
                refine gc_v (va_runIN (As := [.int n, .long ((openL pl 30))]) (rest := [.ref a3, .ref (ad 5)]) C.fix (m_X2_init l g w_69 v a3 n (openL pl 30) f_76) ⟨va_cnB 2 hts (lw_meth q137) rfl rfl rfl (hG.2.2.1 _ q135 rfl) (hts _ q50) (by decide +kernel) ⟨Nat.le_of_ble_eq_true rfl, Nat.le_of_ble_eq_true rfl⟩, rfl, hts _ q136⟩ (gp_S C h _) rfl rfl hl.1 rfl (lv_room (Nat.le_of_ble_eq_true rfl)) dX1_commit_253 ⟨(by show cc + 1 + 1 + 0 + 0 + 0 + 0 + 1 + 0 + 1 + 1 + 0 ≤ 316; omega), (by show cs + 1 + 32 + 0 + 0 + 0 + 0 + 2 + 0 + 200 + 2 + 0 ≤ 15300; omega)⟩) h (fun w_78 H locs hpa3 h => ?_)
                have xa3 : Ext w_67 w_78 := by rw [hpa3, ew_69]; exact (XK.rfl'.putn hn_68).putn hn_68
                have fa3 : w_78 a3 = some (ob 2 [.int n, .long (openL pl 30)]) := by rw [hpa3]; exact gu_s
                have f_79 : w_78 (ad 0) = some (ob 0 [.ref (ad 1), .int (nI cn), .int (bI ru), .int (bI fu), .ref (ad 2), .ref (ad 3), .int (bI ch), .ref (ad 4), .ref (ad 5), .ref (ad 6)]) := xa3.of u0
                have f_80 : w_78 (ad 1) = some (eB g (32 * cn) dk) := xa3.of u1
                have f_81 : w_78 (ad 2) = some (eI g 30 fP) := xa3.of u2
                have f_82 : w_78 (ad 3) = some (eS g 64 fl2) := xa3.of u3
                have f_83 : w_78 (ad 5) = some (ob 5 [.ref sE, .int (nI sh), .int (nI (wr sn (sh + ss.length)))]) := xa3.of hDs.1
                have f_84 : w_78 sE = some (eO g sn sf) := xa3.of hDs.2.1
                have hX_85 := hX5.ext xa3
                have hDs := hDs.kept (f_83.trans hDs.1.symm) (f_84.trans hDs.2.1.symm)
                have hSL := hSL.fr xa3 trivial
                refine gc_i (va_runV (As := [.ref a3]) (rest := []) C.fix (m_J1_add l g w_78 v (ad 5) sE sn sf sh ss hDs a3 _ 2 (RX2, TX2, 2) rfl q951 fa3 (SL.cls hSL) (by omega) (by decide)) (cwV 1 hts (lw_V q161 q162 q163 q45 q164) rfl rfl rfl (by decide +kernel) ⟨Nat.le_of_ble_eq_true rfl, Nat.le_of_ble_eq_true rfl⟩) (gp_V C h [.ref a3] (Cn := RJ1) (T := TJ1) (N := 3) rfl f_83) rfl rfl hl.1 rfl (lv_room (Nat.le_of_ble_eq_true rfl)) dX1_commit_256 ⟨(by show cc + 1 + 1 + 0 + 0 + 0 + 0 + 1 + 0 + 1 + 1 + 0 + 1 ≤ 316; omega), (by show cs + 1 + 32 + 0 + 0 + 0 + 0 + 2 + 0 + 200 + 2 + 0 + 200 ≤ 15300; omega)⟩) h (fun r_86 w_87 H locs hpB h => ?_)
                obtain ⟨Br, BE, Bn, Bf, Bh, BD, Be, Bk⟩ := hpB
                rw [Br]
                have hX6 : XW g w_87 ad cn ru fu ch dk (((wt ++ comW ld n (cn - 2)) ++ [(n.toNatClampNeg % 2, headC (openL pl 30) n (comX dk (wt ++ comW ld n (cn - 2)) (openL pl 30) (cn - 2)))])) (fun _ => none) pl ((st ++ [(n, (openL pl 30))])) kp fP fl2 lb AE BE kE := hX_85.setS ⟨Bn, Bf, Bh, _, BD, SL.snoc hSL (fun x fs hx => (Bk x (g_ne hx hDs.1 (by simp)) (g_ne hx hDs.2.1 (by simp)) (Be.elim (fun q => by rw [q]; exact g_ne hx hDs.2.1 (by simp)) (fun q => g_neN hx q.1))).trans hx) fa3⟩ (Be.imp_right And.left) Bk
                obtain ⟨⟨v0, v1, v2, v3⟩, hQW, -⟩ := id hX6
                obtain ⟨wn, wf, wh, ws, hDw, hWL⟩ := id hQW
                refine lv_pop hx hb dX1_commit_259 rfl ?_
                refine lv_aload_n hx hb dX1_commit_260 rfl (lv_at hl 1 rfl) ?_
                refine lv_iconst (v := bI false) hx hb dX1_commit_261 (by decide) ?_
                refine gx_put C h v0 (Cn := RX1) (T := TX1) (N := 10) (x := .int (bI false)) rfl in_X1 tyX1 tyX1_ok nmX1 6 (by decide) q221 rfl rfl (bI_n _) (bI_f _) (Nat.le_of_ble_eq_true rfl) dX1_commit_262 (fun H locs h => ?_)
                obtain ⟨w_88, ew_88⟩ : ∃ z_ : GW, z_ = gu w_87 (ad 0) (ob 0 [.ref (ad 1), .int (nI cn), .int (bI ru), .int (bI fu), .ref (ad 2), .ref (ad 3), .int (bI false), .ref (ad 4), .ref (ad 5), .ref (ad 6)]) := ⟨_, rfl⟩
                have h : SH g w_88 v s H locs := by rw [ew_88]; exact h
                have f_89 : w_88 (ad 0) = some (ob 0 [.ref (ad 1), .int (nI cn), .int (bI ru), .int (bI fu), .ref (ad 2), .ref (ad 3), .int (bI false), .ref (ad 4), .ref (ad 5), .ref (ad 6)]) := by rw [ew_88]; exact gu_s
                have f_90 : w_88 (ad 1) = some (eB g (32 * cn) dk) := by rw [ew_88]; exact (gu_n (Ne.symm n01)).trans v1
                have f_91 : w_88 (ad 2) = some (eI g 30 fP) := by rw [ew_88]; exact (gu_n (Ne.symm n02)).trans v2
                have f_92 : w_88 (ad 3) = some (eS g 64 fl2) := by rw [ew_88]; exact (gu_n (Ne.symm n03)).trans v3
                have f_93 : w_88 (ad 4) = some (ob 5 [.ref AE, .int (nI wh), .int (nI (wr wn (wh + ws.length)))]) := by rw [ew_88]; exact (gu_n (g_ne hDw.1 v0 (by simp))).trans hDw.1
                have f_94 : w_88 AE = some (eO g wn wf) := by rw [ew_88]; exact (gu_n (g_ne hDw.2.1 v0 (by simp))).trans hDw.2.1
                have hK7 : XK (fun k => k ≠ 0) w_87 w_88 := by rw [ew_88]; exact XK.put XK.rfl' v0 (by simp [kn])
                have hX7 : XW g w_88 ad cn ru fu false dk (((wt ++ comW ld n (cn - 2)) ++ [(n.toNatClampNeg % 2, headC (openL pl 30) n (comX dk (wt ++ comW ld n (cn - 2)) (openL pl 30) (cn - 2)))])) (fun _ => none) pl ((st ++ [(n, (openL pl 30))])) kp fP fl2 lb AE BE kE := hX6.core hK7 (by simp) ⟨f_89, f_90, f_91, f_92⟩ hpl
                have hDw := hDw.kept (f_93.trans hDw.1.symm) (f_94.trans hDw.2.1.symm)
                refine lv_aload_n hx hb dX1_commit_265 rfl (lv_at hl 1 rfl) ?_
                refine gx_get C h f_89 (Cn := RX1) (T := TX1) (N := 10) rfl in_X1 7 (by decide) q222 rfl rfl dX1_commit_266 ?_
                refine gc_i (va_runV (As := []) (rest := []) C.fix (m_J1_size l g w_88 v (ad 4) AE wn wf wh ws hDw) (cwV 0 hts (lw_V q481 q273 q274 q45 q275) rfl rfl rfl (by decide +kernel) ⟨Nat.le_of_ble_eq_true rfl, Nat.le_of_ble_eq_true rfl⟩) (gp_V C h [] (Cn := RJ1) (T := TJ1) (N := 3) rfl f_93) rfl rfl hl.1 rfl (lv_room (Nat.le_of_ble_eq_true rfl)) dX1_commit_269 ⟨(by show cc + 1 + 1 + 0 + 0 + 0 + 0 + 1 + 0 + 1 + 1 + 0 + 1 + 0 ≤ 316; omega), (by show cs + 1 + 32 + 0 + 0 + 0 + 0 + 2 + 0 + 200 + 2 + 0 + 200 + 0 ≤ 15300; omega)⟩) h (fun r_95 w_96 H locs hp h => ?_)
                obtain ⟨er_r_95, ew_r_95⟩ := hp
                rw [er_r_95]
                rw [ew_r_95] at h
                have hwl3 := hWL.1
                rw [List.length_append, List.length_append, List.length_singleton] at hwl3
                refine lv_iload_n hx hb dX1_commit_272 rfl (lv_at hl 3 rfl) ?_
                refine gn_isub hx hb dX1_commit_273 (by omega) ?_
                have eq : opCommit (cn, ru, fu, ch, dk, wt, ld, pl, st, kp) n = (nI ((comW ld n (cn - 2)).length + 1), (cn, ru, fu, false, dk, ((wt ++ comW ld n (cn - 2)) ++ [(n.toNatClampNeg % 2, headC (openL pl 30) n (comX dk (wt ++ comW ld n (cn - 2)) (openL pl 30) (cn - 2)))]), fun _ => none, pl, (st ++ [(n, (openL pl 30))]), kp)) := by unfold opCommit; dsimp only; rw [if_neg hrc, if_neg hnn]
                exact gr_i C h (ty := .int) rfl (rfl) (by rw [eq]; exact ⟨congrArg nI (by omega), fP, fl2, lb, AE, BE, kE, hX7⟩) (by show cc + 1 + 1 + 0 + 0 + 0 + 0 + 1 + 0 + 1 + 1 + 0 + 1 + 0 ≤ 316; omega) (by show cs + 1 + 32 + 0 + 0 + 0 + 0 + 2 + 0 + 200 + 2 + 0 + 200 + 0 ≤ 15300; omega) dX1_commit_274
              · skip
                have c5 : ¬ (cn ≤ (2 + i)) := fun q => c5 ((nI_leI (by omega) (by omega)).mpr q)
                refine lv_lload_n hx hb dX1_commit_143 rfl (lv_at hl 3 rfl) ?_
                refine lv_iload hx hb dX1_commit_144 (lv_at hl 5 rfl) ?_
                refine lv_lshr hx hb dX1_commit_146 rfl ?_
                refine lv_lconst (v := 1) hx hb dX1_commit_147 (by decide) ?_
                refine lv_land hx hb dX1_commit_148 ?_
                refine lv_lconst (v := 1) hx hb dX1_commit_149 (by decide) ?_
                refine W.lcmp hx hb dX1_commit_150 ?_
                refine lv_if_ne (tgt := 169) hx hb dX1_commit_151 (by decide) (fun c6 => ?_) (fun c6 => ?_)
                · skip
                  have hb_ := bitL_f c6
                  refine lv_iinc (v := nI (2 + i + 1)) (lv' := [(6, .int (nI (2 + i + 1))), (0, .ref (ad 0)), (1, .int n), (2, .int (nI wt.length)), (3, .long ((openL pl 30))), (5, .int (comX dk (wt ++ comW ld n (cn - 2)) (openL pl 30) i))]) hx hb dX1_commit_169 hl (k := 5) rfl (gi_inc _ 1) (by decide) rfl (fun ls hl => ?_)
                  refine lv_goto (tgt := 134) hx hb dX1_commit_172 (by decide) ?_
                  have hl : lv_has ls 7 [(6, .int (nI (2 + i + 1))), (0, .ref (ad 0)), (1, .int n), (2, .int (nI wt.length)), (3, .long ((openL pl 30))), (5, .int (comX dk (wt ++ comW ld n (cn - 2)) (openL pl 30) (i + 1)))] := by rw [comX_f hb_]; exact hl
                  exact ih (i + 1) cc cs fl2 wE2 _ _ _ _ (by omega) (by omega) (by omega) (by omega) hX1 h (lv_sub hl [1, 2, 3, 4, 5, 0] rfl)
                · skip
                  have hb_ := bitL_t c6
                  refine lv_iload hx hb dX1_commit_154 (lv_at hl 4 rfl) ?_
                  refine lv_aload_n hx hb dX1_commit_156 rfl (lv_at hl 0 rfl) ?_
                  refine lv_iload hx hb dX1_commit_157 (lv_at hl 5 rfl) ?_
                  refine gc_q (va_runV (As := [.int (nI (2 + i))]) (rest := [.int (comX dk (wt ++ comW ld n (cn - 2)) (openL pl 30) i)]) C.fix (m_X1_sector l g w1 v ad cn ru fu ch dk ((wt ++ comW ld n (cn - 2))) (fun _ => none) pl st kp fP fl2 lb wE2 sE kE hX1 hI2 (2 + i) (by omega)) (cwV 1 hts (lw_V q258 q260 qs5 q43 q261) rfl rfl rfl (by decide +kernel) ⟨Nat.le_of_ble_eq_true rfl, Nat.le_of_ble_eq_true rfl⟩) (gp_V C h [.int (nI (2 + i))] (Cn := RX1) (T := TX1) (N := 10) rfl y0) rfl rfl hl.1 rfl (lv_room (Nat.le_of_ble_eq_true rfl)) dX1_commit_159 ⟨(by show cc + 3 ≤ 316; omega), (by show cs + 37 ≤ 15300; omega)⟩) h (fun r_97 w_98 H locs hp h => ?_)
                  obtain ⟨a, b, f, ra, xa, fa, fb, hf_, gf⟩ := hp
                  rw [ra]
                  have hX3 := hX1.ext xa
                  refine lv_iconst (v := nI 0) hx hb dX1_commit_162 (by decide) ?_
                  refine gc_i (va_runVN (As := [.int (nI 0)]) (rest := [.int (comX dk (wt ++ comW ld n (cn - 2)) (openL pl 30) i)]) C.fix (m_X4_number l g w_98 v a b f fa fb 0 (by omega)) ⟨va_cnB 1 hts (lw_meth q373) rfl rfl rfl (hG.2.2.1 _ q499 rfl) (hts _ q55) (by decide +kernel) ⟨Nat.le_of_ble_eq_true rfl, Nat.le_of_ble_eq_true rfl⟩, hts _ q372, hts _ qs9⟩ (gp_V C h [.int (nI 0)] (Cn := RX4) (T := TX4) (N := 1) rfl fa) rfl rfl hl.1 rfl (lv_room (Nat.le_of_ble_eq_true rfl)) dX1_commit_163 ⟨(by show cc + 3 + 0 ≤ 316; omega), (by show cs + 37 + 0 ≤ 15300; omega)⟩) h (fun r_99 w_100 H locs hp h => ?_)
                  obtain ⟨er_r_99, ew_r_99⟩ := hp
                  rw [er_r_99]
                  rw [ew_r_99] at h
                  rw [gf rfl]
                  refine lv_ixor hx hb dX1_commit_166 ?_
                  refine lv_istore (lv' := [(5, .int (((comX dk (wt ++ comW ld n (cn - 2)) (openL pl 30) i)) ^^^ ((numB (lat dk (wt ++ comW ld n (cn - 2)) (2 + i)) 0)))), (0, .ref (ad 0)), (1, .int n), (2, .int (nI wt.length)), (3, .long ((openL pl 30))), (6, .int (nI (2 + i)))]) hx hb dX1_commit_167 hl (by decide) rfl (fun ls hl => ?_)
                  refine lv_iinc (v := nI (2 + i + 1)) (lv' := [(6, .int (nI (2 + i + 1))), (5, .int (((comX dk (wt ++ comW ld n (cn - 2)) (openL pl 30) i)) ^^^ ((numB (lat dk (wt ++ comW ld n (cn - 2)) (2 + i)) 0)))), (0, .ref (ad 0)), (1, .int n), (2, .int (nI wt.length)), (3, .long ((openL pl 30)))]) hx hb dX1_commit_169 hl (k := 5) rfl (gi_inc _ 1) (by decide) rfl (fun ls hl => ?_)
                  refine lv_goto (tgt := 134) hx hb dX1_commit_172 (by decide) ?_
                  have hl : lv_has ls 7 [(6, .int (nI (2 + i + 1))), (5, .int (comX dk (wt ++ comW ld n (cn - 2)) (openL pl 30) (i + 1))), (0, .ref (ad 0)), (1, .int n), (2, .int (nI wt.length)), (3, .long ((openL pl 30)))] := by rw [comX_t hb_]; exact hl
                  exact ih (i + 1) (cc + 3 + 0) (cs + 37 + 0) fl2 wE2 _ _ _ _ (by omega) (by omega) (by omega) (by omega) hX3 h (lv_sub hl [2, 3, 4, 5, 1, 0] rfl)
          have loop : ∀ (n_ : Nat) (i cc cs : Nat) (fl2 : Nat → Option Nat) (wE2 : Nat) (w1 : GW) (H : Heap) (locs : List Loc) (ls : Array Slot), (cn - 2) - i < n_ → (i ≤ cn - 2) → (cc ≤ 2 * i) → (cs ≤ 202 * i) → (XW g w1 ad cn ru fu ch dk ((wt ++ comW ld n i)) (ldF ld i) pl st kp fP fl2 lb wE2 sE kE) → SH g w1 v s H locs → lv_has ls 7 [(0, .ref (ad 0)), (1, .int n), (2, .int (nI wt.length)), (3, .int (nI (2 + i)))] → W p l e ({ frames := 8, cells := 316, slots := 15300, locals := 480 } : Room) s m ([.ref (ad 0), .int n] : List Value).toArray below meth c H locs cc cs (MQ below (va_Qi (fun (r : Int32) (w' : GW) => r = (opCommit (cn, ru, fu, ch, dk, wt, ld, pl, st, kp) n).1 ∧ RX g w' ad (opCommit (cn, ru, fu, ch, dk, wt, ld, pl, st, kp) n).2) (gB g v) (gA g)) ([.ref (ad 0), .int n] : List Value).toArray s 316 15300 (gA g)) (F0 m 47 ls []) := by
            intro n_
            induction n_ with
            | zero => intros; exact absurd ‹_ < 0› (Nat.not_lt_zero _)
            | succ n_ ih =>
              intro i cc cs fl2 wE2 w1 H locs ls hf hi hc1 hc2 hX1  h hl
              obtain ⟨⟨y0, y1, y2, y3⟩, hQW, -, -, hLL, -⟩ := id hX1
              refine lv_iload_n hx hb dX1_commit_47 rfl (lv_at hl 3 rfl) ?_
              refine lv_aload_n hx hb dX1_commit_48 rfl (lv_at hl 0 rfl) ?_
              refine gx_get C h y0 (Cn := RX1) (T := TX1) (N := 10) rfl in_X1 1 (by decide) q216 rfl rfl dX1_commit_49 ?_
              refine lv_icmp_ge (tgt := 123) hx hb dX1_commit_52 (by decide) (fun c5 => ?_) (fun c5 => ?_)
              · skip
                have c5 : cn ≤ (2 + i) := (nI_leI (by omega) (by omega)).mp c5
                have hie : i = cn - 2 := by omega
                subst hie
                rw [ldF_e (by omega) i3] at hX1
                have hI1 : InvK (cn, ru, fu, ch, dk, wt ++ comW ld n (cn - 2), (fun _ => none), pl, st, kp) := hI2
                refine lv_aload_n hx hb dX1_commit_123 rfl (lv_at hl 0 rfl) ?_
                refine gc_l (va_runV (As := []) (rest := []) C.fix (m_X1_open l g w1 v ad cn ru fu ch dk ((wt ++ comW ld n (cn - 2))) (fun _ => none) pl st kp fP fl2 lb wE2 sE kE hX1 hI1) (cwV 0 hts (lw_V q394 q396 qs13 q43 q397) rfl rfl rfl (by decide +kernel) ⟨Nat.le_of_ble_eq_true rfl, Nat.le_of_ble_eq_true rfl⟩) (gp_V C h [] (Cn := RX1) (T := TX1) (N := 10) rfl y0) rfl rfl hl.1 rfl (lv_room (Nat.le_of_ble_eq_true rfl)) dX1_commit_124 ⟨(by show cc + 0 ≤ 316; omega), (by show cs + 0 ≤ 15300; omega)⟩) h (fun r_101 w_102 H locs hp h => ?_)
                obtain ⟨er_r_101, ew_r_101⟩ := hp
                rw [er_r_101]
                rw [ew_r_101] at h
                refine lv_lstore_n (lv' := [(3, .long ((openL pl 30))), (0, .ref (ad 0)), (1, .int n), (2, .int (nI wt.length))]) hx hb dX1_commit_127 rfl hl (by decide) rfl (fun ls hl => ?_)
                refine lv_iconst (v := nI 0) hx hb dX1_commit_128 (by decide) ?_
                refine lv_istore (lv' := [(5, .int (nI 0)), (3, .long ((openL pl 30))), (0, .ref (ad 0)), (1, .int n), (2, .int (nI wt.length))]) hx hb dX1_commit_129 hl (by decide) rfl (fun ls hl => ?_)
                refine lv_iconst (v := nI 2) hx hb dX1_commit_131 (by decide) ?_
                refine lv_istore (lv' := [(6, .int (nI 2)), (5, .int (nI 0)), (3, .long ((openL pl 30))), (0, .ref (ad 0)), (1, .int n), (2, .int (nI wt.length))]) hx hb dX1_commit_132 hl (by decide) rfl (fun ls hl => ?_)
                have hl : lv_has ls 7 [(6, .int (nI 2)), (5, .int (comX dk (wt ++ comW ld n (cn - 2)) (openL pl 30) 0)), (3, .long ((openL pl 30))), (0, .ref (ad 0)), (1, .int n), (2, .int (nI wt.length))] := by exact hl
                exact loop2 (cn + 1) 0 (cc + 0) (cs + 0) fl2 wE2 _ _ _ _ (by omega) (by omega) (by omega) (by omega) hX1 h (lv_sub hl [3, 4, 5, 2, 1, 0] rfl)
              · skip
                have c5 : ¬ (cn ≤ (2 + i)) := fun q => c5 ((nI_leI (by omega) (by omega)).mpr q)
                refine lv_aload_n hx hb dX1_commit_55 rfl (lv_at hl 0 rfl) ?_
                refine gx_get C h y0 (Cn := RX1) (T := TX1) (N := 10) rfl in_X1 5 (by decide) q220 rfl rfl dX1_commit_56 ?_
                refine lv_iload_n hx hb dX1_commit_59 rfl (lv_at hl 3 rfl) ?_
                refine gx_aald C h 4 rfl y3 (2 + i) (rfl) (by omega) dX1_commit_60 ?_
                obtain ⟨o_, hld⟩ : ∃ o_, ld (2 + i) = o_ := ⟨_, rfl⟩
                have hldF : ldF ld i (2 + i) = o_ := by unfold ldF; rw [if_neg (by omega)]; exact hld
                cases o_ with
                | none =>
                  have l1 := (hLL (2 + i) (by omega)).1 hldF
                  rw [l1]
                  refine lv_ifnonnullN hx hb dX1_commit_61 ?_
                  refine lv_goto (tgt := 117) hx hb dX1_commit_64 (by decide) ?_
                  refine lv_iinc (v := nI (2 + i + 1)) (lv' := [(3, .int (nI (2 + i + 1))), (0, .ref (ad 0)), (1, .int n), (2, .int (nI wt.length))]) hx hb dX1_commit_117 hl (k := 3) rfl (gi_inc _ 1) (by decide) rfl (fun ls hl => ?_)
                  refine lv_goto (tgt := 47) hx hb dX1_commit_120 (by decide) ?_
                  rw [ldF_n hld] at hX1
                  have hcw : comW ld n (i + 1) = comW ld n i := by show comW ld n i ++ com1 ld n (2 + i) = _; unfold com1; rw [hld]; exact List.append_nil _
                  rw [← hcw] at hX1
                  exact ih (i + 1) cc cs fl2 wE2 _ _ _ _ (by omega) (by omega) (by omega) (by omega) hX1 h (lv_sub hl [1, 2, 3, 0] rfl)
                | some d =>
                  obtain ⟨s0, f0, l1, l2, l3, l4⟩ := (hLL (2 + i) (by omega)).2 d hldF
                  rw [l1]
                  have n1b : ad 1 ≠ lb (2 + i) := g_ne y1 l3 (kn_ne (show 100 + 32 * cn ≠ 100 + 32 by omega))
                  have n2b : ad 2 ≠ lb (2 + i) := g_ne y2 l3 (kn_ne (show 130 ≠ 132 by omega))
                  refine lv_ifnonnull (tgt := 67) hx hb dX1_commit_61 (by decide) ?_
                  refine lv_aload_n hx hb dX1_commit_67 rfl (lv_at hl 0 rfl) ?_
                  refine gx_get C h y0 (Cn := RX1) (T := TX1) (N := 10) rfl in_X1 5 (by decide) q220 rfl rfl dX1_commit_68 ?_
                  refine lv_iload_n hx hb dX1_commit_71 rfl (lv_at hl 3 rfl) ?_
                  refine gx_aald C h 4 rfl y3 (2 + i) (rfl) (by omega) dX1_commit_72 ?_
                  rw [l1]
                  refine lv_bipush (v := nI 16) hx hb dX1_commit_73 (by decide) ?_
                  refine lv_iload_n hx hb dX1_commit_75 rfl (lv_at hl 1 rfl) ?_
                  refine gc_v (va_runVN (As := [.int (nI 16), .int n]) (rest := []) C.fix (m_X4_set l g w1 v s0 (lb (2 + i)) f0 l2 l3 16 n (by omega)) ⟨va_cnB 2 hts (lw_meth q437) rfl rfl rfl (hG.2.2.1 _ q482 rfl) (hts _ q55) (by decide +kernel) ⟨Nat.le_of_ble_eq_true rfl, Nat.le_of_ble_eq_true rfl⟩, hts _ q436, hts _ qs15⟩ (gp_V C h [.int (nI 16), .int n] (Cn := RX4) (T := TX4) (N := 1) rfl l2) rfl rfl hl.1 rfl (lv_room (Nat.le_of_ble_eq_true rfl)) dX1_commit_76 ⟨(by show cc + 0 ≤ 316; omega), (by show cs + 0 ≤ 15300; omega)⟩) h (fun w_104 H locs hp h => ?_)
                  have ew_105 : w_104 = gu w1 (lb (2 + i)) (eB g 32 (setB f0 16 n)) := hp
                  have f_106 : w_104 (ad 0) = some (ob 0 [.ref (ad 1), .int (nI cn), .int (bI ru), .int (bI fu), .ref (ad 2), .ref (ad 3), .int (bI ch), .ref (ad 4), .ref (ad 5), .ref (ad 6)]) := by rw [ew_105]; exact (gu_n (g_ne y0 l3 (by simp))).trans y0
                  have f_107 : w_104 (ad 1) = some (eB g (32 * cn) dk) := by rw [ew_105]; exact (gu_n n1b).trans y1
                  have f_108 : w_104 (ad 2) = some (eI g 30 fP) := by rw [ew_105]; exact (gu_n n2b).trans y2
                  have f_109 : w_104 (ad 3) = some (eS g 64 fl2) := by rw [ew_105]; exact (gu_n (g_ne y3 l3 (by simp))).trans y3
                  have f_110 : w_104 s0 = some (ob 1 [.ref (lb (2 + i))]) := by rw [ew_105]; exact (gu_n (g_ne l2 l3 (by simp))).trans l2
                  have f_111 : w_104 (lb (2 + i)) = some (eB g 32 (setB f0 16 n)) := by rw [ew_105]; exact gu_s
                  have hX2 := hX1.lby (by omega) hldF l3 ew_105
                  refine lv_aload_n hx hb dX1_commit_79 rfl (lv_at hl 0 rfl) ?_
                  refine gx_get C h f_106 (Cn := RX1) (T := TX1) (N := 10) rfl in_X1 5 (by decide) q220 rfl rfl dX1_commit_80 ?_
                  refine lv_iload_n hx hb dX1_commit_83 rfl (lv_at hl 3 rfl) ?_
                  refine gx_aald C h 4 rfl f_109 (2 + i) (rfl) (by omega) dX1_commit_84 ?_
                  rw [l1]
                  refine gc_v (va_runV (As := []) (rest := []) C.fix (m_X4_close l g w_104 v s0 (lb (2 + i)) (setB f0 16 n) f_110 f_111) (cwV 0 hts (lw_V q483 q484 q485 q55 q486) rfl rfl rfl (by decide +kernel) ⟨Nat.le_of_ble_eq_true rfl, Nat.le_of_ble_eq_true rfl⟩) (gp_V C h [] (Cn := RX4) (T := TX4) (N := 1) rfl f_110) rfl rfl hl.1 rfl (lv_room (Nat.le_of_ble_eq_true rfl)) dX1_commit_85 ⟨(by show cc + 0 + 0 ≤ 316; omega), (by show cs + 0 + 0 ≤ 15300; omega)⟩) h (fun w_113 H locs hp h => ?_)
                  have ew_114 : w_113 = gu w_104 (lb (2 + i)) (eB g 32 (closeB (setB f0 16 n))) := hp
                  have f_115 : w_113 (ad 0) = some (ob 0 [.ref (ad 1), .int (nI cn), .int (bI ru), .int (bI fu), .ref (ad 2), .ref (ad 3), .int (bI ch), .ref (ad 4), .ref (ad 5), .ref (ad 6)]) := by rw [ew_114]; exact (gu_n (g_ne f_106 f_111 (by simp))).trans f_106
                  have f_116 : w_113 (ad 1) = some (eB g (32 * cn) dk) := by rw [ew_114]; exact (gu_n n1b).trans f_107
                  have f_117 : w_113 (ad 2) = some (eI g 30 fP) := by rw [ew_114]; exact (gu_n n2b).trans f_108
                  have f_118 : w_113 (ad 3) = some (eS g 64 fl2) := by rw [ew_114]; exact (gu_n (g_ne f_109 f_111 (by simp))).trans f_109
                  have f_119 : w_113 s0 = some (ob 1 [.ref (lb (2 + i))]) := by rw [ew_114]; exact (gu_n (g_ne f_110 f_111 (by simp))).trans f_110
                  have f_120 : w_113 (lb (2 + i)) = some (eB g 32 (closeB (setB f0 16 n))) := by rw [ew_114]; exact gu_s
                  have hX3 := hX2.lby (k := 2 + i) (d := closeB (setB f0 16 n)) (by omega) (by simp [va_up]) f_111 ew_114
                  refine lv_aload_n hx hb dX1_commit_88 rfl (lv_at hl 0 rfl) ?_
                  refine gx_get C h f_115 (Cn := RX1) (T := TX1) (N := 10) rfl in_X1 7 (by decide) q222 rfl rfl dX1_commit_89 ?_
                  refine gx_new C h (ci := 3) (fs := [.int (nI 0), .null]) (Cn := RX5) (T := TX5) (N := 2) rfl in_X5 tyX5 tyX5_ok q330 q487 q60 (fun j hj => by rcases (show j = 0 ∨ j = 1 by omega) with rfl | rfl <;> rfl) (by show cc + 0 + 0 + 1 ≤ 316; omega) (by show cs + 0 + 0 + 2 ≤ 15300; omega) dX1_commit_92 (fun a H hn_121 hn_121v h => ?_)
                  obtain ⟨w_122, ew_122⟩ : ∃ z_ : GW, z_ = gu w_113 a (ob 3 [.int (nI 0), .null]) := ⟨_, rfl⟩
                  have h : SH g w_122 v s H locs := by rw [ew_122]; exact h
                  have f_123 : w_122 (ad 0) = some (ob 0 [.ref (ad 1), .int (nI cn), .int (bI ru), .int (bI fu), .ref (ad 2), .ref (ad 3), .int (bI ch), .ref (ad 4), .ref (ad 5), .ref (ad 6)]) := by rw [ew_122]; exact (gu_n (g_neN f_115 hn_121)).trans f_115
                  have f_124 : w_122 (ad 1) = some (eB g (32 * cn) dk) := by rw [ew_122]; exact (gu_n (g_neN f_116 hn_121)).trans f_116
                  have f_125 : w_122 (ad 2) = some (eI g 30 fP) := by rw [ew_122]; exact (gu_n (g_neN f_117 hn_121)).trans f_117
                  have f_126 : w_122 (ad 3) = some (eS g 64 fl2) := by rw [ew_122]; exact (gu_n (g_neN f_118 hn_121)).trans f_118
                  have f_127 : w_122 s0 = some (ob 1 [.ref (lb (2 + i))]) := by rw [ew_122]; exact (gu_n (g_neN f_119 hn_121)).trans f_119
                  have f_128 : w_122 (lb (2 + i)) = some (eB g 32 (closeB (setB f0 16 n))) := by rw [ew_122]; exact (gu_n (g_neN f_120 hn_121)).trans f_120
                  have f_129 : w_122 a = some (ob 3 [.int (nI 0), .null]) := by rw [ew_122]; exact gu_s
                  refine lv_dup hx hb dX1_commit_95 rfl ?_
                  refine lv_iload_n hx hb dX1_commit_96 rfl (lv_at hl 3 rfl) ?_
                  refine lv_aload_n hx hb dX1_commit_97 rfl (lv_at hl 0 rfl) ?_
                  refine gx_get C h f_123 (Cn := RX1) (T := TX1) (N := 10) rfl in_X1 5 (by decide) q220 rfl rfl dX1_commit_98 ?_
                  refine lv_iload_n hx hb dX1_commit_101 rfl (lv_at hl 3 rfl) ?_
                  refine gx_aald C h 4 rfl f_126 (2 + i) (rfl) (by omega) dX1_commit_102 ?_
                  rw [l1]
                  refine gc_v (va_runIN (As := [.int (nI (2 + i)), .ref s0]) (rest := [.ref a, .ref (ad 4)]) C.fix (m_X5_init l g w_122 v a (nI (2 + i)) s0 f_129) ⟨va_cnB 2 hts (lw_meth q490) rfl rfl rfl (hG.2.2.1 _ q488 rfl) (hts _ q60) (by decide +kernel) ⟨Nat.le_of_ble_eq_true rfl, Nat.le_of_ble_eq_true rfl⟩, rfl, hts _ q489⟩ (gp_S C h _) rfl rfl hl.1 rfl (lv_room (Nat.le_of_ble_eq_true rfl)) dX1_commit_103 ⟨(by show cc + 0 + 0 + 1 + 0 ≤ 316; omega), (by show cs + 0 + 0 + 2 + 0 ≤ 15300; omega)⟩) h (fun w_131 H locs hpa h => ?_)
                  have xa : Ext w_113 w_131 := by rw [hpa, ew_122]; exact (XK.rfl'.putn hn_121).putn hn_121
                  have fa : w_131 a = some (ob 3 [.int (nI (2 + i)), .ref s0]) := by rw [hpa]; exact gu_s
                  have f_132 : w_131 (ad 0) = some (ob 0 [.ref (ad 1), .int (nI cn), .int (bI ru), .int (bI fu), .ref (ad 2), .ref (ad 3), .int (bI ch), .ref (ad 4), .ref (ad 5), .ref (ad 6)]) := xa.of f_115
                  have f_133 : w_131 (ad 1) = some (eB g (32 * cn) dk) := xa.of f_116
                  have f_134 : w_131 (ad 2) = some (eI g 30 fP) := xa.of f_117
                  have f_135 : w_131 (ad 3) = some (eS g 64 fl2) := xa.of f_118
                  have f_136 : w_131 s0 = some (ob 1 [.ref (lb (2 + i))]) := xa.of f_119
                  have f_137 : w_131 (lb (2 + i)) = some (eB g 32 (closeB (setB f0 16 n))) := xa.of f_120
                  have hX_138 := hX3.ext xa
                  obtain ⟨-, hQW3, -⟩ := id hX_138
                  obtain ⟨wn, wf, wh, ws, hDw, hWL⟩ := id hQW3
                  have hwl3 := hWL.1
                  have hcl := comW_len ld n (i := i) (by omega)
                  rw [List.length_append] at hwl3
                  refine gc_i (va_runV (As := [.ref a]) (rest := []) C.fix (m_J1_add l g w_131 v (ad 4) wE2 wn wf wh ws hDw a _ 3 (RX5, TX5, 2) rfl q955 fa (WL.cls hWL) (by omega) (by decide)) (cwV 1 hts (lw_V q161 q162 q163 q45 q164) rfl rfl rfl (by decide +kernel) ⟨Nat.le_of_ble_eq_true rfl, Nat.le_of_ble_eq_true rfl⟩) (gp_V C h [.ref a] (Cn := RJ1) (T := TJ1) (N := 3) rfl hDw.1) rfl rfl hl.1 rfl (lv_room (Nat.le_of_ble_eq_true rfl)) dX1_commit_106 ⟨(by show cc + 0 + 0 + 1 + 0 + 1 ≤ 316; omega), (by show cs + 0 + 0 + 2 + 0 + 200 ≤ 15300; omega)⟩) h (fun r_139 w_140 H locs hpA h => ?_)
                  obtain ⟨Ar, AE, An, Af, Ah, AD, Ae, Ak⟩ := hpA
                  rw [Ar]
                  have hkc : ∀ x e, w_131 x = some e → kn e ≠ 5 → x ≠ wE2 → w_140 x = some e := fun x e hx k5 hE => (Ak x (g_ne hx hDw.1 (kn_ne k5)) hE (Ae.elim (fun q => by rw [q]; exact hE) (fun q => g_neN hx q.1))).trans hx
                  have d3w : ad 3 ≠ wE2 := hX_138.2.2.2.2.2.2.2.1.2.2.2.2.1
                  have k0_ := hkc _ _ f_132 (show 0 ≠ 5 by omega) (g_ne f_132 hDw.2.1 (by simp))
                  have k3_ := hkc _ _ f_135 (show 50 ≠ 5 by omega) d3w
                  refine lv_pop hx hb dX1_commit_109 rfl ?_
                  refine lv_aload_n hx hb dX1_commit_110 rfl (lv_at hl 0 rfl) ?_
                  refine gx_get C h k0_ (Cn := RX1) (T := TX1) (N := 10) rfl in_X1 5 (by decide) q220 rfl rfl dX1_commit_111 ?_
                  refine lv_iload_n hx hb dX1_commit_114 rfl (lv_at hl 3 rfl) ?_
                  refine lv_null hx hb dX1_commit_115 ?_
                  refine gx_aastN C h 4 rfl k3_ (2 + i) (rfl) (by omega) dX1_commit_116 (fun H locs h => ?_)
                  obtain ⟨w_141, ew_141⟩ : ∃ z_ : GW, z_ = gu w_140 (ad 3) (eS g 64 (va_up fl2 (2 + i) none)) := ⟨_, rfl⟩
                  have h : SH g w_141 v s H locs := by rw [ew_141]; exact h
                  have f_142 : w_141 (ad 0) = some (ob 0 [.ref (ad 1), .int (nI cn), .int (bI ru), .int (bI fu), .ref (ad 2), .ref (ad 3), .int (bI ch), .ref (ad 4), .ref (ad 5), .ref (ad 6)]) := by rw [ew_141]; exact (gu_n n03).trans k0_
                  have f_143 : w_141 (ad 3) = some (eS g 64 (va_up fl2 (2 + i) none)) := by rw [ew_141]; exact gu_s
                  have hX4 := com_x hX_138 (k := 2 + i) (by omega) (by simp [va_up]; rfl) f_136 f_137 fa hDw hWL AD (Ae.imp_right And.left) Ak ew_141
                  have hcw : comW ld n (i + 1) = comW ld n i ++ [(2 + i, closeB (setB f0 16 n))] := by show comW ld n i ++ com1 ld n (2 + i) = _; unfold com1; rw [hld, ← l4]; dsimp only; rw [set16_c]
                  have hlf2 : va_up (va_up (va_up (ldF ld i) (2 + i) (some (closeB (setB f0 16 n)))) (2 + i) (some (closeB (closeB (setB f0 16 n))))) (2 + i) none = ldF ld (i + 1) := by rw [← ldF_s]; funext j; unfold va_up; by_cases q : j = 2 + i <;> simp [q]
                  rw [hlf2, List.append_assoc, ← hcw] at hX4
                  refine lv_iinc (v := nI (2 + i + 1)) (lv' := [(3, .int (nI (2 + i + 1))), (0, .ref (ad 0)), (1, .int n), (2, .int (nI wt.length))]) hx hb dX1_commit_117 hl (k := 3) rfl (gi_inc _ 1) (by decide) rfl (fun ls hl => ?_)
                  refine lv_goto (tgt := 47) hx hb dX1_commit_120 (by decide) ?_
                  exact ih (i + 1) (cc + 0 + 0 + 1 + 0 + 1) (cs + 0 + 0 + 2 + 0 + 200) _ AE _ _ _ _ (by omega) (by omega) (by omega) (by omega) hX4 h (lv_sub hl [1, 2, 3, 0] rfl)
          exact loop (cn + 1) 0 0 0 fl wE w _ _ _ (by omega) (by omega) (by omega) (by omega) (by rw [ldF_0 i3]; show XW g w ad cn ru fu ch dk (wt ++ []) ld pl st kp fP fl lb wE sE kE; rw [List.append_nil]; exact hX) h (lv_sub hl [2, 3, 1, 0] rfl)
        · skip
          refine lv_bipush (v := (-2)) hx hb dX1_commit_34 (by decide) ?_
          have eq : opCommit (cn, ru, fu, ch, dk, wt, ld, pl, st, kp) n = (-2, (cn, ru, fu, ch, dk, wt, ld, pl, st, kp)) := by unfold opCommit; dsimp only; rw [if_neg hrc, if_pos (Or.inr (Int32.not_le.mp c4))]
          exact gr_i C h (ty := .int) rfl (rfl) (by rw [eq]; exact ⟨rfl, fP, fl, lb, wE, sE, kE, hX⟩) (Nat.le_of_ble_eq_true rfl) (Nat.le_of_ble_eq_true rfl) dX1_commit_36
    · skip
      have c2 : ch = false := bI_eq0.mp c2
      refine lv_bipush (v := (-3)) hx hb dX1_commit_14 (by decide) ?_
      have eq : opCommit (cn, ru, fu, ch, dk, wt, ld, pl, st, kp) n = (-3, (cn, ru, fu, ch, dk, wt, ld, pl, st, kp)) := by unfold opCommit; dsimp only; rw [if_pos (Or.inr c2)]
      exact gr_i C h (ty := .int) rfl (rfl) (by rw [eq]; exact ⟨rfl, fP, fl, lb, wE, sE, kE, hX⟩) (Nat.le_of_ble_eq_true rfl) (Nat.le_of_ble_eq_true rfl) dX1_commit_16
