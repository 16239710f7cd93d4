set_option maxRecDepth 100000
theorem frPo_pl {pl : Nat → Option Nat} : (if frP pl < 30 then nI (frP pl) else -1) = plI (frPo pl) := by
  unfold frPo
  split <;> rfl
theorem frPo_lt {pl : Nat → Option Nat} {p : Nat} (h : frPo pl = some p) : p < 30 := by
  unfold frPo at h
  split at h
  · cases h; assumption
  · cases h
theorem plI_cases {o : Option Nat} (h : ∀ p, o = some p → p < 30) : plI o = -1 ∨ ∃ pg : Nat, pg < 30 ∧ plI o = nI pg := by
  cases o with
  | none => exact Or.inl rfl
  | some p => exact Or.inr ⟨p, h p rfl, rfl⟩
theorem br_pls {cn : Nat} {pl : Nat → Option Nat} {fP : Nat → Int32} (hcn : cn ≤ 64) (hp : ∀ p k, p < 30 → pl p = some k → 2 ≤ k ∧ k < cn) (r5 : ∀ p, p < 30 → fP p = plI (pl p)) {q : Nat} (hq : q < 30) : fP q = -1 ∨ ∃ kk : Nat, kk < 64 ∧ fP q = nI kk := by
  rw [r5 q hq]
  cases h : pl q with
  | none => exact Or.inl rfl
  | some k => exact Or.inr ⟨k, br_pl hcn hp hq k h, rfl⟩
theorem page0_rm {g : GG} {w : GW} {ad : Nat → Nat} {N cn : Nat} {ru fu th : Bool} {fi be ne ke : Nat} {dk : Sec} {wt : List (Nat × Sec)} {ld : Nat → Option Sec} {pl : Nat → Option Nat} {st kp : List (Int32 × Int64)} {fD fL fO : Nat → Int32} {z : Nat → Bool} {fP fT fY fN : Nat → Int32} {fS : Nat → Int64} {fKn : Nat → Int32} {fK : Nat → Int64} {fH : Nat → Int32} {j k : Nat} (hj : j < 30) (hk : 2 ≤ k ∧ k < cn)
    (hM : MW g w ad cn ru fu true th fi be ne ke fD fL fO (va_up z k false) (upd fP j (-1)) fT fY fN fS fKn fK fH) (r1 : ∀ j, j < 2048 → fD j = ub (dk j)) (r2 : ∀ k i, k < 64 → i < 32 → fL (32 * k + i) = ub (lat dk wt k i)) (r3 : ∀ k c i, k < 64 → ld k = some c → i < 32 → fO (32 * k + i) = ub (c i)) (r4 : ∀ k, k < 64 → z k = (ld k).isSome) (r5 : ∀ p, p < 30 → fP p = plI (pl p)) (r6 : fi + wt.length = be) (r7 : ∀ (i : Nat) (x : Nat × Sec), wt[i]? = some x → fT (fi + i) = nI x.1 ∧ ∀ j, j < 32 → fY (32 * (fi + i) + j) = ub (x.2 j)) (r8 : ne + 1 = st.length) (r9 : ∀ (i : Nat) (x : Int32 × Int64), st[i]? = some x → fN i = x.1 ∧ fS i = x.2) (r10 : ke = kp.length) (r11 : ∀ (i : Nat) (x : Int32 × Int64), kp[i]? = some x → fKn i = x.1 ∧ fK i = x.2) (r12 : be + cntL ld ≤ N) (r13 : st.length ≤ N + 1) :
    RM g w ad (N + 1) (cn, ru, fu, true, dk, wt, va_up ld k none, va_up pl j none, st, kp) := by
  refine ⟨th, fi, be, ne, ke, fD, fL, fO, _, _, fT, fY, fN, fS, fKn, fK, fH, hM, r1, r2, ?_, ?_, ?_, r6, r7, r8, r9, r10, r11, ?_, by omega⟩
  · intro k' c i hk' hc hi
    unfold va_up at hc
    by_cases q : k' = k
    · rw [if_pos q] at hc; cases hc
    · rw [if_neg q] at hc; exact r3 k' c i hk' hc hi
  · intro k' hk'
    unfold va_up
    by_cases q : k' = k
    · rw [if_pos q, if_pos q]; rfl
    · rw [if_neg q, if_neg q]; exact r4 k' hk'
  · intro p hp
    unfold upd va_up
    by_cases q : p = j
    · rw [if_pos q, if_pos q]; rfl
    · rw [if_neg q, if_neg q]; exact r5 p hp
  · have : cntL (va_up ld k none) ≤ cntL ld := cntB_mono (fun j hs => by
      unfold va_up at hs
      by_cases q : j = k
      · rw [if_pos q] at hs; cases hs
      · rw [if_neg q] at hs; exact hs) 64
    omega
set_option maxHeartbeats 4000000 in
theorem m_X3_page (l : Launch) (g : GG) (w v : GW) (ad : Nat → Nat) (N cn : Nat) (ru fu ch : Bool) (dk : Sec) (wt : List (Nat × Sec)) (ld : Nat → Option Sec) (pl : Nat → Option Nat) (st kp : List (Int32 × Int64)) (hR : RM g w ad N (cn, ru, fu, ch, dk, wt, ld, pl, st, kp)) (hI : InvK (cn, ru, fu, ch, dk, wt, ld, pl, st, kp)) (hN : N < 64) (kd x : Int32) (y : Int64)  : Met l yX3_page (ws_ yX3_page cX3_page 6 (some .int)) ({ frames := 5, cells := 0, slots := 0, locals := 300 } : Room) (gP g [.ref (ad 0), .int kd, .int x, .long y] w v) (va_Qi (fun (r : Int32) (w' : GW) => r = (opPage (cn, ru, fu, ch, dk, wt, ld, pl, st, kp) kd x y).1 ∧ RM g w' ad (N + 1) (opPage (cn, ru, fu, ch, dk, wt, ld, pl, st, kp) kd x y).2) (gB g v) (gA g)) 0 0 (gA g) := by
  refine gm_of (by decide) (Nat.le_of_ble_eq_true rfl) ?_
  intro p e s m below meth c ls C hnm h hl
  have C : Cx g p s m ([.ref (ad 0), .int kd, .int x, .long y] : List Value).toArray meth c cX3_page 6 RX3 (some .int) := C
  obtain ⟨hx, hb, hml, hown, hts, hr, hlk, hG⟩ := id C
  have hl : lv_has ls 6 [(0, .ref (ad 0)), (1, .int kd), (2, .int x), (3, .long y)] := hl
  obtain ⟨th, fi, be, ne, ke, fD, fL, fO, z, fP, fT, fY, fN, fS, fKn, fK, fH, hM, r1, r2, r3, r4, r5, r6, r7, r8, r9, r10, r11, r12, r13⟩ := id hR
  obtain ⟨i1, i2, i3, i4, i5, i6, i7, i8, i9⟩ := id hI
  have hfb : fi ≤ be ∧ be ≤ 1200 := by omega
  have hne : ne < 1200 := by omega
  have hke : ke ≤ 4 := by omega
  have hcn : 2 ≤ cn ∧ cn ≤ 64 := by omega
  have hhel : ∀ k, k < 64 → heM fP fT fS fK fi be ne ke k = hel wt pl st kp k := fun k hk => br_hel i1.2 i2 i4 r5 r6 r7 r8 r9 r10 r11 hk
  have hKe := br_frS hcn hhel
  have hpl : ∀ q, q < 30 → fP q = -1 ∨ ∃ kk : Nat, kk < 64 ∧ fP q = nI kk := fun q hq => br_pls i1.2 i2 r5 hq
  obtain ⟨hinj, m0, m1, m2, m3, m4, m5, m6, m7, m8, m9, m10, m11, m12⟩ := id hM
  refine lv_aload_n hx hb dX3_page_0 rfl (lv_at hl 0 rfl) ?_
  refine gx_get C h m0 (Cn := RX3) (T := TX3) (N := 22) rfl in_X3 1 (by decide) q733 rfl rfl dX3_page_1 ?_
  refine lv_if_ne (tgt := 10) hx hb dX3_page_4 (by decide) (fun c1 => ?_) (fun c1 => ?_)
  · skip
    have c1 : ru = true := bI_ne0.mp c1
    refine lv_iload_n hx hb dX3_page_10 rfl (lv_at hl 1 rfl) ?_
    refine lv_if_lt (tgt := 19) hx hb dX3_page_11 (by decide) (fun c2 => ?_) (fun c2 => ?_)
    · skip
      refine lv_bipush (v := (-2)) hx hb dX3_page_19 (by decide) ?_
      have eq : opPage (cn, ru, fu, ch, dk, wt, ld, pl, st, kp) kd x y = (-2, (cn, ru, fu, ch, dk, wt, ld, pl, st, kp)) := by unfold opPage; dsimp only; rw [if_neg (show ¬ ru = false by rw [c1]; decide), if_pos (Or.inl c2)]
      exact gr_i C h (ty := .int) rfl (rfl) (by rw [eq]; exact ⟨rfl, hR.mono⟩) (Nat.le_of_ble_eq_true rfl) (Nat.le_of_ble_eq_true rfl) dX3_page_21
    · skip
      refine lv_iload_n hx hb dX3_page_14 rfl (lv_at hl 1 rfl) ?_
      refine lv_iconst (v := nI 3) hx hb dX3_page_15 (by decide) ?_
      refine lv_icmp_le (tgt := 22) hx hb dX3_page_16 (by decide) (fun c3 => ?_) (fun c3 => ?_)
      · skip
        obtain ⟨kn, hkn, hkd⟩ := nI_of2 (M := nI 3) (n := 3) (by decide) c2 c3
        have hnr : ¬ (kd < 0 ∨ nI 3 < kd) := fun q => q.elim c2 (fun q => Int32.not_lt.mpr c3 q)
        have e0 : (0 : Int32) < kd ↔ 0 < kn := by rw [hkd, ← nI_0]; exact nI_ltI (by omega) (by omega)
        have e3 : kd < nI 3 ↔ kn < 3 := by rw [hkd]; exact nI_ltI (by omega) (by omega)
        have e33 : kd = nI 3 ↔ kn = 3 := by rw [hkd]; exact nI_eq (by omega) (by omega)
        rw [hkd] at hl
        have cont : ∀ (fr : Bool) (ls : Array Slot), fr = decide (x = -1 ∧ (kn = 1 ∨ kn = 2)) → lv_has ls 6 [(0, .ref (ad 0)), (1, .int (nI kn)), (2, .int x), (3, .long y), (5, .int (bI fr))] → W p l e ({ frames := 5, cells := 0, slots := 0, locals := 300 } : Room) s m ([.ref (ad 0), .int kd, .int x, .long y] : List Value).toArray below meth c s.heap [] 0 0 (MQ below (va_Qi (fun (r : Int32) (w' : GW) => r = (opPage (cn, ru, fu, ch, dk, wt, ld, pl, st, kp) kd x y).1 ∧ RM g w' ad (N + 1) (opPage (cn, ru, fu, ch, dk, wt, ld, pl, st, kp) kd x y).2) (gB g v) (gA g)) ([.ref (ad 0), .int kd, .int x, .long y] : List Value).toArray s 0 0 (gA g)) (F0 m 44 ls []) := by
          intro fr ls hfr hl
          refine lv_iload hx hb dX3_page_44 (lv_at hl 4 rfl) ?_
          refine lv_if_ne (tgt := 59) hx hb dX3_page_46 (by decide) (fun c4 => ?_) (fun c4 => ?_)
          · skip
            have c4 : fr = true := bI_ne0.mp c4
            have hfr2 : x = -1 ∧ (kn = 1 ∨ kn = 2) := by rw [c4] at hfr; exact of_decide_eq_true hfr.symm
            refine lv_iload_n hx hb dX3_page_59 rfl (lv_at hl 1 rfl) ?_
            refine lv_iconst (v := nI 3) hx hb dX3_page_60 (by decide) ?_
            refine lv_icmp_ne (tgt := 106) hx hb dX3_page_61 (by decide) (fun c5 => ?_) (fun c5 => ?_)
            · skip
              have c5 : ¬ (kn = 3) := fun q => c5 ((nI_eq (by omega) (by omega)).mpr q)
              refine lv_iload_n hx hb dX3_page_106 rfl (lv_at hl 1 rfl) ?_
              refine lv_if_le (tgt := 133) hx hb dX3_page_107 (by decide) (fun c6 => ?_) (fun c6 => ?_)
              · skip
                exact absurd c6 (nI_nle (by omega) (by omega))
              · skip
                refine lv_aload_n hx hb dX3_page_110 rfl (lv_at hl 0 rfl) ?_
                refine lv_iload_n hx hb dX3_page_111 rfl (lv_at hl 1 rfl) ?_
                refine lv_iload hx hb dX3_page_112 (lv_at hl 4 rfl) ?_
                refine lv_if_eq (tgt := 124) hx hb dX3_page_114 (by decide) (fun c7 => ?_) (fun c7 => ?_)
                · skip
                  have c7 : fr = false := bI_eq0.mp c7
                  rw [c4] at c7; cases c7
                · skip
                  have c7 : fr = true := bI_ne0.mp c7
                  refine lv_aload_n hx hb dX3_page_117 rfl (lv_at hl 0 rfl) ?_
                  refine gc_i (va_runV (As := []) (rest := [.int (nI kn), .ref (ad 0)]) C.fix (m_X3_freePage l g w v ad cn ru fu ch th fi be ne ke m0 fP m5) (cwV 0 hts (lw_V q817 q819 qs30 q53 q820) rfl rfl rfl (by decide +kernel) ⟨Nat.le_of_ble_eq_true rfl, Nat.le_of_ble_eq_true rfl⟩) (gp_V C h [] (Cn := RX3) (T := TX3) (N := 22) rfl m0) rfl rfl hl.1 rfl (lv_room (Nat.le_of_ble_eq_true rfl)) dX3_page_118 ⟨Nat.le_of_ble_eq_true rfl, Nat.le_of_ble_eq_true rfl⟩) h (fun r_1 w_2 H locs hp h => ?_)
                  obtain ⟨er_r_1, ew_r_1⟩ := hp
                  rw [er_r_1]
                  rw [ew_r_1] at h
                  rw [br_frP i1.2 i2 r5, frPo_pl]
                  refine lv_goto (tgt := 125) hx hb dX3_page_121 (by decide) ?_
                  refine lv_sipush (v := nI 255) hx hb dX3_page_125 (by decide) ?_
                  refine lv_lload_n hx hb dX3_page_128 rfl (lv_at hl 3 rfl) ?_
                  refine gc_i (va_runV (As := [.int (nI kn), .int (plI (frPo pl)), .int (nI 255), .long y]) (rest := []) C.fix (m_X3_lay l g w v ad cn ru fu ch th fi be ne ke fD fL fO z fP fT fY fN fS fKn fK fH hM kn 255 (plI (frPo pl)) y hfb hne hke hcn (plI_cases (fun q hq => frPo_lt hq)) hpl) (cwV 4 hts (lw_V q836 q838 qs32 q53 q839) rfl rfl rfl (by decide +kernel) ⟨Nat.le_of_ble_eq_true rfl, Nat.le_of_ble_eq_true rfl⟩) (gp_V C h [.int (nI kn), .int (plI (frPo pl)), .int (nI 255), .long y] (Cn := RX3) (T := TX3) (N := 22) rfl m0) rfl rfl hl.1 rfl (lv_room (Nat.le_of_ble_eq_true rfl)) dX3_page_129 ⟨Nat.le_of_ble_eq_true rfl, Nat.le_of_ble_eq_true rfl⟩) h (fun r_3 w_4 H locs hp h => ?_)
                  have hp := lay_rm (kd := kn) (so := 255) (pg := frPo pl) hR i1.2 i2 r1 r2 r3 r4 r5 r6 r7 r8 r9 r10 r11 r12 r13 hKe (by omega) (by omega) rfl (fun q hq => frPo_lt hq) hp
                  have eq : opPage (cn, ru, fu, ch, dk, wt, ld, pl, st, kp) kd x y = layF (cn, ru, fu, ch, dk, wt, ld, pl, st, kp) (nI kn) (frPo pl) (nI 255) y := by unfold opPage; dsimp only; rw [if_neg (show ¬ ru = false by rw [c1]; decide), if_neg hnr, if_pos ⟨hfr2.1, e0.mpr (by omega), e3.mpr (by omega)⟩, hkd]
                  exact gr_i C h (ty := .int) rfl (rfl) (by rw [eq]; exact hp) (Nat.le_of_ble_eq_true rfl) (Nat.le_of_ble_eq_true rfl) dX3_page_132
            · skip
              have c5 : kn = 3 := (nI_eq (by omega) (by omega)).mp c5
              omega
          · skip
            have c4 : fr = false := bI_eq0.mp c4
            have hnf : ¬ (x = -1 ∧ (kn = 1 ∨ kn = 2)) := by rw [c4] at hfr; exact of_decide_eq_false hfr.symm
            have hnf2 : ¬ (x = -1 ∧ 0 < kd ∧ kd < nI 3) := fun q => hnf ⟨q.1, by have := e0.mp q.2.1; have := e3.mp q.2.2; omega⟩
            refine lv_aload_n hx hb dX3_page_49 rfl (lv_at hl 0 rfl) ?_
            refine lv_iload_n hx hb dX3_page_50 rfl (lv_at hl 2 rfl) ?_
            refine gc_i (va_runV (As := [.int x]) (rest := []) C.fix (m_X3_isPage l g w v ad cn ru fu ch th fi be ne ke m0 fP m5 x) (cwV 1 hts (lw_V q805 q807 qs27 q53 q808) rfl rfl rfl (by decide +kernel) ⟨Nat.le_of_ble_eq_true rfl, Nat.le_of_ble_eq_true rfl⟩) (gp_V C h [.int x] (Cn := RX3) (T := TX3) (N := 22) rfl m0) rfl rfl hl.1 rfl (lv_room (Nat.le_of_ble_eq_true rfl)) dX3_page_51 ⟨Nat.le_of_ble_eq_true rfl, Nat.le_of_ble_eq_true rfl⟩) h (fun r_5 w_6 H locs hp h => ?_)
            obtain ⟨er_r_5, ew_r_5⟩ := hp
            rw [er_r_5]
            rw [ew_r_5] at h
            rw [br_pg i1.2 i2 r5 x]
            refine lv_if_ne (tgt := 59) hx hb dX3_page_54 (by decide) (fun c5 => ?_) (fun c5 => ?_)
            · skip
              have c5 : (pgOf pl x).isSome = true := bI_ne0.mp c5
              obtain ⟨k, hk⟩ := Option.isSome_iff_exists.mp c5
              obtain ⟨j, hj, hxj, hxc, hplj⟩ := pgOf_some hk
              have hk64 := i2 j k hj hplj
              have hfpj : fP j = nI k := by rw [r5 j hj, hplj]; rfl
              rw [hxj] at hl
              refine lv_iload_n hx hb dX3_page_59 rfl (lv_at hl 1 rfl) ?_
              refine lv_iconst (v := nI 3) hx hb dX3_page_60 (by decide) ?_
              refine lv_icmp_ne (tgt := 106) hx hb dX3_page_61 (by decide) (fun c6 => ?_) (fun c6 => ?_)
              · skip
                have c6 : ¬ (kn = 3) := fun q => c6 ((nI_eq (by omega) (by omega)).mpr q)
                refine lv_iload_n hx hb dX3_page_106 rfl (lv_at hl 1 rfl) ?_
                refine lv_if_le (tgt := 133) hx hb dX3_page_107 (by decide) (fun c7 => ?_) (fun c7 => ?_)
                · skip
                  have hk0 : kn = 0 := Nat.eq_zero_of_not_pos (fun q => nI_nle q (by omega) c7)
                  refine lv_aload_n hx hb dX3_page_133 rfl (lv_at hl 0 rfl) ?_
                  refine gx_get C h m0 (Cn := RX3) (T := TX3) (N := 22) rfl in_X3 6 (by decide) q738 rfl rfl dX3_page_134 ?_
                  refine lv_aload_n hx hb dX3_page_137 rfl (lv_at hl 0 rfl) ?_
                  refine gx_get C h m0 (Cn := RX3) (T := TX3) (N := 22) rfl in_X3 7 (by decide) q739 rfl rfl dX3_page_138 ?_
                  refine lv_iload_n hx hb dX3_page_141 rfl (lv_at hl 2 rfl) ?_
                  refine gx_iald C h m5 j (rfl) (by omega) dX3_page_142 ?_
                  rw [hfpj]
                  refine lv_iconst (v := bI false) hx hb dX3_page_143 (by decide) ?_
                  refine gx_zast C h m4 k (rfl) (by omega) false (rfl) dX3_page_144 (fun H locs h => ?_)
                  obtain ⟨w_7, ew_7⟩ : ∃ z_ : GW, z_ = gu w (ad 4) (eZ g 64 (va_up z k false)) := ⟨_, rfl⟩
                  have h : SH g w_7 v s H locs := by rw [ew_7]; exact h
                  have f_8 : w_7 (ad 0) = some (ob 4 [.int (nI cn), .int (bI ru), .int (bI fu), .ref (ad 1), .ref (ad 2), .ref (ad 3), .ref (ad 4), .ref (ad 5), .int (bI ch), .ref (ad 6), .ref (ad 7), .int (nI fi), .int (nI be), .ref (ad 8), .ref (ad 9), .int (nI 0), .int (nI ne), .ref (ad 10), .ref (ad 11), .int (nI ke), .int (bI th), .ref (ad 12)]) := by rw [ew_7]; exact (gu_n (fun q => absurd (hinj 0 4 (by decide) (by decide) q) (by decide))).trans m0
                  have f_9 : w_7 (ad 1) = some (eI g 2048 fD) := by rw [ew_7]; exact (gu_n (fun q => absurd (hinj 1 4 (by decide) (by decide) q) (by decide))).trans m1
                  have f_10 : w_7 (ad 2) = some (eI g 2048 fL) := by rw [ew_7]; exact (gu_n (fun q => absurd (hinj 2 4 (by decide) (by decide) q) (by decide))).trans m2
                  have f_11 : w_7 (ad 3) = some (eI g 2048 fO) := by rw [ew_7]; exact (gu_n (fun q => absurd (hinj 3 4 (by decide) (by decide) q) (by decide))).trans m3
                  have f_12 : w_7 (ad 4) = some (eZ g 64 (va_up z k false)) := by rw [ew_7]; exact gu_s
                  have f_13 : w_7 (ad 5) = some (eI g 30 fP) := by rw [ew_7]; exact (gu_n (fun q => absurd (hinj 5 4 (by decide) (by decide) q) (by decide))).trans m5
                  have f_14 : w_7 (ad 6) = some (eI g 1200 fT) := by rw [ew_7]; exact (gu_n (fun q => absurd (hinj 6 4 (by decide) (by decide) q) (by decide))).trans m6
                  have f_15 : w_7 (ad 7) = some (eI g 38400 fY) := by rw [ew_7]; exact (gu_n (fun q => absurd (hinj 7 4 (by decide) (by decide) q) (by decide))).trans m7
                  have f_16 : w_7 (ad 8) = some (eI g 1200 fN) := by rw [ew_7]; exact (gu_n (fun q => absurd (hinj 8 4 (by decide) (by decide) q) (by decide))).trans m8
                  have f_17 : w_7 (ad 9) = some (eL g 1200 fS) := by rw [ew_7]; exact (gu_n (fun q => absurd (hinj 9 4 (by decide) (by decide) q) (by decide))).trans m9
                  have f_18 : w_7 (ad 10) = some (eI g 4 fKn) := by rw [ew_7]; exact (gu_n (fun q => absurd (hinj 10 4 (by decide) (by decide) q) (by decide))).trans m10
                  have f_19 : w_7 (ad 11) = some (eL g 4 fK) := by rw [ew_7]; exact (gu_n (fun q => absurd (hinj 11 4 (by decide) (by decide) q) (by decide))).trans m11
                  have f_20 : w_7 (ad 12) = some (eI g 32 fH) := by rw [ew_7]; exact (gu_n (fun q => absurd (hinj 12 4 (by decide) (by decide) q) (by decide))).trans m12
                  refine lv_aload_n hx hb dX3_page_145 rfl (lv_at hl 0 rfl) ?_
                  refine gx_get C h f_8 (Cn := RX3) (T := TX3) (N := 22) rfl in_X3 7 (by decide) q739 rfl rfl dX3_page_146 ?_
                  refine lv_iload_n hx hb dX3_page_149 rfl (lv_at hl 2 rfl) ?_
                  refine lv_iconst (v := (-1)) hx hb dX3_page_150 (by decide) ?_
                  refine gx_iast C h f_13 j (rfl) (by omega) dX3_page_151 (fun H locs h => ?_)
                  obtain ⟨w_21, ew_21⟩ : ∃ z_ : GW, z_ = gu w_7 (ad 5) (eI g 30 (upd fP j ((-1)))) := ⟨_, rfl⟩
                  have h : SH g w_21 v s H locs := by rw [ew_21]; exact h
                  have f_22 : w_21 (ad 0) = some (ob 4 [.int (nI cn), .int (bI ru), .int (bI fu), .ref (ad 1), .ref (ad 2), .ref (ad 3), .ref (ad 4), .ref (ad 5), .int (bI ch), .ref (ad 6), .ref (ad 7), .int (nI fi), .int (nI be), .ref (ad 8), .ref (ad 9), .int (nI 0), .int (nI ne), .ref (ad 10), .ref (ad 11), .int (nI ke), .int (bI th), .ref (ad 12)]) := by rw [ew_21]; exact (gu_n (fun q => absurd (hinj 0 5 (by decide) (by decide) q) (by decide))).trans f_8
                  have f_23 : w_21 (ad 1) = some (eI g 2048 fD) := by rw [ew_21]; exact (gu_n (fun q => absurd (hinj 1 5 (by decide) (by decide) q) (by decide))).trans f_9
                  have f_24 : w_21 (ad 2) = some (eI g 2048 fL) := by rw [ew_21]; exact (gu_n (fun q => absurd (hinj 2 5 (by decide) (by decide) q) (by decide))).trans f_10
                  have f_25 : w_21 (ad 3) = some (eI g 2048 fO) := by rw [ew_21]; exact (gu_n (fun q => absurd (hinj 3 5 (by decide) (by decide) q) (by decide))).trans f_11
                  have f_26 : w_21 (ad 4) = some (eZ g 64 (va_up z k false)) := by rw [ew_21]; exact (gu_n (fun q => absurd (hinj 4 5 (by decide) (by decide) q) (by decide))).trans f_12
                  have f_27 : w_21 (ad 5) = some (eI g 30 (upd fP j ((-1)))) := by rw [ew_21]; exact gu_s
                  have f_28 : w_21 (ad 6) = some (eI g 1200 fT) := by rw [ew_21]; exact (gu_n (fun q => absurd (hinj 6 5 (by decide) (by decide) q) (by decide))).trans f_14
                  have f_29 : w_21 (ad 7) = some (eI g 38400 fY) := by rw [ew_21]; exact (gu_n (fun q => absurd (hinj 7 5 (by decide) (by decide) q) (by decide))).trans f_15
                  have f_30 : w_21 (ad 8) = some (eI g 1200 fN) := by rw [ew_21]; exact (gu_n (fun q => absurd (hinj 8 5 (by decide) (by decide) q) (by decide))).trans f_16
                  have f_31 : w_21 (ad 9) = some (eL g 1200 fS) := by rw [ew_21]; exact (gu_n (fun q => absurd (hinj 9 5 (by decide) (by decide) q) (by decide))).trans f_17
                  have f_32 : w_21 (ad 10) = some (eI g 4 fKn) := by rw [ew_21]; exact (gu_n (fun q => absurd (hinj 10 5 (by decide) (by decide) q) (by decide))).trans f_18
                  have f_33 : w_21 (ad 11) = some (eL g 4 fK) := by rw [ew_21]; exact (gu_n (fun q => absurd (hinj 11 5 (by decide) (by decide) q) (by decide))).trans f_19
                  have f_34 : w_21 (ad 12) = some (eI g 32 fH) := by rw [ew_21]; exact (gu_n (fun q => absurd (hinj 12 5 (by decide) (by decide) q) (by decide))).trans f_20
                  refine lv_aload_n hx hb dX3_page_152 rfl (lv_at hl 0 rfl) ?_
                  refine lv_iconst (v := bI true) hx hb dX3_page_153 (by decide) ?_
                  refine gx_put C h f_22 (Cn := RX3) (T := TX3) (N := 22) (x := .int (bI true)) rfl in_X3 tyX3 tyX3_ok nmX3 8 (by decide) q740 rfl rfl (bI_n _) (bI_f _) (Nat.le_of_ble_eq_true rfl) dX3_page_154 (fun H locs h => ?_)
                  obtain ⟨w_35, ew_35⟩ : ∃ z_ : GW, z_ = gu w_21 (ad 0) (ob 4 [.int (nI cn), .int (bI ru), .int (bI fu), .ref (ad 1), .ref (ad 2), .ref (ad 3), .ref (ad 4), .ref (ad 5), .int (bI true), .ref (ad 6), .ref (ad 7), .int (nI fi), .int (nI be), .ref (ad 8), .ref (ad 9), .int (nI 0), .int (nI ne), .ref (ad 10), .ref (ad 11), .int (nI ke), .int (bI th), .ref (ad 12)]) := ⟨_, rfl⟩
                  have h : SH g w_35 v s H locs := by rw [ew_35]; exact h
                  have f_36 : w_35 (ad 0) = some (ob 4 [.int (nI cn), .int (bI ru), .int (bI fu), .ref (ad 1), .ref (ad 2), .ref (ad 3), .ref (ad 4), .ref (ad 5), .int (bI true), .ref (ad 6), .ref (ad 7), .int (nI fi), .int (nI be), .ref (ad 8), .ref (ad 9), .int (nI 0), .int (nI ne), .ref (ad 10), .ref (ad 11), .int (nI ke), .int (bI th), .ref (ad 12)]) := by rw [ew_35]; exact gu_s
                  have f_37 : w_35 (ad 1) = some (eI g 2048 fD) := by rw [ew_35]; exact (gu_n (fun q => absurd (hinj 1 0 (by decide) (by decide) q) (by decide))).trans f_23
                  have f_38 : w_35 (ad 2) = some (eI g 2048 fL) := by rw [ew_35]; exact (gu_n (fun q => absurd (hinj 2 0 (by decide) (by decide) q) (by decide))).trans f_24
                  have f_39 : w_35 (ad 3) = some (eI g 2048 fO) := by rw [ew_35]; exact (gu_n (fun q => absurd (hinj 3 0 (by decide) (by decide) q) (by decide))).trans f_25
                  have f_40 : w_35 (ad 4) = some (eZ g 64 (va_up z k false)) := by rw [ew_35]; exact (gu_n (fun q => absurd (hinj 4 0 (by decide) (by decide) q) (by decide))).trans f_26
                  have f_41 : w_35 (ad 5) = some (eI g 30 (upd fP j ((-1)))) := by rw [ew_35]; exact (gu_n (fun q => absurd (hinj 5 0 (by decide) (by decide) q) (by decide))).trans f_27
                  have f_42 : w_35 (ad 6) = some (eI g 1200 fT) := by rw [ew_35]; exact (gu_n (fun q => absurd (hinj 6 0 (by decide) (by decide) q) (by decide))).trans f_28
                  have f_43 : w_35 (ad 7) = some (eI g 38400 fY) := by rw [ew_35]; exact (gu_n (fun q => absurd (hinj 7 0 (by decide) (by decide) q) (by decide))).trans f_29
                  have f_44 : w_35 (ad 8) = some (eI g 1200 fN) := by rw [ew_35]; exact (gu_n (fun q => absurd (hinj 8 0 (by decide) (by decide) q) (by decide))).trans f_30
                  have f_45 : w_35 (ad 9) = some (eL g 1200 fS) := by rw [ew_35]; exact (gu_n (fun q => absurd (hinj 9 0 (by decide) (by decide) q) (by decide))).trans f_31
                  have f_46 : w_35 (ad 10) = some (eI g 4 fKn) := by rw [ew_35]; exact (gu_n (fun q => absurd (hinj 10 0 (by decide) (by decide) q) (by decide))).trans f_32
                  have f_47 : w_35 (ad 11) = some (eL g 4 fK) := by rw [ew_35]; exact (gu_n (fun q => absurd (hinj 11 0 (by decide) (by decide) q) (by decide))).trans f_33
                  have f_48 : w_35 (ad 12) = some (eI g 32 fH) := by rw [ew_35]; exact (gu_n (fun q => absurd (hinj 12 0 (by decide) (by decide) q) (by decide))).trans f_34
                  refine lv_iload_n hx hb dX3_page_157 rfl (lv_at hl 2 rfl) ?_
                  have hMn : MW g w_35 ad cn ru fu true th fi be ne ke fD fL fO (va_up z k false) (upd fP j (-1)) fT fY fN fS fKn fK fH := ⟨hinj, f_36, f_37, f_38, f_39, f_40, f_41, f_42, f_43, f_44, f_45, f_46, f_47, f_48⟩
                  have eq : opPage (cn, ru, fu, ch, dk, wt, ld, pl, st, kp) kd x y = (x, (cn, ru, fu, true, dk, wt, va_up ld k none, va_up pl j none, st, kp)) := by unfold opPage; dsimp only; rw [if_neg (show ¬ ru = false by rw [c1]; decide), if_neg hnr, if_neg hnf2, hk]; dsimp only; rw [if_neg (fun q => c6 (e33.mp q)), if_neg (fun q => by have := e0.mp q; omega), hxc]
                  exact gr_i C h (ty := .int) rfl (rfl) (by rw [eq]; exact ⟨hxj.symm, page0_rm hj hk64 hMn r1 r2 r3 r4 r5 r6 r7 r8 r9 r10 r11 r12 r13⟩) (Nat.le_of_ble_eq_true rfl) (Nat.le_of_ble_eq_true rfl) dX3_page_158
                · skip
                  have hk1 : 0 < kn := Nat.pos_of_ne_zero (fun q => by subst q; exact c7 (by decide))
                  refine lv_aload_n hx hb dX3_page_110 rfl (lv_at hl 0 rfl) ?_
                  refine lv_iload_n hx hb dX3_page_111 rfl (lv_at hl 1 rfl) ?_
                  refine lv_iload hx hb dX3_page_112 (lv_at hl 4 rfl) ?_
                  refine lv_if_eq (tgt := 124) hx hb dX3_page_114 (by decide) (fun c8 => ?_) (fun c8 => ?_)
                  · skip
                    have c8 : fr = false := bI_eq0.mp c8
                    refine lv_iload_n hx hb dX3_page_124 rfl (lv_at hl 2 rfl) ?_
                    refine lv_sipush (v := nI 255) hx hb dX3_page_125 (by decide) ?_
                    refine lv_lload_n hx hb dX3_page_128 rfl (lv_at hl 3 rfl) ?_
                    refine gc_i (va_runV (As := [.int (nI kn), .int (nI j), .int (nI 255), .long y]) (rest := []) C.fix (m_X3_lay l g w v ad cn ru fu ch th fi be ne ke fD fL fO z fP fT fY fN fS fKn fK fH hM kn 255 (nI j) y hfb hne hke hcn (Or.inr ⟨j, hj, rfl⟩) hpl) (cwV 4 hts (lw_V q836 q838 qs32 q53 q839) rfl rfl rfl (by decide +kernel) ⟨Nat.le_of_ble_eq_true rfl, Nat.le_of_ble_eq_true rfl⟩) (gp_V C h [.int (nI kn), .int (nI j), .int (nI 255), .long y] (Cn := RX3) (T := TX3) (N := 22) rfl m0) rfl rfl hl.1 rfl (lv_room (Nat.le_of_ble_eq_true rfl)) dX3_page_129 ⟨Nat.le_of_ble_eq_true rfl, Nat.le_of_ble_eq_true rfl⟩) h (fun r_49 w_50 H locs hp h => ?_)
                    have hp := lay_rm (kd := kn) (so := 255) (pg := some j) hR i1.2 i2 r1 r2 r3 r4 r5 r6 r7 r8 r9 r10 r11 r12 r13 hKe (by omega) (by omega) rfl (fun q hq => by cases hq; exact hj) hp
                    have eq : opPage (cn, ru, fu, ch, dk, wt, ld, pl, st, kp) kd x y = layF (cn, ru, fu, ch, dk, wt, ld, pl, st, kp) (nI kn) (some j) (nI 255) y := by unfold opPage; dsimp only; rw [if_neg (show ¬ ru = false by rw [c1]; decide), if_neg hnr, if_neg hnf2, hk]; dsimp only; rw [if_neg (fun q => c6 (e33.mp q)), if_pos (e0.mpr hk1), hkd, hxc]
                    exact gr_i C h (ty := .int) rfl (rfl) (by rw [eq]; exact hp) (Nat.le_of_ble_eq_true rfl) (Nat.le_of_ble_eq_true rfl) dX3_page_132
                  · skip
                    have c8 : fr = true := bI_ne0.mp c8
                    rw [c4] at c8; cases c8
              · skip
                have c6 : kn = 3 := (nI_eq (by omega) (by omega)).mp c6
                refine lv_aload_n hx hb dX3_page_64 rfl (lv_at hl 0 rfl) ?_
                refine lv_aload_n hx hb dX3_page_65 rfl (lv_at hl 0 rfl) ?_
                refine gx_get C h m0 (Cn := RX3) (T := TX3) (N := 22) rfl in_X3 7 (by decide) q739 rfl rfl dX3_page_66 ?_
                refine lv_iload_n hx hb dX3_page_69 rfl (lv_at hl 2 rfl) ?_
                refine gx_iald C h m5 j (rfl) (by omega) dX3_page_70 ?_
                rw [hfpj]
                refine gc_i (va_runV (As := [.int (nI k)]) (rest := []) C.fix (m_X3_kindOf l g w v ad cn ru fu ch th fi be ne ke m0 z m4 fO m3 fL m2 k (by omega)) (cwV 1 hts (lw_V q809 q811 qs28 q53 q812) rfl rfl rfl (by decide +kernel) ⟨Nat.le_of_ble_eq_true rfl, Nat.le_of_ble_eq_true rfl⟩) (gp_V C h [.int (nI k)] (Cn := RX3) (T := TX3) (N := 22) rfl m0) rfl rfl hl.1 rfl (lv_room (Nat.le_of_ble_eq_true rfl)) dX3_page_71 ⟨Nat.le_of_ble_eq_true rfl, Nat.le_of_ble_eq_true rfl⟩) h (fun r_51 w_52 H locs hp h => ?_)
                obtain ⟨er_r_51, ew_r_51⟩ := hp
                rw [er_r_51]
                rw [ew_r_51] at h
                rw [br_by r2 r3 r4 (by omega) (by omega), kind_ub]
                refine lv_iconst (v := nI 3) hx hb dX3_page_74 (by decide) ?_
                refine lv_icmp_ne (tgt := 82) hx hb dX3_page_75 (by decide) (fun c9 => ?_) (fun c9 => ?_)
                · skip
                  refine lv_aload_n hx hb dX3_page_82 rfl (lv_at hl 0 rfl) ?_
                  refine lv_iconst (v := nI 3) hx hb dX3_page_83 (by decide) ?_
                  refine lv_aload_n hx hb dX3_page_84 rfl (lv_at hl 0 rfl) ?_
                  refine gc_i (va_runV (As := []) (rest := [.int (nI 3), .ref (ad 0)]) C.fix (m_X3_freePage l g w v ad cn ru fu ch th fi be ne ke m0 fP m5) (cwV 0 hts (lw_V q817 q819 qs30 q53 q820) rfl rfl rfl (by decide +kernel) ⟨Nat.le_of_ble_eq_true rfl, Nat.le_of_ble_eq_true rfl⟩) (gp_V C h [] (Cn := RX3) (T := TX3) (N := 22) rfl m0) rfl rfl hl.1 rfl (lv_room (Nat.le_of_ble_eq_true rfl)) dX3_page_85 ⟨Nat.le_of_ble_eq_true rfl, Nat.le_of_ble_eq_true rfl⟩) h (fun r_53 w_54 H locs hp h => ?_)
                  obtain ⟨er_r_53, ew_r_53⟩ := hp
                  rw [er_r_53]
                  rw [ew_r_53] at h
                  rw [br_frP i1.2 i2 r5, frPo_pl]
                  refine lv_iload_n hx hb dX3_page_88 rfl (lv_at hl 2 rfl) ?_
                  refine lv_aload_n hx hb dX3_page_89 rfl (lv_at hl 0 rfl) ?_
                  refine lv_aload_n hx hb dX3_page_90 rfl (lv_at hl 0 rfl) ?_
                  refine gx_get C h m0 (Cn := RX3) (T := TX3) (N := 22) rfl in_X3 7 (by decide) q739 rfl rfl dX3_page_91 ?_
                  refine lv_iload_n hx hb dX3_page_94 rfl (lv_at hl 2 rfl) ?_
                  refine gx_iald C h m5 j (rfl) (by omega) dX3_page_95 ?_
                  rw [hfpj]
                  refine gc_l (va_runV (As := [.int (nI k)]) (rest := [.int (nI j), .int (plI (frPo pl)), .int (nI 3), .ref (ad 0)]) C.fix (m_X3_valueOf l g w v ad cn ru fu ch th fi be ne ke m0 z m4 fO m3 fL m2 k (by omega)) (cwV 1 hts (lw_V q821 q823 qs31 q53 q824) rfl rfl rfl (by decide +kernel) ⟨Nat.le_of_ble_eq_true rfl, Nat.le_of_ble_eq_true rfl⟩) (gp_V C h [.int (nI k)] (Cn := RX3) (T := TX3) (N := 22) rfl m0) rfl rfl hl.1 rfl (lv_room (Nat.le_of_ble_eq_true rfl)) dX3_page_96 ⟨Nat.le_of_ble_eq_true rfl, Nat.le_of_ble_eq_true rfl⟩) h (fun r_55 w_56 H locs hp h => ?_)
                  obtain ⟨er_r_55, ew_r_55⟩ := hp
                  rw [er_r_55]
                  rw [ew_r_55] at h
                  rw [br_val r2 r3 r4 (by omega)]
                  refine gc_l (va_runS (As := [.long (wideB (cur dk wt ld k) 8)]) (rest := [.int (nI j), .int (plI (frPo pl)), .int (nI 3), .ref (ad 0)]) C.fix (m_X3_turned l g w v (wideB (cur dk wt ld k) 8)) (va_cwS 1 hts (lw_S q832 q833 q53 q834) rfl rfl rfl (by decide +kernel) ⟨Nat.le_of_ble_eq_true rfl, Nat.le_of_ble_eq_true rfl⟩) (gp_S C h _) rfl rfl hl.1 rfl (lv_room (Nat.le_of_ble_eq_true rfl)) dX3_page_99 ⟨Nat.le_of_ble_eq_true rfl, Nat.le_of_ble_eq_true rfl⟩) h (fun r_57 w_58 H locs hp h => ?_)
                  obtain ⟨er_r_57, ew_r_57⟩ := hp
                  rw [er_r_57]
                  rw [ew_r_57] at h
                  refine gc_i (va_runV (As := [.int (nI 3), .int (plI (frPo pl)), .int (nI j), .long (turnL (wideB (cur dk wt ld k) 8))]) (rest := []) C.fix (m_X3_lay l g w v ad cn ru fu ch th fi be ne ke fD fL fO z fP fT fY fN fS fKn fK fH hM 3 j (plI (frPo pl)) (turnL (wideB (cur dk wt ld k) 8)) hfb hne hke hcn (plI_cases (fun q hq => frPo_lt hq)) hpl) (cwV 4 hts (lw_V q836 q838 qs32 q53 q839) rfl rfl rfl (by decide +kernel) ⟨Nat.le_of_ble_eq_true rfl, Nat.le_of_ble_eq_true rfl⟩) (gp_V C h [.int (nI 3), .int (plI (frPo pl)), .int (nI j), .long (turnL (wideB (cur dk wt ld k) 8))] (Cn := RX3) (T := TX3) (N := 22) rfl m0) rfl rfl hl.1 rfl (lv_room (Nat.le_of_ble_eq_true rfl)) dX3_page_102 ⟨Nat.le_of_ble_eq_true rfl, Nat.le_of_ble_eq_true rfl⟩) h (fun r_59 w_60 H locs hp h => ?_)
                  have hp := lay_rm (kd := 3) (so := j) (pg := frPo pl) hR i1.2 i2 r1 r2 r3 r4 r5 r6 r7 r8 r9 r10 r11 r12 r13 hKe (by omega) (by omega) rfl (fun q hq => frPo_lt hq) hp
                  have eq : opPage (cn, ru, fu, ch, dk, wt, ld, pl, st, kp) kd x y = layF (cn, ru, fu, ch, dk, wt, ld, pl, st, kp) (nI 3) (frPo pl) (nI j) (turnL (wideB (cur dk wt ld k) 8)) := by unfold opPage; dsimp only; rw [if_neg (show ¬ ru = false by rw [c1]; decide), if_neg hnr, if_neg hnf2, hk]; dsimp only; rw [if_pos (e33.mpr c6), if_neg c9, hxj]
                  exact gr_i C h (ty := .int) rfl (rfl) (by rw [eq]; exact hp) (Nat.le_of_ble_eq_true rfl) (Nat.le_of_ble_eq_true rfl) dX3_page_105
                · skip
                  refine lv_iconst (v := (-1)) hx hb dX3_page_78 (by decide) ?_
                  refine lv_goto (tgt := 105) hx hb dX3_page_79 (by decide) ?_
                  have eq : opPage (cn, ru, fu, ch, dk, wt, ld, pl, st, kp) kd x y = (-1, (cn, ru, fu, ch, dk, wt, ld, pl, st, kp)) := by unfold opPage; dsimp only; rw [if_neg (show ¬ ru = false by rw [c1]; decide), if_neg hnr, if_neg hnf2, hk]; dsimp only; rw [if_pos (e33.mpr c6), if_pos c9]
                  exact gr_i C h (ty := .int) rfl (rfl) (by rw [eq]; exact ⟨rfl, hR.mono⟩) (Nat.le_of_ble_eq_true rfl) (Nat.le_of_ble_eq_true rfl) dX3_page_105
            · skip
              have c5 : (pgOf pl x).isSome = false := bI_eq0.mp c5
              have hk : pgOf pl x = none := Option.not_isSome_iff_eq_none.mp (by rw [c5]; decide)
              refine lv_iconst (v := (-1)) hx hb dX3_page_57 (by decide) ?_
              have eq : opPage (cn, ru, fu, ch, dk, wt, ld, pl, st, kp) kd x y = (-1, (cn, ru, fu, ch, dk, wt, ld, pl, st, kp)) := by unfold opPage; dsimp only; rw [if_neg (show ¬ ru = false by rw [c1]; decide), if_neg hnr, if_neg hnf2, hk]
              exact gr_i C h (ty := .int) rfl (rfl) (by rw [eq]; exact ⟨rfl, hR.mono⟩) (Nat.le_of_ble_eq_true rfl) (Nat.le_of_ble_eq_true rfl) dX3_page_58
        refine lv_iload_n hx hb dX3_page_22 rfl (lv_at hl 2 rfl) ?_
        refine lv_iconst (v := (-1)) hx hb dX3_page_23 (by decide) ?_
        refine lv_icmp_ne (tgt := 41) hx hb dX3_page_24 (by decide) (fun c4 => ?_) (fun c4 => ?_)
        · skip
          refine lv_iconst (v := bI false) hx hb dX3_page_41 (by decide) ?_
          refine lv_istore (lv' := [(5, .int (bI false)), (0, .ref (ad 0)), (1, .int (nI kn)), (2, .int x), (3, .long y)]) hx hb dX3_page_42 hl (by decide) rfl (fun ls hl => ?_)
          exact cont false ls ((decide_eq_false (fun q => c4 q.1)).symm) (lv_sub hl [1, 2, 3, 4, 0] rfl)
        · skip
          refine lv_iload_n hx hb dX3_page_27 rfl (lv_at hl 1 rfl) ?_
          refine lv_iconst (v := nI 1) hx hb dX3_page_28 (by decide) ?_
          refine lv_icmp_eq (tgt := 37) hx hb dX3_page_29 (by decide) (fun c5 => ?_) (fun c5 => ?_)
          · skip
            have c5 : kn = 1 := (nI_eq (by omega) (by omega)).mp c5
            refine lv_iconst (v := bI true) hx hb dX3_page_37 (by decide) ?_
            refine lv_goto (tgt := 42) hx hb dX3_page_38 (by decide) ?_
            refine lv_istore (lv' := [(5, .int (bI true)), (0, .ref (ad 0)), (1, .int (nI kn)), (2, .int x), (3, .long y)]) hx hb dX3_page_42 hl (by decide) rfl (fun ls hl => ?_)
            exact cont true ls ((decide_eq_true ⟨c4, Or.inl c5⟩).symm) (lv_sub hl [1, 2, 3, 4, 0] rfl)
          · skip
            have c5 : ¬ (kn = 1) := fun q => c5 ((nI_eq (by omega) (by omega)).mpr q)
            refine lv_iload_n hx hb dX3_page_32 rfl (lv_at hl 1 rfl) ?_
            refine lv_iconst (v := nI 2) hx hb dX3_page_33 (by decide) ?_
            refine lv_icmp_ne (tgt := 41) hx hb dX3_page_34 (by decide) (fun c6 => ?_) (fun c6 => ?_)
            · skip
              have c6 : ¬ (kn = 2) := fun q => c6 ((nI_eq (by omega) (by omega)).mpr q)
              refine lv_iconst (v := bI false) hx hb dX3_page_41 (by decide) ?_
              refine lv_istore (lv' := [(5, .int (bI false)), (0, .ref (ad 0)), (1, .int (nI kn)), (2, .int x), (3, .long y)]) hx hb dX3_page_42 hl (by decide) rfl (fun ls hl => ?_)
              exact cont false ls ((decide_eq_false (fun q => q.2.elim c5 c6)).symm) (lv_sub hl [1, 2, 3, 4, 0] rfl)
            · skip
              have c6 : kn = 2 := (nI_eq (by omega) (by omega)).mp c6
              refine lv_iconst (v := bI true) hx hb dX3_page_37 (by decide) ?_
              refine lv_goto (tgt := 42) hx hb dX3_page_38 (by decide) ?_
              refine lv_istore (lv' := [(5, .int (bI true)), (0, .ref (ad 0)), (1, .int (nI kn)), (2, .int x), (3, .long y)]) hx hb dX3_page_42 hl (by decide) rfl (fun ls hl => ?_)
              exact cont true ls ((decide_eq_true ⟨c4, Or.inr c6⟩).symm) (lv_sub hl [1, 2, 3, 4, 0] rfl)
      · skip
        refine lv_bipush (v := (-2)) hx hb dX3_page_19 (by decide) ?_
        have eq : opPage (cn, ru, fu, ch, dk, wt, ld, pl, st, kp) kd x y = (-2, (cn, ru, fu, ch, dk, wt, ld, pl, st, kp)) := by unfold opPage; dsimp only; rw [if_neg (show ¬ ru = false by rw [c1]; decide), if_pos (Or.inr (Int32.not_le.mp c3))]
        exact gr_i C h (ty := .int) rfl (rfl) (by rw [eq]; exact ⟨rfl, hR.mono⟩) (Nat.le_of_ble_eq_true rfl) (Nat.le_of_ble_eq_true rfl) dX3_page_21
  · skip
    have c1 : ru = false := bI_eq0.mp c1
    refine lv_bipush (v := (-3)) hx hb dX3_page_7 (by decide) ?_
    have eq : opPage (cn, ru, fu, ch, dk, wt, ld, pl, st, kp) kd x y = (-3, (cn, ru, fu, ch, dk, wt, ld, pl, st, kp)) := by unfold opPage; dsimp only; rw [if_pos c1]
    exact gr_i C h (ty := .int) rfl (rfl) (by rw [eq]; exact ⟨rfl, hR.mono⟩) (Nat.le_of_ble_eq_true rfl) (Nat.le_of_ble_eq_true rfl) dX3_page_9
