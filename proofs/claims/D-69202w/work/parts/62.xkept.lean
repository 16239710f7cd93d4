set_option maxRecDepth 100000
theorem XW.setK {g : GG} {w w' : GW} {ad : Nat → Nat} {cn : Nat} {ru fu ch : Bool} {dk : Sec} {wt : List (Nat × Sec)} {ld : Nat → Option Sec} {pl : Nat → Option Nat} {st kp : List (Int32 × Int64)} {fP : Nat → Int32} {fl : Nat → Option Nat} {lb : Nat → Nat} {wE sE kE : Nat} {kp' : List (Int32 × Int64)} {kE' : Nat} (h : XW g w ad cn ru fu ch dk wt ld pl st kp fP fl lb wE sE kE) (hq : QK g w' (ad 6) kp' kE') (hE : kE' = kE ∨ w kE' = none) (hk : ∀ b, b ≠ ad 6 → b ≠ kE → b ≠ kE' → w' b = w b) : XW g w' ad cn ru fu ch dk wt ld pl st kp' fP fl lb wE sE kE' := by
  obtain ⟨h1, h2, h3, h4, h5, h6, h7, ⟨d45, dws, dwk, dsk, d3w, d3s, d3k⟩, h9⟩ := h
  obtain ⟨fs, n, f, q1, q2⟩ := h4.at
  obtain ⟨fsw, nw, fw, w1, w2⟩ := h2.at
  obtain ⟨fss, ns, fsf, s1, s2⟩ := h3.at
  have hne : ∀ b e, w b = some e → b ≠ kE → b ≠ kE' := fun b e hb h0 => hE.elim (fun q => by rw [q]; exact h0) (fun q => g_neN hb q)
  have K : XK (fun k => k ≠ 6 ∧ k ≠ 50) w w' := fun a e ha t => by
    have a1 : a ≠ ad 6 := g_ne ha q1 (kn_ne t.1)
    have a2 : a ≠ kE := g_ne ha q2 (kn_ne t.2)
    exact (hk a a1 a2 (hne a e ha a2)).trans ha
  have E : ∀ b n f, w b = some (eO g n f) → b ≠ kE → w' b = w b := fun b n f hb h0 => hk b (g_ne hb q1 (by simp)) h0 (hne b _ hb h0)
  refine ⟨⟨K _ _ h1.1 (by simp [kn]), K _ _ h1.2.1 (by simp [kn]; omega), K _ _ h1.2.2.1 (by simp [kn]), (hk _ (g_ne h1.2.2.2 q1 (by simp)) d3k (hne _ _ h1.2.2.2 d3k)).trans h1.2.2.2⟩, h2.fr K (by simp) (by simp) (by simp) ((K _ _ w1 (by simp [kn])).trans w1.symm) (E _ _ _ w2 dwk), h3.fr K (by simp) ((K _ _ s1 (by simp [kn])).trans s1.symm) (E _ _ _ s2 dsk), hq, h5.fr K (by simp) (by simp), h6, h7, ⟨d45, dws, hne _ _ w2 dwk, hne _ _ s2 dsk, d3w, d3s, hne _ _ h1.2.2.2 d3k⟩, h9⟩
theorem XW.setW {g : GG} {w w' : GW} {ad : Nat → Nat} {cn : Nat} {ru fu ch : Bool} {dk : Sec} {wt : List (Nat × Sec)} {ld : Nat → Option Sec} {pl : Nat → Option Nat} {st kp : List (Int32 × Int64)} {fP : Nat → Int32} {fl : Nat → Option Nat} {lb : Nat → Nat} {wE sE kE : Nat} {wt' : List (Nat × Sec)} {wE' : Nat} (h : XW g w ad cn ru fu ch dk wt ld pl st kp fP fl lb wE sE kE) (hq : QW g w' (ad 4) (Pb ld lb) wt' wE') (hE : wE' = wE ∨ w wE' = none) (hk : ∀ b, b ≠ ad 4 → b ≠ wE → b ≠ wE' → w' b = w b) : XW g w' ad cn ru fu ch dk wt' ld pl st kp fP fl lb wE' sE kE := by
  obtain ⟨h1, h2, h3, h4, h5, h6, h7, ⟨d45, dws, dwk, dsk, d3w, d3s, d3k⟩, h9⟩ := h
  obtain ⟨fs, n, f, q1, q2⟩ := h2.at
  obtain ⟨fsk, nk, fk, k1, k2⟩ := h4.at
  obtain ⟨fss, ns, fsf, s1, s2⟩ := h3.at
  have hne : ∀ b e, w b = some e → b ≠ wE → b ≠ wE' := fun b e hb h0 => hE.elim (fun q => by rw [q]; exact h0) (fun q => g_neN hb q)
  have K : XK (fun k => k ≠ 5 ∧ k ≠ 50) w w' := fun a e ha t => by
    have a1 : a ≠ ad 4 := g_ne ha q1 (kn_ne t.1)
    have a2 : a ≠ wE := g_ne ha q2 (kn_ne t.2)
    exact (hk a a1 a2 (hne a e ha a2)).trans ha
  have E : ∀ b n f, w b = some (eO g n f) → b ≠ wE → w' b = w b := fun b n f hb h0 => hk b (g_ne hb q1 (by simp)) h0 (hne b _ hb h0)
  have s1' : w' (ad 5) = w (ad 5) := hk _ (Ne.symm d45) (g_ne s1 q2 (by simp)) (hne _ _ s1 (g_ne s1 q2 (by simp)))
  refine ⟨⟨K _ _ h1.1 (by simp [kn]), K _ _ h1.2.1 (by simp [kn]; omega), K _ _ h1.2.2.1 (by simp [kn]), (hk _ (g_ne h1.2.2.2 q1 (by simp)) d3w (hne _ _ h1.2.2.2 d3w)).trans h1.2.2.2⟩, hq, h3.fr K (by simp) s1' (E _ _ _ s2 (Ne.symm dws)), h4.fr K (by simp) ((K _ _ k1 (by simp [kn])).trans k1.symm) (E _ _ _ k2 (Ne.symm dwk)), h5.fr K (by simp) (by simp), h6, h7, ⟨d45, Ne.symm (hne _ _ s2 (Ne.symm dws)), Ne.symm (hne _ _ k2 (Ne.symm dwk)), dsk, hne _ _ h1.2.2.2 d3w, d3s, d3k⟩, h9⟩
theorem XW.setS {g : GG} {w w' : GW} {ad : Nat → Nat} {cn : Nat} {ru fu ch : Bool} {dk : Sec} {wt : List (Nat × Sec)} {ld : Nat → Option Sec} {pl : Nat → Option Nat} {st kp : List (Int32 × Int64)} {fP : Nat → Int32} {fl : Nat → Option Nat} {lb : Nat → Nat} {wE sE kE : Nat} {st' : List (Int32 × Int64)} {sE' : Nat} (h : XW g w ad cn ru fu ch dk wt ld pl st kp fP fl lb wE sE kE) (hq : QS g w' (ad 5) st' sE') (hE : sE' = sE ∨ w sE' = none) (hk : ∀ b, b ≠ ad 5 → b ≠ sE → b ≠ sE' → w' b = w b) : XW g w' ad cn ru fu ch dk wt ld pl st' kp fP fl lb wE sE' kE := by
  obtain ⟨h1, h2, h3, h4, h5, h6, h7, ⟨d45, dws, dwk, dsk, d3w, d3s, d3k⟩, h9⟩ := h
  obtain ⟨fs, n, f, q1, q2⟩ := h3.at
  obtain ⟨fsk, nk, fk, k1, k2⟩ := h4.at
  obtain ⟨fss, ns, fsf, s1, s2⟩ := h2.at
  have hne : ∀ b e, w b = some e → b ≠ sE → b ≠ sE' := fun b e hb h0 => hE.elim (fun q => by rw [q]; exact h0) (fun q => g_neN hb q)
  have K : XK (fun k => k ≠ 5 ∧ k ≠ 50) w w' := fun a e ha t => by
    have a1 : a ≠ ad 5 := g_ne ha q1 (kn_ne t.1)
    have a2 : a ≠ sE := g_ne ha q2 (kn_ne t.2)
    exact (hk a a1 a2 (hne a e ha a2)).trans ha
  have E : ∀ b n f, w b = some (eO g n f) → b ≠ sE → w' b = w b := fun b n f hb h0 => hk b (g_ne hb q1 (by simp)) h0 (hne b _ hb h0)
  have s1' : w' (ad 4) = w (ad 4) := hk _ d45 (g_ne s1 q2 (by simp)) (hne _ _ s1 (g_ne s1 q2 (by simp)))
  refine ⟨⟨K _ _ h1.1 (by simp [kn]), K _ _ h1.2.1 (by simp [kn]; omega), K _ _ h1.2.2.1 (by simp [kn]), (hk _ (g_ne h1.2.2.2 q1 (by simp)) d3s (hne _ _ h1.2.2.2 d3s)).trans h1.2.2.2⟩, h2.fr K (by simp) (by simp) (by simp) s1' (E _ _ _ s2 dws), hq, h4.fr K (by simp) ((K _ _ k1 (by simp [kn])).trans k1.symm) (E _ _ _ k2 (Ne.symm dsk)), h5.fr K (by simp) (by simp), h6, h7, ⟨d45, hne _ _ s2 dws, dwk, Ne.symm (hne _ _ k2 (Ne.symm dsk)), d3w, hne _ _ h1.2.2.2 d3s, d3k⟩, h9⟩
theorem SL.snoc {w w' : GW} {xs : List Nat} {st : List (Int32 × Int64)} {a : Nat} {y : Int32 × Int64} (h : SL w xs st) (hk : ∀ x fs, w x = some (ob 2 fs) → w' x = some (ob 2 fs)) (ha : w a = some (ob 2 [.int y.1, .long y.2])) : SL w' (xs ++ [a]) (st ++ [y]) := by
  refine ⟨by simp [h.1], fun i x z h1 h2 => ?_⟩
  by_cases c : i < xs.length
  · rw [List.getElem?_append_left c] at h1
    rw [List.getElem?_append_left (by have := h.1; omega)] at h2
    exact hk x _ (h.2 i x z h1 h2)
  · rw [List.getElem?_append_right (by omega)] at h1
    rw [List.getElem?_append_right (by have := h.1; omega)] at h2
    have hz : i - xs.length < 1 := (List.getElem?_eq_some_iff.mp h1).1
    have e1 : i - xs.length = 0 := by omega
    have e2 : i - st.length = 0 := by have := h.1; omega
    rw [e1] at h1
    rw [e2] at h2
    cases h1; cases h2
    exact hk a _ ha
theorem SL.erase {w w' : GW} {xs : List Nat} {st : List (Int32 × Int64)} {k : Nat} (h : SL w xs st) (hk : ∀ x fs, w x = some (ob 2 fs) → w' x = some (ob 2 fs)) (hl : k < st.length) : SL w' (xs.eraseIdx k) (st.eraseIdx k) := by
  refine ⟨by rw [List.length_eraseIdx, List.length_eraseIdx, h.1], fun i x z h1 h2 => ?_⟩
  rw [List.getElem?_eraseIdx] at h1 h2
  by_cases c : i < k
  · rw [if_pos c] at h1 h2
    exact hk x _ (h.2 i x z h1 h2)
  · rw [if_neg c] at h1 h2
    exact hk x _ (h.2 (i + 1) x z h1 h2)
theorem SL.cls {w : GW} {xs : List Nat} {st : List (Int32 × Int64)} (h : SL w xs st) : ∀ y ∈ xs, ∃ fs, w y = some (.inr (2, fs)) := by
  intro y hy
  obtain ⟨i, hi, e⟩ := List.getElem_of_mem hy
  have h1 : xs[i]? = some y := by rw [List.getElem?_eq_getElem hi, e]
  have h2 : st[i]? = some (st[i]'(by have := h.1; omega)) := List.getElem?_eq_getElem _
  exact ⟨_, h.2 i y _ h1 h2⟩
theorem cnt_diff {P Q : Nat → Bool} {a : Nat} (h : ∀ j, Q j = true → P j = true) : ∀ n, cntB (fun j => P j && !(Q j)) a n + cntB Q a n = cntB P a n
  | 0 => rfl
  | n + 1 => by
    rw [cntB_s, cntB_s, cntB_s]
    have := cnt_diff (a := a) h n
    have h1 := h (a + n)
    cases hQ : Q (a + n) <;> cases hP : P (a + n) <;> simp_all <;> omega
theorem nI_sub' {a b : Nat} (h : b ≤ a) : nI a - nI b = nI (a - b) := by
  have : nI a = nI (a - b) + nI b := by
    rw [show nI (a - b) + nI b = nI ((a - b) + b) from (Int32.ofNat_add _ _).symm, Nat.sub_add_cancel h]
  rw [this]
  exact Int32.add_sub_cancel _ _
theorem drop_cnt {wt : List (Nat × Sec)} {pl : Nat → Option Nat} {st kp : List (Int32 × Int64)} (i8 : ∀ x, x ∈ kp → bitL x.2 0 = false ∧ bitL x.2 1 = false) (k : Nat) : nI (cntB (fun j => hel wt pl st kp j && !(hel wt pl st (kp.eraseIdx k) j)) 0 64) = nI (cntB (hel wt pl st kp) 2 62) - nI (cntB (hel wt pl st (kp.eraseIdx k)) 2 62) := by
  have hs : ∀ j, hel wt pl st (kp.eraseIdx k) j = true → hel wt pl st kp j = true := by
    intro j h
    unfold hel at h ⊢
    rw [Bool.or_eq_true] at h ⊢
    refine h.imp_right (fun q => ?_)
    obtain ⟨x, hx, e⟩ := List.any_eq_true.mp q
    exact List.any_eq_true.mpr ⟨x, List.mem_of_mem_eraseIdx hx, e⟩
  have h0 : ∀ j, j < 2 → (hel wt pl st kp j && !(hel wt pl st (kp.eraseIdx k) j)) = false := by
    intro j hj
    have e : kp.any (fun s => bitL s.2 j) = false := by
      rw [List.any_eq_false]
      intro x hx
      have := i8 x hx
      rcases (show j = 0 ∨ j = 1 by omega) with q | q <;> subst q <;> simp [this]
    unfold hel
    rw [e]
    cases (anyB (fun p => decide (pl p = some j)) 30 || wt.any fun x => decide (x.fst = j)) || st.any fun s => bitL s.snd j <;> simp
  have hc := cnt_diff (a := 2) hs 62
  rw [nI_sub' (by omega)]
  congr 1
  rw [show (64 : Nat) = 2 + 62 by rfl, cntB_add]
  have : cntB (fun j => hel wt pl st kp j && !(hel wt pl st (kp.eraseIdx k) j)) 0 2 = 0 := by
    rw [cntB_s, cntB_s, h0 _ (by omega), h0 _ (by omega)]
    rfl
  rw [this, Nat.zero_add, Nat.zero_add]
  omega
set_option maxHeartbeats 4000000 in
theorem m_X1_backup (l : Launch) (g : GG) (w v : GW) (ad : Nat → Nat) (cn : Nat) (ru fu ch : Bool) (dk : Sec) (wt : List (Nat × Sec)) (ld : Nat → Option Sec) (pl : Nat → Option Nat) (st kp : List (Int32 × Int64)) (hR : RX g w ad (cn, ru, fu, ch, dk, wt, ld, pl, st, kp)) (hI : InvK (cn, ru, fu, ch, dk, wt, ld, pl, st, kp)) (n : Int32)  : Met l yX1_backup (ws_ yX1_backup cX1_backup 2 (some .int)) ({ frames := 6, cells := 1, slots := 10, locals := 360 } : Room) (gP g [.ref (ad 0), .int n] w v) (va_Qi (fun (r : Int32) (w' : GW) => r = (opBackup (cn, ru, fu, ch, dk, wt, ld, pl, st, kp) n).1 ∧ RX g w' ad (opBackup (cn, ru, fu, ch, dk, wt, ld, pl, st, kp) n).2) (gB g v) (gA g)) 1 10 (gA g) := by
  refine gm_of (by decide) (Nat.le_of_ble_eq_true rfl) ?_
  intro p e s m below meth c ls C hnm h hl
  have C : Cx g p s m ([.ref (ad 0), .int n] : List Value).toArray meth c cX1_backup 2 RX1 (some .int) := C
  obtain ⟨hx, hb, hml, hown, hts, hr, hlk, hG⟩ := id C
  have hl : lv_has ls 2 [(0, .ref (ad 0)), (1, .int n)] := hl
  obtain ⟨fP, fl, lb, wE, sE, kE, hX⟩ := id hR
  obtain ⟨⟨x0, x1, x2, x3⟩, hQW, hQS, hQK, hLL, hLi, hpl, hXD, h8⟩ := id hX
  obtain ⟨i1, i2, i3, i4, i5, i6, i7, i8, i9⟩ := id hI
  have n01 : ad 0 ≠ ad 1 := g_ne x0 x1 (kn_ne (show 0 ≠ 100 + 32 * cn by omega))
  have n02 : ad 0 ≠ ad 2 := g_ne x0 x2 (kn_ne (show 0 ≠ 130 by omega))
  have n03 : ad 0 ≠ ad 3 := g_ne x0 x3 (kn_ne (show 0 ≠ 50 by omega))
  have n12 : ad 1 ≠ ad 2 := g_ne x1 x2 (kn_ne (show 100 + 32 * cn ≠ 130 by omega))
  have n13 : ad 1 ≠ ad 3 := g_ne x1 x3 (kn_ne (show 100 + 32 * cn ≠ 50 by omega))
  have n23 : ad 2 ≠ ad 3 := g_ne x2 x3 (kn_ne (show 130 ≠ 50 by omega))
  obtain ⟨wn, wf, wh, ws, hDw, hWL⟩ := id hQW
  obtain ⟨sn, sf, sh, ss, hDs, hSL⟩ := id hQS
  obtain ⟨kN, kf, km, ks, hAk, hSK⟩ := id hQK
  obtain ⟨d45, dws, dwk, dsk, d3w, d3s, d3k⟩ := id hXD
  refine lv_aload_n hx hb dX1_backup_0 rfl (lv_at hl 0 rfl) ?_
  refine gx_get C h x0 (Cn := RX1) (T := TX1) (N := 10) rfl in_X1 2 (by decide) q217 rfl rfl dX1_backup_1 ?_
  refine lv_if_ne (tgt := 10) hx hb dX1_backup_4 (by decide) (fun c1 => ?_) (fun c1 => ?_)
  · skip
    have c1 : ru = true := bI_ne0.mp c1
    refine lv_aload_n hx hb dX1_backup_10 rfl (lv_at hl 0 rfl) ?_
    refine gc_q (va_runV (As := []) (rest := []) C.fix (m_X1_latest l g w v ad cn ru fu ch dk wt ld pl st kp fP fl lb wE sE kE hX i6) (cwV 0 hts (lw_V q462 q464 qs17 q43 q465) rfl rfl rfl (by decide +kernel) ⟨Nat.le_of_ble_eq_true rfl, Nat.le_of_ble_eq_true rfl⟩) (gp_V C h [] (Cn := RX1) (T := TX1) (N := 10) rfl x0) rfl rfl hl.1 rfl (lv_room (Nat.le_of_ble_eq_true rfl)) dX1_backup_11 ⟨Nat.le_of_ble_eq_true rfl, Nat.le_of_ble_eq_true rfl⟩) h (fun r_1 w_2 H locs hp h => ?_)
    obtain ⟨e1, re1, fe1, xe1⟩ := hp
    rw [re1]
    rw [xe1] at h
    refine gc_i (va_runV (As := []) (rest := []) C.fix (m_X2_number l g w v e1 (lastS st).1 (lastS st).2 fe1) (cwV 0 hts (lw_V q476 q477 q478 q50 q479) rfl rfl rfl (by decide +kernel) ⟨Nat.le_of_ble_eq_true rfl, Nat.le_of_ble_eq_true rfl⟩) (gp_V C h [] (Cn := RX2) (T := TX2) (N := 2) rfl fe1) rfl rfl hl.1 rfl (lv_room (Nat.le_of_ble_eq_true rfl)) dX1_backup_14 ⟨Nat.le_of_ble_eq_true rfl, Nat.le_of_ble_eq_true rfl⟩) h (fun r_3 w_4 H locs hp h => ?_)
    obtain ⟨er_r_3, ew_r_3⟩ := hp
    rw [er_r_3]
    rw [ew_r_3] at h
    refine lv_iload_n hx hb dX1_backup_17 rfl (lv_at hl 1 rfl) ?_
    refine lv_icmp_eq (tgt := 23) hx hb dX1_backup_18 (by decide) (fun c2 => ?_) (fun c2 => ?_)
    · skip
      refine lv_aload_n hx hb dX1_backup_23 rfl (lv_at hl 0 rfl) ?_
      refine gx_get C h x0 (Cn := RX1) (T := TX1) (N := 10) rfl in_X1 9 (by decide) q224 rfl rfl dX1_backup_24 ?_
      refine gc_i (va_runV (As := []) (rest := []) C.fix (m_J3_size l g w v (ad 6) kE kN kf km ks hAk) (cwV 0 hts (lw_V q566 q567 q568 q47 q569) rfl rfl rfl (by decide +kernel) ⟨Nat.le_of_ble_eq_true rfl, Nat.le_of_ble_eq_true rfl⟩) (gp_V C h [] (Cn := RJ3) (T := TJ3) (N := 3) rfl hAk.1) rfl rfl hl.1 rfl (lv_room (Nat.le_of_ble_eq_true rfl)) dX1_backup_27 ⟨Nat.le_of_ble_eq_true rfl, Nat.le_of_ble_eq_true rfl⟩) h (fun r_5 w_6 H locs hp h => ?_)
      obtain ⟨er_r_5, ew_r_5⟩ := hp
      rw [er_r_5]
      rw [ew_r_5] at h
      have hkl := hSK.1
      refine lv_iconst (v := nI 4) hx hb dX1_backup_30 (by decide) ?_
      refine lv_icmp_ne (tgt := 37) hx hb dX1_backup_31 (by decide) (fun c3 => ?_) (fun c3 => ?_)
      · skip
        have c3 : ¬ (ks.length = 4) := fun q => c3 ((nI_eq (by omega) (by omega)).mpr q)
        refine lv_aload_n hx hb dX1_backup_37 rfl (lv_at hl 0 rfl) ?_
        refine gx_get C h x0 (Cn := RX1) (T := TX1) (N := 10) rfl in_X1 9 (by decide) q224 rfl rfl dX1_backup_38 ?_
        refine lv_aload_n hx hb dX1_backup_41 rfl (lv_at hl 0 rfl) ?_
        refine gc_q (va_runV (As := []) (rest := [.ref (ad 6)]) C.fix (m_X1_latest l g w v ad cn ru fu ch dk wt ld pl st kp fP fl lb wE sE kE hX i6) (cwV 0 hts (lw_V q462 q464 qs17 q43 q465) rfl rfl rfl (by decide +kernel) ⟨Nat.le_of_ble_eq_true rfl, Nat.le_of_ble_eq_true rfl⟩) (gp_V C h [] (Cn := RX1) (T := TX1) (N := 10) rfl x0) rfl rfl hl.1 rfl (lv_room (Nat.le_of_ble_eq_true rfl)) dX1_backup_42 ⟨Nat.le_of_ble_eq_true rfl, Nat.le_of_ble_eq_true rfl⟩) h (fun r_7 w_8 H locs hp h => ?_)
        obtain ⟨e2, re2, fe2, xe2⟩ := hp
        rw [re2]
        rw [xe2] at h
        refine gc_i (va_runV (As := [.ref e2]) (rest := []) C.fix (m_J3_add l g w v (ad 6) kE kN kf km ks hAk e2 _ 2 (RX2, TX2, 2) rfl q951 fe2 (by omega) (by decide)) (cwV 1 hts (lw_V q570 q571 q572 q47 q573) rfl rfl rfl (by decide +kernel) ⟨Nat.le_of_ble_eq_true rfl, Nat.le_of_ble_eq_true rfl⟩) (gp_V C h [.ref e2] (Cn := RJ3) (T := TJ3) (N := 3) rfl hAk.1) rfl rfl hl.1 rfl (lv_room (Nat.le_of_ble_eq_true rfl)) dX1_backup_45 ⟨Nat.le_of_ble_eq_true rfl, Nat.le_of_ble_eq_true rfl⟩) h (fun r_9 w_10 H locs hp h => ?_)
        obtain ⟨pr, E2, f2, pA, pE, pk⟩ := hp
        rw [pr]
        have hX2 : XW g w_10 ad cn ru fu ch dk wt ld pl st (kp ++ [lastS st]) fP fl lb wE sE E2 := hX.setK ⟨10, f2, _, _, pA, SL.snoc hSK (fun x e hx => (pk x (g_ne hx hAk.1 (by simp)) (pE.elim (fun q => by rw [q]; exact g_ne hx hAk.2.1 (by simp)) (fun q => g_neN hx q.1))).trans hx) fe2⟩ (pE.imp_right And.left) (fun b b1 b2 b3 => pk b b1 b3)
        have y0 := hX2.1.1
        refine lv_pop hx hb dX1_backup_48 rfl ?_
        refine lv_aload_n hx hb dX1_backup_49 rfl (lv_at hl 0 rfl) ?_
        refine gc_q (va_runV (As := []) (rest := []) C.fix (m_X1_latest l g w_10 v ad cn ru fu ch dk wt ld pl st (kp ++ [lastS st]) fP fl lb wE sE E2 hX2 i6) (cwV 0 hts (lw_V q462 q464 qs17 q43 q465) rfl rfl rfl (by decide +kernel) ⟨Nat.le_of_ble_eq_true rfl, Nat.le_of_ble_eq_true rfl⟩) (gp_V C h [] (Cn := RX1) (T := TX1) (N := 10) rfl y0) rfl rfl hl.1 rfl (lv_room (Nat.le_of_ble_eq_true rfl)) dX1_backup_50 ⟨Nat.le_of_ble_eq_true rfl, Nat.le_of_ble_eq_true rfl⟩) h (fun r_11 w_12 H locs hp h => ?_)
        obtain ⟨e3, re3, fe3, xe3⟩ := hp
        rw [re3]
        rw [xe3] at h
        refine gc_l (va_runV (As := []) (rest := []) C.fix (m_X2_sectors l g w_10 v e3 (lastS st).1 (lastS st).2 fe3) (cwV 0 hts (lw_V q398 q399 q400 q50 q401) rfl rfl rfl (by decide +kernel) ⟨Nat.le_of_ble_eq_true rfl, Nat.le_of_ble_eq_true rfl⟩) (gp_V C h [] (Cn := RX2) (T := TX2) (N := 2) rfl fe3) rfl rfl hl.1 rfl (lv_room (Nat.le_of_ble_eq_true rfl)) dX1_backup_53 ⟨Nat.le_of_ble_eq_true rfl, Nat.le_of_ble_eq_true rfl⟩) h (fun r_13 w_14 H locs hp h => ?_)
        obtain ⟨er_r_13, ew_r_13⟩ := hp
        rw [er_r_13]
        rw [ew_r_13] at h
        refine gc_i (va_runS (As := [.long ((lastS st).2)]) (rest := []) C.fix (m_J8_bitCount l g w_10 v (lastS st).2) (va_cwS 1 hts (lw_S q597 q598 q57 q599) rfl rfl rfl (by decide +kernel) ⟨Nat.le_of_ble_eq_true rfl, Nat.le_of_ble_eq_true rfl⟩) (gp_S C h _) rfl rfl hl.1 rfl (lv_room (Nat.le_of_ble_eq_true rfl)) dX1_backup_56 ⟨Nat.le_of_ble_eq_true rfl, Nat.le_of_ble_eq_true rfl⟩) h (fun r_15 w_16 H locs hp h => ?_)
        obtain ⟨er_r_15, ew_r_15⟩ := hp
        rw [er_r_15]
        rw [ew_r_15] at h
        have eq : opBackup (cn, ru, fu, ch, dk, wt, ld, pl, st, kp) n = (nI (cntB (bitL (lastS st).2) 0 64), (cn, ru, fu, ch, dk, wt, ld, pl, st, kp ++ [lastS st])) := by unfold opBackup; dsimp only; rw [if_neg (show ¬ ru = false by rw [c1]; decide), if_pos c2, if_neg (by omega)]
        exact gr_i C h (ty := .int) rfl (rfl) (by rw [eq]; exact ⟨bc_eq _, fP, fl, lb, wE, sE, E2, hX2⟩) (Nat.le_of_ble_eq_true rfl) (Nat.le_of_ble_eq_true rfl) dX1_backup_59
      · skip
        have c3 : ks.length = 4 := (nI_eq (by omega) (by omega)).mp c3
        refine lv_bipush (v := (-4)) hx hb dX1_backup_34 (by decide) ?_
        have eq : opBackup (cn, ru, fu, ch, dk, wt, ld, pl, st, kp) n = (-4, (cn, ru, fu, ch, dk, wt, ld, pl, st, kp)) := by unfold opBackup; dsimp only; rw [if_neg (show ¬ ru = false by rw [c1]; decide), if_pos c2, if_pos (by omega)]
        exact gr_i C h (ty := .int) rfl (rfl) (by rw [eq]; exact ⟨rfl, fP, fl, lb, wE, sE, kE, hX⟩) (Nat.le_of_ble_eq_true rfl) (Nat.le_of_ble_eq_true rfl) dX1_backup_36
    · skip
      refine lv_iconst (v := (-1)) hx hb dX1_backup_21 (by decide) ?_
      have eq : opBackup (cn, ru, fu, ch, dk, wt, ld, pl, st, kp) n = (-1, (cn, ru, fu, ch, dk, wt, ld, pl, st, kp)) := by unfold opBackup; dsimp only; rw [if_neg (show ¬ ru = false by rw [c1]; decide), if_neg c2]
      exact gr_i C h (ty := .int) rfl (rfl) (by rw [eq]; exact ⟨rfl, fP, fl, lb, wE, sE, kE, hX⟩) (Nat.le_of_ble_eq_true rfl) (Nat.le_of_ble_eq_true rfl) dX1_backup_22
  · skip
    have c1 : ru = false := bI_eq0.mp c1
    refine lv_bipush (v := (-3)) hx hb dX1_backup_7 (by decide) ?_
    have eq : opBackup (cn, ru, fu, ch, dk, wt, ld, pl, st, kp) n = (-3, (cn, ru, fu, ch, dk, wt, ld, pl, st, kp)) := by unfold opBackup; dsimp only; rw [if_pos c1]
    exact gr_i C h (ty := .int) rfl (rfl) (by rw [eq]; exact ⟨rfl, fP, fl, lb, wE, sE, kE, hX⟩) (Nat.le_of_ble_eq_true rfl) (Nat.le_of_ble_eq_true rfl) dX1_backup_9
set_option maxHeartbeats 4000000 in
theorem m_X1_drop (l : Launch) (g : GG) (w v : GW) (ad : Nat → Nat) (cn : Nat) (ru fu ch : Bool) (dk : Sec) (wt : List (Nat × Sec)) (ld : Nat → Option Sec) (pl : Nat → Option Nat) (st kp : List (Int32 × Int64)) (hR : RX g w ad (cn, ru, fu, ch, dk, wt, ld, pl, st, kp)) (hI : InvK (cn, ru, fu, ch, dk, wt, ld, pl, st, kp)) (n : Int32)  : Met l yX1_drop (ws_ yX1_drop cX1_drop 5 (some .int)) ({ frames := 6, cells := 6, slots := 24, locals := 360 } : Room) (gP g [.ref (ad 0), .int n] w v) (va_Qi (fun (r : Int32) (w' : GW) => r = (opDrop (cn, ru, fu, ch, dk, wt, ld, pl, st, kp) n).1 ∧ RX g w' ad (opDrop (cn, ru, fu, ch, dk, wt, ld, pl, st, kp) n).2) (gB g v) (gA g)) 6 24 (gA g) := by
  refine gm_of (by decide) (Nat.le_of_ble_eq_true rfl) ?_
  intro p e s m below meth c ls C hnm h hl
  have C : Cx g p s m ([.ref (ad 0), .int n] : List Value).toArray meth c cX1_drop 5 RX1 (some .int) := C
  obtain ⟨hx, hb, hml, hown, hts, hr, hlk, hG⟩ := id C
  have hl : lv_has ls 5 [(0, .ref (ad 0)), (1, .int n)] := hl
  obtain ⟨fP, fl, lb, wE, sE, kE, hX⟩ := id hR
  obtain ⟨⟨x0, x1, x2, x3⟩, hQW, hQS, hQK, hLL, hLi, hpl, hXD, h8⟩ := id hX
  obtain ⟨i1, i2, i3, i4, i5, i6, i7, i8, i9⟩ := id hI
  have n01 : ad 0 ≠ ad 1 := g_ne x0 x1 (kn_ne (show 0 ≠ 100 + 32 * cn by omega))
  have n02 : ad 0 ≠ ad 2 := g_ne x0 x2 (kn_ne (show 0 ≠ 130 by omega))
  have n03 : ad 0 ≠ ad 3 := g_ne x0 x3 (kn_ne (show 0 ≠ 50 by omega))
  have n12 : ad 1 ≠ ad 2 := g_ne x1 x2 (kn_ne (show 100 + 32 * cn ≠ 130 by omega))
  have n13 : ad 1 ≠ ad 3 := g_ne x1 x3 (kn_ne (show 100 + 32 * cn ≠ 50 by omega))
  have n23 : ad 2 ≠ ad 3 := g_ne x2 x3 (kn_ne (show 130 ≠ 50 by omega))
  obtain ⟨wn, wf, wh, ws, hDw, hWL⟩ := id hQW
  obtain ⟨sn, sf, sh, ss, hDs, hSL⟩ := id hQS
  obtain ⟨kN, kf, km, ks, hAk, hSK⟩ := id hQK
  obtain ⟨d45, dws, dwk, dsk, d3w, d3s, d3k⟩ := id hXD
  have hkl := hSK.1
  refine lv_aload_n hx hb dX1_drop_0 rfl (lv_at hl 0 rfl) ?_
  refine gx_get C h x0 (Cn := RX1) (T := TX1) (N := 10) rfl in_X1 2 (by decide) q217 rfl rfl dX1_drop_1 ?_
  refine lv_if_ne (tgt := 10) hx hb dX1_drop_4 (by decide) (fun c1 => ?_) (fun c1 => ?_)
  · skip
    have c1 : ru = true := bI_ne0.mp c1
    refine lv_iconst (v := nI 0) hx hb dX1_drop_10 (by decide) ?_
    refine lv_istore_n (lv' := [(2, .int (nI 0)), (0, .ref (ad 0)), (1, .int n)]) hx hb dX1_drop_11 rfl hl (by decide) rfl (fun ls hl => ?_)
    have loop : ∀ (n_ : Nat) (k : Nat) (w1 : GW) (H : Heap) (locs : List Loc) (ls : Array Slot), kp.length - k < n_ → (k ≤ kp.length) → (lf (fun i => decide (¬ (kp.getD i (0, 0)).1 = n)) (kp.length - k) k = keptAt kp n) → (w1 = w) → SH g w1 v s H locs → lv_has ls 5 [(0, .ref (ad 0)), (1, .int n), (2, .int (nI k))] → W p l e ({ frames := 6, cells := 6, slots := 24, locals := 360 } : Room) s m ([.ref (ad 0), .int n] : List Value).toArray below meth c H locs 0 0 (MQ below (va_Qi (fun (r : Int32) (w' : GW) => r = (opDrop (cn, ru, fu, ch, dk, wt, ld, pl, st, kp) n).1 ∧ RX g w' ad (opDrop (cn, ru, fu, ch, dk, wt, ld, pl, st, kp) n).2) (gB g v) (gA g)) ([.ref (ad 0), .int n] : List Value).toArray s 6 24 (gA g)) (F0 m 12 ls []) := by
      intro n_
      induction n_ with
      | zero => intros; exact absurd ‹_ < 0› (Nat.not_lt_zero _)
      | succ n_ ih =>
        intro k w1 H locs ls hf hk hlf hw  h hl
        rw [hw] at h
        refine lv_iload_n hx hb dX1_drop_12 rfl (lv_at hl 2 rfl) ?_
        refine lv_aload_n hx hb dX1_drop_13 rfl (lv_at hl 0 rfl) ?_
        refine gx_get C h x0 (Cn := RX1) (T := TX1) (N := 10) rfl in_X1 9 (by decide) q224 rfl rfl dX1_drop_14 ?_
        refine gc_i (va_runV (As := []) (rest := [.int (nI k)]) C.fix (m_J3_size l g w v (ad 6) kE kN kf km ks hAk) (cwV 0 hts (lw_V q566 q567 q568 q47 q569) rfl rfl rfl (by decide +kernel) ⟨Nat.le_of_ble_eq_true rfl, Nat.le_of_ble_eq_true rfl⟩) (gp_V C h [] (Cn := RJ3) (T := TJ3) (N := 3) rfl hAk.1) rfl rfl hl.1 rfl (lv_room (Nat.le_of_ble_eq_true rfl)) dX1_drop_17 ⟨Nat.le_of_ble_eq_true rfl, Nat.le_of_ble_eq_true rfl⟩) h (fun r_1 w_2 H locs hp h => ?_)
        obtain ⟨er_r_1, ew_r_1⟩ := hp
        rw [er_r_1]
        rw [ew_r_1] at h
        refine lv_icmp_ge (tgt := 47) hx hb dX1_drop_20 (by decide) (fun c2 => ?_) (fun c2 => ?_)
        · skip
          have c2 : ks.length ≤ k := (nI_leI (by omega) (by omega)).mp c2
          have hkk : k = kp.length := by omega
          rw [hkk, Nat.sub_self] at hlf
          refine lv_iload_n hx hb dX1_drop_47 rfl (lv_at hl 2 rfl) ?_
          refine lv_aload_n hx hb dX1_drop_48 rfl (lv_at hl 0 rfl) ?_
          refine gx_get C h x0 (Cn := RX1) (T := TX1) (N := 10) rfl in_X1 9 (by decide) q224 rfl rfl dX1_drop_49 ?_
          refine gc_i (va_runV (As := []) (rest := [.int (nI k)]) C.fix (m_J3_size l g w v (ad 6) kE kN kf km ks hAk) (cwV 0 hts (lw_V q566 q567 q568 q47 q569) rfl rfl rfl (by decide +kernel) ⟨Nat.le_of_ble_eq_true rfl, Nat.le_of_ble_eq_true rfl⟩) (gp_V C h [] (Cn := RJ3) (T := TJ3) (N := 3) rfl hAk.1) rfl rfl hl.1 rfl (lv_room (Nat.le_of_ble_eq_true rfl)) dX1_drop_52 ⟨Nat.le_of_ble_eq_true rfl, Nat.le_of_ble_eq_true rfl⟩) h (fun r_3 w_4 H locs hp h => ?_)
          obtain ⟨er_r_3, ew_r_3⟩ := hp
          rw [er_r_3]
          rw [ew_r_3] at h
          refine lv_icmp_ne (tgt := 60) hx hb dX1_drop_55 (by decide) (fun c3 => ?_) (fun c3 => ?_)
          · skip
            have c3 : ¬ (k = ks.length) := fun q => c3 ((nI_eq (by omega) (by omega)).mpr q)
            omega
          · skip
            have c3 : k = ks.length := (nI_eq (by omega) (by omega)).mp c3
            refine lv_iconst (v := (-1)) hx hb dX1_drop_58 (by decide) ?_
            have eq : opDrop (cn, ru, fu, ch, dk, wt, ld, pl, st, kp) n = (-1, (cn, ru, fu, ch, dk, wt, ld, pl, st, kp)) := by unfold opDrop; dsimp only; rw [if_neg (show ¬ ru = false by rw [c1]; decide), if_neg (by rw [← hlf]; exact Nat.lt_irrefl _)]
            exact gr_i C h (ty := .int) rfl (rfl) (by rw [eq]; exact ⟨rfl, fP, fl, lb, wE, sE, kE, hX⟩) (Nat.le_of_ble_eq_true rfl) (Nat.le_of_ble_eq_true rfl) dX1_drop_59
        · skip
          have c2 : ¬ (ks.length ≤ k) := fun q => c2 ((nI_leI (by omega) (by omega)).mpr q)
          obtain ⟨q, hq⟩ : ∃ q, kp.length - k = q + 1 := ⟨kp.length - k - 1, by omega⟩
          rw [hq] at hlf
          obtain ⟨e1, he1⟩ : ∃ z_, ks[k]? = some z_ := ⟨_, List.getElem?_eq_getElem (by omega)⟩
          obtain ⟨y1, hy1⟩ : ∃ z_, kp[k]? = some z_ := ⟨_, List.getElem?_eq_getElem (by omega)⟩
          have g1_ := hSK.2 k e1 y1 he1 hy1
          have hg1 : (kp.getD k (0, 0)).1 = y1.1 := by rw [List.getD_eq_getElem?_getD, hy1]; rfl
          refine lv_aload_n hx hb dX1_drop_23 rfl (lv_at hl 0 rfl) ?_
          refine gx_get C h x0 (Cn := RX1) (T := TX1) (N := 10) rfl in_X1 9 (by decide) q224 rfl rfl dX1_drop_24 ?_
          refine lv_iload_n hx hb dX1_drop_27 rfl (lv_at hl 2 rfl) ?_
          refine gc_q (va_runV (As := [.int (nI k)]) (rest := []) C.fix (m_J3_get l g w v (ad 6) kE kN kf km ks hAk k e1 he1) (cwV 1 hts (lw_V q607 q608 q609 q47 q610) rfl rfl rfl (by decide +kernel) ⟨Nat.le_of_ble_eq_true rfl, Nat.le_of_ble_eq_true rfl⟩) (gp_V C h [.int (nI k)] (Cn := RJ3) (T := TJ3) (N := 3) rfl hAk.1) rfl rfl hl.1 rfl (lv_room (Nat.le_of_ble_eq_true rfl)) dX1_drop_28 ⟨Nat.le_of_ble_eq_true rfl, Nat.le_of_ble_eq_true rfl⟩) h (fun r_5 w_6 H locs hp h => ?_)
          obtain ⟨er_r_5, ew_r_5⟩ := hp
          rw [er_r_5]
          rw [ew_r_5] at h
          refine gx_cast C h (Cn := RX2) (T := TX2) (N := 2) rfl g1_ q133 dX1_drop_31 ?_
          refine gc_i (va_runV (As := []) (rest := []) C.fix (m_X2_number l g w v e1 y1.1 y1.2 g1_) (cwV 0 hts (lw_V q476 q477 q478 q50 q479) rfl rfl rfl (by decide +kernel) ⟨Nat.le_of_ble_eq_true rfl, Nat.le_of_ble_eq_true rfl⟩) (gp_V C h [] (Cn := RX2) (T := TX2) (N := 2) rfl g1_) rfl rfl hl.1 rfl (lv_room (Nat.le_of_ble_eq_true rfl)) dX1_drop_34 ⟨Nat.le_of_ble_eq_true rfl, Nat.le_of_ble_eq_true rfl⟩) h (fun r_7 w_8 H locs hp h => ?_)
          obtain ⟨er_r_7, ew_r_7⟩ := hp
          rw [er_r_7]
          rw [ew_r_7] at h
          refine lv_iload_n hx hb dX1_drop_37 rfl (lv_at hl 1 rfl) ?_
          refine lv_icmp_eq (tgt := 47) hx hb dX1_drop_38 (by decide) (fun c3 => ?_) (fun c3 => ?_)
          · skip
            rw [lf_f (decide_eq_false (fun z => z (hg1.trans c3)))] at hlf
            have hka : keptAt kp n < kp.length := by rw [← hlf]; omega
            refine lv_iload_n hx hb dX1_drop_47 rfl (lv_at hl 2 rfl) ?_
            refine lv_aload_n hx hb dX1_drop_48 rfl (lv_at hl 0 rfl) ?_
            refine gx_get C h x0 (Cn := RX1) (T := TX1) (N := 10) rfl in_X1 9 (by decide) q224 rfl rfl dX1_drop_49 ?_
            refine gc_i (va_runV (As := []) (rest := [.int (nI k)]) C.fix (m_J3_size l g w v (ad 6) kE kN kf km ks hAk) (cwV 0 hts (lw_V q566 q567 q568 q47 q569) rfl rfl rfl (by decide +kernel) ⟨Nat.le_of_ble_eq_true rfl, Nat.le_of_ble_eq_true rfl⟩) (gp_V C h [] (Cn := RJ3) (T := TJ3) (N := 3) rfl hAk.1) rfl rfl hl.1 rfl (lv_room (Nat.le_of_ble_eq_true rfl)) dX1_drop_52 ⟨Nat.le_of_ble_eq_true rfl, Nat.le_of_ble_eq_true rfl⟩) h (fun r_9 w_10 H locs hp h => ?_)
            obtain ⟨er_r_9, ew_r_9⟩ := hp
            rw [er_r_9]
            rw [ew_r_9] at h
            refine lv_icmp_ne (tgt := 60) hx hb dX1_drop_55 (by decide) (fun c4 => ?_) (fun c4 => ?_)
            · skip
              have c4 : ¬ (k = ks.length) := fun q => c4 ((nI_eq (by omega) (by omega)).mpr q)
              refine lv_aload_n hx hb dX1_drop_60 rfl (lv_at hl 0 rfl) ?_
              refine gc_l (va_runV (As := []) (rest := []) C.fix (m_X1_held l g w v ad cn ru fu ch dk wt ld pl st kp fP fl lb wE sE kE hX hI) (cwV 0 hts (lw_V q390 q392 qs12 q43 q393) rfl rfl rfl (by decide +kernel) ⟨Nat.le_of_ble_eq_true rfl, Nat.le_of_ble_eq_true rfl⟩) (gp_V C h [] (Cn := RX1) (T := TX1) (N := 10) rfl x0) rfl rfl hl.1 rfl (lv_room (Nat.le_of_ble_eq_true rfl)) dX1_drop_61 ⟨Nat.le_of_ble_eq_true rfl, Nat.le_of_ble_eq_true rfl⟩) h (fun r_11 w_12 H locs hp1 h => ?_)
              obtain ⟨hb1, x1_⟩ := hp1
              have f_13 : w_12 (ad 0) = some (ob 0 [.ref (ad 1), .int (nI cn), .int (bI ru), .int (bI fu), .ref (ad 2), .ref (ad 3), .int (bI ch), .ref (ad 4), .ref (ad 5), .ref (ad 6)]) := x1_.of x0
              have f_14 : w_12 (ad 1) = some (eB g (32 * cn) dk) := x1_.of x1
              have f_15 : w_12 (ad 2) = some (eI g 30 fP) := x1_.of x2
              have f_16 : w_12 (ad 3) = some (eS g 64 fl) := x1_.of x3
              have f_17 : w_12 (ad 4) = some (ob 5 [.ref wE, .int (nI wh), .int (nI (wr wn (wh + ws.length)))]) := x1_.of hDw.1
              have f_18 : w_12 wE = some (eO g wn wf) := x1_.of hDw.2.1
              have f_19 : w_12 (ad 5) = some (ob 5 [.ref sE, .int (nI sh), .int (nI (wr sn (sh + ss.length)))]) := x1_.of hDs.1
              have f_20 : w_12 sE = some (eO g sn sf) := x1_.of hDs.2.1
              have f_21 : w_12 (ad 6) = some (ob 6 [.int km, .ref kE, .int (nI ks.length)]) := x1_.of hAk.1
              have f_22 : w_12 kE = some (eO g kN kf) := x1_.of hAk.2.1
              have f_23 : w_12 e1 = some (ob 2 [.int y1.1, .long y1.2]) := x1_.of g1_
              have hX_24 := hX.ext x1_
              have hE_25 : Ext w w_12 := XK.trans XK.rfl' x1_
              have hA1 : AL g w_12 (ad 6) kE kN kf km ks := hAk.kept (f_21.trans hAk.1.symm) (f_22.trans hAk.2.1.symm)
              have hSK1 := hSK.fr x1_ trivial
              have hk10 : kN = 10 := hAk.2.2.2.2.elim (fun q => by have := hAk.2.2.1; omega) id
              rw [hk10] at hA1
              refine lv_lstore_n (lv' := [(3, .long r_11), (0, .ref (ad 0)), (1, .int n), (2, .int (nI k))]) hx hb dX1_drop_64 rfl hl (by decide) rfl (fun ls hl => ?_)
              refine lv_aload_n hx hb dX1_drop_65 rfl (lv_at hl 1 rfl) ?_
              refine gx_get C h f_13 (Cn := RX1) (T := TX1) (N := 10) rfl in_X1 9 (by decide) q224 rfl rfl dX1_drop_66 ?_
              refine lv_iload_n hx hb dX1_drop_69 rfl (lv_at hl 3 rfl) ?_
              refine gc_q (va_runV (As := [.int (nI k)]) (rest := []) C.fix (m_J3_remove l g w_12 v (ad 6) kE kf km ks hA1 k e1 2 (RX2, TX2, 2) rfl q951 (by omega) (SL.cls hSK1) (by decide) he1) (cwV 1 hts (lw_V q621 q622 q623 q47 q624) rfl rfl rfl (by decide +kernel) ⟨Nat.le_of_ble_eq_true rfl, Nat.le_of_ble_eq_true rfl⟩) (gp_V C h [.int (nI k)] (Cn := RJ3) (T := TJ3) (N := 3) rfl f_21) rfl rfl hl.1 rfl (lv_room (Nat.le_of_ble_eq_true rfl)) dX1_drop_70 ⟨Nat.le_of_ble_eq_true rfl, Nat.le_of_ble_eq_true rfl⟩) h (fun r_26 w_27 H locs hp2 h => ?_)
              obtain ⟨pr, f2, mc2, pA, pk⟩ := hp2
              rw [pr]
              have hX2 : XW g w_27 ad cn ru fu ch dk wt ld pl st (kp.eraseIdx k) fP fl lb wE sE kE := hX_24.setK ⟨10, f2, _, _, pA, SL.erase hSK1 (fun x e hx => (pk x (g_ne hx hA1.1 (by simp)) (g_ne hx hA1.2.1 (by simp))).trans hx) (by omega)⟩ (Or.inl rfl) (fun b b1 b2 b3 => pk b b1 b2)
              have hI2 : InvK (cn, ru, fu, ch, dk, wt, ld, pl, st, kp.eraseIdx k) := ⟨i1, i2, i3, i4, i5, i6, i7, fun x hx => i8 x (List.mem_of_mem_eraseIdx hx), by have := List.length_eraseIdx_le kp k; omega⟩
              have y0 := hX2.1.1
              refine lv_pop hx hb dX1_drop_73 rfl ?_
              refine lv_lload_n hx hb dX1_drop_74 rfl (lv_at hl 0 rfl) ?_
              refine lv_aload_n hx hb dX1_drop_75 rfl (lv_at hl 1 rfl) ?_
              refine gc_l (va_runV (As := []) (rest := [.long r_11]) C.fix (m_X1_held l g w_27 v ad cn ru fu ch dk wt ld pl st (kp.eraseIdx k) fP fl lb wE sE kE hX2 hI2) (cwV 0 hts (lw_V q390 q392 qs12 q43 q393) rfl rfl rfl (by decide +kernel) ⟨Nat.le_of_ble_eq_true rfl, Nat.le_of_ble_eq_true rfl⟩) (gp_V C h [] (Cn := RX1) (T := TX1) (N := 10) rfl y0) rfl rfl hl.1 rfl (lv_room (Nat.le_of_ble_eq_true rfl)) dX1_drop_76 ⟨Nat.le_of_ble_eq_true rfl, Nat.le_of_ble_eq_true rfl⟩) h (fun r_28 w_29 H locs hp3 h => ?_)
              obtain ⟨hb2, x3_⟩ := hp3
              refine lv_ldc2 (v := -1) hx hb hown (hts _ q630) dX1_drop_79 ?_
              refine lv_lxor hx hb dX1_drop_82 ?_
              refine lv_land hx hb dX1_drop_83 ?_
              refine gc_i (va_runS (As := [.long (r_11 &&& (r_28 ^^^ (-1)))]) (rest := []) C.fix (m_J8_bitCount l g w_29 v (r_11 &&& (r_28 ^^^ (-1)))) (va_cwS 1 hts (lw_S q597 q598 q57 q599) rfl rfl rfl (by decide +kernel) ⟨Nat.le_of_ble_eq_true rfl, Nat.le_of_ble_eq_true rfl⟩) (gp_S C h _) rfl rfl hl.1 rfl (lv_room (Nat.le_of_ble_eq_true rfl)) dX1_drop_84 ⟨Nat.le_of_ble_eq_true rfl, Nat.le_of_ble_eq_true rfl⟩) h (fun r_30 w_31 H locs hp h => ?_)
              obtain ⟨er_r_30, ew_r_30⟩ := hp
              rw [er_r_30]
              rw [ew_r_30] at h
              have hcd := drop_cnt (wt := wt) (pl := pl) (st := st) i8 k
              have hbc : bcF (r_11 &&& (r_28 ^^^ (-1))) = nI (cntB (hel wt pl st kp) 2 62) - nI (cntB (hel wt pl st (kp.eraseIdx k)) 2 62) := by rw [bc_eq, cntB_congr (Q := fun j => hel wt pl st kp j && !(hel wt pl st (kp.eraseIdx k) j)) 64 (fun j _ hj => by rw [bitL_and _ _ (by omega), bitL_xor _ _ (by omega), bitL_m1 (by omega), hb1 j (by omega), hb2 j (by omega)]; simp)]; exact hcd
              have eq : opDrop (cn, ru, fu, ch, dk, wt, ld, pl, st, kp) n = (nI (cntB (hel wt pl st kp) 2 62) - nI (cntB (hel wt pl st (kp.eraseIdx k)) 2 62), (cn, ru, fu, ch, dk, wt, ld, pl, st, kp.eraseIdx k)) := by unfold opDrop; dsimp only; rw [if_neg (show ¬ ru = false by rw [c1]; decide), if_pos hka, ← hlf]
              exact gr_i C h (ty := .int) rfl (rfl) (by rw [eq]; exact ⟨hbc, fP, fl, lb, wE, sE, kE, hX2.ext x3_⟩) (Nat.le_of_ble_eq_true rfl) (Nat.le_of_ble_eq_true rfl) dX1_drop_87
            · skip
              have c4 : k = ks.length := (nI_eq (by omega) (by omega)).mp c4
              omega
          · skip
            have c3n : ¬ (kp.getD k (0, 0)).1 = n := fun z => c3 (hg1.symm.trans z)
            rw [lf_t (decide_eq_true c3n)] at hlf
            refine lv_iinc (v := nI (k + 1)) (lv' := [(2, .int (nI (k + 1))), (0, .ref (ad 0)), (1, .int n)]) hx hb dX1_drop_41 hl (k := 2) rfl (gi_inc _ 1) (by decide) rfl (fun ls hl => ?_)
            refine lv_goto (tgt := 12) hx hb dX1_drop_44 (by decide) ?_
            exact ih (k + 1) _ _ _ _ (by omega) (by omega) (by rw [← hlf]; congr 1; omega) rfl  h (lv_sub hl [1, 2, 0] rfl)
    exact loop (kp.length + 1) 0 w _ _ _ (by omega) (by omega) rfl rfl h (lv_sub hl [1, 2, 0] rfl)
  · skip
    have c1 : ru = false := bI_eq0.mp c1
    refine lv_bipush (v := (-3)) hx hb dX1_drop_7 (by decide) ?_
    have eq : opDrop (cn, ru, fu, ch, dk, wt, ld, pl, st, kp) n = (-3, (cn, ru, fu, ch, dk, wt, ld, pl, st, kp)) := by unfold opDrop; dsimp only; rw [if_pos c1]
    exact gr_i C h (ty := .int) rfl (rfl) (by rw [eq]; exact ⟨rfl, fP, fl, lb, wE, sE, kE, hX⟩) (Nat.le_of_ble_eq_true rfl) (Nat.le_of_ble_eq_true rfl) dX1_drop_9
