set_option maxRecDepth 100000
theorem WL.tail {g : GG} {w w' : GW} {P : Nat → Prop} {x : Nat} {xs : List Nat} {y : Nat × Sec} {wt : List (Nat × Sec)} (h : WL g w P (x :: xs) (y :: wt)) (k : ∀ a e, w a = some e → kn e ≠ 5 ∧ kn e ≠ 50 → w' a = some e) : WL g w' P xs wt := by
  refine ⟨by have := h.1; simpa using this, fun i a z h1 h2 => ?_⟩
  obtain ⟨s, b, a1, a2, a3, a4⟩ := h.2 (i + 1) a z (by simpa using h1) (by simpa using h2)
  exact ⟨s, b, k _ _ a1 (by simp [kn]), k _ _ a2 (by simp [kn]), k _ _ a3 (by simp [kn]), a4⟩
theorem SL.tail {w w' : GW} {x : Nat} {xs : List Nat} {y : Int32 × Int64} {st : List (Int32 × Int64)} (h : SL w (x :: xs) (y :: st)) (k : ∀ a fs, w a = some (ob 2 fs) → w' a = some (ob 2 fs)) : SL w' xs st := by
  refine ⟨by have := h.1; simpa using this, fun i a z h1 h2 => ?_⟩
  exact k _ _ (h.2 (i + 1) a z (by simpa using h1) (by simpa using h2))
theorem st_one {st : List (Int32 × Int64)} (h : st ≠ []) (hl : st.length ≤ 1) : st = [lastS st] := by
  match st, h, hl with
  | [x], _, _ => rfl
  | x :: y :: st, _, hl => simp at hl
theorem last_cons {x : Int32 × Int64} {st : List (Int32 × Int64)} (h : st ≠ []) : lastS (x :: st) = lastS st := by
  cases st with
  | nil => exact absurd rfl h
  | cons a b => simp [lastS]
theorem wr_x {g : GG} {w w' : GW} {ad : Nat → Nat} {cn : Nat} {ru fu ch : Bool} {dk : Sec} {wt : List (Nat × Sec)} {ld : Nat → Option Sec} {pl : Nat → Option Nat} {st kp : List (Int32 × Int64)} {fP : Nat → Int32} {fl : Nat → Option Nat} {lb : Nat → Nat} {wE sE kE : Nat} {dk' : Sec} (h : XW g w ad cn ru fu ch dk wt ld pl st kp fP fl lb wE sE kE) (hw : w' = gu w (ad 1) (eB g (32 * cn) dk')) : XW g w' ad cn ru fu ch dk' wt ld pl st kp fP fl lb wE sE kE := by
  have h8 := h.2.2.2.2.2.2.2.2
  obtain ⟨x0, x1, x2, x3⟩ := h.1
  have K : XK (fun z => z ≠ 100 + 32 * cn) w w' := by rw [hw]; exact XK.put XK.rfl' x1 (by simp [kn])
  refine h.core K (by refine ⟨?_, ?_, ?_, ?_, ?_, ?_, ?_⟩ <;> intro q <;> omega) ⟨K _ _ x0 (by simp [kn]; omega), by rw [hw]; exact gu_s, K _ _ x2 (by simp [kn]; omega), K _ _ x3 (by simp [kn]; omega)⟩ h.2.2.2.2.2.2.1
set_option maxHeartbeats 4000000 in
theorem m_X1_write (l : Launch) (g : GG) (w v : GW) (ad : Nat → Nat) (cn : Nat) (ru fu ch : Bool) (dk : Sec) (a s0 b to n : Nat) (f : Sec) (x0 : w (ad 0) = some (ob 0 [.ref (ad 1), .int (nI cn), .int (bI ru), .int (bI fu), .ref (ad 2), .ref (ad 3), .int (bI ch), .ref (ad 4), .ref (ad 5), .ref (ad 6)])) (x1 : w (ad 1) = some (eB g (32 * cn) dk)) (ha : w a = some (ob 3 [.int (nI to), .ref s0])) (hs0 : w s0 = some (ob 1 [.ref b])) (hb0 : w b = some (eB g 32 f)) (hto : to < cn) (hcn : 8 ≤ cn ∧ cn ≤ 64) (hn : n ≤ 32) : Met l yX1_write (ws_ yX1_write cX1_write 3 none) ({ frames := 2, cells := 0, slots := 0, locals := 120 } : Room) (gP g [.ref (ad 0), .ref a, .int (nI n)] w v) (va_Qv (fun (w' : GW) => w' = gu w (ad 1) (eB g (32 * cn) (wrD dk (to, f) n))) (gB g v) (gA g)) 0 0 (gA g) := by
  refine gm_of (by decide) (Nat.le_of_ble_eq_true rfl) ?_
  intro p e s m below meth c ls C hnm h hl
  have C : Cx g p s m ([.ref (ad 0), .ref a, .int (nI n)] : List Value).toArray meth c cX1_write 3 RX1 none := C
  obtain ⟨hx, hb, hml, hown, hts, hr, hlk, hG⟩ := id C
  have hl : lv_has ls 3 [(0, .ref (ad 0)), (1, .ref a), (2, .int (nI n))] := hl
  refine lv_aload_n hx hb dX1_write_0 rfl (lv_at hl 1 rfl) ?_
  refine gc_q (va_runV (As := []) (rest := []) C.fix (m_X5_sector l g w v a (nI to) s0 ha) (cwV 0 hts (lw_V q335 q336 q337 q60 q338) rfl rfl rfl (by decide +kernel) ⟨Nat.le_of_ble_eq_true rfl, Nat.le_of_ble_eq_true rfl⟩) (gp_V C h [] (Cn := RX5) (T := TX5) (N := 2) rfl ha) rfl rfl hl.1 rfl (lv_room (Nat.le_of_ble_eq_true rfl)) dX1_write_1 ⟨Nat.le_of_ble_eq_true rfl, Nat.le_of_ble_eq_true rfl⟩) h (fun r_1 w_2 H locs hp h => ?_)
  obtain ⟨er_r_1, ew_r_1⟩ := hp
  rw [er_r_1]
  rw [ew_r_1] at h
  refine gx_getN C h hs0 (Cn := RX4) (T := TX4) (N := 1) rfl in_X4 0 (by decide) q349 rfl rfl dX1_write_4 ?_
  refine lv_iconst (v := nI 0) hx hb dX1_write_7 (by decide) ?_
  refine lv_aload_n hx hb dX1_write_8 rfl (lv_at hl 0 rfl) ?_
  refine gx_get C h x0 (Cn := RX1) (T := TX1) (N := 10) rfl in_X1 0 (by decide) q215 rfl rfl dX1_write_9 ?_
  refine lv_bipush (v := nI 32) hx hb dX1_write_12 (by decide) ?_
  refine lv_aload_n hx hb dX1_write_14 rfl (lv_at hl 1 rfl) ?_
  refine gc_i (va_runV (As := []) (rest := [.int (nI 32), .ref (ad 1), .int (nI 0), .ref b]) C.fix (m_X5_to l g w v a (nI to) s0 ha) (cwV 0 hts (lw_V q331 q332 q333 q60 q334) rfl rfl rfl (by decide +kernel) ⟨Nat.le_of_ble_eq_true rfl, Nat.le_of_ble_eq_true rfl⟩) (gp_V C h [] (Cn := RX5) (T := TX5) (N := 2) rfl ha) rfl rfl hl.1 rfl (lv_room (Nat.le_of_ble_eq_true rfl)) dX1_write_15 ⟨Nat.le_of_ble_eq_true rfl, Nat.le_of_ble_eq_true rfl⟩) h (fun r_3 w_4 H locs hp h => ?_)
  obtain ⟨er_r_3, ew_r_3⟩ := hp
  rw [er_r_3]
  rw [ew_r_3] at h
  refine gn_imul hx hb dX1_write_18 ?_
  refine lv_iload_n hx hb dX1_write_19 rfl (lv_at hl 2 rfl) ?_
  refine gx_copyB C h hl.1 q353 hb0 x1 0 (32 * to) n (by omega) (by omega) (by omega) (Nat.le_of_ble_eq_true rfl) (Nat.le_of_ble_eq_true rfl) dX1_write_20 (fun H locs h => ?_)
  obtain ⟨w_5, ew_5⟩ : ∃ z_ : GW, z_ = gu w (ad 1) (eB g (32 * cn) (wrD dk (to, f) n)) := ⟨_, rfl⟩
  have h : SH g w_5 v s H locs := by rw [ew_5]; exact h
  have f_6 : w_5 (ad 0) = some (ob 0 [.ref (ad 1), .int (nI cn), .int (bI ru), .int (bI fu), .ref (ad 2), .ref (ad 3), .int (bI ch), .ref (ad 4), .ref (ad 5), .ref (ad 6)]) := by rw [ew_5]; exact (gu_n (g_ne x0 x1 (by simp))).trans x0
  have f_7 : w_5 (ad 1) = some (eB g (32 * cn) (wrD dk (to, f) n)) := by rw [ew_5]; exact gu_s
  have f_8 : w_5 a = some (ob 3 [.int (nI to), .ref s0]) := by rw [ew_5]; exact (gu_n (g_ne ha x1 (by simp))).trans ha
  have f_9 : w_5 s0 = some (ob 1 [.ref b]) := by rw [ew_5]; exact (gu_n (g_ne hs0 x1 (by simp))).trans hs0
  have f_10 : w_5 b = some (eB g 32 f) := by rw [ew_5]; exact (gu_n (g_ne hb0 x1 (kn_ne (show 100 + 32 ≠ 100 + 32 * cn by omega)))).trans hb0
  exact gr_v C h (ew_5) (Nat.le_of_ble_eq_true rfl) (Nat.le_of_ble_eq_true rfl) dX1_write_23
set_option maxHeartbeats 4000000 in
theorem m_X1_sync (l : Launch) (g : GG) (w v : GW) (ad : Nat → Nat) (cn : Nat) (ru fu ch : Bool) (dk : Sec) (wt : List (Nat × Sec)) (ld : Nat → Option Sec) (pl : Nat → Option Nat) (st kp : List (Int32 × Int64)) (hR : RX g w ad (cn, ru, fu, ch, dk, wt, ld, pl, st, kp)) (hI : InvK (cn, ru, fu, ch, dk, wt, ld, pl, st, kp))  : Met l yX1_sync (ws_ yX1_sync cX1_sync 1 (some .int)) ({ frames := 5, cells := 0, slots := 0, locals := 300 } : Room) (gP g [.ref (ad 0)] w v) (va_Qi (fun (r : Int32) (w' : GW) => r = (opSync (cn, ru, fu, ch, dk, wt, ld, pl, st, kp)).1 ∧ RX g w' ad (opSync (cn, ru, fu, ch, dk, wt, ld, pl, st, kp)).2) (gB g v) (gA g)) 0 0 (gA g) := by
  refine gm_of (by decide) (Nat.le_of_ble_eq_true rfl) ?_
  intro p e s m below meth c ls C hnm h hl
  have C : Cx g p s m ([.ref (ad 0)] : List Value).toArray meth c cX1_sync 1 RX1 (some .int) := C
  obtain ⟨hx, hb, hml, hown, hts, hr, hlk, hG⟩ := id C
  have hl : lv_has ls 1 [(0, .ref (ad 0))] := hl
  obtain ⟨fP, fl, lb, wE, sE, kE, hX⟩ := id hR
  obtain ⟨⟨x0, x1, x2, x3⟩, hQW, hQS, hQK, hLL, hLi, hpl, hXD, h8⟩ := id hX
  obtain ⟨i1, i2, i3, i4, i5, i6, i7, i8, i9⟩ := id hI
  have n01 : ad 0 ≠ ad 1 := g_ne x0 x1 (kn_ne (show 0 ≠ 100 + 32 * cn by omega))
  have n02 : ad 0 ≠ ad 2 := g_ne x0 x2 (kn_ne (show 0 ≠ 130 by omega))
  have n03 : ad 0 ≠ ad 3 := g_ne x0 x3 (kn_ne (show 0 ≠ 50 by omega))
  have n12 : ad 1 ≠ ad 2 := g_ne x1 x2 (kn_ne (show 100 + 32 * cn ≠ 130 by omega))
  have n13 : ad 1 ≠ ad 3 := g_ne x1 x3 (kn_ne (show 100 + 32 * cn ≠ 50 by omega))
  have n23 : ad 2 ≠ ad 3 := g_ne x2 x3 (kn_ne (show 130 ≠ 50 by omega))
  refine lv_aload_n hx hb dX1_sync_0 rfl (lv_at hl 0 rfl) ?_
  refine gx_get C h x0 (Cn := RX1) (T := TX1) (N := 10) rfl in_X1 2 (by decide) q217 rfl rfl dX1_sync_1 ?_
  refine lv_if_ne (tgt := 10) hx hb dX1_sync_4 (by decide) (fun c1 => ?_) (fun c1 => ?_)
  · skip
    have c1 : ru = true := bI_ne0.mp c1
    have loop2 : ∀ (n_ : Nat) (st1 : List (Int32 × Int64)) (w1 : GW) (H : Heap) (locs : List Loc) (ls : Array Slot), st1.length < n_ → (st1 ≠ []) → (lastS st1 = lastS st) → (XW g w1 ad cn ru fu ch (wrAll dk wt) ([]) ld pl st1 kp fP fl lb wE sE kE) → SH g w1 v s H locs → lv_has ls 1 [(0, .ref (ad 0))] → W p l e ({ frames := 5, cells := 0, slots := 0, locals := 300 } : Room) s m ([.ref (ad 0)] : List Value).toArray below meth c H locs 0 0 (MQ below (va_Qi (fun (r : Int32) (w' : GW) => r = (opSync (cn, ru, fu, ch, dk, wt, ld, pl, st, kp)).1 ∧ RX g w' ad (opSync (cn, ru, fu, ch, dk, wt, ld, pl, st, kp)).2) (gB g v) (gA g)) ([.ref (ad 0)] : List Value).toArray s 0 0 (gA g)) (F0 m 39 ls []) := by
      intro n_
      induction n_ with
      | zero => intros; exact absurd ‹_ < 0› (Nat.not_lt_zero _)
      | succ n_ ih =>
        intro st1 w1 H locs ls hf hn1 hl1 hX1  h hl
        obtain ⟨⟨y0, y1, y2, y3⟩, hQW, hQS, -⟩ := id hX1
        obtain ⟨sn, sf, sh, ss, hDs, hSL⟩ := id hQS
        refine lv_aload_n hx hb dX1_sync_39 rfl (lv_at hl 0 rfl) ?_
        refine gx_get C h y0 (Cn := RX1) (T := TX1) (N := 10) rfl in_X1 8 (by decide) q223 rfl rfl dX1_sync_40 ?_
        refine gc_i (va_runV (As := []) (rest := []) C.fix (m_J1_size l g w1 v (ad 5) sE sn sf sh ss hDs) (cwV 0 hts (lw_V q481 q273 q274 q45 q275) rfl rfl rfl (by decide +kernel) ⟨Nat.le_of_ble_eq_true rfl, Nat.le_of_ble_eq_true rfl⟩) (gp_V C h [] (Cn := RJ1) (T := TJ1) (N := 3) rfl hDs.1) rfl rfl hl.1 rfl (lv_room (Nat.le_of_ble_eq_true rfl)) dX1_sync_43 ⟨Nat.le_of_ble_eq_true rfl, Nat.le_of_ble_eq_true rfl⟩) h (fun r_1 w_2 H locs hp h => ?_)
        obtain ⟨er_r_1, ew_r_1⟩ := hp
        rw [er_r_1]
        rw [ew_r_1] at h
        have hsl := hSL.1
        have hs200 : ss.length < 200 := by have := hDs.2.2.2.1; have := hDs.2.2.2.2.1; omega
        refine lv_iconst (v := nI 1) hx hb dX1_sync_46 (by decide) ?_
        refine lv_icmp_le (tgt := 61) hx hb dX1_sync_47 (by decide) (fun c2 => ?_) (fun c2 => ?_)
        · skip
          have c2 : ss.length ≤ 1 := (nI_leI (by omega) (by omega)).mp c2
          have hone : st1 = [lastS st] := by rw [← hl1]; exact st_one hn1 (by omega)
          refine lv_aload_n hx hb dX1_sync_61 rfl (lv_at hl 0 rfl) ?_
          refine gc_q (va_runV (As := []) (rest := []) C.fix (m_X1_latest l g w1 v ad cn ru fu ch (wrAll dk wt) ([]) ld pl st1 kp fP fl lb wE sE kE hX1 hn1) (cwV 0 hts (lw_V q462 q464 qs17 q43 q465) rfl rfl rfl (by decide +kernel) ⟨Nat.le_of_ble_eq_true rfl, Nat.le_of_ble_eq_true rfl⟩) (gp_V C h [] (Cn := RX1) (T := TX1) (N := 10) rfl y0) rfl rfl hl.1 rfl (lv_room (Nat.le_of_ble_eq_true rfl)) dX1_sync_62 ⟨Nat.le_of_ble_eq_true rfl, Nat.le_of_ble_eq_true rfl⟩) h (fun r_3 w_4 H locs hp h => ?_)
          obtain ⟨e3, re3, fe3, xe3⟩ := hp
          rw [re3]
          rw [xe3] at h
          rw [hl1] at fe3
          refine gc_i (va_runV (As := []) (rest := []) C.fix (m_X2_number l g w1 v e3 (lastS st).1 (lastS st).2 fe3) (cwV 0 hts (lw_V q476 q477 q478 q50 q479) rfl rfl rfl (by decide +kernel) ⟨Nat.le_of_ble_eq_true rfl, Nat.le_of_ble_eq_true rfl⟩) (gp_V C h [] (Cn := RX2) (T := TX2) (N := 2) rfl fe3) rfl rfl hl.1 rfl (lv_room (Nat.le_of_ble_eq_true rfl)) dX1_sync_65 ⟨Nat.le_of_ble_eq_true rfl, Nat.le_of_ble_eq_true rfl⟩) h (fun r_5 w_6 H locs hp h => ?_)
          obtain ⟨er_r_5, ew_r_5⟩ := hp
          rw [er_r_5]
          rw [ew_r_5] at h
          have eq : opSync (cn, ru, fu, ch, dk, wt, ld, pl, st, kp) = ((lastS st).1, (cn, ru, fu, ch, wrAll dk wt, [], ld, pl, [lastS st], kp)) := by unfold opSync; dsimp only; rw [if_neg (show ¬ ru = false by rw [c1]; decide)]
          exact gr_i C h (ty := .int) rfl (rfl) (by rw [eq]; exact ⟨rfl, fP, fl, lb, wE, sE, kE, by rw [hone] at hX1; exact hX1⟩) (Nat.le_of_ble_eq_true rfl) (Nat.le_of_ble_eq_true rfl) dX1_sync_68
        · skip
          have c2 : ¬ (ss.length ≤ 1) := fun q => c2 ((nI_leI (by omega) (by omega)).mpr q)
          obtain ⟨x, xs, hxs⟩ : ∃ x xs, ss = x :: xs := by cases ss with | nil => exact absurd (show ([] : List Nat).length ≤ 1 from by decide) c2 | cons a b => exact ⟨a, b, rfl⟩
          subst hxs
          obtain ⟨q1, st2, hst⟩ : ∃ q1 st2, st1 = q1 :: st2 := by cases st1 with | nil => exact absurd rfl hn1 | cons a b => exact ⟨a, b, rfl⟩
          subst hst
          refine lv_aload_n hx hb dX1_sync_50 rfl (lv_at hl 0 rfl) ?_
          refine gx_get C h y0 (Cn := RX1) (T := TX1) (N := 10) rfl in_X1 8 (by decide) q223 rfl rfl dX1_sync_51 ?_
          refine gc_q (va_runV (As := []) (rest := []) C.fix (m_J1_poll l g w1 v (ad 5) sE sn sf sh x xs hDs) (cwV 0 hts (lw_V q509 q510 q511 q45 q512) rfl rfl rfl (by decide +kernel) ⟨Nat.le_of_ble_eq_true rfl, Nat.le_of_ble_eq_true rfl⟩) (gp_V C h [] (Cn := RJ1) (T := TJ1) (N := 3) rfl hDs.1) rfl rfl hl.1 rfl (lv_room (Nat.le_of_ble_eq_true rfl)) dX1_sync_54 ⟨Nat.le_of_ble_eq_true rfl, Nat.le_of_ble_eq_true rfl⟩) h (fun r_7 w_8 H locs hpp h => ?_)
          obtain ⟨pr, pw⟩ := hpp
          rw [pr]
          have pk : ∀ b, b ≠ ad 5 → b ≠ sE → w_8 b = w1 b := fun b b1 b2 => by rw [pw, gu_n b1, gu_n b2]
          have hX2 : XW g w_8 ad cn ru fu ch (wrAll dk wt) ([]) ld pl st2 kp fP fl lb wE sE kE := hX1.setS ⟨sn, _, _, xs, hDs.poll (by rw [pw]; exact gu_s) (by rw [pw, gu_n (g_ne hDs.2.1 hDs.1 (by simp))]; exact gu_s), SL.tail hSL (fun x fs hx => (pk x (g_ne hx hDs.1 (by simp)) (g_ne hx hDs.2.1 (by simp))).trans hx)⟩ (Or.inl rfl) (fun b b1 b2 _ => pk b b1 b2)
          refine lv_pop hx hb dX1_sync_57 rfl ?_
          refine lv_goto (tgt := 39) hx hb dX1_sync_58 (by decide) ?_
          have hn2 : st2 ≠ [] := fun q => by subst q; exact c2 (by rw [hsl]; exact Nat.le_refl 1)
          exact ih st2 _ _ _ _ (by simp at hf ⊢; omega) hn2 (by rw [← hl1]; exact (last_cons hn2).symm) hX2  h (lv_sub hl [0] rfl)
    have loop : ∀ (n_ : Nat) (wt1 : List (Nat × Sec)) (dk1 : Sec) (w1 : GW) (H : Heap) (locs : List Loc) (ls : Array Slot), wt1.length < n_ → (∀ x, x ∈ wt1 → x ∈ wt) → (wrAll dk1 wt1 = wrAll dk wt) → (XW g w1 ad cn ru fu ch dk1 wt1 ld pl st kp fP fl lb wE sE kE) → SH g w1 v s H locs → lv_has ls 1 [(0, .ref (ad 0))] → W p l e ({ frames := 5, cells := 0, slots := 0, locals := 300 } : Room) s m ([.ref (ad 0)] : List Value).toArray below meth c H locs 0 0 (MQ below (va_Qi (fun (r : Int32) (w' : GW) => r = (opSync (cn, ru, fu, ch, dk, wt, ld, pl, st, kp)).1 ∧ RX g w' ad (opSync (cn, ru, fu, ch, dk, wt, ld, pl, st, kp)).2) (gB g v) (gA g)) ([.ref (ad 0)] : List Value).toArray s 0 0 (gA g)) (F0 m 10 ls []) := by
      intro n_
      induction n_ with
      | zero => intros; exact absurd ‹_ < 0› (Nat.not_lt_zero _)
      | succ n_ ih =>
        intro wt1 dk1 w1 H locs ls hf hsub hwr hX1  h hl
        obtain ⟨⟨y0, y1_, y2, y3⟩, hQW, -⟩ := id hX1
        obtain ⟨wn, wf, wh, ws, hDw, hWL⟩ := id hQW
        refine lv_aload_n hx hb dX1_sync_10 rfl (lv_at hl 0 rfl) ?_
        refine gx_get C h y0 (Cn := RX1) (T := TX1) (N := 10) rfl in_X1 7 (by decide) q222 rfl rfl dX1_sync_11 ?_
        refine gc_i (va_runV (As := []) (rest := []) C.fix (m_J1_isEmpty l g w1 v (ad 4) wE wn wf wh ws hDw) (cwV 0 hts (lw_V q505 q506 q507 q45 q508) rfl rfl rfl (by decide +kernel) ⟨Nat.le_of_ble_eq_true rfl, Nat.le_of_ble_eq_true rfl⟩) (gp_V C h [] (Cn := RJ1) (T := TJ1) (N := 3) rfl hDw.1) rfl rfl hl.1 rfl (lv_room (Nat.le_of_ble_eq_true rfl)) dX1_sync_14 ⟨Nat.le_of_ble_eq_true rfl, Nat.le_of_ble_eq_true rfl⟩) h (fun r_9 w_10 H locs hp h => ?_)
        obtain ⟨er_r_9, ew_r_9⟩ := hp
        rw [er_r_9]
        rw [ew_r_9] at h
        refine lv_if_ne (tgt := 39) hx hb dX1_sync_17 (by decide) (fun c2 => ?_) (fun c2 => ?_)
        · skip
          have c2 : decide (ws = []) = true := bI_ne0.mp c2
          have hnil : wt1 = [] := List.eq_nil_of_length_eq_zero (by rw [← hWL.1, of_decide_eq_true c2]; rfl)
          subst hnil
          have hdk : dk1 = wrAll dk wt := hwr
          exact loop2 (st.length + 1) st _ _ _ _ (by omega) i6 rfl (by rw [← hdk]; exact hX1) h (lv_sub hl [0] rfl)
        · skip
          have c2 : decide (ws = []) = false := bI_eq0.mp c2
          obtain ⟨x, xs, hxs⟩ : ∃ x xs, ws = x :: xs := by cases ws with | nil => cases c2 | cons a b => exact ⟨a, b, rfl⟩
          subst hxs
          obtain ⟨y1, wt2, hst⟩ : ∃ q1 st2, wt1 = q1 :: st2 := by cases wt1 with | nil => have := hWL.1; cases this | cons a b => exact ⟨a, b, rfl⟩
          subst hst
          refine lv_aload_n hx hb dX1_sync_20 rfl (lv_at hl 0 rfl) ?_
          refine lv_aload_n hx hb dX1_sync_21 rfl (lv_at hl 0 rfl) ?_
          refine gx_get C h y0 (Cn := RX1) (T := TX1) (N := 10) rfl in_X1 7 (by decide) q222 rfl rfl dX1_sync_22 ?_
          refine gc_q (va_runV (As := []) (rest := [.ref (ad 0)]) C.fix (m_J1_poll l g w1 v (ad 4) wE wn wf wh x xs hDw) (cwV 0 hts (lw_V q509 q510 q511 q45 q512) rfl rfl rfl (by decide +kernel) ⟨Nat.le_of_ble_eq_true rfl, Nat.le_of_ble_eq_true rfl⟩) (gp_V C h [] (Cn := RJ1) (T := TJ1) (N := 3) rfl hDw.1) rfl rfl hl.1 rfl (lv_room (Nat.le_of_ble_eq_true rfl)) dX1_sync_25 ⟨Nat.le_of_ble_eq_true rfl, Nat.le_of_ble_eq_true rfl⟩) h (fun r_11 w_12 H locs hpp h => ?_)
          obtain ⟨pr, pw⟩ := hpp
          rw [pr]
          obtain ⟨s1, b1, s1a, s1b, s1c, s1d⟩ := hWL.2 0 _ _ rfl rfl
          have pk : ∀ b, b ≠ ad 4 → b ≠ wE → w_12 b = w1 b := fun b b1 b2 => by rw [pw, gu_n b1, gu_n b2]
          have hX2 : XW g w_12 ad cn ru fu ch dk1 wt2 ld pl st kp fP fl lb wE sE kE := hX1.setW ⟨wn, _, _, xs, hDw.poll (by rw [pw]; exact gu_s) (by rw [pw, gu_n (g_ne hDw.2.1 hDw.1 (by simp))]; exact gu_s), WL.tail hWL (fun x e hx k5 => (pk x (g_ne hx hDw.1 (kn_ne k5.1)) (g_ne hx hDw.2.1 (kn_ne k5.2))).trans hx)⟩ (Or.inl rfl) (fun b b1 b2 _ => pk b b1 b2)
          have g1 := (pk _ (g_ne s1a hDw.1 (by simp)) (g_ne s1a hDw.2.1 (by simp))).trans s1a
          have g2 := (pk _ (g_ne s1b hDw.1 (by simp)) (g_ne s1b hDw.2.1 (by simp))).trans s1b
          have g3 := (pk _ (g_ne s1c hDw.1 (by simp)) (g_ne s1c hDw.2.1 (by simp))).trans s1c
          obtain ⟨⟨u0, u1, u2, u3⟩, -⟩ := id hX2
          refine gx_cast C h (Cn := RX5) (T := TX5) (N := 2) rfl g1 q330 dX1_sync_28 ?_
          refine lv_bipush (v := nI 32) hx hb dX1_sync_31 (by decide) ?_
          refine gc_v (va_runV (As := [.ref x, .int (nI 32)]) (rest := []) C.fix (m_X1_write l g w_12 v ad cn ru fu ch dk1 x s1 b1 y1.1 32 y1.2 u0 u1 g1 g2 g3 (i4 y1 (hsub y1 List.mem_cons_self)).1 i1 (Nat.le_refl _)) (cwV 2 hts (lw_V q517 q519 qs18 q43 q520) rfl rfl rfl (by decide +kernel) ⟨Nat.le_of_ble_eq_true rfl, Nat.le_of_ble_eq_true rfl⟩) (gp_V C h [.ref x, .int (nI 32)] (Cn := RX1) (T := TX1) (N := 10) rfl u0) rfl rfl hl.1 rfl (lv_room (Nat.le_of_ble_eq_true rfl)) dX1_sync_33 ⟨Nat.le_of_ble_eq_true rfl, Nat.le_of_ble_eq_true rfl⟩) h (fun w_14 H locs hpw h => ?_)
          have hX3 : XW g w_14 ad cn ru fu ch (wrD dk1 y1 32) wt2 ld pl st kp fP fl lb wE sE kE := wr_x hX2 hpw
          refine lv_goto (tgt := 10) hx hb dX1_sync_36 (by decide) ?_
          exact ih wt2 _ _ _ _ _ (by simp at hf ⊢; omega) (fun x hx => hsub x (List.mem_cons_of_mem _ hx)) (by rw [← hwr]; rfl) hX3  h (lv_sub hl [0] rfl)
    exact loop (wt.length + 1) wt dk w _ _ _ (by omega) (fun _ h => h) rfl hX h (lv_sub hl [0] rfl)
  · skip
    have c1 : ru = false := bI_eq0.mp c1
    refine lv_bipush (v := (-3)) hx hb dX1_sync_7 (by decide) ?_
    have eq : opSync (cn, ru, fu, ch, dk, wt, ld, pl, st, kp) = (-3, (cn, ru, fu, ch, dk, wt, ld, pl, st, kp)) := by unfold opSync; dsimp only; rw [if_pos c1]
    exact gr_i C h (ty := .int) rfl (rfl) (by rw [eq]; exact ⟨rfl, fP, fl, lb, wE, sE, kE, hX⟩) (Nat.le_of_ble_eq_true rfl) (Nat.le_of_ble_eq_true rfl) dX1_sync_9
