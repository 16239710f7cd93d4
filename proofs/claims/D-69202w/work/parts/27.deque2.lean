set_option maxRecDepth 100000
set_option maxHeartbeats 4000000 in
theorem m_J1_addLast (l : Launch) (g : GG) (w v : GW) (a E n : Nat) (f : Nat → Option Nat) (hd : Nat) (xs : List Nat) (hD : DQ g w a E n f hd xs) (x : Nat) (fsx : List Value) (ci : Nat) (rc : vw_C) (hc : vwCl[ci]? = some rc) (hca : Cond.castable rc.1 "java/lang/Object" ∈ lw_tbl) (hx_ : w x = some (.inr (ci, fsx))) (hel : ∀ y ∈ xs, ∃ fs, w y = some (.inr (ci, fs))) (hlen : xs.length ≤ 65) (hci : ci ≠ 5) : Met l yJ1_addLast (ws_ yJ1_addLast cJ1_addLast 3 none) ({ frames := 5, cells := 1, slots := 200, locals := 300 } : Room) (gP g [.ref a, .ref x] w v) (va_Qv (fun (w' : GW) => ∃ (E' n' : Nat) (f' : Nat → Option Nat) (hd' : Nat), DQ g w' a E' n' f' hd' (xs ++ [x]) ∧ (E' = E ∨ (w E' = none ∧ v E' = none)) ∧ ∀ b, b ≠ a → b ≠ E → b ≠ E' → w' b = w b) (gB g v) (gA g)) 1 200 (gA g) := by
  refine gm_of (by decide) (Nat.le_of_ble_eq_true rfl) ?_
  intro p e s m below meth c ls C hnm h hl
  have C : Cx g p s m ([.ref a, .ref x] : List Value).toArray meth c cJ1_addLast 3 RJ1 none := C
  obtain ⟨hx, hb, hml, hown, hts, hr, hlk, hG⟩ := id C
  have hl : lv_has ls 3 [(0, .ref a), (1, .ref x)] := hl
  obtain ⟨h0, hE, hd1, hd2, hd3, hd4⟩ := id hD
  have htl : wr n (hd + xs.length) < n := wr_lt (by omega)
  have hxa : x ≠ a := g_ne hx_ h0 (by intro q; injection q with q; injection q with q; exact hci q)
  have hxE : x ≠ E := g_ne hx_ hE (by intro q; cases q)
  have haE : a ≠ E := g_ne h0 hE (by intro q; cases q)
  refine lv_aload_n hx hb dJ1_addLast_0 rfl (lv_at hl 1 rfl) ?_
  refine lv_ifnonnull (tgt := 12) hx hb dJ1_addLast_1 (by decide) ?_
  refine lv_aload_n hx hb dJ1_addLast_12 rfl (lv_at hl 0 rfl) ?_
  refine gx_get C h h0 (Cn := RJ1) (T := TJ1) (N := 3) rfl in_J1 0 (by decide) q91 rfl rfl dJ1_addLast_13 ?_
  refine lv_astore_n (lv' := [(2, .ref E), (0, .ref a), (1, .ref x)]) hx hb dJ1_addLast_16 rfl hl (by decide) rfl (fun ls hl => ?_)
  refine lv_aload_n hx hb dJ1_addLast_17 rfl (lv_at hl 0 rfl) ?_
  refine lv_aload_n hx hb dJ1_addLast_18 rfl (lv_at hl 1 rfl) ?_
  refine gx_get C h h0 (Cn := RJ1) (T := TJ1) (N := 3) rfl in_J1 2 (by decide) q95 rfl rfl dJ1_addLast_19 ?_
  refine lv_aload_n hx hb dJ1_addLast_22 rfl (lv_at hl 2 rfl) ?_
  refine gx_aastO C h 5 (ci := ci) (r := rc) hc rfl hca hE hx_ (wr n (hd + xs.length)) rfl (by omega) dJ1_addLast_23 (fun H locs h => ?_)
  obtain ⟨w_1, ew_1⟩ : ∃ z : GW, z = gu w E (eO g n (va_up f (wr n (hd + xs.length)) (some x))) := ⟨_, rfl⟩
  have h : SH g w_1 v s H locs := by rw [ew_1]; exact h
  have f_2 : w_1 a = some (ob 5 [.ref E, .int (nI hd), .int (nI (wr n (hd + xs.length)))]) := by rw [ew_1]; exact (gu_n (g_ne h0 hE (by simp))).trans h0
  have f_3 : w_1 E = some (eO g n (va_up f (wr n (hd + xs.length)) (some x))) := by rw [ew_1]; exact gu_s
  refine lv_aload_n hx hb dJ1_addLast_24 rfl (lv_at hl 1 rfl) ?_
  refine gx_get C h f_2 (Cn := RJ1) (T := TJ1) (N := 3) rfl in_J1 1 (by decide) q94 rfl rfl dJ1_addLast_25 ?_
  refine lv_aload_n hx hb dJ1_addLast_28 rfl (lv_at hl 1 rfl) ?_
  refine lv_aload_n hx hb dJ1_addLast_29 rfl (lv_at hl 1 rfl) ?_
  refine gx_get C h f_2 (Cn := RJ1) (T := TJ1) (N := 3) rfl in_J1 2 (by decide) q95 rfl rfl dJ1_addLast_30 ?_
  refine lv_aload_n hx hb dJ1_addLast_33 rfl (lv_at hl 0 rfl) ?_
  refine gx_alen C h (t := 5) rfl f_3 dJ1_addLast_34 ?_
  refine gc_i (va_runS (As := [.int (nI (wr n (hd + xs.length))), .int (nI n)]) (rest := [.ref a, .int (nI hd)]) C.fix (m_J1_inc l g w_1 v (wr n (hd + xs.length)) n htl hd3) (va_cwS 2 hts (lw_S q169 q170 q45 q171) rfl rfl rfl (by decide +kernel) ⟨Nat.le_of_ble_eq_true rfl, Nat.le_of_ble_eq_true rfl⟩) (gp_S C h _) rfl rfl hl.1 rfl (lv_room (Nat.le_of_ble_eq_true rfl)) dJ1_addLast_35 ⟨Nat.le_of_ble_eq_true rfl, Nat.le_of_ble_eq_true rfl⟩) h (fun r_4 w_5 H locs hp h => ?_)
  obtain ⟨er_r_4, ew_r_4⟩ := hp
  rw [er_r_4]
  rw [ew_r_4] at h
  refine lv_dup_x1 hx hb dJ1_addLast_38 rfl rfl ?_
  refine gx_put C h f_2 (Cn := RJ1) (T := TJ1) (N := 3) (x := .int (nI (wr n (wr n (hd + xs.length) + 1)))) rfl in_J1 tyJ1 tyJ1_ok nmJ1 2 (by decide) q95 rfl rfl rfl rfl (Nat.le_of_ble_eq_true rfl) dJ1_addLast_39 (fun H locs h => ?_)
  obtain ⟨w_6, ew_6⟩ : ∃ z : GW, z = gu w_1 a (ob 5 [.ref E, .int (nI hd), .int (nI (wr n (wr n (hd + xs.length) + 1)))]) := ⟨_, rfl⟩
  have h : SH g w_6 v s H locs := by rw [ew_6]; exact h
  have f_7 : w_6 a = some (ob 5 [.ref E, .int (nI hd), .int (nI (wr n (wr n (hd + xs.length) + 1)))]) := by rw [ew_6]; exact gu_s
  have f_8 : w_6 E = some (eO g n (va_up f (wr n (hd + xs.length)) (some x))) := by rw [ew_6]; exact (gu_n (g_ne f_3 f_2 (by simp))).trans f_3
  have hnt : wr n (wr n (hd + xs.length) + 1) < n := wr_lt (by omega)
  refine lv_icmp_ne (tgt := 50) hx hb dJ1_addLast_42 (by decide) (fun c1 => ?_) (fun c1 => ?_)
  · skip
    have c1 : ¬ (hd = (wr n (wr n (hd + xs.length) + 1))) := fun q => c1 ((nI_eq (by omega) (by omega)).mpr q)
    have hroom : xs.length + 1 < n := by
      rcases Nat.lt_or_ge (xs.length + 1) n with q | q
      · exact q
      · exfalso; apply c1; unfold wr; split <;> (try split) <;> (try split) <;> omega
    exact gr_v C h (⟨E, n, _, hd, hD.add hroom (by rw [ew_6]; exact gu_s) (by rw [ew_6]; exact (gu_n (Ne.symm haE)).trans (by rw [ew_1]; exact gu_s)), Or.inl rfl, fun b b1 b2 b3 => by rw [ew_6, gu_n b1, ew_1, gu_n b2]⟩) (Nat.le_of_ble_eq_true rfl) (Nat.le_of_ble_eq_true rfl) dJ1_addLast_50
  · skip
    have c1 : hd = (wr n (wr n (hd + xs.length) + 1)) := (nI_eq (by omega) (by omega)).mp c1
    have hfull : xs.length + 1 = n := by revert c1; unfold wr; split <;> (try split) <;> (try split) <;> omega
    refine lv_aload_n hx hb dJ1_addLast_45 rfl (lv_at hl 1 rfl) ?_
    refine lv_iconst (v := nI 1) hx hb dJ1_addLast_46 (by decide) ?_
    have hwt : wr n (wr n (hd + xs.length) + 1) = hd := c1.symm
    have hx2 : ∀ (i y : Nat), (xs ++ [x])[i]? = some y → (va_up f (wr n (hd + xs.length)) (some x)) (wr n (hd + i)) = some y := by
      intro i y hy
      by_cases hi : i < xs.length
      · rw [List.getElem?_append_left hi] at hy
        unfold va_up
        rw [if_neg (fun q => by have := wr_inj q (by omega) (by omega); omega)]
        exact hd4 i y hy
      · rw [List.getElem?_append_right (by omega)] at hy
        have hz : i - xs.length < 1 := (List.getElem?_eq_some_iff.mp hy).1
        have hi2 : i = xs.length := by omega
        subst hi2
        rw [Nat.sub_self] at hy
        cases hy
        simp [va_up]
    have hel2 : ∀ y ∈ xs ++ [x], ∃ fs, w_6 y = some (.inr (ci, fs)) := by
      intro y hy
      have : ∃ fs, w y = some (.inr (ci, fs)) := by
        rcases List.mem_append.mp hy with q | q
        · exact hel y q
        · rw [List.mem_singleton.mp q]; exact ⟨_, hx_⟩
      obtain ⟨fs, hfs⟩ := this
      have ya : y ≠ a := g_ne hfs h0 (by intro q; injection q with q; injection q with q; exact hci q)
      have yE : y ≠ E := g_ne hfs hE (by intro q; cases q)
      exact ⟨fs, by rw [ew_6, gu_n ya, ew_1, gu_n yE]; exact hfs⟩
    refine gc_v (va_runV (As := [.int (nI 1)]) (rest := []) C.fix (m_J1_grow l g w_6 v a E n hd (va_up f (wr n (hd + xs.length)) (some x)) (xs ++ [x]) ci rc hc hca (by rw [ew_6, hwt]; exact gu_s) f_8 (by simp; omega) hd1 (by omega) (by omega) hx2 hel2) (cwV 1 hts (lw_V q172 q174 qs1 q45 q175) rfl rfl rfl (by decide +kernel) ⟨Nat.le_of_ble_eq_true rfl, Nat.le_of_ble_eq_true rfl⟩) (gp_V C h [.int (nI 1)] (Cn := RJ1) (T := TJ1) (N := 3) rfl f_7) rfl rfl hl.1 rfl (lv_room (Nat.le_of_ble_eq_true rfl)) dJ1_addLast_47 ⟨Nat.le_of_ble_eq_true rfl, Nat.le_of_ble_eq_true rfl⟩) h (fun w_10 H locs hp h => ?_)
    obtain ⟨E1, k1, k2, k3⟩ := hp
    have hcap := cap_lt (n := n) (by omega) (by omega)
    have hE1a : E1 ≠ a := fun q => by rw [q, f_7] at k1; cases k1
    have hE1E : E1 ≠ E := fun q => by rw [q, f_8] at k1; cases k1
    refine gr_v C h (⟨E1, cap n, grF (va_up f (wr n (hd + xs.length)) (some x)) hd n (cap n - n), hd + (cap n - n), ⟨?_, by rw [k3]; exact (gu_n hE1a).trans gu_s, by omega, by simp; omega, by omega, grF_at (by simp; omega) hd1 (by omega) (by omega) hx2⟩, Or.inr ⟨by have q := k1; rw [ew_6, gu_n hE1a, ew_1, gu_n hE1E] at q; exact q, k2⟩, fun b b1 b2 b3 => by rw [k3, gu_n b1, gu_n b3, ew_6, gu_n b1, ew_1, gu_n b2]⟩) (Nat.le_of_ble_eq_true rfl) (Nat.le_of_ble_eq_true rfl) dJ1_addLast_50
    have e9 : wr (cap n) (hd + (cap n - n) + (xs ++ [x]).length) = hd := by rw [List.length_append, List.length_singleton, hfull]; unfold wr; rw [if_neg (by omega)]; omega
    rw [k3, gu_s, e9]
set_option maxHeartbeats 4000000 in
theorem m_J1_add (l : Launch) (g : GG) (w v : GW) (a E n : Nat) (f : Nat → Option Nat) (hd : Nat) (xs : List Nat) (hD : DQ g w a E n f hd xs) (x : Nat) (fsx : List Value) (ci : Nat) (rc : vw_C) (hc : vwCl[ci]? = some rc) (hca : Cond.castable rc.1 "java/lang/Object" ∈ lw_tbl) (hx_ : w x = some (.inr (ci, fsx))) (hel : ∀ y ∈ xs, ∃ fs, w y = some (.inr (ci, fs))) (hlen : xs.length ≤ 65) (hci : ci ≠ 5) : Met l yJ1_add (ws_ yJ1_add cJ1_add 2 (some .boolean)) ({ frames := 6, cells := 1, slots := 200, locals := 360 } : Room) (gP g [.ref a, .ref x] w v) (va_Qi (fun (r : Int32) (w' : GW) => r = 1 ∧ ∃ (E' n' : Nat) (f' : Nat → Option Nat) (hd' : Nat), DQ g w' a E' n' f' hd' (xs ++ [x]) ∧ (E' = E ∨ (w E' = none ∧ v E' = none)) ∧ ∀ b, b ≠ a → b ≠ E → b ≠ E' → w' b = w b) (gB g v) (gA g)) 1 200 (gA g) := by
  refine gm_of (by decide) (Nat.le_of_ble_eq_true rfl) ?_
  intro p e s m below meth c ls C hnm h hl
  have C : Cx g p s m ([.ref a, .ref x] : List Value).toArray meth c cJ1_add 2 RJ1 (some .boolean) := C
  obtain ⟨hx, hb, hml, hown, hts, hr, hlk, hG⟩ := id C
  have hl : lv_has ls 2 [(0, .ref a), (1, .ref x)] := hl
  obtain ⟨h0, hE, hd1, hd2, hd3, hd4⟩ := id hD
  have htl : wr n (hd + xs.length) < n := wr_lt (by omega)
  refine lv_aload_n hx hb dJ1_add_0 rfl (lv_at hl 0 rfl) ?_
  refine lv_aload_n hx hb dJ1_add_1 rfl (lv_at hl 1 rfl) ?_
  refine gc_v (va_runV (As := [.ref x]) (rest := []) C.fix (m_J1_addLast l g w v a E n f hd xs hD x fsx ci rc hc hca hx_ hel hlen hci) (cwV 1 hts (lw_V q165 q166 q167 q45 q168) rfl rfl rfl (by decide +kernel) ⟨Nat.le_of_ble_eq_true rfl, Nat.le_of_ble_eq_true rfl⟩) (gp_V C h [.ref x] (Cn := RJ1) (T := TJ1) (N := 3) rfl h0) rfl rfl hl.1 rfl (lv_room (Nat.le_of_ble_eq_true rfl)) dJ1_add_2 ⟨Nat.le_of_ble_eq_true rfl, Nat.le_of_ble_eq_true rfl⟩) h (fun w_2 H locs hp h => ?_)
  refine lv_iconst (v := bI true) hx hb dJ1_add_5 (by decide) ?_
  exact gr_i C h (ty := .boolean) rfl (rfl) (⟨rfl, hp⟩) (Nat.le_of_ble_eq_true rfl) (Nat.le_of_ble_eq_true rfl) dJ1_add_6
set_option maxHeartbeats 4000000 in
theorem m_J7_init (l : Launch) (g : GG) (w v : GW) (q : Nat) (a E n : Nat) (f : Nat → Option Nat) (hd : Nat) (xs : List Nat) (hD : DQ g w a E n f hd xs) (hq : w q = some (ob 7 [.int (nI 0), .int (nI 0), .int (nI 0), .null])) : Met l yJ7_init (ws_ yJ7_init cJ7_init 2 none) ({ frames := 3, cells := 0, slots := 0, locals := 180 } : Room) (gP g [.ref q, .ref a] w v) (va_Qv (fun (w' : GW) => w' = gu w q (ob 7 [.int (nI hd), .int (nI xs.length), .int (-1), .ref a])) (gB g v) (gA g)) 0 0 (gA g) := by
  refine gm_of (by decide) (Nat.le_of_ble_eq_true rfl) ?_
  intro p e s m below meth c ls C hnm h hl
  have C : Cx g p s m ([.ref q, .ref a] : List Value).toArray meth c cJ7_init 2 RJ7 none := C
  obtain ⟨hx, hb, hml, hown, hts, hr, hlk, hG⟩ := id C
  have hl : lv_has ls 2 [(0, .ref q), (1, .ref a)] := hl
  obtain ⟨h0, hE, hd1, hd2, hd3, hd4⟩ := id hD
  have htl : wr n (hd + xs.length) < n := wr_lt (by omega)
  refine lv_aload_n hx hb dJ7_init_0 rfl (lv_at hl 0 rfl) ?_
  refine lv_aload_n hx hb dJ7_init_1 rfl (lv_at hl 1 rfl) ?_
  refine gx_putF C h hq (Cn := RJ7) (T := TJ7) (N := 4) (x := .ref a) rfl in_J7 tyJ7 tyJ7_ok nmJ7 3 (by decide) q282 rfl rfl hnm rfl rfl (Nat.le_of_ble_eq_true rfl) dJ7_init_2 (fun H locs h => ?_)
  obtain ⟨w_1, ew_1⟩ : ∃ z : GW, z = gu w q (ob 7 [.int (nI 0), .int (nI 0), .int (nI 0), .ref a]) := ⟨_, rfl⟩
  have h : SH g w_1 v s H locs := by rw [ew_1]; exact h
  have f_2 : w_1 a = some (ob 5 [.ref E, .int (nI hd), .int (nI (wr n (hd + xs.length)))]) := by rw [ew_1]; exact (gu_n (g_ne h0 hq (by simp))).trans h0
  have f_3 : w_1 E = some (eO g n f) := by rw [ew_1]; exact (gu_n (g_ne hE hq (by simp))).trans hE
  have f_4 : w_1 q = some (ob 7 [.int (nI 0), .int (nI 0), .int (nI 0), .ref a]) := by rw [ew_1]; exact gu_s
  refine lv_aload_n hx hb dJ7_init_5 rfl (lv_at hl 0 rfl) ?_
  refine W.objInit hx hb hown (hts _ q271) (hts _ q76) (hts _ q77) rfl (by rw [hml]; exact hl.1) rfl dJ7_init_6 (Nat.le_of_ble_eq_true rfl) (Nat.le_of_ble_eq_true rfl) ?_
  refine W.eq (g2 := F0 m 9 ls []) rfl ?_
  refine lv_aload_n hx hb dJ7_init_9 rfl (lv_at hl 0 rfl) ?_
  refine lv_aload_n hx hb dJ7_init_10 rfl (lv_at hl 0 rfl) ?_
  refine gx_get C h f_4 (Cn := RJ7) (T := TJ7) (N := 4) rfl in_J7 3 (by decide) q282 rfl rfl dJ7_init_11 ?_
  refine gc_i (va_runV (As := []) (rest := [.ref q]) C.fix (m_J1_size l g w_1 v a E n f hd xs (hD.kept (f_2.trans h0.symm) (f_3.trans hE.symm))) (cwV 0 hts (lw_V q272 q273 q274 q45 q275) rfl rfl rfl (by decide +kernel) ⟨Nat.le_of_ble_eq_true rfl, Nat.le_of_ble_eq_true rfl⟩) (gp_V C h [] (Cn := RJ1) (T := TJ1) (N := 3) rfl f_2) rfl rfl hl.1 rfl (lv_room (Nat.le_of_ble_eq_true rfl)) dJ7_init_14 ⟨Nat.le_of_ble_eq_true rfl, Nat.le_of_ble_eq_true rfl⟩) h (fun r_5 w_6 H locs hp h => ?_)
  obtain ⟨er_r_5, ew_r_5⟩ := hp
  rw [er_r_5]
  rw [ew_r_5] at h
  refine gx_put C h f_4 (Cn := RJ7) (T := TJ7) (N := 4) (x := .int (nI xs.length)) rfl in_J7 tyJ7 tyJ7_ok nmJ7 1 (by decide) q280 rfl rfl rfl rfl (Nat.le_of_ble_eq_true rfl) dJ7_init_17 (fun H locs h => ?_)
  obtain ⟨w_7, ew_7⟩ : ∃ z : GW, z = gu w_1 q (ob 7 [.int (nI 0), .int (nI xs.length), .int (nI 0), .ref a]) := ⟨_, rfl⟩
  have h : SH g w_7 v s H locs := by rw [ew_7]; exact h
  have f_8 : w_7 a = some (ob 5 [.ref E, .int (nI hd), .int (nI (wr n (hd + xs.length)))]) := by rw [ew_7]; exact (gu_n (g_ne f_2 f_4 (by simp))).trans f_2
  have f_9 : w_7 E = some (eO g n f) := by rw [ew_7]; exact (gu_n (g_ne f_3 f_4 (by simp))).trans f_3
  have f_10 : w_7 q = some (ob 7 [.int (nI 0), .int (nI xs.length), .int (nI 0), .ref a]) := by rw [ew_7]; exact gu_s
  refine lv_aload_n hx hb dJ7_init_20 rfl (lv_at hl 0 rfl) ?_
  refine lv_iconst (v := (-1)) hx hb dJ7_init_21 (by decide) ?_
  refine gx_put C h f_10 (Cn := RJ7) (T := TJ7) (N := 4) (x := .int (-1)) rfl in_J7 tyJ7 tyJ7_ok nmJ7 2 (by decide) q281 rfl rfl rfl rfl (Nat.le_of_ble_eq_true rfl) dJ7_init_22 (fun H locs h => ?_)
  obtain ⟨w_11, ew_11⟩ : ∃ z : GW, z = gu w_7 q (ob 7 [.int (nI 0), .int (nI xs.length), .int (-1), .ref a]) := ⟨_, rfl⟩
  have h : SH g w_11 v s H locs := by rw [ew_11]; exact h
  have f_12 : w_11 a = some (ob 5 [.ref E, .int (nI hd), .int (nI (wr n (hd + xs.length)))]) := by rw [ew_11]; exact (gu_n (g_ne f_8 f_10 (by simp))).trans f_8
  have f_13 : w_11 E = some (eO g n f) := by rw [ew_11]; exact (gu_n (g_ne f_9 f_10 (by simp))).trans f_9
  have f_14 : w_11 q = some (ob 7 [.int (nI 0), .int (nI xs.length), .int (-1), .ref a]) := by rw [ew_11]; exact gu_s
  refine lv_aload_n hx hb dJ7_init_25 rfl (lv_at hl 0 rfl) ?_
  refine lv_aload_n hx hb dJ7_init_26 rfl (lv_at hl 1 rfl) ?_
  refine gx_get C h f_12 (Cn := RJ1) (T := TJ1) (N := 3) rfl in_J1 1 (by decide) q93 rfl rfl dJ7_init_27 ?_
  refine gx_put C h f_14 (Cn := RJ7) (T := TJ7) (N := 4) (x := .int (nI hd)) rfl in_J7 tyJ7 tyJ7_ok nmJ7 0 (by decide) q279 rfl rfl rfl rfl (Nat.le_of_ble_eq_true rfl) dJ7_init_30 (fun H locs h => ?_)
  obtain ⟨w_15, ew_15⟩ : ∃ z : GW, z = gu w_11 q (ob 7 [.int (nI hd), .int (nI xs.length), .int (-1), .ref a]) := ⟨_, rfl⟩
  have h : SH g w_15 v s H locs := by rw [ew_15]; exact h
  have f_16 : w_15 a = some (ob 5 [.ref E, .int (nI hd), .int (nI (wr n (hd + xs.length)))]) := by rw [ew_15]; exact (gu_n (g_ne f_12 f_14 (by simp))).trans f_12
  have f_17 : w_15 E = some (eO g n f) := by rw [ew_15]; exact (gu_n (g_ne f_13 f_14 (by simp))).trans f_13
  have f_18 : w_15 q = some (ob 7 [.int (nI hd), .int (nI xs.length), .int (-1), .ref a]) := by rw [ew_15]; exact gu_s
  exact gr_v C h (by rw [ew_15, ew_11, ew_7, ew_1, gu_gu, gu_gu, gu_gu]) (Nat.le_of_ble_eq_true rfl) (Nat.le_of_ble_eq_true rfl) dJ7_init_33
set_option maxHeartbeats 4000000 in
theorem m_J1_iterator (l : Launch) (g : GG) (w v : GW) (a E n : Nat) (f : Nat → Option Nat) (hd : Nat) (xs : List Nat) (hD : DQ g w a E n f hd xs)  : Met l yJ1_iterator (ws_ yJ1_iterator cJ1_iterator 1 (some (.object "java/util/Iterator"))) ({ frames := 4, cells := 1, slots := 4, locals := 240 } : Room) (gP g [.ref a] w v) (va_Qq (fun (r : Option Nat) (w' : GW) => ∃ q : Nat, r = some q ∧ w q = none ∧ v q = none ∧ w' = gu w q (ob 7 [.int (nI hd), .int (nI xs.length), .int (-1), .ref a])) (gB g v) (gA g)) 1 4 (gA g) := by
  refine gm_of (by decide) (Nat.le_of_ble_eq_true rfl) ?_
  intro p e s m below meth c ls C hnm h hl
  have C : Cx g p s m ([.ref a] : List Value).toArray meth c cJ1_iterator 1 RJ1 (some (.object "java/util/Iterator")) := C
  obtain ⟨hx, hb, hml, hown, hts, hr, hlk, hG⟩ := id C
  have hl : lv_has ls 1 [(0, .ref a)] := hl
  obtain ⟨h0, hE, hd1, hd2, hd3, hd4⟩ := id hD
  have htl : wr n (hd + xs.length) < n := wr_lt (by omega)
  refine gx_new C h (ci := 7) (fs := [.int (nI 0), .int (nI 0), .int (nI 0), .null]) (Cn := RJ7) (T := TJ7) (N := 4) rfl in_J7 tyJ7 tyJ7_ok q266 q267 q54 (fun j hj => by rcases (show j = 0 ∨ j = 1 ∨ j = 2 ∨ j = 3 by omega) with rfl | rfl | rfl | rfl <;> rfl) (Nat.le_of_ble_eq_true rfl) (Nat.le_of_ble_eq_true rfl) dJ1_iterator_0 (fun q H hn_1 hn_1v h => ?_)
  obtain ⟨w_2, ew_2⟩ : ∃ z : GW, z = gu w q (ob 7 [.int (nI 0), .int (nI 0), .int (nI 0), .null]) := ⟨_, rfl⟩
  have h : SH g w_2 v s H [] := by rw [ew_2]; exact h
  have f_3 : w_2 a = some (ob 5 [.ref E, .int (nI hd), .int (nI (wr n (hd + xs.length)))]) := by rw [ew_2]; exact (gu_n (g_neN h0 hn_1)).trans h0
  have f_4 : w_2 E = some (eO g n f) := by rw [ew_2]; exact (gu_n (g_neN hE hn_1)).trans hE
  have f_5 : w_2 q = some (ob 7 [.int (nI 0), .int (nI 0), .int (nI 0), .null]) := by rw [ew_2]; exact gu_s
  refine lv_dup hx hb dJ1_iterator_3 rfl ?_
  refine lv_aload_n hx hb dJ1_iterator_4 rfl (lv_at hl 0 rfl) ?_
  refine gc_v (va_runI (As := [.ref a]) (rest := [.ref q]) C.fix (m_J7_init l g w_2 v q a E n f hd xs (hD.kept (f_3.trans h0.symm) (f_4.trans hE.symm)) f_5) (cwI 1 hts (lw_meth q270) rfl rfl rfl (hts _ q54) (hts _ q268) (hts _ q269) rfl (by decide +kernel) ⟨Nat.le_of_ble_eq_true rfl, Nat.le_of_ble_eq_true rfl⟩) (gp_S C h _) rfl rfl hl.1 rfl (lv_room (Nat.le_of_ble_eq_true rfl)) dJ1_iterator_5 ⟨Nat.le_of_ble_eq_true rfl, Nat.le_of_ble_eq_true rfl⟩) h (fun w_7 H locs hp h => ?_)
  exact gr_q C h (x := some q) (ty := (.object "java/util/Iterator")) rfl (Or.inl ⟨_, rfl⟩) (⟨q, rfl, hn_1, hn_1v, by rw [hp, ew_2, gu_gu]⟩) (Nat.le_of_ble_eq_true rfl) (Nat.le_of_ble_eq_true rfl) dJ1_iterator_8
set_option maxHeartbeats 4000000 in
theorem m_J7_hasNext (l : Launch) (g : GG) (w v : GW) (q cu re : Nat) (lr : Int32) (a : Nat) (hq : w q = some (ob 7 [.int (nI cu), .int (nI re), .int lr, .ref a])) (hre : re ≤ 200) : Met l yJ7_hasNext (ws_ yJ7_hasNext cJ7_hasNext 1 (some .boolean)) ({ frames := 1, cells := 0, slots := 0, locals := 60 } : Room) (gP g [.ref q] w v) (va_Qi (fun (r : Int32) (w' : GW) => r = bI (decide (0 < re)) ∧ w' = w) (gB g v) (gA g)) 0 0 (gA g) := by
  refine gm_of (by decide) (Nat.le_of_ble_eq_true rfl) ?_
  intro p e s m below meth c ls C hnm h hl
  have C : Cx g p s m ([.ref q] : List Value).toArray meth c cJ7_hasNext 1 RJ7 (some .boolean) := C
  obtain ⟨hx, hb, hml, hown, hts, hr, hlk, hG⟩ := id C
  have hl : lv_has ls 1 [(0, .ref q)] := hl
  refine lv_aload_n hx hb dJ7_hasNext_0 rfl (lv_at hl 0 rfl) ?_
  refine gx_get C h hq (Cn := RJ7) (T := TJ7) (N := 4) rfl in_J7 1 (by decide) q280 rfl rfl dJ7_hasNext_1 ?_
  refine lv_if_le (tgt := 11) hx hb dJ7_hasNext_4 (by decide) (fun c1 => ?_) (fun c1 => ?_)
  · skip
    have hz : ¬ 0 < re := fun q => nI_nle q (by omega) c1
    refine lv_iconst (v := bI false) hx hb dJ7_hasNext_11 (by decide) ?_
    exact gr_i C h (ty := .boolean) rfl (bI_n _) (⟨by rw [decide_eq_false hz], rfl⟩) (Nat.le_of_ble_eq_true rfl) (Nat.le_of_ble_eq_true rfl) dJ7_hasNext_12
  · skip
    have hz : 0 < re := Nat.pos_of_ne_zero (fun q => by subst q; exact absurd (by decide) c1)
    refine lv_iconst (v := bI true) hx hb dJ7_hasNext_7 (by decide) ?_
    refine lv_goto (tgt := 12) hx hb dJ7_hasNext_8 (by decide) ?_
    exact gr_i C h (ty := .boolean) rfl (bI_n _) (⟨by rw [decide_eq_true hz], rfl⟩) (Nat.le_of_ble_eq_true rfl) (Nat.le_of_ble_eq_true rfl) dJ7_hasNext_12
set_option maxHeartbeats 4000000 in
theorem m_J7_next (l : Launch) (g : GG) (w v : GW) (q cu re : Nat) (lr : Int32) (a E n : Nat) (f : Nat → Option Nat) (x : Nat) (hd tl : Value) (hq : w q = some (ob 7 [.int (nI cu), .int (nI re), .int lr, .ref a])) (h0 : w a = some (ob 5 [.ref E, hd, tl])) (hE : w E = some (eO g n f)) (hre : 0 < re ∧ re ≤ 200) (hcu : cu < n) (hn : n ≤ 200) (hx_ : f cu = some x) : Met l yJ7_next (ws_ yJ7_next cJ7_next 3 (some (.object "java/lang/Object"))) ({ frames := 2, cells := 0, slots := 0, locals := 120 } : Room) (gP g [.ref q] w v) (va_Qq (fun (r : Option Nat) (w' : GW) => r = some x ∧ w' = gu w q (ob 7 [.int (nI (wr n (cu + 1))), .int (nI (re - 1)), .int (nI cu), .ref a])) (gB g v) (gA g)) 0 0 (gA g) := by
  refine gm_of (by decide) (Nat.le_of_ble_eq_true rfl) ?_
  intro p e s m below meth c ls C hnm h hl
  have C : Cx g p s m ([.ref q] : List Value).toArray meth c cJ7_next 3 RJ7 (some (.object "java/lang/Object")) := C
  obtain ⟨hx, hb, hml, hown, hts, hr, hlk, hG⟩ := id C
  have hl : lv_has ls 3 [(0, .ref q)] := hl
  refine lv_aload_n hx hb dJ7_next_0 rfl (lv_at hl 0 rfl) ?_
  refine gx_get C h hq (Cn := RJ7) (T := TJ7) (N := 4) rfl in_J7 1 (by decide) q280 rfl rfl dJ7_next_1 ?_
  refine lv_if_gt (tgt := 15) hx hb dJ7_next_4 (by decide) (fun c1 => ?_) (fun c1 => ?_)
  · skip
    refine lv_aload_n hx hb dJ7_next_15 rfl (lv_at hl 0 rfl) ?_
    refine gx_get C h hq (Cn := RJ7) (T := TJ7) (N := 4) rfl in_J7 3 (by decide) q282 rfl rfl dJ7_next_16 ?_
    refine gx_get C h h0 (Cn := RJ1) (T := TJ1) (N := 3) rfl in_J1 0 (by decide) q92 rfl rfl dJ7_next_19 ?_
    refine lv_astore_n (lv' := [(1, .ref E), (0, .ref q)]) hx hb dJ7_next_22 rfl hl (by decide) rfl (fun ls hl => ?_)
    refine lv_aload_n hx hb dJ7_next_23 rfl (lv_at hl 0 rfl) ?_
    refine lv_aload_n hx hb dJ7_next_24 rfl (lv_at hl 1 rfl) ?_
    refine gx_get C h hq (Cn := RJ7) (T := TJ7) (N := 4) rfl in_J7 0 (by decide) q279 rfl rfl dJ7_next_25 ?_
    refine gc_q (va_runS (As := [.ref E, .int (nI cu)]) (rest := []) C.fix (m_J1_nonNullElementAt l g w v E n f cu x hE hcu hn hx_) (va_cwS 2 hts (lw_S q317 q318 q45 q319) rfl rfl rfl (by decide +kernel) ⟨Nat.le_of_ble_eq_true rfl, Nat.le_of_ble_eq_true rfl⟩) (gp_S C h _) rfl rfl hl.1 rfl (lv_room (Nat.le_of_ble_eq_true rfl)) dJ7_next_28 ⟨Nat.le_of_ble_eq_true rfl, Nat.le_of_ble_eq_true rfl⟩) h (fun r_1 w_2 H locs hp h => ?_)
    obtain ⟨er_r_1, ew_r_1⟩ := hp
    rw [er_r_1]
    rw [ew_r_1] at h
    refine lv_astore_n (lv' := [(2, .ref x), (1, .ref E), (0, .ref q)]) hx hb dJ7_next_31 rfl hl (by decide) rfl (fun ls hl => ?_)
    refine lv_aload_n hx hb dJ7_next_32 rfl (lv_at hl 2 rfl) ?_
    refine lv_aload_n hx hb dJ7_next_33 rfl (lv_at hl 2 rfl) ?_
    refine lv_aload_n hx hb dJ7_next_34 rfl (lv_at hl 2 rfl) ?_
    refine gx_get C h hq (Cn := RJ7) (T := TJ7) (N := 4) rfl in_J7 0 (by decide) q279 rfl rfl dJ7_next_35 ?_
    refine lv_dup_x1 hx hb dJ7_next_38 rfl rfl ?_
    refine gx_put C h hq (Cn := RJ7) (T := TJ7) (N := 4) (x := .int (nI cu)) rfl in_J7 tyJ7 tyJ7_ok nmJ7 2 (by decide) q281 rfl rfl rfl rfl (Nat.le_of_ble_eq_true rfl) dJ7_next_39 (fun H locs h => ?_)
    obtain ⟨w_3, ew_3⟩ : ∃ z : GW, z = gu w q (ob 7 [.int (nI cu), .int (nI re), .int (nI cu), .ref a]) := ⟨_, rfl⟩
    have h : SH g w_3 v s H locs := by rw [ew_3]; exact h
    have f_4 : w_3 q = some (ob 7 [.int (nI cu), .int (nI re), .int (nI cu), .ref a]) := by rw [ew_3]; exact gu_s
    have f_5 : w_3 E = some (eO g n f) := by rw [ew_3]; exact (gu_n (g_ne hE hq (by simp))).trans hE
    have f_6 : w_3 a = some (ob 5 [.ref E, hd, tl]) := by rw [ew_3]; exact (gu_n (g_ne h0 hq (by simp))).trans h0
    refine lv_aload_n hx hb dJ7_next_42 rfl (lv_at hl 1 rfl) ?_
    refine gx_alen C h (t := 5) rfl f_5 dJ7_next_43 ?_
    refine gc_i (va_runS (As := [.int (nI cu), .int (nI n)]) (rest := [.ref q]) C.fix (m_J1_inc l g w_3 v cu n hcu hn) (va_cwS 2 hts (lw_S q320 q170 q45 q171) rfl rfl rfl (by decide +kernel) ⟨Nat.le_of_ble_eq_true rfl, Nat.le_of_ble_eq_true rfl⟩) (gp_S C h _) rfl rfl hl.1 rfl (lv_room (Nat.le_of_ble_eq_true rfl)) dJ7_next_44 ⟨Nat.le_of_ble_eq_true rfl, Nat.le_of_ble_eq_true rfl⟩) h (fun r_7 w_8 H locs hp h => ?_)
    obtain ⟨er_r_7, ew_r_7⟩ := hp
    rw [er_r_7]
    rw [ew_r_7] at h
    refine gx_put C h f_4 (Cn := RJ7) (T := TJ7) (N := 4) (x := .int (nI (wr n (cu + 1)))) rfl in_J7 tyJ7 tyJ7_ok nmJ7 0 (by decide) q279 rfl rfl rfl rfl (Nat.le_of_ble_eq_true rfl) dJ7_next_47 (fun H locs h => ?_)
    obtain ⟨w_9, ew_9⟩ : ∃ z : GW, z = gu w_3 q (ob 7 [.int (nI (wr n (cu + 1))), .int (nI re), .int (nI cu), .ref a]) := ⟨_, rfl⟩
    have h : SH g w_9 v s H locs := by rw [ew_9]; exact h
    have f_10 : w_9 q = some (ob 7 [.int (nI (wr n (cu + 1))), .int (nI re), .int (nI cu), .ref a]) := by rw [ew_9]; exact gu_s
    have f_11 : w_9 E = some (eO g n f) := by rw [ew_9]; exact (gu_n (g_ne f_5 f_4 (by simp))).trans f_5
    have f_12 : w_9 a = some (ob 5 [.ref E, hd, tl]) := by rw [ew_9]; exact (gu_n (g_ne f_6 f_4 (by simp))).trans f_6
    refine lv_aload_n hx hb dJ7_next_50 rfl (lv_at hl 2 rfl) ?_
    refine lv_dup hx hb dJ7_next_51 rfl ?_
    refine gx_get C h f_10 (Cn := RJ7) (T := TJ7) (N := 4) rfl in_J7 1 (by decide) q280 rfl rfl dJ7_next_52 ?_
    refine lv_iconst (v := nI 1) hx hb dJ7_next_55 (by decide) ?_
    refine gn_isub hx hb dJ7_next_56 (by omega) ?_
    refine gx_put C h f_10 (Cn := RJ7) (T := TJ7) (N := 4) (x := .int (nI (re - 1))) rfl in_J7 tyJ7 tyJ7_ok nmJ7 1 (by decide) q280 rfl rfl rfl rfl (Nat.le_of_ble_eq_true rfl) dJ7_next_57 (fun H locs h => ?_)
    obtain ⟨w_13, ew_13⟩ : ∃ z : GW, z = gu w_9 q (ob 7 [.int (nI (wr n (cu + 1))), .int (nI (re - 1)), .int (nI cu), .ref a]) := ⟨_, rfl⟩
    have h : SH g w_13 v s H locs := by rw [ew_13]; exact h
    have f_14 : w_13 q = some (ob 7 [.int (nI (wr n (cu + 1))), .int (nI (re - 1)), .int (nI cu), .ref a]) := by rw [ew_13]; exact gu_s
    have f_15 : w_13 E = some (eO g n f) := by rw [ew_13]; exact (gu_n (g_ne f_11 f_10 (by simp))).trans f_11
    have f_16 : w_13 a = some (ob 5 [.ref E, hd, tl]) := by rw [ew_13]; exact (gu_n (g_ne f_12 f_10 (by simp))).trans f_12
    refine lv_aload_n hx hb dJ7_next_60 rfl (lv_at hl 0 rfl) ?_
    exact gr_q C h (x := some x) (ty := (.object "java/lang/Object")) rfl (Or.inl ⟨_, rfl⟩) (⟨rfl, by rw [ew_13, ew_9, ew_3, gu_gu, gu_gu]⟩) (Nat.le_of_ble_eq_true rfl) (Nat.le_of_ble_eq_true rfl) dJ7_next_61
  · skip
    exact absurd (nI_lt hre.1 (by omega)) c1
