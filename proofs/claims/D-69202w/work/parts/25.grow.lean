set_option maxRecDepth 100000
set_option maxHeartbeats 4000000 in
theorem m_J1_grow (l : Launch) (g : GG) (w v : GW) (a E n hd : Nat) (f : Nat → Option Nat) (xs : List Nat) (ci : Nat) (rc : vw_C) (hc : vwCl[ci]? = some rc) (hca : Cond.castable rc.1 "java/lang/Object" ∈ lw_tbl) (h0 : w a = some (ob 5 [.ref E, .int (nI hd), .int (nI hd)])) (hE : w E = some (eO g n f)) (hl_ : xs.length = n) (hd1 : hd < n) (hn1 : 0 < n) (hn2 : n ≤ 66) (hf_ : ∀ (i x : Nat), xs[i]? = some x → f (wr n (hd + i)) = some x) (hel : ∀ x ∈ xs, ∃ fs, w x = some (.inr (ci, fs))) : Met l yJ1_grow (ws_ yJ1_grow cJ1_grow 9 none) ({ frames := 4, cells := 1, slots := 200, locals := 240 } : Room) (gP g [.ref a, .int (nI 1)] w v) (va_Qv (fun (w' : GW) => ∃ (E' : Nat), w E' = none ∧ v E' = none ∧ w' = gu (gu w E' (eO g (cap n) (grF f hd n (cap n - n)))) a (ob 5 [.ref E', .int (nI (hd + (cap n - n))), .int (nI hd)])) (gB g v) (gA g)) 1 200 (gA g) := by
  refine gm_of (by decide) (Nat.le_of_ble_eq_true rfl) ?_
  intro p e s m below meth c ls C hnm h hl
  have C : Cx g p s m ([.ref a, .int (nI 1)] : List Value).toArray meth c cJ1_grow 9 RJ1 none := C
  obtain ⟨hx, hb, hml, hown, hts, hr, hlk, hG⟩ := id C
  have hl : lv_has ls 9 [(0, .ref a), (1, .int (nI 1))] := hl
  have hcap := cap_lt hn1 hn2
  have hall : ∀ j, j < n → ∃ x, f j = some x ∧ x ∈ xs := by
    intro j hj
    obtain ⟨i, hi, hij⟩ : ∃ i, i < n ∧ wr n (hd + i) = j := by
      by_cases c : hd ≤ j
      · exact ⟨j - hd, by omega, by unfold wr; rw [if_pos (by omega)]; omega⟩
      · exact ⟨j + n - hd, by omega, by unfold wr; rw [if_neg (by omega)]; omega⟩
    have hx_ : xs[i]? = some (xs[i]'(by omega)) := List.getElem?_eq_getElem (by omega)
    exact ⟨_, by rw [← hij]; exact hf_ i _ hx_, List.getElem_mem _⟩
  have cont : ∀ (jp : Nat) (ls : Array Slot), n + jp = cap n → lv_has ls 9 [(0, .ref a), (1, .int (nI 1)), (2, .int (nI n)), (4, .int (nI jp))] → W p l e ({ frames := 4, cells := 1, slots := 200, locals := 240 } : Room) s m ([.ref a, .int (nI 1)] : List Value).toArray below meth c s.heap [] 0 0 (MQ below (va_Qv (fun (w' : GW) => ∃ (E' : Nat), w E' = none ∧ v E' = none ∧ w' = gu (gu w E' (eO g (cap n) (grF f hd n (cap n - n)))) a (ob 5 [.ref E', .int (nI (hd + (cap n - n))), .int (nI hd)])) (gB g v) (gA g)) ([.ref a, .int (nI 1)] : List Value).toArray s 1 200 (gA g)) (F0 m 23 ls []) := by
    intro jp ls hjp hl
    refine lv_iload hx hb dJ1_grow_23 (lv_at hl 3 rfl) ?_
    refine lv_iload_n hx hb dJ1_grow_25 rfl (lv_at hl 1 rfl) ?_
    refine lv_icmp_lt (tgt := 41) hx hb dJ1_grow_26 (by decide) (fun c1 => ?_) (fun c1 => ?_)
    · skip
      have c1 : jp < 1 := (nI_ltI (by omega) (by omega)).mp c1
      omega
    · skip
      have c1 : ¬ (jp < 1) := fun q => c1 ((nI_ltI (by omega) (by omega)).mpr q)
      refine lv_iload_n hx hb dJ1_grow_29 rfl (lv_at hl 2 rfl) ?_
      refine lv_iload hx hb dJ1_grow_30 (lv_at hl 3 rfl) ?_
      refine gn_iadd hx hb dJ1_grow_32 ?_
      refine lv_dup hx hb dJ1_grow_33 rfl ?_
      refine lv_istore_n (lv' := [(3, .int (nI (n + jp))), (0, .ref a), (1, .int (nI 1)), (2, .int (nI n)), (4, .int (nI jp))]) hx hb dJ1_grow_34 rfl hl (by decide) rfl (fun ls hl => ?_)
      refine lv_ldc (v := 2147483639) hx hb hown (hts _ q176) dJ1_grow_35 ?_
      refine lv_isub hx hb dJ1_grow_37 ?_
      refine lv_if_le (tgt := 49) hx hb dJ1_grow_38 (by decide) (fun c2 => ?_) (fun c2 => ?_)
      · skip
        rw [hjp] at hl
        refine lv_aload_n hx hb dJ1_grow_49 rfl (lv_at hl 1 rfl) ?_
        refine lv_aload_n hx hb dJ1_grow_50 rfl (lv_at hl 1 rfl) ?_
        refine gx_get C h h0 (Cn := RJ1) (T := TJ1) (N := 3) rfl in_J1 0 (by decide) q91 rfl rfl dJ1_grow_51 ?_
        refine lv_iload_n hx hb dJ1_grow_54 rfl (lv_at hl 0 rfl) ?_
        refine gc_q (va_runS (As := [.ref E, .int (nI (cap n))]) (rest := [.ref a]) C.fix (m_J6_copyOf l g w v E n (cap n) ci f rc hc hca hE ⟨by omega, by omega, by omega⟩ (fun i y hi hy => by obtain ⟨x0, e1, e2⟩ := hall i hi; rw [hy] at e1; cases e1; exact hel _ e2)) (va_cwS 2 hts (lw_S q182 q183 q51 q184) rfl rfl rfl (by decide +kernel) ⟨Nat.le_of_ble_eq_true rfl, Nat.le_of_ble_eq_true rfl⟩) (gp_S C h _) rfl rfl hl.1 rfl (lv_room (Nat.le_of_ble_eq_true rfl)) dJ1_grow_55 ⟨Nat.le_of_ble_eq_true rfl, Nat.le_of_ble_eq_true rfl⟩) h (fun r_1 w_2 H locs hp h => ?_)
        obtain ⟨E1, er, k1, k2, k3⟩ := hp
        rw [er]
        have fa : w_2 a = some (ob 5 [.ref E, .int (nI hd), .int (nI hd)]) := by rw [k3]; exact (gu_n (g_neN h0 k1)).trans h0
        have fE : w_2 E1 = some (eO g (cap n) (va_cpy f (fun _ => none) 0 0 n)) := by rw [k3]; exact gu_s
        refine lv_dup_x1 hx hb dJ1_grow_58 rfl rfl ?_
        refine gx_put C h fa (Cn := RJ1) (T := TJ1) (N := 3) (x := .ref E1) rfl in_J1 tyJ1 tyJ1_ok nmJ1 0 (by decide) q91 rfl rfl rfl rfl (Nat.le_of_ble_eq_true rfl) dJ1_grow_59 (fun H locs h => ?_)
        obtain ⟨w_3, ew_3⟩ : ∃ z : GW, z = gu w_2 a (ob 5 [.ref E1, .int (nI hd), .int (nI hd)]) := ⟨_, rfl⟩
        have h : SH g w_3 v s H locs := by rw [ew_3]; exact h
        have f_4 : w_3 a = some (ob 5 [.ref E1, .int (nI hd), .int (nI hd)]) := by rw [ew_3]; exact gu_s
        have f_5 : w_3 E1 = some (eO g (cap n) ((va_cpy f (fun _ => none) 0 0 n))) := by rw [ew_3]; exact (gu_n (Ne.symm (g_neN h0 k1))).trans fE
        refine lv_astore (lv' := [(5, .ref E1), (3, .int (nI (cap n))), (0, .ref a), (1, .int (nI 1)), (2, .int (nI n)), (4, .int (nI jp))]) hx hb dJ1_grow_62 hl (by decide) rfl (fun ls hl => ?_)
        refine lv_aload_n hx hb dJ1_grow_64 rfl (lv_at hl 2 rfl) ?_
        refine gx_get C h f_4 (Cn := RJ1) (T := TJ1) (N := 3) rfl in_J1 2 (by decide) q95 rfl rfl dJ1_grow_65 ?_
        refine lv_aload_n hx hb dJ1_grow_68 rfl (lv_at hl 2 rfl) ?_
        refine gx_get C h f_4 (Cn := RJ1) (T := TJ1) (N := 3) rfl in_J1 1 (by decide) q94 rfl rfl dJ1_grow_69 ?_
        refine lv_icmp_lt (tgt := 96) hx hb dJ1_grow_72 (by decide) (fun c3 => ?_) (fun c3 => ?_)
        · skip
          have c3 : hd < hd := (nI_ltI (by omega) (by omega)).mp c3
          omega
        · skip
          have c3 : ¬ (hd < hd) := fun q => c3 ((nI_ltI (by omega) (by omega)).mpr q)
          refine lv_aload_n hx hb dJ1_grow_75 rfl (lv_at hl 2 rfl) ?_
          refine gx_get C h f_4 (Cn := RJ1) (T := TJ1) (N := 3) rfl in_J1 2 (by decide) q95 rfl rfl dJ1_grow_76 ?_
          refine lv_aload_n hx hb dJ1_grow_79 rfl (lv_at hl 2 rfl) ?_
          refine gx_get C h f_4 (Cn := RJ1) (T := TJ1) (N := 3) rfl in_J1 1 (by decide) q94 rfl rfl dJ1_grow_80 ?_
          refine lv_icmp_ne (tgt := 164) hx hb dJ1_grow_83 (by decide) (fun c4 => ?_) (fun c4 => ?_)
          · skip
            have c4 : ¬ (hd = hd) := fun q => c4 ((nI_eq (by omega) (by omega)).mpr q)
            omega
          · skip
            have c4 : hd = hd := (nI_eq (by omega) (by omega)).mp c4
            refine lv_aload hx hb dJ1_grow_86 (lv_at hl 0 rfl) ?_
            refine lv_aload_n hx hb dJ1_grow_88 rfl (lv_at hl 2 rfl) ?_
            refine gx_get C h f_4 (Cn := RJ1) (T := TJ1) (N := 3) rfl in_J1 1 (by decide) q94 rfl rfl dJ1_grow_89 ?_
            refine gx_aald C h 5 rfl f_5 hd (rfl) (by omega) dJ1_grow_92 ?_
            obtain ⟨x0, hx0, -⟩ := hall hd hd1
            have hx1 : (va_cpy f (fun _ => none) 0 0 n) hd = some x0 := by unfold va_cpy; rw [if_pos (by omega)]; simpa using hx0
            rw [hx1]
            refine lv_ifnull hx hb dJ1_grow_93 ?_
            refine lv_iload_n hx hb dJ1_grow_96 rfl (lv_at hl 1 rfl) ?_
            refine lv_iload_n hx hb dJ1_grow_97 rfl (lv_at hl 4 rfl) ?_
            refine gn_isub hx hb dJ1_grow_98 (by omega) ?_
            refine lv_istore (lv' := [(6, .int (nI ((cap n) - n))), (5, .ref E1), (3, .int (nI (cap n))), (0, .ref a), (1, .int (nI 1)), (2, .int (nI n)), (4, .int (nI jp))]) hx hb dJ1_grow_99 hl (by decide) rfl (fun ls hl => ?_)
            refine lv_aload hx hb dJ1_grow_101 (lv_at hl 1 rfl) ?_
            refine lv_aload_n hx hb dJ1_grow_103 rfl (lv_at hl 3 rfl) ?_
            refine gx_get C h f_4 (Cn := RJ1) (T := TJ1) (N := 3) rfl in_J1 1 (by decide) q94 rfl rfl dJ1_grow_104 ?_
            refine lv_aload hx hb dJ1_grow_107 (lv_at hl 1 rfl) ?_
            refine lv_aload_n hx hb dJ1_grow_109 rfl (lv_at hl 3 rfl) ?_
            refine gx_get C h f_4 (Cn := RJ1) (T := TJ1) (N := 3) rfl in_J1 1 (by decide) q94 rfl rfl dJ1_grow_110 ?_
            refine lv_iload hx hb dJ1_grow_113 (lv_at hl 0 rfl) ?_
            refine gn_iadd hx hb dJ1_grow_115 ?_
            refine lv_iload_n hx hb dJ1_grow_116 rfl (lv_at hl 5 rfl) ?_
            refine lv_aload_n hx hb dJ1_grow_117 rfl (lv_at hl 3 rfl) ?_
            refine gx_get C h f_4 (Cn := RJ1) (T := TJ1) (N := 3) rfl in_J1 1 (by decide) q94 rfl rfl dJ1_grow_118 ?_
            refine gn_isub hx hb dJ1_grow_121 (by omega) ?_
            have hel2 : ∀ i y : Nat, i < n - hd → (va_cpy f (fun _ => none) 0 0 n) (hd + i) = some y → ∃ fs, w_3 y = some (.inr (ci, fs)) := by
              intro i y hi hy
              unfold va_cpy at hy
              rw [if_pos (by omega)] at hy
              obtain ⟨x1, z1, z2⟩ := hall (0 + (hd + i - 0)) (by omega)
              rw [hy] at z1
              cases z1
              obtain ⟨fs, hfs⟩ := hel _ z2
              by_cases hya : y = a
              · subst hya
                rw [hfs] at h0
                cases h0
                exact ⟨_, f_4⟩
              · exact ⟨fs, by rw [ew_3, gu_n hya, k3]; exact (gu_n (g_neN hfs k1)).trans hfs⟩
            refine gx_copyO C h hl.1 q210 (ci := ci) (r := rc) hc hca f_5 f_5 hd (hd + ((cap n) - n)) (n - hd) (by omega) (by omega) (by omega) (hel2) (Nat.le_of_ble_eq_true rfl) (Nat.le_of_ble_eq_true rfl) dJ1_grow_122 (fun H locs h => ?_)
            obtain ⟨w_6, ew_6⟩ : ∃ z : GW, z = gu w_3 E1 (eO g (cap n) (va_cpy (va_cpy f (fun _ => none) 0 0 n) (va_cpy f (fun _ => none) 0 0 n) hd (hd + (cap n - n)) (n - hd))) := ⟨_, rfl⟩
            have h : SH g w_6 v s H locs := by rw [ew_6]; exact h
            have f_7 : w_6 a = some (ob 5 [.ref E1, .int (nI hd), .int (nI hd)]) := by rw [ew_6]; exact (gu_n (g_neN h0 k1)).trans f_4
            have f_8 : w_6 E1 = some (eO g (cap n) (va_cpy (va_cpy f (fun _ => none) 0 0 n) (va_cpy f (fun _ => none) 0 0 n) hd (hd + (cap n - n)) (n - hd))) := by rw [ew_6]; exact gu_s
            refine lv_aload_n hx hb dJ1_grow_125 rfl (lv_at hl 3 rfl) ?_
            refine gx_get C h f_7 (Cn := RJ1) (T := TJ1) (N := 3) rfl in_J1 1 (by decide) q94 rfl rfl dJ1_grow_126 ?_
            refine lv_istore (lv' := [(7, .int (nI hd)), (6, .int (nI ((cap n) - n))), (5, .ref E1), (3, .int (nI (cap n))), (0, .ref a), (1, .int (nI 1)), (2, .int (nI n)), (4, .int (nI jp))]) hx hb dJ1_grow_129 hl (by decide) rfl (fun ls hl => ?_)
            refine lv_aload_n hx hb dJ1_grow_131 rfl (lv_at hl 4 rfl) ?_
            refine lv_dup hx hb dJ1_grow_132 rfl ?_
            refine gx_get C h f_7 (Cn := RJ1) (T := TJ1) (N := 3) rfl in_J1 1 (by decide) q94 rfl rfl dJ1_grow_133 ?_
            refine lv_iload hx hb dJ1_grow_136 (lv_at hl 1 rfl) ?_
            refine gn_iadd hx hb dJ1_grow_138 ?_
            refine lv_dup_x1 hx hb dJ1_grow_139 rfl rfl ?_
            refine gx_put C h f_7 (Cn := RJ1) (T := TJ1) (N := 3) (x := .int (nI (hd + ((cap n) - n)))) rfl in_J1 tyJ1 tyJ1_ok nmJ1 1 (by decide) q94 rfl rfl rfl rfl (Nat.le_of_ble_eq_true rfl) dJ1_grow_140 (fun H locs h => ?_)
            obtain ⟨w_9, ew_9⟩ : ∃ z : GW, z = gu w_6 a (ob 5 [.ref E1, .int (nI (hd + ((cap n) - n))), .int (nI hd)]) := ⟨_, rfl⟩
            have h : SH g w_9 v s H locs := by rw [ew_9]; exact h
            have f_10 : w_9 a = some (ob 5 [.ref E1, .int (nI (hd + ((cap n) - n))), .int (nI hd)]) := by rw [ew_9]; exact gu_s
            have f_11 : w_9 E1 = some (eO g (cap n) (va_cpy (va_cpy f (fun _ => none) 0 0 n) (va_cpy f (fun _ => none) 0 0 n) hd (hd + (cap n - n)) (n - hd))) := by rw [ew_9]; exact (gu_n (Ne.symm (g_neN h0 k1))).trans f_8
            refine lv_istore (lv' := [(8, .int (nI (hd + ((cap n) - n)))), (7, .int (nI hd)), (6, .int (nI ((cap n) - n))), (5, .ref E1), (3, .int (nI (cap n))), (0, .ref a), (1, .int (nI 1)), (2, .int (nI n)), (4, .int (nI jp))]) hx hb dJ1_grow_143 hl (by decide) rfl (fun ls hl => ?_)
            have loop : ∀ (n_ : Nat) (i : Nat) (w9 : GW) (H : Heap) (locs : List Loc) (ls : Array Slot), (cap n - n) - i < n_ → (i ≤ cap n - n) → (w9 = gu (gu w E1 (eO g (cap n) (grF f hd n i))) a (ob 5 [.ref E1, .int (nI (hd + (cap n - n))), .int (nI hd)])) → SH g w9 v s H locs → lv_has ls 9 [(0, .ref a), (5, .ref E1), (7, .int (nI (hd + i))), (8, .int (nI (hd + (cap n - n))))] → W p l e ({ frames := 4, cells := 1, slots := 200, locals := 240 } : Room) s m ([.ref a, .int (nI 1)] : List Value).toArray below meth c H locs 1 200 (MQ below (va_Qv (fun (w' : GW) => ∃ (E' : Nat), w E' = none ∧ v E' = none ∧ w' = gu (gu w E' (eO g (cap n) (grF f hd n (cap n - n)))) a (ob 5 [.ref E', .int (nI (hd + (cap n - n))), .int (nI hd)])) (gB g v) (gA g)) ([.ref a, .int (nI 1)] : List Value).toArray s 1 200 (gA g)) (F0 m 145 ls []) := by
              intro n_
              induction n_ with
              | zero => intros; exact absurd ‹_ < 0› (Nat.not_lt_zero _)
              | succ n_ ih =>
                intro i w9 H locs ls hf hi hw  h hl
                have g0 : w9 a = some (ob 5 [.ref E1, .int (nI (hd + (cap n - n))), .int (nI hd)]) := by rw [hw]; exact gu_s
                have g1 : w9 E1 = some (eO g (cap n) (grF f hd n i)) := by rw [hw]; exact (gu_n (Ne.symm (g_neN h0 k1))).trans gu_s
                refine lv_iload hx hb dJ1_grow_145 (lv_at hl 2 rfl) ?_
                refine lv_iload hx hb dJ1_grow_147 (lv_at hl 3 rfl) ?_
                refine lv_icmp_ge (tgt := 164) hx hb dJ1_grow_149 (by decide) (fun c5 => ?_) (fun c5 => ?_)
                · skip
                  have c5 : (hd + (cap n - n)) ≤ (hd + i) := (nI_leI (by omega) (by omega)).mp c5
                  have : i = cap n - n := by omega
                  subst this
                  exact gr_v C h (⟨E1, k1, k2, hw⟩) (Nat.le_of_ble_eq_true rfl) (Nat.le_of_ble_eq_true rfl) dJ1_grow_164
                · skip
                  have c5 : ¬ ((hd + (cap n - n)) ≤ (hd + i)) := fun q => c5 ((nI_leI (by omega) (by omega)).mpr q)
                  refine lv_aload hx hb dJ1_grow_152 (lv_at hl 1 rfl) ?_
                  refine lv_iload hx hb dJ1_grow_154 (lv_at hl 2 rfl) ?_
                  refine lv_null hx hb dJ1_grow_156 ?_
                  refine gx_aastN C h 5 rfl g1 (hd + i) (rfl) (by omega) dJ1_grow_157 (fun H locs h => ?_)
                  obtain ⟨w_12, ew_12⟩ : ∃ z : GW, z = gu w9 E1 (eO g (cap n) (va_up (grF f hd n i) (hd + i) none)) := ⟨_, rfl⟩
                  have h : SH g w_12 v s H locs := by rw [ew_12]; exact h
                  have f_13 : w_12 E1 = some (eO g (cap n) (va_up (grF f hd n i) (hd + i) none)) := by rw [ew_12]; exact gu_s
                  refine lv_iinc (v := nI (hd + i + 1)) (lv' := [(7, .int (nI (hd + i + 1))), (0, .ref a), (5, .ref E1), (8, .int (nI (hd + (cap n - n))))]) hx hb dJ1_grow_158 hl (k := 2) rfl (gi_inc _ 1) (by decide) rfl (fun ls hl => ?_)
                  refine lv_goto (tgt := 145) hx hb dJ1_grow_161 (by decide) ?_
                  exact ih (i + 1) _ _ _ _ (by omega) (by omega) (by rw [ew_12, hw, grF_s, gu_comm (g_neN h0 k1), gu_gu])  h (lv_sub hl [1, 2, 0, 3] rfl)
            exact loop (cap n - n + 1) 0 _ _ _ _ (by omega) (by omega) (by rw [ew_9, ew_6, ew_3, k3, grF_0, gu_comm (g_neN h0 k1), gu_gu, gu_gu]) h (lv_sub hl [5, 3, 1, 0] rfl)
      · skip
        exact absurd (cap_small (n + jp) (by omega)) c2
  refine lv_aload_n hx hb dJ1_grow_0 rfl (lv_at hl 0 rfl) ?_
  refine gx_get C h h0 (Cn := RJ1) (T := TJ1) (N := 3) rfl in_J1 0 (by decide) q91 rfl rfl dJ1_grow_1 ?_
  refine gx_alen C h (t := 5) rfl hE dJ1_grow_4 ?_
  refine lv_istore_n (lv' := [(2, .int (nI n)), (0, .ref a), (1, .int (nI 1))]) hx hb dJ1_grow_5 rfl hl (by decide) rfl (fun ls hl => ?_)
  refine lv_iload_n hx hb dJ1_grow_6 rfl (lv_at hl 0 rfl) ?_
  refine lv_bipush (v := nI 64) hx hb dJ1_grow_7 (by decide) ?_
  refine lv_icmp_ge (tgt := 18) hx hb dJ1_grow_9 (by decide) (fun c1 => ?_) (fun c1 => ?_)
  · skip
    have c1 : 64 ≤ n := (nI_leI (by omega) (by omega)).mp c1
    refine lv_iload_n hx hb dJ1_grow_18 rfl (lv_at hl 0 rfl) ?_
    refine lv_iconst (v := nI 1) hx hb dJ1_grow_19 (by decide) ?_
    refine lv_ishr hx hb dJ1_grow_20 ?_
    rw [pk_shrN (n := n) (by omega) (nI 1 &&& 31) 1 (by decide)]
    refine lv_istore (lv' := [(4, .int (nI (n / 2 ^ 1))), (2, .int (nI n)), (0, .ref a), (1, .int (nI 1))]) hx hb dJ1_grow_21 hl (by decide) rfl (fun ls hl => ?_)
    exact cont (n / 2 ^ 1) ls (by unfold cap; rw [if_neg (by omega)]) (lv_sub hl [2, 3, 1, 0] rfl)
  · skip
    have c1 : ¬ (64 ≤ n) := fun q => c1 ((nI_leI (by omega) (by omega)).mpr q)
    refine lv_iload_n hx hb dJ1_grow_12 rfl (lv_at hl 0 rfl) ?_
    refine lv_iconst (v := nI 2) hx hb dJ1_grow_13 (by decide) ?_
    refine gn_iadd hx hb dJ1_grow_14 ?_
    refine lv_goto (tgt := 21) hx hb dJ1_grow_15 (by decide) ?_
    refine lv_istore (lv' := [(4, .int (nI (n + 2))), (2, .int (nI n)), (0, .ref a), (1, .int (nI 1))]) hx hb dJ1_grow_21 hl (by decide) rfl (fun ls hl => ?_)
    exact cont (n + 2) ls (by unfold cap; rw [if_pos (by omega)]) (lv_sub hl [2, 3, 1, 0] rfl)
