set_option maxRecDepth 100000
theorem nI_nm1 {k : Nat} (h : k < 2 ^ 31) : ¬ nI k = -1 := by
  intro q
  have a := nI_toInt h
  rw [q] at a
  have : (-1 : Int32).toInt = -1 := by decide
  omega
set_option maxHeartbeats 4000000 in
theorem m_X3_lay (l : Launch) (g : GG) (w v : GW) (ad : Nat → Nat) (cn : Nat) (ru fu ch th : Bool) (fi be ne ke : Nat) (fD fL fO : Nat → Int32) (z : Nat → Bool) (fP fT fY fN : Nat → Int32) (fS : Nat → Int64) (fKn : Nat → Int32) (fK : Nat → Int64) (fH : Nat → Int32) (hM : MW g w ad cn ru fu ch th fi be ne ke fD fL fO z fP fT fY fN fS fKn fK fH) (kd so : Nat) (x : Int32) (x8 : Int64) (hfb : fi ≤ be ∧ be ≤ 1200) (hne : ne < 1200) (hke : ke ≤ 4) (hcn : 2 ≤ cn ∧ cn ≤ 64) (hx_ : x = -1 ∨ ∃ pg : Nat, pg < 30 ∧ x = nI pg) (hpl : ∀ q, q < 30 → fP q = -1 ∨ ∃ kk : Nat, kk < 64 ∧ fP q = nI kk) : Met l yX3_lay (ws_ yX3_lay cX3_lay 8 (some .int)) ({ frames := 4, cells := 0, slots := 0, locals := 240 } : Room) (gP g [.ref (ad 0), .int (nI kd), .int x, .int (nI so), .long x8] w v) (va_Qi (fun (r : Int32) (w' : GW) => (x = -1 ∨ ¬ (lf (heM fP fT fS fK fi be ne ke) (cn - 2) 2) < cn ∨ fu = true → r = -4 ∧ w' = w) ∧ (¬ (x = -1 ∨ ¬ (lf (heM fP fT fS fK fi be ne ke) (cn - 2) 2) < cn ∨ fu = true) → ∃ pg : Nat, pg < 30 ∧ x = nI pg ∧ r = x ∧ MW g w' ad cn ru fu true th fi be ne ke fD fL (layO fO (lf (heM fP fT fS fK fi be ne ke) (cn - 2) 2) kd pg so x8) (va_up (if fP pg = -1 then z else va_up z (fP pg).toNatClampNeg false) (lf (heM fP fT fS fK fi be ne ke) (cn - 2) 2) true) (upd fP pg (nI (lf (heM fP fT fS fK fi be ne ke) (cn - 2) 2))) fT fY fN fS fKn fK fH)) (gB g v) (gA g)) 0 0 (gA g) := by
  refine gm_of (by decide) (Nat.le_of_ble_eq_true rfl) ?_
  intro p e s m below meth c ls C hnm h hl
  have C : Cx g p s m ([.ref (ad 0), .int (nI kd), .int x, .int (nI so), .long x8] : List Value).toArray meth c cX3_lay 8 RX3 (some .int) := C
  obtain ⟨hx, hb, hml, hown, hts, hr, hlk, hG⟩ := id C
  have hl : lv_has ls 8 [(0, .ref (ad 0)), (1, .int (nI kd)), (2, .int x), (3, .int (nI so)), (4, .long x8)] := hl
  obtain ⟨hinj, k0, k1, k2, k3, k4, k5, k6, k7, k8, k9, k10, k11, k12⟩ := id hM
  refine lv_aload_n hx hb dX3_lay_0 rfl (lv_at hl 0 rfl) ?_
  refine gc_i (va_runV (As := []) (rest := []) C.fix (m_X3_freeSector l g w v ad cn ru fu ch th fi be ne ke k0 fP k5 fT k6 fS k9 fK k11 hfb hne hke hcn) (cwV 0 hts (lw_V q840 q842 qs33 q53 q843) rfl rfl rfl (by decide +kernel) ⟨Nat.le_of_ble_eq_true rfl, Nat.le_of_ble_eq_true rfl⟩) (gp_V C h [] (Cn := RX3) (T := TX3) (N := 22) rfl k0) rfl rfl hl.1 rfl (lv_room (Nat.le_of_ble_eq_true rfl)) dX3_lay_1 ⟨Nat.le_of_ble_eq_true rfl, Nat.le_of_ble_eq_true rfl⟩) h (fun r_1 w_2 H locs hp h => ?_)
  obtain ⟨er_r_1, ew_r_1⟩ := hp
  rw [er_r_1]
  rw [ew_r_1] at h
  refine lv_istore (lv' := [(6, .int (if (lf (heM fP fT fS fK fi be ne ke) (cn - 2) 2) < cn then nI (lf (heM fP fT fS fK fi be ne ke) (cn - 2) 2) else -1)), (0, .ref (ad 0)), (1, .int (nI kd)), (2, .int x), (3, .int (nI so)), (4, .long x8)]) hx hb dX3_lay_4 hl (by decide) rfl (fun ls hl => ?_)
  refine lv_iload_n hx hb dX3_lay_6 rfl (lv_at hl 3 rfl) ?_
  refine lv_iconst (v := (-1)) hx hb dX3_lay_7 (by decide) ?_
  refine lv_icmp_eq (tgt := 24) hx hb dX3_lay_8 (by decide) (fun c1 => ?_) (fun c1 => ?_)
  · skip
    refine lv_bipush (v := (-4)) hx hb dX3_lay_24 (by decide) ?_
    exact gr_i C h (ty := .int) rfl (rfl) (⟨fun _ => ⟨rfl, rfl⟩, fun q => absurd (Or.inl c1) q⟩) (Nat.le_of_ble_eq_true rfl) (Nat.le_of_ble_eq_true rfl) dX3_lay_26
  · skip
    by_cases hK : (lf (heM fP fT fS fK fi be ne ke) (cn - 2) 2) < cn
    · skip
      have hl : lv_has ls 8 [(6, .int (nI ((lf (heM fP fT fS fK fi be ne ke) (cn - 2) 2)))), (0, .ref (ad 0)), (1, .int (nI kd)), (2, .int x), (3, .int (nI so)), (4, .long x8)] := by rw [if_pos hK] at hl; exact hl
      refine lv_iload hx hb dX3_lay_11 (lv_at hl 0 rfl) ?_
      refine lv_iconst (v := (-1)) hx hb dX3_lay_13 (by decide) ?_
      refine lv_icmp_eq (tgt := 24) hx hb dX3_lay_14 (by decide) (fun c2 => ?_) (fun c2 => ?_)
      · skip
        exact absurd c2 (nI_nm1 (by omega))
      · skip
        refine lv_aload_n hx hb dX3_lay_17 rfl (lv_at hl 1 rfl) ?_
        refine gx_get C h k0 (Cn := RX3) (T := TX3) (N := 22) rfl in_X3 2 (by decide) q734 rfl rfl dX3_lay_18 ?_
        refine lv_if_eq (tgt := 27) hx hb dX3_lay_21 (by decide) (fun c3 => ?_) (fun c3 => ?_)
        · skip
          have c3 : fu = false := bI_eq0.mp c3
          obtain ⟨pg, hpg, hxp⟩ : ∃ pg : Nat, pg < 30 ∧ x = nI pg := hx_.elim (fun q => absurd q c1) id
          have hcond : ¬ (x = -1 ∨ ¬ (lf (heM fP fT fS fK fi be ne ke) (cn - 2) 2) < cn ∨ fu = true) := fun q => q.elim c1 (fun q => q.elim (fun q => q hK) (fun q => by rw [c3] at q; cases q))
          obtain ⟨K, hKe⟩ : ∃ K, K = (lf (heM fP fT fS fK fi be ne ke) (cn - 2) 2) := ⟨_, rfl⟩
          rw [← hKe] at hK hl
          have hK2 : 2 ≤ K := by rw [hKe]; exact (lf_spec _ _ _).1
          rw [hxp] at hl
          refine lv_iconst (v := nI 0) hx hb dX3_lay_27 (by decide) ?_
          refine lv_istore (lv' := [(7, .int (nI 0)), (6, .int (nI K)), (0, .ref (ad 0)), (1, .int (nI kd)), (2, .int (nI pg)), (3, .int (nI so)), (4, .long x8)]) hx hb dX3_lay_28 hl (by decide) rfl (fun ls hl => ?_)
          have loop : ∀ (n_ : Nat) (i : Nat) (w1 : GW) (H : Heap) (locs : List Loc) (ls : Array Slot), 32 - i < n_ → (i ≤ 32) → (MW g w1 ad cn ru fu ch th fi be ne ke fD fL (va_cpy (fun _ => 0) fO 0 (32 * K) i) z fP fT fY fN fS fKn fK fH) → SH g w1 v s H locs → lv_has ls 8 [(0, .ref (ad 0)), (1, .int (nI kd)), (2, .int (nI pg)), (3, .int (nI so)), (4, .long x8), (6, .int (nI K)), (7, .int (nI i))] → W p l e ({ frames := 4, cells := 0, slots := 0, locals := 240 } : Room) s m ([.ref (ad 0), .int (nI kd), .int x, .int (nI so), .long x8] : List Value).toArray below meth c H locs 0 0 (MQ below (va_Qi (fun (r : Int32) (w' : GW) => (x = -1 ∨ ¬ (lf (heM fP fT fS fK fi be ne ke) (cn - 2) 2) < cn ∨ fu = true → r = -4 ∧ w' = w) ∧ (¬ (x = -1 ∨ ¬ (lf (heM fP fT fS fK fi be ne ke) (cn - 2) 2) < cn ∨ fu = true) → ∃ pg : Nat, pg < 30 ∧ x = nI pg ∧ r = x ∧ MW g w' ad cn ru fu true th fi be ne ke fD fL (layO fO (lf (heM fP fT fS fK fi be ne ke) (cn - 2) 2) kd pg so x8) (va_up (if fP pg = -1 then z else va_up z (fP pg).toNatClampNeg false) (lf (heM fP fT fS fK fi be ne ke) (cn - 2) 2) true) (upd fP pg (nI (lf (heM fP fT fS fK fi be ne ke) (cn - 2) 2))) fT fY fN fS fKn fK fH)) (gB g v) (gA g)) ([.ref (ad 0), .int (nI kd), .int x, .int (nI so), .long x8] : List Value).toArray s 0 0 (gA g)) (F0 m 30 ls []) := by
            intro n_
            induction n_ with
            | zero => intros; exact absurd ‹_ < 0› (Nat.not_lt_zero _)
            | succ n_ ih =>
              intro i w1 H locs ls hf hi hM1  h hl
              obtain ⟨hinj, g0, g1, g2, g3, g4, g5, g6, g7, g8, g9, g10, g11, g12⟩ := id hM1
              refine lv_iload hx hb dX3_lay_30 (lv_at hl 6 rfl) ?_
              refine lv_bipush (v := nI 32) hx hb dX3_lay_32 (by decide) ?_
              refine lv_icmp_ge (tgt := 57) hx hb dX3_lay_34 (by decide) (fun c4 => ?_) (fun c4 => ?_)
              · skip
                have c4 : 32 ≤ i := (nI_leI (by omega) (by omega)).mp c4
                have hie : i = 32 := by omega
                subst hie
                refine lv_aload_n hx hb dX3_lay_57 rfl (lv_at hl 0 rfl) ?_
                refine gx_get C h g0 (Cn := RX3) (T := TX3) (N := 22) rfl in_X3 5 (by decide) q737 rfl rfl dX3_lay_58 ?_
                refine lv_bipush (v := nI 32) hx hb dX3_lay_61 (by decide) ?_
                refine lv_iload hx hb dX3_lay_63 (lv_at hl 5 rfl) ?_
                refine gn_imul hx hb dX3_lay_65 ?_
                refine lv_iconst (v := nI 4) hx hb dX3_lay_66 (by decide) ?_
                refine gn_iadd hx hb dX3_lay_67 ?_
                refine lv_iload_n hx hb dX3_lay_68 rfl (lv_at hl 1 rfl) ?_
                refine gx_iast C h g3 ((32 * K) + 4) (rfl) (by omega) dX3_lay_69 (fun H locs h => ?_)
                obtain ⟨w_3, ew_3⟩ : ∃ z_ : GW, z_ = gu w1 (ad 3) (eI g 2048 (upd (va_cpy (fun _ => 0) fO 0 (32 * K) 32) ((32 * K) + 4) (nI kd))) := ⟨_, rfl⟩
                have h : SH g w_3 v s H locs := by rw [ew_3]; exact h
                have f_4 : w_3 (ad 0) = some (ob 4 [.int (nI cn), .int (bI ru), .int (bI fu), .ref (ad 1), .ref (ad 2), .ref (ad 3), .ref (ad 4), .ref (ad 5), .int (bI ch), .ref (ad 6), .ref (ad 7), .int (nI fi), .int (nI be), .ref (ad 8), .ref (ad 9), .int (nI 0), .int (nI ne), .ref (ad 10), .ref (ad 11), .int (nI ke), .int (bI th), .ref (ad 12)]) := by rw [ew_3]; exact (gu_n (fun q => absurd (hinj 0 3 (by decide) (by decide) q) (by decide))).trans g0
                have f_5 : w_3 (ad 1) = some (eI g 2048 fD) := by rw [ew_3]; exact (gu_n (fun q => absurd (hinj 1 3 (by decide) (by decide) q) (by decide))).trans g1
                have f_6 : w_3 (ad 2) = some (eI g 2048 fL) := by rw [ew_3]; exact (gu_n (fun q => absurd (hinj 2 3 (by decide) (by decide) q) (by decide))).trans g2
                have f_7 : w_3 (ad 3) = some (eI g 2048 (upd (va_cpy (fun _ => 0) fO 0 (32 * K) 32) ((32 * K) + 4) (nI kd))) := by rw [ew_3]; exact gu_s
                have f_8 : w_3 (ad 4) = some (eZ g 64 z) := by rw [ew_3]; exact (gu_n (fun q => absurd (hinj 4 3 (by decide) (by decide) q) (by decide))).trans g4
                have f_9 : w_3 (ad 5) = some (eI g 30 fP) := by rw [ew_3]; exact (gu_n (fun q => absurd (hinj 5 3 (by decide) (by decide) q) (by decide))).trans g5
                have f_10 : w_3 (ad 6) = some (eI g 1200 fT) := by rw [ew_3]; exact (gu_n (fun q => absurd (hinj 6 3 (by decide) (by decide) q) (by decide))).trans g6
                have f_11 : w_3 (ad 7) = some (eI g 38400 fY) := by rw [ew_3]; exact (gu_n (fun q => absurd (hinj 7 3 (by decide) (by decide) q) (by decide))).trans g7
                have f_12 : w_3 (ad 8) = some (eI g 1200 fN) := by rw [ew_3]; exact (gu_n (fun q => absurd (hinj 8 3 (by decide) (by decide) q) (by decide))).trans g8
                have f_13 : w_3 (ad 9) = some (eL g 1200 fS) := by rw [ew_3]; exact (gu_n (fun q => absurd (hinj 9 3 (by decide) (by decide) q) (by decide))).trans g9
                have f_14 : w_3 (ad 10) = some (eI g 4 fKn) := by rw [ew_3]; exact (gu_n (fun q => absurd (hinj 10 3 (by decide) (by decide) q) (by decide))).trans g10
                have f_15 : w_3 (ad 11) = some (eL g 4 fK) := by rw [ew_3]; exact (gu_n (fun q => absurd (hinj 11 3 (by decide) (by decide) q) (by decide))).trans g11
                have f_16 : w_3 (ad 12) = some (eI g 32 fH) := by rw [ew_3]; exact (gu_n (fun q => absurd (hinj 12 3 (by decide) (by decide) q) (by decide))).trans g12
                refine lv_aload_n hx hb dX3_lay_70 rfl (lv_at hl 0 rfl) ?_
                refine gx_get C h f_4 (Cn := RX3) (T := TX3) (N := 22) rfl in_X3 5 (by decide) q737 rfl rfl dX3_lay_71 ?_
                refine lv_bipush (v := nI 32) hx hb dX3_lay_74 (by decide) ?_
                refine lv_iload hx hb dX3_lay_76 (lv_at hl 5 rfl) ?_
                refine gn_imul hx hb dX3_lay_78 ?_
                refine lv_iconst (v := nI 5) hx hb dX3_lay_79 (by decide) ?_
                refine gn_iadd hx hb dX3_lay_80 ?_
                refine lv_iload_n hx hb dX3_lay_81 rfl (lv_at hl 2 rfl) ?_
                refine gx_iast C h f_7 ((32 * K) + 5) (rfl) (by omega) dX3_lay_82 (fun H locs h => ?_)
                obtain ⟨w_17, ew_17⟩ : ∃ z_ : GW, z_ = gu w_3 (ad 3) (eI g 2048 (upd (upd (va_cpy (fun _ => 0) fO 0 (32 * K) 32) ((32 * K) + 4) (nI kd)) ((32 * K) + 5) (nI pg))) := ⟨_, rfl⟩
                have h : SH g w_17 v s H locs := by rw [ew_17]; exact h
                have f_18 : w_17 (ad 0) = some (ob 4 [.int (nI cn), .int (bI ru), .int (bI fu), .ref (ad 1), .ref (ad 2), .ref (ad 3), .ref (ad 4), .ref (ad 5), .int (bI ch), .ref (ad 6), .ref (ad 7), .int (nI fi), .int (nI be), .ref (ad 8), .ref (ad 9), .int (nI 0), .int (nI ne), .ref (ad 10), .ref (ad 11), .int (nI ke), .int (bI th), .ref (ad 12)]) := by rw [ew_17]; exact (gu_n (fun q => absurd (hinj 0 3 (by decide) (by decide) q) (by decide))).trans f_4
                have f_19 : w_17 (ad 1) = some (eI g 2048 fD) := by rw [ew_17]; exact (gu_n (fun q => absurd (hinj 1 3 (by decide) (by decide) q) (by decide))).trans f_5
                have f_20 : w_17 (ad 2) = some (eI g 2048 fL) := by rw [ew_17]; exact (gu_n (fun q => absurd (hinj 2 3 (by decide) (by decide) q) (by decide))).trans f_6
                have f_21 : w_17 (ad 3) = some (eI g 2048 (upd (upd (va_cpy (fun _ => 0) fO 0 (32 * K) 32) ((32 * K) + 4) (nI kd)) ((32 * K) + 5) (nI pg))) := by rw [ew_17]; exact gu_s
                have f_22 : w_17 (ad 4) = some (eZ g 64 z) := by rw [ew_17]; exact (gu_n (fun q => absurd (hinj 4 3 (by decide) (by decide) q) (by decide))).trans f_8
                have f_23 : w_17 (ad 5) = some (eI g 30 fP) := by rw [ew_17]; exact (gu_n (fun q => absurd (hinj 5 3 (by decide) (by decide) q) (by decide))).trans f_9
                have f_24 : w_17 (ad 6) = some (eI g 1200 fT) := by rw [ew_17]; exact (gu_n (fun q => absurd (hinj 6 3 (by decide) (by decide) q) (by decide))).trans f_10
                have f_25 : w_17 (ad 7) = some (eI g 38400 fY) := by rw [ew_17]; exact (gu_n (fun q => absurd (hinj 7 3 (by decide) (by decide) q) (by decide))).trans f_11
                have f_26 : w_17 (ad 8) = some (eI g 1200 fN) := by rw [ew_17]; exact (gu_n (fun q => absurd (hinj 8 3 (by decide) (by decide) q) (by decide))).trans f_12
                have f_27 : w_17 (ad 9) = some (eL g 1200 fS) := by rw [ew_17]; exact (gu_n (fun q => absurd (hinj 9 3 (by decide) (by decide) q) (by decide))).trans f_13
                have f_28 : w_17 (ad 10) = some (eI g 4 fKn) := by rw [ew_17]; exact (gu_n (fun q => absurd (hinj 10 3 (by decide) (by decide) q) (by decide))).trans f_14
                have f_29 : w_17 (ad 11) = some (eL g 4 fK) := by rw [ew_17]; exact (gu_n (fun q => absurd (hinj 11 3 (by decide) (by decide) q) (by decide))).trans f_15
                have f_30 : w_17 (ad 12) = some (eI g 32 fH) := by rw [ew_17]; exact (gu_n (fun q => absurd (hinj 12 3 (by decide) (by decide) q) (by decide))).trans f_16
                refine lv_aload_n hx hb dX3_lay_83 rfl (lv_at hl 0 rfl) ?_
                refine gx_get C h f_18 (Cn := RX3) (T := TX3) (N := 22) rfl in_X3 5 (by decide) q737 rfl rfl dX3_lay_84 ?_
                refine lv_bipush (v := nI 32) hx hb dX3_lay_87 (by decide) ?_
                refine lv_iload hx hb dX3_lay_89 (lv_at hl 5 rfl) ?_
                refine gn_imul hx hb dX3_lay_91 ?_
                refine lv_bipush (v := nI 6) hx hb dX3_lay_92 (by decide) ?_
                refine gn_iadd hx hb dX3_lay_94 ?_
                refine lv_iload_n hx hb dX3_lay_95 rfl (lv_at hl 3 rfl) ?_
                refine gx_iast C h f_21 ((32 * K) + 6) (rfl) (by omega) dX3_lay_96 (fun H locs h => ?_)
                obtain ⟨w_31, ew_31⟩ : ∃ z_ : GW, z_ = gu w_17 (ad 3) (eI g 2048 (upd (upd (upd (va_cpy (fun _ => 0) fO 0 (32 * K) 32) ((32 * K) + 4) (nI kd)) ((32 * K) + 5) (nI pg)) ((32 * K) + 6) (nI so))) := ⟨_, rfl⟩
                have h : SH g w_31 v s H locs := by rw [ew_31]; exact h
                have f_32 : w_31 (ad 0) = some (ob 4 [.int (nI cn), .int (bI ru), .int (bI fu), .ref (ad 1), .ref (ad 2), .ref (ad 3), .ref (ad 4), .ref (ad 5), .int (bI ch), .ref (ad 6), .ref (ad 7), .int (nI fi), .int (nI be), .ref (ad 8), .ref (ad 9), .int (nI 0), .int (nI ne), .ref (ad 10), .ref (ad 11), .int (nI ke), .int (bI th), .ref (ad 12)]) := by rw [ew_31]; exact (gu_n (fun q => absurd (hinj 0 3 (by decide) (by decide) q) (by decide))).trans f_18
                have f_33 : w_31 (ad 1) = some (eI g 2048 fD) := by rw [ew_31]; exact (gu_n (fun q => absurd (hinj 1 3 (by decide) (by decide) q) (by decide))).trans f_19
                have f_34 : w_31 (ad 2) = some (eI g 2048 fL) := by rw [ew_31]; exact (gu_n (fun q => absurd (hinj 2 3 (by decide) (by decide) q) (by decide))).trans f_20
                have f_35 : w_31 (ad 3) = some (eI g 2048 (upd (upd (upd (va_cpy (fun _ => 0) fO 0 (32 * K) 32) ((32 * K) + 4) (nI kd)) ((32 * K) + 5) (nI pg)) ((32 * K) + 6) (nI so))) := by rw [ew_31]; exact gu_s
                have f_36 : w_31 (ad 4) = some (eZ g 64 z) := by rw [ew_31]; exact (gu_n (fun q => absurd (hinj 4 3 (by decide) (by decide) q) (by decide))).trans f_22
                have f_37 : w_31 (ad 5) = some (eI g 30 fP) := by rw [ew_31]; exact (gu_n (fun q => absurd (hinj 5 3 (by decide) (by decide) q) (by decide))).trans f_23
                have f_38 : w_31 (ad 6) = some (eI g 1200 fT) := by rw [ew_31]; exact (gu_n (fun q => absurd (hinj 6 3 (by decide) (by decide) q) (by decide))).trans f_24
                have f_39 : w_31 (ad 7) = some (eI g 38400 fY) := by rw [ew_31]; exact (gu_n (fun q => absurd (hinj 7 3 (by decide) (by decide) q) (by decide))).trans f_25
                have f_40 : w_31 (ad 8) = some (eI g 1200 fN) := by rw [ew_31]; exact (gu_n (fun q => absurd (hinj 8 3 (by decide) (by decide) q) (by decide))).trans f_26
                have f_41 : w_31 (ad 9) = some (eL g 1200 fS) := by rw [ew_31]; exact (gu_n (fun q => absurd (hinj 9 3 (by decide) (by decide) q) (by decide))).trans f_27
                have f_42 : w_31 (ad 10) = some (eI g 4 fKn) := by rw [ew_31]; exact (gu_n (fun q => absurd (hinj 10 3 (by decide) (by decide) q) (by decide))).trans f_28
                have f_43 : w_31 (ad 11) = some (eL g 4 fK) := by rw [ew_31]; exact (gu_n (fun q => absurd (hinj 11 3 (by decide) (by decide) q) (by decide))).trans f_29
                have f_44 : w_31 (ad 12) = some (eI g 32 fH) := by rw [ew_31]; exact (gu_n (fun q => absurd (hinj 12 3 (by decide) (by decide) q) (by decide))).trans f_30
                refine lv_aload_n hx hb dX3_lay_97 rfl (lv_at hl 0 rfl) ?_
                refine gx_get C h f_32 (Cn := RX3) (T := TX3) (N := 22) rfl in_X3 5 (by decide) q737 rfl rfl dX3_lay_98 ?_
                refine lv_bipush (v := nI 32) hx hb dX3_lay_101 (by decide) ?_
                refine lv_iload hx hb dX3_lay_103 (lv_at hl 5 rfl) ?_
                refine gn_imul hx hb dX3_lay_105 ?_
                refine lv_bipush (v := nI 8) hx hb dX3_lay_106 (by decide) ?_
                refine gn_iadd hx hb dX3_lay_108 ?_
                refine lv_lload hx hb dX3_lay_109 (lv_at hl 4 rfl) ?_
                refine gc_v (va_runS (As := [.ref (ad 3), .int (nI ((32 * K) + 8)), .long x8]) (rest := []) C.fix (m_X3_setWide l g w_31 v (ad 3) 2048 (upd (upd (upd (va_cpy (fun _ => 0) fO 0 (32 * K) 32) ((32 * K) + 4) (nI kd)) ((32 * K) + 5) (nI pg)) ((32 * K) + 6) (nI so)) f_35 (by omega) (32 * K + 8) x8 (by omega)) (va_cwS 3 hts (lw_S q856 q857 q53 q858) rfl rfl rfl (by decide +kernel) ⟨Nat.le_of_ble_eq_true rfl, Nat.le_of_ble_eq_true rfl⟩) (gp_S C h _) rfl rfl hl.1 rfl (lv_room (Nat.le_of_ble_eq_true rfl)) dX3_lay_111 ⟨Nat.le_of_ble_eq_true rfl, Nat.le_of_ble_eq_true rfl⟩) h (fun w_46 H locs hp h => ?_)
                have ew_47 : w_46 = gu w_31 (ad 3) (eI g 2048 (setWI (upd (upd (upd (va_cpy (fun _ => 0) fO 0 (32 * K) 32) ((32 * K) + 4) (nI kd)) ((32 * K) + 5) (nI pg)) ((32 * K) + 6) (nI so)) (32 * K + 8) x8)) := hp
                have f_48 : w_46 (ad 0) = some (ob 4 [.int (nI cn), .int (bI ru), .int (bI fu), .ref (ad 1), .ref (ad 2), .ref (ad 3), .ref (ad 4), .ref (ad 5), .int (bI ch), .ref (ad 6), .ref (ad 7), .int (nI fi), .int (nI be), .ref (ad 8), .ref (ad 9), .int (nI 0), .int (nI ne), .ref (ad 10), .ref (ad 11), .int (nI ke), .int (bI th), .ref (ad 12)]) := by rw [ew_47]; exact (gu_n (fun q => absurd (hinj 0 3 (by decide) (by decide) q) (by decide))).trans f_32
                have f_49 : w_46 (ad 1) = some (eI g 2048 fD) := by rw [ew_47]; exact (gu_n (fun q => absurd (hinj 1 3 (by decide) (by decide) q) (by decide))).trans f_33
                have f_50 : w_46 (ad 2) = some (eI g 2048 fL) := by rw [ew_47]; exact (gu_n (fun q => absurd (hinj 2 3 (by decide) (by decide) q) (by decide))).trans f_34
                have f_51 : w_46 (ad 3) = some (eI g 2048 (setWI (upd (upd (upd (va_cpy (fun _ => 0) fO 0 (32 * K) 32) ((32 * K) + 4) (nI kd)) ((32 * K) + 5) (nI pg)) ((32 * K) + 6) (nI so)) (32 * K + 8) x8)) := by rw [ew_47]; exact gu_s
                have f_52 : w_46 (ad 4) = some (eZ g 64 z) := by rw [ew_47]; exact (gu_n (fun q => absurd (hinj 4 3 (by decide) (by decide) q) (by decide))).trans f_36
                have f_53 : w_46 (ad 5) = some (eI g 30 fP) := by rw [ew_47]; exact (gu_n (fun q => absurd (hinj 5 3 (by decide) (by decide) q) (by decide))).trans f_37
                have f_54 : w_46 (ad 6) = some (eI g 1200 fT) := by rw [ew_47]; exact (gu_n (fun q => absurd (hinj 6 3 (by decide) (by decide) q) (by decide))).trans f_38
                have f_55 : w_46 (ad 7) = some (eI g 38400 fY) := by rw [ew_47]; exact (gu_n (fun q => absurd (hinj 7 3 (by decide) (by decide) q) (by decide))).trans f_39
                have f_56 : w_46 (ad 8) = some (eI g 1200 fN) := by rw [ew_47]; exact (gu_n (fun q => absurd (hinj 8 3 (by decide) (by decide) q) (by decide))).trans f_40
                have f_57 : w_46 (ad 9) = some (eL g 1200 fS) := by rw [ew_47]; exact (gu_n (fun q => absurd (hinj 9 3 (by decide) (by decide) q) (by decide))).trans f_41
                have f_58 : w_46 (ad 10) = some (eI g 4 fKn) := by rw [ew_47]; exact (gu_n (fun q => absurd (hinj 10 3 (by decide) (by decide) q) (by decide))).trans f_42
                have f_59 : w_46 (ad 11) = some (eL g 4 fK) := by rw [ew_47]; exact (gu_n (fun q => absurd (hinj 11 3 (by decide) (by decide) q) (by decide))).trans f_43
                have f_60 : w_46 (ad 12) = some (eI g 32 fH) := by rw [ew_47]; exact (gu_n (fun q => absurd (hinj 12 3 (by decide) (by decide) q) (by decide))).trans f_44
                refine lv_aload_n hx hb dX3_lay_114 rfl (lv_at hl 0 rfl) ?_
                refine gx_get C h f_48 (Cn := RX3) (T := TX3) (N := 22) rfl in_X3 5 (by decide) q737 rfl rfl dX3_lay_115 ?_
                refine lv_iload hx hb dX3_lay_118 (lv_at hl 5 rfl) ?_
                refine gc_v (va_runS (As := [.ref (ad 3), .int (nI K)]) (rest := []) C.fix (m_X3_close l g w_46 v (ad 3) 2048 (setWI (upd (upd (upd (va_cpy (fun _ => 0) fO 0 (32 * K) 32) ((32 * K) + 4) (nI kd)) ((32 * K) + 5) (nI pg)) ((32 * K) + 6) (nI so)) (32 * K + 8) x8) f_51 (by omega) K (by omega)) (va_cwS 2 hts (lw_S q862 q863 q53 q864) rfl rfl rfl (by decide +kernel) ⟨Nat.le_of_ble_eq_true rfl, Nat.le_of_ble_eq_true rfl⟩) (gp_S C h _) rfl rfl hl.1 rfl (lv_room (Nat.le_of_ble_eq_true rfl)) dX3_lay_120 ⟨Nat.le_of_ble_eq_true rfl, Nat.le_of_ble_eq_true rfl⟩) h (fun w_62 H locs hp h => ?_)
                have ew_63 : w_62 = gu w_46 (ad 3) (eI g 2048 (layO fO K kd pg so x8)) := hp
                have f_64 : w_62 (ad 0) = some (ob 4 [.int (nI cn), .int (bI ru), .int (bI fu), .ref (ad 1), .ref (ad 2), .ref (ad 3), .ref (ad 4), .ref (ad 5), .int (bI ch), .ref (ad 6), .ref (ad 7), .int (nI fi), .int (nI be), .ref (ad 8), .ref (ad 9), .int (nI 0), .int (nI ne), .ref (ad 10), .ref (ad 11), .int (nI ke), .int (bI th), .ref (ad 12)]) := by rw [ew_63]; exact (gu_n (fun q => absurd (hinj 0 3 (by decide) (by decide) q) (by decide))).trans f_48
                have f_65 : w_62 (ad 1) = some (eI g 2048 fD) := by rw [ew_63]; exact (gu_n (fun q => absurd (hinj 1 3 (by decide) (by decide) q) (by decide))).trans f_49
                have f_66 : w_62 (ad 2) = some (eI g 2048 fL) := by rw [ew_63]; exact (gu_n (fun q => absurd (hinj 2 3 (by decide) (by decide) q) (by decide))).trans f_50
                have f_67 : w_62 (ad 3) = some (eI g 2048 (layO fO K kd pg so x8)) := by rw [ew_63]; exact gu_s
                have f_68 : w_62 (ad 4) = some (eZ g 64 z) := by rw [ew_63]; exact (gu_n (fun q => absurd (hinj 4 3 (by decide) (by decide) q) (by decide))).trans f_52
                have f_69 : w_62 (ad 5) = some (eI g 30 fP) := by rw [ew_63]; exact (gu_n (fun q => absurd (hinj 5 3 (by decide) (by decide) q) (by decide))).trans f_53
                have f_70 : w_62 (ad 6) = some (eI g 1200 fT) := by rw [ew_63]; exact (gu_n (fun q => absurd (hinj 6 3 (by decide) (by decide) q) (by decide))).trans f_54
                have f_71 : w_62 (ad 7) = some (eI g 38400 fY) := by rw [ew_63]; exact (gu_n (fun q => absurd (hinj 7 3 (by decide) (by decide) q) (by decide))).trans f_55
                have f_72 : w_62 (ad 8) = some (eI g 1200 fN) := by rw [ew_63]; exact (gu_n (fun q => absurd (hinj 8 3 (by decide) (by decide) q) (by decide))).trans f_56
                have f_73 : w_62 (ad 9) = some (eL g 1200 fS) := by rw [ew_63]; exact (gu_n (fun q => absurd (hinj 9 3 (by decide) (by decide) q) (by decide))).trans f_57
                have f_74 : w_62 (ad 10) = some (eI g 4 fKn) := by rw [ew_63]; exact (gu_n (fun q => absurd (hinj 10 3 (by decide) (by decide) q) (by decide))).trans f_58
                have f_75 : w_62 (ad 11) = some (eL g 4 fK) := by rw [ew_63]; exact (gu_n (fun q => absurd (hinj 11 3 (by decide) (by decide) q) (by decide))).trans f_59
                have f_76 : w_62 (ad 12) = some (eI g 32 fH) := by rw [ew_63]; exact (gu_n (fun q => absurd (hinj 12 3 (by decide) (by decide) q) (by decide))).trans f_60
                refine lv_aload_n hx hb dX3_lay_123 rfl (lv_at hl 0 rfl) ?_
                refine gx_get C h f_64 (Cn := RX3) (T := TX3) (N := 22) rfl in_X3 7 (by decide) q739 rfl rfl dX3_lay_124 ?_
                refine lv_iload_n hx hb dX3_lay_127 rfl (lv_at hl 2 rfl) ?_
                refine gx_iald C h f_69 pg (rfl) (by omega) dX3_lay_128 ?_
                refine lv_iconst (v := (-1)) hx hb dX3_lay_129 (by decide) ?_
                refine lv_icmp_eq (tgt := 145) hx hb dX3_lay_130 (by decide) (fun c5 => ?_) (fun c5 => ?_)
                · skip
                  skip
                  refine lv_aload_n hx hb dX3_lay_145 rfl (lv_at hl 0 rfl) ?_
                  refine gx_get C h f_64 (Cn := RX3) (T := TX3) (N := 22) rfl in_X3 6 (by decide) q738 rfl rfl dX3_lay_146 ?_
                  refine lv_iload hx hb dX3_lay_149 (lv_at hl 5 rfl) ?_
                  refine lv_iconst (v := bI true) hx hb dX3_lay_151 (by decide) ?_
                  refine gx_zast C h f_68 K (rfl) (by omega) true (rfl) dX3_lay_152 (fun H locs h => ?_)
                  obtain ⟨w_77, ew_77⟩ : ∃ z_ : GW, z_ = gu w_62 (ad 4) (eZ g 64 (va_up z K true)) := ⟨_, rfl⟩
                  have h : SH g w_77 v s H locs := by rw [ew_77]; exact h
                  have f_78 : w_77 (ad 0) = some (ob 4 [.int (nI cn), .int (bI ru), .int (bI fu), .ref (ad 1), .ref (ad 2), .ref (ad 3), .ref (ad 4), .ref (ad 5), .int (bI ch), .ref (ad 6), .ref (ad 7), .int (nI fi), .int (nI be), .ref (ad 8), .ref (ad 9), .int (nI 0), .int (nI ne), .ref (ad 10), .ref (ad 11), .int (nI ke), .int (bI th), .ref (ad 12)]) := by rw [ew_77]; exact (gu_n (fun q => absurd (hinj 0 4 (by decide) (by decide) q) (by decide))).trans f_64
                  have f_79 : w_77 (ad 1) = some (eI g 2048 fD) := by rw [ew_77]; exact (gu_n (fun q => absurd (hinj 1 4 (by decide) (by decide) q) (by decide))).trans f_65
                  have f_80 : w_77 (ad 2) = some (eI g 2048 fL) := by rw [ew_77]; exact (gu_n (fun q => absurd (hinj 2 4 (by decide) (by decide) q) (by decide))).trans f_66
                  have f_81 : w_77 (ad 3) = some (eI g 2048 (layO fO K kd pg so x8)) := by rw [ew_77]; exact (gu_n (fun q => absurd (hinj 3 4 (by decide) (by decide) q) (by decide))).trans f_67
                  have f_82 : w_77 (ad 4) = some (eZ g 64 (va_up z K true)) := by rw [ew_77]; exact gu_s
                  have f_83 : w_77 (ad 5) = some (eI g 30 fP) := by rw [ew_77]; exact (gu_n (fun q => absurd (hinj 5 4 (by decide) (by decide) q) (by decide))).trans f_69
                  have f_84 : w_77 (ad 6) = some (eI g 1200 fT) := by rw [ew_77]; exact (gu_n (fun q => absurd (hinj 6 4 (by decide) (by decide) q) (by decide))).trans f_70
                  have f_85 : w_77 (ad 7) = some (eI g 38400 fY) := by rw [ew_77]; exact (gu_n (fun q => absurd (hinj 7 4 (by decide) (by decide) q) (by decide))).trans f_71
                  have f_86 : w_77 (ad 8) = some (eI g 1200 fN) := by rw [ew_77]; exact (gu_n (fun q => absurd (hinj 8 4 (by decide) (by decide) q) (by decide))).trans f_72
                  have f_87 : w_77 (ad 9) = some (eL g 1200 fS) := by rw [ew_77]; exact (gu_n (fun q => absurd (hinj 9 4 (by decide) (by decide) q) (by decide))).trans f_73
                  have f_88 : w_77 (ad 10) = some (eI g 4 fKn) := by rw [ew_77]; exact (gu_n (fun q => absurd (hinj 10 4 (by decide) (by decide) q) (by decide))).trans f_74
                  have f_89 : w_77 (ad 11) = some (eL g 4 fK) := by rw [ew_77]; exact (gu_n (fun q => absurd (hinj 11 4 (by decide) (by decide) q) (by decide))).trans f_75
                  have f_90 : w_77 (ad 12) = some (eI g 32 fH) := by rw [ew_77]; exact (gu_n (fun q => absurd (hinj 12 4 (by decide) (by decide) q) (by decide))).trans f_76
                  refine lv_aload_n hx hb dX3_lay_153 rfl (lv_at hl 0 rfl) ?_
                  refine gx_get C h f_78 (Cn := RX3) (T := TX3) (N := 22) rfl in_X3 7 (by decide) q739 rfl rfl dX3_lay_154 ?_
                  refine lv_iload_n hx hb dX3_lay_157 rfl (lv_at hl 2 rfl) ?_
                  refine lv_iload hx hb dX3_lay_158 (lv_at hl 5 rfl) ?_
                  refine gx_iast C h f_83 pg (rfl) (by omega) dX3_lay_160 (fun H locs h => ?_)
                  obtain ⟨w_91, ew_91⟩ : ∃ z_ : GW, z_ = gu w_77 (ad 5) (eI g 30 (upd fP pg (nI K))) := ⟨_, rfl⟩
                  have h : SH g w_91 v s H locs := by rw [ew_91]; exact h
                  have f_92 : w_91 (ad 0) = some (ob 4 [.int (nI cn), .int (bI ru), .int (bI fu), .ref (ad 1), .ref (ad 2), .ref (ad 3), .ref (ad 4), .ref (ad 5), .int (bI ch), .ref (ad 6), .ref (ad 7), .int (nI fi), .int (nI be), .ref (ad 8), .ref (ad 9), .int (nI 0), .int (nI ne), .ref (ad 10), .ref (ad 11), .int (nI ke), .int (bI th), .ref (ad 12)]) := by rw [ew_91]; exact (gu_n (fun q => absurd (hinj 0 5 (by decide) (by decide) q) (by decide))).trans f_78
                  have f_93 : w_91 (ad 1) = some (eI g 2048 fD) := by rw [ew_91]; exact (gu_n (fun q => absurd (hinj 1 5 (by decide) (by decide) q) (by decide))).trans f_79
                  have f_94 : w_91 (ad 2) = some (eI g 2048 fL) := by rw [ew_91]; exact (gu_n (fun q => absurd (hinj 2 5 (by decide) (by decide) q) (by decide))).trans f_80
                  have f_95 : w_91 (ad 3) = some (eI g 2048 (layO fO K kd pg so x8)) := by rw [ew_91]; exact (gu_n (fun q => absurd (hinj 3 5 (by decide) (by decide) q) (by decide))).trans f_81
                  have f_96 : w_91 (ad 4) = some (eZ g 64 (va_up z K true)) := by rw [ew_91]; exact (gu_n (fun q => absurd (hinj 4 5 (by decide) (by decide) q) (by decide))).trans f_82
                  have f_97 : w_91 (ad 5) = some (eI g 30 (upd fP pg (nI K))) := by rw [ew_91]; exact gu_s
                  have f_98 : w_91 (ad 6) = some (eI g 1200 fT) := by rw [ew_91]; exact (gu_n (fun q => absurd (hinj 6 5 (by decide) (by decide) q) (by decide))).trans f_84
                  have f_99 : w_91 (ad 7) = some (eI g 38400 fY) := by rw [ew_91]; exact (gu_n (fun q => absurd (hinj 7 5 (by decide) (by decide) q) (by decide))).trans f_85
                  have f_100 : w_91 (ad 8) = some (eI g 1200 fN) := by rw [ew_91]; exact (gu_n (fun q => absurd (hinj 8 5 (by decide) (by decide) q) (by decide))).trans f_86
                  have f_101 : w_91 (ad 9) = some (eL g 1200 fS) := by rw [ew_91]; exact (gu_n (fun q => absurd (hinj 9 5 (by decide) (by decide) q) (by decide))).trans f_87
                  have f_102 : w_91 (ad 10) = some (eI g 4 fKn) := by rw [ew_91]; exact (gu_n (fun q => absurd (hinj 10 5 (by decide) (by decide) q) (by decide))).trans f_88
                  have f_103 : w_91 (ad 11) = some (eL g 4 fK) := by rw [ew_91]; exact (gu_n (fun q => absurd (hinj 11 5 (by decide) (by decide) q) (by decide))).trans f_89
                  have f_104 : w_91 (ad 12) = some (eI g 32 fH) := by rw [ew_91]; exact (gu_n (fun q => absurd (hinj 12 5 (by decide) (by decide) q) (by decide))).trans f_90
                  refine lv_aload_n hx hb dX3_lay_161 rfl (lv_at hl 0 rfl) ?_
                  refine lv_iconst (v := bI true) hx hb dX3_lay_162 (by decide) ?_
                  refine gx_put C h f_92 (Cn := RX3) (T := TX3) (N := 22) (x := .int (bI true)) rfl in_X3 tyX3 tyX3_ok nmX3 8 (by decide) q740 rfl rfl (bI_n _) (bI_f _) (Nat.le_of_ble_eq_true rfl) dX3_lay_163 (fun H locs h => ?_)
                  obtain ⟨w_105, ew_105⟩ : ∃ z_ : GW, z_ = gu w_91 (ad 0) (ob 4 [.int (nI cn), .int (bI ru), .int (bI fu), .ref (ad 1), .ref (ad 2), .ref (ad 3), .ref (ad 4), .ref (ad 5), .int (bI true), .ref (ad 6), .ref (ad 7), .int (nI fi), .int (nI be), .ref (ad 8), .ref (ad 9), .int (nI 0), .int (nI ne), .ref (ad 10), .ref (ad 11), .int (nI ke), .int (bI th), .ref (ad 12)]) := ⟨_, rfl⟩
                  have h : SH g w_105 v s H locs := by rw [ew_105]; exact h
                  have f_106 : w_105 (ad 0) = some (ob 4 [.int (nI cn), .int (bI ru), .int (bI fu), .ref (ad 1), .ref (ad 2), .ref (ad 3), .ref (ad 4), .ref (ad 5), .int (bI true), .ref (ad 6), .ref (ad 7), .int (nI fi), .int (nI be), .ref (ad 8), .ref (ad 9), .int (nI 0), .int (nI ne), .ref (ad 10), .ref (ad 11), .int (nI ke), .int (bI th), .ref (ad 12)]) := by rw [ew_105]; exact gu_s
                  have f_107 : w_105 (ad 1) = some (eI g 2048 fD) := by rw [ew_105]; exact (gu_n (fun q => absurd (hinj 1 0 (by decide) (by decide) q) (by decide))).trans f_93
                  have f_108 : w_105 (ad 2) = some (eI g 2048 fL) := by rw [ew_105]; exact (gu_n (fun q => absurd (hinj 2 0 (by decide) (by decide) q) (by decide))).trans f_94
                  have f_109 : w_105 (ad 3) = some (eI g 2048 (layO fO K kd pg so x8)) := by rw [ew_105]; exact (gu_n (fun q => absurd (hinj 3 0 (by decide) (by decide) q) (by decide))).trans f_95
                  have f_110 : w_105 (ad 4) = some (eZ g 64 (va_up z K true)) := by rw [ew_105]; exact (gu_n (fun q => absurd (hinj 4 0 (by decide) (by decide) q) (by decide))).trans f_96
                  have f_111 : w_105 (ad 5) = some (eI g 30 (upd fP pg (nI K))) := by rw [ew_105]; exact (gu_n (fun q => absurd (hinj 5 0 (by decide) (by decide) q) (by decide))).trans f_97
                  have f_112 : w_105 (ad 6) = some (eI g 1200 fT) := by rw [ew_105]; exact (gu_n (fun q => absurd (hinj 6 0 (by decide) (by decide) q) (by decide))).trans f_98
                  have f_113 : w_105 (ad 7) = some (eI g 38400 fY) := by rw [ew_105]; exact (gu_n (fun q => absurd (hinj 7 0 (by decide) (by decide) q) (by decide))).trans f_99
                  have f_114 : w_105 (ad 8) = some (eI g 1200 fN) := by rw [ew_105]; exact (gu_n (fun q => absurd (hinj 8 0 (by decide) (by decide) q) (by decide))).trans f_100
                  have f_115 : w_105 (ad 9) = some (eL g 1200 fS) := by rw [ew_105]; exact (gu_n (fun q => absurd (hinj 9 0 (by decide) (by decide) q) (by decide))).trans f_101
                  have f_116 : w_105 (ad 10) = some (eI g 4 fKn) := by rw [ew_105]; exact (gu_n (fun q => absurd (hinj 10 0 (by decide) (by decide) q) (by decide))).trans f_102
                  have f_117 : w_105 (ad 11) = some (eL g 4 fK) := by rw [ew_105]; exact (gu_n (fun q => absurd (hinj 11 0 (by decide) (by decide) q) (by decide))).trans f_103
                  have f_118 : w_105 (ad 12) = some (eI g 32 fH) := by rw [ew_105]; exact (gu_n (fun q => absurd (hinj 12 0 (by decide) (by decide) q) (by decide))).trans f_104
                  refine lv_iload_n hx hb dX3_lay_166 rfl (lv_at hl 2 rfl) ?_
                  exact gr_i C h (ty := .int) rfl (rfl) (⟨fun q => absurd q hcond, fun _ => ⟨pg, hpg, hxp, hxp.symm, by rw [← hKe, if_pos c5]; exact ⟨hinj, f_106, f_107, f_108, f_109, f_110, f_111, f_112, f_113, f_114, f_115, f_116, f_117, f_118⟩⟩⟩) (Nat.le_of_ble_eq_true rfl) (Nat.le_of_ble_eq_true rfl) dX3_lay_167
                · skip
                  obtain ⟨kk, hkk, hfp⟩ : ∃ kk : Nat, kk < 64 ∧ fP pg = nI kk := (hpl pg hpg).elim (fun q => absurd q c5) id
                  have hcl : (fP pg).toNatClampNeg = kk := by rw [hfp]; exact nI_clamp (by omega)
                  refine lv_aload_n hx hb dX3_lay_133 rfl (lv_at hl 0 rfl) ?_
                  refine gx_get C h f_64 (Cn := RX3) (T := TX3) (N := 22) rfl in_X3 6 (by decide) q738 rfl rfl dX3_lay_134 ?_
                  refine lv_aload_n hx hb dX3_lay_137 rfl (lv_at hl 0 rfl) ?_
                  refine gx_get C h f_64 (Cn := RX3) (T := TX3) (N := 22) rfl in_X3 7 (by decide) q739 rfl rfl dX3_lay_138 ?_
                  refine lv_iload_n hx hb dX3_lay_141 rfl (lv_at hl 2 rfl) ?_
                  refine gx_iald C h f_69 pg (rfl) (by omega) dX3_lay_142 ?_
                  rw [hfp]
                  refine lv_iconst (v := bI false) hx hb dX3_lay_143 (by decide) ?_
                  refine gx_zast C h f_68 kk (rfl) (by omega) false (rfl) dX3_lay_144 (fun H locs h => ?_)
                  obtain ⟨w_119, ew_119⟩ : ∃ z_ : GW, z_ = gu w_62 (ad 4) (eZ g 64 (va_up z kk false)) := ⟨_, rfl⟩
                  have h : SH g w_119 v s H locs := by rw [ew_119]; exact h
                  have f_120 : w_119 (ad 0) = some (ob 4 [.int (nI cn), .int (bI ru), .int (bI fu), .ref (ad 1), .ref (ad 2), .ref (ad 3), .ref (ad 4), .ref (ad 5), .int (bI ch), .ref (ad 6), .ref (ad 7), .int (nI fi), .int (nI be), .ref (ad 8), .ref (ad 9), .int (nI 0), .int (nI ne), .ref (ad 10), .ref (ad 11), .int (nI ke), .int (bI th), .ref (ad 12)]) := by rw [ew_119]; exact (gu_n (fun q => absurd (hinj 0 4 (by decide) (by decide) q) (by decide))).trans f_64
                  have f_121 : w_119 (ad 1) = some (eI g 2048 fD) := by rw [ew_119]; exact (gu_n (fun q => absurd (hinj 1 4 (by decide) (by decide) q) (by decide))).trans f_65
                  have f_122 : w_119 (ad 2) = some (eI g 2048 fL) := by rw [ew_119]; exact (gu_n (fun q => absurd (hinj 2 4 (by decide) (by decide) q) (by decide))).trans f_66
                  have f_123 : w_119 (ad 3) = some (eI g 2048 (layO fO K kd pg so x8)) := by rw [ew_119]; exact (gu_n (fun q => absurd (hinj 3 4 (by decide) (by decide) q) (by decide))).trans f_67
                  have f_124 : w_119 (ad 4) = some (eZ g 64 (va_up z kk false)) := by rw [ew_119]; exact gu_s
                  have f_125 : w_119 (ad 5) = some (eI g 30 fP) := by rw [ew_119]; exact (gu_n (fun q => absurd (hinj 5 4 (by decide) (by decide) q) (by decide))).trans f_69
                  have f_126 : w_119 (ad 6) = some (eI g 1200 fT) := by rw [ew_119]; exact (gu_n (fun q => absurd (hinj 6 4 (by decide) (by decide) q) (by decide))).trans f_70
                  have f_127 : w_119 (ad 7) = some (eI g 38400 fY) := by rw [ew_119]; exact (gu_n (fun q => absurd (hinj 7 4 (by decide) (by decide) q) (by decide))).trans f_71
                  have f_128 : w_119 (ad 8) = some (eI g 1200 fN) := by rw [ew_119]; exact (gu_n (fun q => absurd (hinj 8 4 (by decide) (by decide) q) (by decide))).trans f_72
                  have f_129 : w_119 (ad 9) = some (eL g 1200 fS) := by rw [ew_119]; exact (gu_n (fun q => absurd (hinj 9 4 (by decide) (by decide) q) (by decide))).trans f_73
                  have f_130 : w_119 (ad 10) = some (eI g 4 fKn) := by rw [ew_119]; exact (gu_n (fun q => absurd (hinj 10 4 (by decide) (by decide) q) (by decide))).trans f_74
                  have f_131 : w_119 (ad 11) = some (eL g 4 fK) := by rw [ew_119]; exact (gu_n (fun q => absurd (hinj 11 4 (by decide) (by decide) q) (by decide))).trans f_75
                  have f_132 : w_119 (ad 12) = some (eI g 32 fH) := by rw [ew_119]; exact (gu_n (fun q => absurd (hinj 12 4 (by decide) (by decide) q) (by decide))).trans f_76
                  have c5b : ¬ fP pg = -1 := c5
                  refine lv_aload_n hx hb dX3_lay_145 rfl (lv_at hl 0 rfl) ?_
                  refine gx_get C h f_120 (Cn := RX3) (T := TX3) (N := 22) rfl in_X3 6 (by decide) q738 rfl rfl dX3_lay_146 ?_
                  refine lv_iload hx hb dX3_lay_149 (lv_at hl 5 rfl) ?_
                  refine lv_iconst (v := bI true) hx hb dX3_lay_151 (by decide) ?_
                  refine gx_zast C h f_124 K (rfl) (by omega) true (rfl) dX3_lay_152 (fun H locs h => ?_)
                  obtain ⟨w_133, ew_133⟩ : ∃ z_ : GW, z_ = gu w_119 (ad 4) (eZ g 64 (va_up (va_up z kk false) K true)) := ⟨_, rfl⟩
                  have h : SH g w_133 v s H locs := by rw [ew_133]; exact h
                  have f_134 : w_133 (ad 0) = some (ob 4 [.int (nI cn), .int (bI ru), .int (bI fu), .ref (ad 1), .ref (ad 2), .ref (ad 3), .ref (ad 4), .ref (ad 5), .int (bI ch), .ref (ad 6), .ref (ad 7), .int (nI fi), .int (nI be), .ref (ad 8), .ref (ad 9), .int (nI 0), .int (nI ne), .ref (ad 10), .ref (ad 11), .int (nI ke), .int (bI th), .ref (ad 12)]) := by rw [ew_133]; exact (gu_n (fun q => absurd (hinj 0 4 (by decide) (by decide) q) (by decide))).trans f_120
                  have f_135 : w_133 (ad 1) = some (eI g 2048 fD) := by rw [ew_133]; exact (gu_n (fun q => absurd (hinj 1 4 (by decide) (by decide) q) (by decide))).trans f_121
                  have f_136 : w_133 (ad 2) = some (eI g 2048 fL) := by rw [ew_133]; exact (gu_n (fun q => absurd (hinj 2 4 (by decide) (by decide) q) (by decide))).trans f_122
                  have f_137 : w_133 (ad 3) = some (eI g 2048 (layO fO K kd pg so x8)) := by rw [ew_133]; exact (gu_n (fun q => absurd (hinj 3 4 (by decide) (by decide) q) (by decide))).trans f_123
                  have f_138 : w_133 (ad 4) = some (eZ g 64 (va_up (va_up z kk false) K true)) := by rw [ew_133]; exact gu_s
                  have f_139 : w_133 (ad 5) = some (eI g 30 fP) := by rw [ew_133]; exact (gu_n (fun q => absurd (hinj 5 4 (by decide) (by decide) q) (by decide))).trans f_125
                  have f_140 : w_133 (ad 6) = some (eI g 1200 fT) := by rw [ew_133]; exact (gu_n (fun q => absurd (hinj 6 4 (by decide) (by decide) q) (by decide))).trans f_126
                  have f_141 : w_133 (ad 7) = some (eI g 38400 fY) := by rw [ew_133]; exact (gu_n (fun q => absurd (hinj 7 4 (by decide) (by decide) q) (by decide))).trans f_127
                  have f_142 : w_133 (ad 8) = some (eI g 1200 fN) := by rw [ew_133]; exact (gu_n (fun q => absurd (hinj 8 4 (by decide) (by decide) q) (by decide))).trans f_128
                  have f_143 : w_133 (ad 9) = some (eL g 1200 fS) := by rw [ew_133]; exact (gu_n (fun q => absurd (hinj 9 4 (by decide) (by decide) q) (by decide))).trans f_129
                  have f_144 : w_133 (ad 10) = some (eI g 4 fKn) := by rw [ew_133]; exact (gu_n (fun q => absurd (hinj 10 4 (by decide) (by decide) q) (by decide))).trans f_130
                  have f_145 : w_133 (ad 11) = some (eL g 4 fK) := by rw [ew_133]; exact (gu_n (fun q => absurd (hinj 11 4 (by decide) (by decide) q) (by decide))).trans f_131
                  have f_146 : w_133 (ad 12) = some (eI g 32 fH) := by rw [ew_133]; exact (gu_n (fun q => absurd (hinj 12 4 (by decide) (by decide) q) (by decide))).trans f_132
                  refine lv_aload_n hx hb dX3_lay_153 rfl (lv_at hl 0 rfl) ?_
                  refine gx_get C h f_134 (Cn := RX3) (T := TX3) (N := 22) rfl in_X3 7 (by decide) q739 rfl rfl dX3_lay_154 ?_
                  refine lv_iload_n hx hb dX3_lay_157 rfl (lv_at hl 2 rfl) ?_
                  refine lv_iload hx hb dX3_lay_158 (lv_at hl 5 rfl) ?_
                  refine gx_iast C h f_139 pg (rfl) (by omega) dX3_lay_160 (fun H locs h => ?_)
                  obtain ⟨w_147, ew_147⟩ : ∃ z_ : GW, z_ = gu w_133 (ad 5) (eI g 30 (upd fP pg (nI K))) := ⟨_, rfl⟩
                  have h : SH g w_147 v s H locs := by rw [ew_147]; exact h
                  have f_148 : w_147 (ad 0) = some (ob 4 [.int (nI cn), .int (bI ru), .int (bI fu), .ref (ad 1), .ref (ad 2), .ref (ad 3), .ref (ad 4), .ref (ad 5), .int (bI ch), .ref (ad 6), .ref (ad 7), .int (nI fi), .int (nI be), .ref (ad 8), .ref (ad 9), .int (nI 0), .int (nI ne), .ref (ad 10), .ref (ad 11), .int (nI ke), .int (bI th), .ref (ad 12)]) := by rw [ew_147]; exact (gu_n (fun q => absurd (hinj 0 5 (by decide) (by decide) q) (by decide))).trans f_134
                  have f_149 : w_147 (ad 1) = some (eI g 2048 fD) := by rw [ew_147]; exact (gu_n (fun q => absurd (hinj 1 5 (by decide) (by decide) q) (by decide))).trans f_135
                  have f_150 : w_147 (ad 2) = some (eI g 2048 fL) := by rw [ew_147]; exact (gu_n (fun q => absurd (hinj 2 5 (by decide) (by decide) q) (by decide))).trans f_136
                  have f_151 : w_147 (ad 3) = some (eI g 2048 (layO fO K kd pg so x8)) := by rw [ew_147]; exact (gu_n (fun q => absurd (hinj 3 5 (by decide) (by decide) q) (by decide))).trans f_137
                  have f_152 : w_147 (ad 4) = some (eZ g 64 (va_up (va_up z kk false) K true)) := by rw [ew_147]; exact (gu_n (fun q => absurd (hinj 4 5 (by decide) (by decide) q) (by decide))).trans f_138
                  have f_153 : w_147 (ad 5) = some (eI g 30 (upd fP pg (nI K))) := by rw [ew_147]; exact gu_s
                  have f_154 : w_147 (ad 6) = some (eI g 1200 fT) := by rw [ew_147]; exact (gu_n (fun q => absurd (hinj 6 5 (by decide) (by decide) q) (by decide))).trans f_140
                  have f_155 : w_147 (ad 7) = some (eI g 38400 fY) := by rw [ew_147]; exact (gu_n (fun q => absurd (hinj 7 5 (by decide) (by decide) q) (by decide))).trans f_141
                  have f_156 : w_147 (ad 8) = some (eI g 1200 fN) := by rw [ew_147]; exact (gu_n (fun q => absurd (hinj 8 5 (by decide) (by decide) q) (by decide))).trans f_142
                  have f_157 : w_147 (ad 9) = some (eL g 1200 fS) := by rw [ew_147]; exact (gu_n (fun q => absurd (hinj 9 5 (by decide) (by decide) q) (by decide))).trans f_143
                  have f_158 : w_147 (ad 10) = some (eI g 4 fKn) := by rw [ew_147]; exact (gu_n (fun q => absurd (hinj 10 5 (by decide) (by decide) q) (by decide))).trans f_144
                  have f_159 : w_147 (ad 11) = some (eL g 4 fK) := by rw [ew_147]; exact (gu_n (fun q => absurd (hinj 11 5 (by decide) (by decide) q) (by decide))).trans f_145
                  have f_160 : w_147 (ad 12) = some (eI g 32 fH) := by rw [ew_147]; exact (gu_n (fun q => absurd (hinj 12 5 (by decide) (by decide) q) (by decide))).trans f_146
                  refine lv_aload_n hx hb dX3_lay_161 rfl (lv_at hl 0 rfl) ?_
                  refine lv_iconst (v := bI true) hx hb dX3_lay_162 (by decide) ?_
                  refine gx_put C h f_148 (Cn := RX3) (T := TX3) (N := 22) (x := .int (bI true)) rfl in_X3 tyX3 tyX3_ok nmX3 8 (by decide) q740 rfl rfl (bI_n _) (bI_f _) (Nat.le_of_ble_eq_true rfl) dX3_lay_163 (fun H locs h => ?_)
                  obtain ⟨w_161, ew_161⟩ : ∃ z_ : GW, z_ = gu w_147 (ad 0) (ob 4 [.int (nI cn), .int (bI ru), .int (bI fu), .ref (ad 1), .ref (ad 2), .ref (ad 3), .ref (ad 4), .ref (ad 5), .int (bI true), .ref (ad 6), .ref (ad 7), .int (nI fi), .int (nI be), .ref (ad 8), .ref (ad 9), .int (nI 0), .int (nI ne), .ref (ad 10), .ref (ad 11), .int (nI ke), .int (bI th), .ref (ad 12)]) := ⟨_, rfl⟩
                  have h : SH g w_161 v s H locs := by rw [ew_161]; exact h
                  have f_162 : w_161 (ad 0) = some (ob 4 [.int (nI cn), .int (bI ru), .int (bI fu), .ref (ad 1), .ref (ad 2), .ref (ad 3), .ref (ad 4), .ref (ad 5), .int (bI true), .ref (ad 6), .ref (ad 7), .int (nI fi), .int (nI be), .ref (ad 8), .ref (ad 9), .int (nI 0), .int (nI ne), .ref (ad 10), .ref (ad 11), .int (nI ke), .int (bI th), .ref (ad 12)]) := by rw [ew_161]; exact gu_s
                  have f_163 : w_161 (ad 1) = some (eI g 2048 fD) := by rw [ew_161]; exact (gu_n (fun q => absurd (hinj 1 0 (by decide) (by decide) q) (by decide))).trans f_149
                  have f_164 : w_161 (ad 2) = some (eI g 2048 fL) := by rw [ew_161]; exact (gu_n (fun q => absurd (hinj 2 0 (by decide) (by decide) q) (by decide))).trans f_150
                  have f_165 : w_161 (ad 3) = some (eI g 2048 (layO fO K kd pg so x8)) := by rw [ew_161]; exact (gu_n (fun q => absurd (hinj 3 0 (by decide) (by decide) q) (by decide))).trans f_151
                  have f_166 : w_161 (ad 4) = some (eZ g 64 (va_up (va_up z kk false) K true)) := by rw [ew_161]; exact (gu_n (fun q => absurd (hinj 4 0 (by decide) (by decide) q) (by decide))).trans f_152
                  have f_167 : w_161 (ad 5) = some (eI g 30 (upd fP pg (nI K))) := by rw [ew_161]; exact (gu_n (fun q => absurd (hinj 5 0 (by decide) (by decide) q) (by decide))).trans f_153
                  have f_168 : w_161 (ad 6) = some (eI g 1200 fT) := by rw [ew_161]; exact (gu_n (fun q => absurd (hinj 6 0 (by decide) (by decide) q) (by decide))).trans f_154
                  have f_169 : w_161 (ad 7) = some (eI g 38400 fY) := by rw [ew_161]; exact (gu_n (fun q => absurd (hinj 7 0 (by decide) (by decide) q) (by decide))).trans f_155
                  have f_170 : w_161 (ad 8) = some (eI g 1200 fN) := by rw [ew_161]; exact (gu_n (fun q => absurd (hinj 8 0 (by decide) (by decide) q) (by decide))).trans f_156
                  have f_171 : w_161 (ad 9) = some (eL g 1200 fS) := by rw [ew_161]; exact (gu_n (fun q => absurd (hinj 9 0 (by decide) (by decide) q) (by decide))).trans f_157
                  have f_172 : w_161 (ad 10) = some (eI g 4 fKn) := by rw [ew_161]; exact (gu_n (fun q => absurd (hinj 10 0 (by decide) (by decide) q) (by decide))).trans f_158
                  have f_173 : w_161 (ad 11) = some (eL g 4 fK) := by rw [ew_161]; exact (gu_n (fun q => absurd (hinj 11 0 (by decide) (by decide) q) (by decide))).trans f_159
                  have f_174 : w_161 (ad 12) = some (eI g 32 fH) := by rw [ew_161]; exact (gu_n (fun q => absurd (hinj 12 0 (by decide) (by decide) q) (by decide))).trans f_160
                  refine lv_iload_n hx hb dX3_lay_166 rfl (lv_at hl 2 rfl) ?_
                  exact gr_i C h (ty := .int) rfl (rfl) (⟨fun q => absurd q hcond, fun _ => ⟨pg, hpg, hxp, hxp.symm, by rw [← hKe, if_neg c5b, hcl]; exact ⟨hinj, f_162, f_163, f_164, f_165, f_166, f_167, f_168, f_169, f_170, f_171, f_172, f_173, f_174⟩⟩⟩) (Nat.le_of_ble_eq_true rfl) (Nat.le_of_ble_eq_true rfl) dX3_lay_167
              · skip
                have c4 : ¬ (32 ≤ i) := fun q => c4 ((nI_leI (by omega) (by omega)).mpr q)
                refine lv_aload_n hx hb dX3_lay_37 rfl (lv_at hl 0 rfl) ?_
                refine gx_get C h g0 (Cn := RX3) (T := TX3) (N := 22) rfl in_X3 5 (by decide) q737 rfl rfl dX3_lay_38 ?_
                refine lv_bipush (v := nI 32) hx hb dX3_lay_41 (by decide) ?_
                refine lv_iload hx hb dX3_lay_43 (lv_at hl 5 rfl) ?_
                refine gn_imul hx hb dX3_lay_45 ?_
                refine lv_iload hx hb dX3_lay_46 (lv_at hl 6 rfl) ?_
                refine gn_iadd hx hb dX3_lay_48 ?_
                refine lv_iconst (v := (0)) hx hb dX3_lay_49 (by decide) ?_
                refine gx_iast C h g3 ((32 * K) + i) (rfl) (by omega) dX3_lay_50 (fun H locs h => ?_)
                obtain ⟨w_175, ew_175⟩ : ∃ z_ : GW, z_ = gu w1 (ad 3) (eI g 2048 (upd (va_cpy (fun _ => 0) fO 0 (32 * K) i) ((32 * K) + i) 0)) := ⟨_, rfl⟩
                have h : SH g w_175 v s H locs := by rw [ew_175]; exact h
                have f_176 : w_175 (ad 0) = some (ob 4 [.int (nI cn), .int (bI ru), .int (bI fu), .ref (ad 1), .ref (ad 2), .ref (ad 3), .ref (ad 4), .ref (ad 5), .int (bI ch), .ref (ad 6), .ref (ad 7), .int (nI fi), .int (nI be), .ref (ad 8), .ref (ad 9), .int (nI 0), .int (nI ne), .ref (ad 10), .ref (ad 11), .int (nI ke), .int (bI th), .ref (ad 12)]) := by rw [ew_175]; exact (gu_n (fun q => absurd (hinj 0 3 (by decide) (by decide) q) (by decide))).trans g0
                have f_177 : w_175 (ad 1) = some (eI g 2048 fD) := by rw [ew_175]; exact (gu_n (fun q => absurd (hinj 1 3 (by decide) (by decide) q) (by decide))).trans g1
                have f_178 : w_175 (ad 2) = some (eI g 2048 fL) := by rw [ew_175]; exact (gu_n (fun q => absurd (hinj 2 3 (by decide) (by decide) q) (by decide))).trans g2
                have f_179 : w_175 (ad 3) = some (eI g 2048 (upd (va_cpy (fun _ => 0) fO 0 (32 * K) i) ((32 * K) + i) 0)) := by rw [ew_175]; exact gu_s
                have f_180 : w_175 (ad 4) = some (eZ g 64 z) := by rw [ew_175]; exact (gu_n (fun q => absurd (hinj 4 3 (by decide) (by decide) q) (by decide))).trans g4
                have f_181 : w_175 (ad 5) = some (eI g 30 fP) := by rw [ew_175]; exact (gu_n (fun q => absurd (hinj 5 3 (by decide) (by decide) q) (by decide))).trans g5
                have f_182 : w_175 (ad 6) = some (eI g 1200 fT) := by rw [ew_175]; exact (gu_n (fun q => absurd (hinj 6 3 (by decide) (by decide) q) (by decide))).trans g6
                have f_183 : w_175 (ad 7) = some (eI g 38400 fY) := by rw [ew_175]; exact (gu_n (fun q => absurd (hinj 7 3 (by decide) (by decide) q) (by decide))).trans g7
                have f_184 : w_175 (ad 8) = some (eI g 1200 fN) := by rw [ew_175]; exact (gu_n (fun q => absurd (hinj 8 3 (by decide) (by decide) q) (by decide))).trans g8
                have f_185 : w_175 (ad 9) = some (eL g 1200 fS) := by rw [ew_175]; exact (gu_n (fun q => absurd (hinj 9 3 (by decide) (by decide) q) (by decide))).trans g9
                have f_186 : w_175 (ad 10) = some (eI g 4 fKn) := by rw [ew_175]; exact (gu_n (fun q => absurd (hinj 10 3 (by decide) (by decide) q) (by decide))).trans g10
                have f_187 : w_175 (ad 11) = some (eL g 4 fK) := by rw [ew_175]; exact (gu_n (fun q => absurd (hinj 11 3 (by decide) (by decide) q) (by decide))).trans g11
                have f_188 : w_175 (ad 12) = some (eI g 32 fH) := by rw [ew_175]; exact (gu_n (fun q => absurd (hinj 12 3 (by decide) (by decide) q) (by decide))).trans g12
                have f_189 : w_175 (ad 3) = some (eI g 2048 (va_cpy (fun _ => 0) fO 0 (32 * K) (i + 1))) := by rw [← cpy_s]; exact f_179
                refine lv_iinc (v := nI (i + 1)) (lv' := [(7, .int (nI (i + 1))), (0, .ref (ad 0)), (1, .int (nI kd)), (2, .int (nI pg)), (3, .int (nI so)), (4, .long x8), (6, .int (nI K))]) hx hb dX3_lay_51 hl (k := 6) rfl (gi_inc _ 1) (by decide) rfl (fun ls hl => ?_)
                refine lv_goto (tgt := 30) hx hb dX3_lay_54 (by decide) ?_
                have hM3 : MW g w_175 ad cn ru fu ch th fi be ne ke fD fL (va_cpy (fun _ => 0) fO 0 (32 * K) (i + 1)) z fP fT fY fN fS fKn fK fH := ⟨hinj, f_176, f_177, f_178, f_189, f_180, f_181, f_182, f_183, f_184, f_185, f_186, f_187, f_188⟩
                exact ih (i + 1) _ _ _ _ (by omega) (by omega) hM3  h (lv_sub hl [1, 2, 3, 4, 5, 6, 0] rfl)
          exact loop 33 0 _ _ _ _ (by omega) (by omega) (by rw [cpy_0]; exact hM) h (lv_sub hl [2, 3, 4, 5, 6, 1, 0] rfl)
        · skip
          have c3 : fu = true := bI_ne0.mp c3
          refine lv_bipush (v := (-4)) hx hb dX3_lay_24 (by decide) ?_
          exact gr_i C h (ty := .int) rfl (rfl) (⟨fun _ => ⟨rfl, rfl⟩, fun q => absurd (Or.inr (Or.inr c3)) q⟩) (Nat.le_of_ble_eq_true rfl) (Nat.le_of_ble_eq_true rfl) dX3_lay_26
    · skip
      have hl : lv_has ls 8 [(6, .int (-1)), (0, .ref (ad 0)), (1, .int (nI kd)), (2, .int x), (3, .int (nI so)), (4, .long x8)] := by rw [if_neg hK] at hl; exact hl
      refine lv_iload hx hb dX3_lay_11 (lv_at hl 0 rfl) ?_
      refine lv_iconst (v := (-1)) hx hb dX3_lay_13 (by decide) ?_
      refine lv_icmp_eq (tgt := 24) hx hb dX3_lay_14 (by decide) (fun c2 => ?_) (fun c2 => ?_)
      · skip
        refine lv_bipush (v := (-4)) hx hb dX3_lay_24 (by decide) ?_
        exact gr_i C h (ty := .int) rfl (rfl) (⟨fun _ => ⟨rfl, rfl⟩, fun q => absurd (Or.inr (Or.inl hK)) q⟩) (Nat.le_of_ble_eq_true rfl) (Nat.le_of_ble_eq_true rfl) dX3_lay_26
      · skip
        exact absurd rfl c2
