set_option maxRecDepth 100000
theorem upd_lt {F f : Nat → Int32} {i : Nat} {x : Int32} (h : ∀ q, q < i → f q = F q) (hx : x = F i) : ∀ q, q < i + 1 → upd f i x q = F q := by
  intro q hq
  unfold upd
  by_cases c : q = i
  · rw [if_pos c, c]; exact hx
  · rw [if_neg c]; exact h q (by omega)
theorem vup_lt {f : Nat → Bool} {i : Nat} {x b : Bool} (h : ∀ q, q < i → f q = b) (hx : x = b) : ∀ q, q < i + 1 → va_up f i x q = b := by
  intro q hq
  unfold va_up
  by_cases c : q = i
  · rw [if_pos c]; exact hx
  · rw [if_neg c]; exact h q (by omega)
set_option maxHeartbeats 4000000 in
theorem m_X3_begin (l : Launch) (g : GG) (w v : GW) (ad : Nat → Nat) (cn : Nat) (ru fu ch th : Bool) (fi be ne ke : Nat) (fD fL fO : Nat → Int32) (z : Nat → Bool) (fP fT fY fN : Nat → Int32) (fS : Nat → Int64) (fKn : Nat → Int32) (fK : Nat → Int64) (fH : Nat → Int32) (hM : MW g w ad cn ru fu ch th fi be ne ke fD fL fO z fP fT fY fN fS fKn fK fH) (x : Int32) (y : Int64)  : Met l yX3_begin (ws_ yX3_begin cX3_begin 5 none) ({ frames := 1, cells := 0, slots := 0, locals := 60 } : Room) (gP g [.ref (ad 0), .int x, .long y] w v) (va_Qv (fun (w' : GW) => ∃ (fL' : Nat → Int32) (z' : Nat → Bool) (fP' : Nat → Int32), MW g w' ad cn ru fu false th 0 0 0 0 fD fL' fO z' fP' fT fY (upd fN 0 x) (vp_updL fS 0 y) fKn fK fH ∧ (∀ q, q < 30 → fP' q = -1) ∧ (∀ q, q < 64 → z' q = false) ∧ ∀ q, q < 2048 → fL' q = fD q) (gB g v) (gA g)) 0 0 (gA g) := by
  refine gm_of (by decide) (Nat.le_of_ble_eq_true rfl) ?_
  intro p e s m below meth c ls C hnm h hl
  have C : Cx g p s m ([.ref (ad 0), .int x, .long y] : List Value).toArray meth c cX3_begin 5 RX3 none := C
  obtain ⟨hx, hb, hml, hown, hts, hr, hlk, hG⟩ := id C
  have hl : lv_has ls 5 [(0, .ref (ad 0)), (1, .int x), (2, .long y)] := hl
  obtain ⟨hinj, k0, k1, k2, k3, k4, k5, k6, k7, k8, k9, k10, k11, k12⟩ := id hM
  have loop3 : ∀ (n_ : Nat) (i : Nat) (fP' : Nat → Int32) (z' : Nat → Bool) (fL' : Nat → Int32) (w1 : GW) (H : Heap) (locs : List Loc) (ls : Array Slot), 2048 - i < n_ → (i ≤ 2048) → (∀ q, q < 30 → fP' q = -1) → (∀ q, q < 64 → z' q = false) → (∀ q, q < i → fL' q = fD q) → (MW g w1 ad cn ru fu false th 0 0 0 0 fD fL' fO z' fP' fT fY (upd fN 0 x) (vp_updL fS 0 y) fKn fK fH) → SH g w1 v s H locs → lv_has ls 5 [(0, .ref (ad 0)), (4, .int (nI i))] → W p l e ({ frames := 1, cells := 0, slots := 0, locals := 60 } : Room) s m ([.ref (ad 0), .int x, .long y] : List Value).toArray below meth c H locs 0 0 (MQ below (va_Qv (fun (w' : GW) => ∃ (fL' : Nat → Int32) (z' : Nat → Bool) (fP' : Nat → Int32), MW g w' ad cn ru fu false th 0 0 0 0 fD fL' fO z' fP' fT fY (upd fN 0 x) (vp_updL fS 0 y) fKn fK fH ∧ (∀ q, q < 30 → fP' q = -1) ∧ (∀ q, q < 64 → z' q = false) ∧ ∀ q, q < 2048 → fL' q = fD q) (gB g v) (gA g)) ([.ref (ad 0), .int x, .long y] : List Value).toArray s 0 0 (gA g)) (F0 m 95 ls []) := by
    intro n_
    induction n_ with
    | zero => intros; exact absurd ‹_ < 0› (Nat.not_lt_zero _)
    | succ n_ ih =>
      intro i fP' z' fL' w1 H locs ls hf hi q1 q2 q3 hM1  h hl
      obtain ⟨hinj, g0, g1, g2, g3, g4, g5, g6, g7, g8, g9, g10, g11, g12⟩ := id hM1
      refine lv_iload hx hb dX3_begin_95 (lv_at hl 1 rfl) ?_
      refine lv_sipush (v := nI 2048) hx hb dX3_begin_97 (by decide) ?_
      refine lv_icmp_ge (tgt := 123) hx hb dX3_begin_100 (by decide) (fun c1 => ?_) (fun c1 => ?_)
      · skip
        have c1 : 2048 ≤ i := (nI_leI (by omega) (by omega)).mp c1
        have : i = 2048 := by omega
        subst this
        exact gr_v C h (⟨fL', z', fP', hM1, q1, q2, q3⟩) (Nat.le_of_ble_eq_true rfl) (Nat.le_of_ble_eq_true rfl) dX3_begin_123
      · skip
        have c1 : ¬ (2048 ≤ i) := fun q => c1 ((nI_leI (by omega) (by omega)).mpr q)
        refine lv_aload_n hx hb dX3_begin_103 rfl (lv_at hl 0 rfl) ?_
        refine gx_get C h g0 (Cn := RX3) (T := TX3) (N := 22) rfl in_X3 4 (by decide) q736 rfl rfl dX3_begin_104 ?_
        refine lv_iload hx hb dX3_begin_107 (lv_at hl 1 rfl) ?_
        refine lv_aload_n hx hb dX3_begin_109 rfl (lv_at hl 0 rfl) ?_
        refine gx_get C h g0 (Cn := RX3) (T := TX3) (N := 22) rfl in_X3 3 (by decide) q735 rfl rfl dX3_begin_110 ?_
        refine lv_iload hx hb dX3_begin_113 (lv_at hl 1 rfl) ?_
        refine gx_iald C h g1 i (rfl) (by omega) dX3_begin_115 ?_
        refine gx_iast C h g2 i (rfl) (by omega) dX3_begin_116 (fun H locs h => ?_)
        obtain ⟨w_1, ew_1⟩ : ∃ z : GW, z = gu w1 (ad 2) (eI g 2048 (upd fL' i ((fD i)))) := ⟨_, rfl⟩
        have h : SH g w_1 v s H locs := by rw [ew_1]; exact h
        have f_2 : w_1 (ad 0) = some (ob 4 [.int (nI cn), .int (bI ru), .int (bI fu), .ref (ad 1), .ref (ad 2), .ref (ad 3), .ref (ad 4), .ref (ad 5), .int (bI false), .ref (ad 6), .ref (ad 7), .int (nI 0), .int (nI 0), .ref (ad 8), .ref (ad 9), .int (nI 0), .int (nI 0), .ref (ad 10), .ref (ad 11), .int (nI 0), .int (bI th), .ref (ad 12)]) := by rw [ew_1]; exact (gu_n (fun q => absurd (hinj 0 2 (by decide) (by decide) q) (by decide))).trans g0
        have f_3 : w_1 (ad 1) = some (eI g 2048 fD) := by rw [ew_1]; exact (gu_n (fun q => absurd (hinj 1 2 (by decide) (by decide) q) (by decide))).trans g1
        have f_4 : w_1 (ad 2) = some (eI g 2048 (upd fL' i ((fD i)))) := by rw [ew_1]; exact gu_s
        have f_5 : w_1 (ad 3) = some (eI g 2048 fO) := by rw [ew_1]; exact (gu_n (fun q => absurd (hinj 3 2 (by decide) (by decide) q) (by decide))).trans g3
        have f_6 : w_1 (ad 4) = some (eZ g 64 z') := by rw [ew_1]; exact (gu_n (fun q => absurd (hinj 4 2 (by decide) (by decide) q) (by decide))).trans g4
        have f_7 : w_1 (ad 5) = some (eI g 30 fP') := by rw [ew_1]; exact (gu_n (fun q => absurd (hinj 5 2 (by decide) (by decide) q) (by decide))).trans g5
        have f_8 : w_1 (ad 6) = some (eI g 1200 fT) := by rw [ew_1]; exact (gu_n (fun q => absurd (hinj 6 2 (by decide) (by decide) q) (by decide))).trans g6
        have f_9 : w_1 (ad 7) = some (eI g 38400 fY) := by rw [ew_1]; exact (gu_n (fun q => absurd (hinj 7 2 (by decide) (by decide) q) (by decide))).trans g7
        have f_10 : w_1 (ad 8) = some (eI g 1200 (upd fN 0 x)) := by rw [ew_1]; exact (gu_n (fun q => absurd (hinj 8 2 (by decide) (by decide) q) (by decide))).trans g8
        have f_11 : w_1 (ad 9) = some (eL g 1200 (vp_updL fS 0 y)) := by rw [ew_1]; exact (gu_n (fun q => absurd (hinj 9 2 (by decide) (by decide) q) (by decide))).trans g9
        have f_12 : w_1 (ad 10) = some (eI g 4 fKn) := by rw [ew_1]; exact (gu_n (fun q => absurd (hinj 10 2 (by decide) (by decide) q) (by decide))).trans g10
        have f_13 : w_1 (ad 11) = some (eL g 4 fK) := by rw [ew_1]; exact (gu_n (fun q => absurd (hinj 11 2 (by decide) (by decide) q) (by decide))).trans g11
        have f_14 : w_1 (ad 12) = some (eI g 32 fH) := by rw [ew_1]; exact (gu_n (fun q => absurd (hinj 12 2 (by decide) (by decide) q) (by decide))).trans g12
        refine lv_iinc (v := nI (i + 1)) (lv' := [(4, .int (nI (i + 1))), (0, .ref (ad 0))]) hx hb dX3_begin_117 hl (k := 1) rfl (gi_inc _ 1) (by decide) rfl (fun ls hl => ?_)
        refine lv_goto (tgt := 95) hx hb dX3_begin_120 (by decide) ?_
        have hM2 : MW g w_1 ad cn ru fu false th 0 0 0 0 fD (upd fL' i (fD i)) fO z' fP' fT fY (upd fN 0 x) (vp_updL fS 0 y) fKn fK fH := ⟨hinj, f_2, f_3, f_4, f_5, f_6, f_7, f_8, f_9, f_10, f_11, f_12, f_13, f_14⟩
        exact ih (i + 1) fP' z' (upd fL' i (fD i)) _ _ _ _ (by omega) (by omega) q1 q2 (upd_lt q3 rfl) hM2  h (lv_sub hl [1, 0] rfl)
  have loop2 : ∀ (n_ : Nat) (i : Nat) (fP' : Nat → Int32) (z' : Nat → Bool) (w1 : GW) (H : Heap) (locs : List Loc) (ls : Array Slot), 64 - i < n_ → (i ≤ 64) → (∀ q, q < 30 → fP' q = -1) → (∀ q, q < i → z' q = false) → (MW g w1 ad cn ru fu false th 0 0 0 0 fD fL fO z' fP' fT fY (upd fN 0 x) (vp_updL fS 0 y) fKn fK fH) → SH g w1 v s H locs → lv_has ls 5 [(0, .ref (ad 0)), (4, .int (nI i))] → W p l e ({ frames := 1, cells := 0, slots := 0, locals := 60 } : Room) s m ([.ref (ad 0), .int x, .long y] : List Value).toArray below meth c H locs 0 0 (MQ below (va_Qv (fun (w' : GW) => ∃ (fL' : Nat → Int32) (z' : Nat → Bool) (fP' : Nat → Int32), MW g w' ad cn ru fu false th 0 0 0 0 fD fL' fO z' fP' fT fY (upd fN 0 x) (vp_updL fS 0 y) fKn fK fH ∧ (∀ q, q < 30 → fP' q = -1) ∧ (∀ q, q < 64 → z' q = false) ∧ ∀ q, q < 2048 → fL' q = fD q) (gB g v) (gA g)) ([.ref (ad 0), .int x, .long y] : List Value).toArray s 0 0 (gA g)) (F0 m 71 ls []) := by
    intro n_
    induction n_ with
    | zero => intros; exact absurd ‹_ < 0› (Nat.not_lt_zero _)
    | succ n_ ih =>
      intro i fP' z' w1 H locs ls hf hi q1 q2 hM1  h hl
      obtain ⟨hinj, g0, g1, g2, g3, g4, g5, g6, g7, g8, g9, g10, g11, g12⟩ := id hM1
      refine lv_iload hx hb dX3_begin_71 (lv_at hl 1 rfl) ?_
      refine lv_bipush (v := nI 64) hx hb dX3_begin_73 (by decide) ?_
      refine lv_icmp_ge (tgt := 92) hx hb dX3_begin_75 (by decide) (fun c1 => ?_) (fun c1 => ?_)
      · skip
        have c1 : 64 ≤ i := (nI_leI (by omega) (by omega)).mp c1
        have hie : i = 64 := by omega
        refine lv_iconst (v := nI 0) hx hb dX3_begin_92 (by decide) ?_
        refine lv_istore (lv' := [(4, .int (nI 0)), (0, .ref (ad 0))]) hx hb dX3_begin_93 hl (by decide) rfl (fun ls hl => ?_)
        exact loop3 2049 0 fP' z' fL _ _ _ _ (by omega) (by omega) q1 (by rw [hie] at q2; exact q2) (fun q hq => absurd hq (by omega)) hM1 h (lv_sub hl [1, 0] rfl)
      · skip
        have c1 : ¬ (64 ≤ i) := fun q => c1 ((nI_leI (by omega) (by omega)).mpr q)
        refine lv_aload_n hx hb dX3_begin_78 rfl (lv_at hl 0 rfl) ?_
        refine gx_get C h g0 (Cn := RX3) (T := TX3) (N := 22) rfl in_X3 6 (by decide) q738 rfl rfl dX3_begin_79 ?_
        refine lv_iload hx hb dX3_begin_82 (lv_at hl 1 rfl) ?_
        refine lv_iconst (v := bI false) hx hb dX3_begin_84 (by decide) ?_
        refine gx_zast C h g4 i (rfl) (by omega) false (rfl) dX3_begin_85 (fun H locs h => ?_)
        obtain ⟨w_15, ew_15⟩ : ∃ z : GW, z = gu w1 (ad 4) (eZ g 64 (va_up z' i false)) := ⟨_, rfl⟩
        have h : SH g w_15 v s H locs := by rw [ew_15]; exact h
        have f_16 : w_15 (ad 0) = some (ob 4 [.int (nI cn), .int (bI ru), .int (bI fu), .ref (ad 1), .ref (ad 2), .ref (ad 3), .ref (ad 4), .ref (ad 5), .int (bI false), .ref (ad 6), .ref (ad 7), .int (nI 0), .int (nI 0), .ref (ad 8), .ref (ad 9), .int (nI 0), .int (nI 0), .ref (ad 10), .ref (ad 11), .int (nI 0), .int (bI th), .ref (ad 12)]) := by rw [ew_15]; exact (gu_n (fun q => absurd (hinj 0 4 (by decide) (by decide) q) (by decide))).trans g0
        have f_17 : w_15 (ad 1) = some (eI g 2048 fD) := by rw [ew_15]; exact (gu_n (fun q => absurd (hinj 1 4 (by decide) (by decide) q) (by decide))).trans g1
        have f_18 : w_15 (ad 2) = some (eI g 2048 fL) := by rw [ew_15]; exact (gu_n (fun q => absurd (hinj 2 4 (by decide) (by decide) q) (by decide))).trans g2
        have f_19 : w_15 (ad 3) = some (eI g 2048 fO) := by rw [ew_15]; exact (gu_n (fun q => absurd (hinj 3 4 (by decide) (by decide) q) (by decide))).trans g3
        have f_20 : w_15 (ad 4) = some (eZ g 64 (va_up z' i false)) := by rw [ew_15]; exact gu_s
        have f_21 : w_15 (ad 5) = some (eI g 30 fP') := by rw [ew_15]; exact (gu_n (fun q => absurd (hinj 5 4 (by decide) (by decide) q) (by decide))).trans g5
        have f_22 : w_15 (ad 6) = some (eI g 1200 fT) := by rw [ew_15]; exact (gu_n (fun q => absurd (hinj 6 4 (by decide) (by decide) q) (by decide))).trans g6
        have f_23 : w_15 (ad 7) = some (eI g 38400 fY) := by rw [ew_15]; exact (gu_n (fun q => absurd (hinj 7 4 (by decide) (by decide) q) (by decide))).trans g7
        have f_24 : w_15 (ad 8) = some (eI g 1200 (upd fN 0 x)) := by rw [ew_15]; exact (gu_n (fun q => absurd (hinj 8 4 (by decide) (by decide) q) (by decide))).trans g8
        have f_25 : w_15 (ad 9) = some (eL g 1200 (vp_updL fS 0 y)) := by rw [ew_15]; exact (gu_n (fun q => absurd (hinj 9 4 (by decide) (by decide) q) (by decide))).trans g9
        have f_26 : w_15 (ad 10) = some (eI g 4 fKn) := by rw [ew_15]; exact (gu_n (fun q => absurd (hinj 10 4 (by decide) (by decide) q) (by decide))).trans g10
        have f_27 : w_15 (ad 11) = some (eL g 4 fK) := by rw [ew_15]; exact (gu_n (fun q => absurd (hinj 11 4 (by decide) (by decide) q) (by decide))).trans g11
        have f_28 : w_15 (ad 12) = some (eI g 32 fH) := by rw [ew_15]; exact (gu_n (fun q => absurd (hinj 12 4 (by decide) (by decide) q) (by decide))).trans g12
        refine lv_iinc (v := nI (i + 1)) (lv' := [(4, .int (nI (i + 1))), (0, .ref (ad 0))]) hx hb dX3_begin_86 hl (k := 1) rfl (gi_inc _ 1) (by decide) rfl (fun ls hl => ?_)
        refine lv_goto (tgt := 71) hx hb dX3_begin_89 (by decide) ?_
        have hM2 : MW g w_15 ad cn ru fu false th 0 0 0 0 fD fL fO (va_up z' i false) fP' fT fY (upd fN 0 x) (vp_updL fS 0 y) fKn fK fH := ⟨hinj, f_16, f_17, f_18, f_19, f_20, f_21, f_22, f_23, f_24, f_25, f_26, f_27, f_28⟩
        exact ih (i + 1) fP' (va_up z' i false) _ _ _ _ (by omega) (by omega) q1 (vup_lt q2 rfl) hM2  h (lv_sub hl [1, 0] rfl)
  have loop1 : ∀ (n_ : Nat) (i : Nat) (fP' : Nat → Int32) (w1 : GW) (H : Heap) (locs : List Loc) (ls : Array Slot), 30 - i < n_ → (i ≤ 30) → (∀ q, q < i → fP' q = -1) → (MW g w1 ad cn ru fu false th 0 0 0 0 fD fL fO z fP' fT fY (upd fN 0 x) (vp_updL fS 0 y) fKn fK fH) → SH g w1 v s H locs → lv_has ls 5 [(0, .ref (ad 0)), (4, .int (nI i))] → W p l e ({ frames := 1, cells := 0, slots := 0, locals := 60 } : Room) s m ([.ref (ad 0), .int x, .long y] : List Value).toArray below meth c H locs 0 0 (MQ below (va_Qv (fun (w' : GW) => ∃ (fL' : Nat → Int32) (z' : Nat → Bool) (fP' : Nat → Int32), MW g w' ad cn ru fu false th 0 0 0 0 fD fL' fO z' fP' fT fY (upd fN 0 x) (vp_updL fS 0 y) fKn fK fH ∧ (∀ q, q < 30 → fP' q = -1) ∧ (∀ q, q < 64 → z' q = false) ∧ ∀ q, q < 2048 → fL' q = fD q) (gB g v) (gA g)) ([.ref (ad 0), .int x, .long y] : List Value).toArray s 0 0 (gA g)) (F0 m 47 ls []) := by
    intro n_
    induction n_ with
    | zero => intros; exact absurd ‹_ < 0› (Nat.not_lt_zero _)
    | succ n_ ih =>
      intro i fP' w1 H locs ls hf hi q1 hM1  h hl
      obtain ⟨hinj, g0, g1, g2, g3, g4, g5, g6, g7, g8, g9, g10, g11, g12⟩ := id hM1
      refine lv_iload hx hb dX3_begin_47 (lv_at hl 1 rfl) ?_
      refine lv_bipush (v := nI 30) hx hb dX3_begin_49 (by decide) ?_
      refine lv_icmp_ge (tgt := 68) hx hb dX3_begin_51 (by decide) (fun c1 => ?_) (fun c1 => ?_)
      · skip
        have c1 : 30 ≤ i := (nI_leI (by omega) (by omega)).mp c1
        have hie : i = 30 := by omega
        refine lv_iconst (v := nI 0) hx hb dX3_begin_68 (by decide) ?_
        refine lv_istore (lv' := [(4, .int (nI 0)), (0, .ref (ad 0))]) hx hb dX3_begin_69 hl (by decide) rfl (fun ls hl => ?_)
        exact loop2 65 0 fP' z _ _ _ _ (by omega) (by omega) (by rw [hie] at q1; exact q1) (fun q hq => absurd hq (by omega)) hM1 h (lv_sub hl [1, 0] rfl)
      · skip
        have c1 : ¬ (30 ≤ i) := fun q => c1 ((nI_leI (by omega) (by omega)).mpr q)
        refine lv_aload_n hx hb dX3_begin_54 rfl (lv_at hl 0 rfl) ?_
        refine gx_get C h g0 (Cn := RX3) (T := TX3) (N := 22) rfl in_X3 7 (by decide) q739 rfl rfl dX3_begin_55 ?_
        refine lv_iload hx hb dX3_begin_58 (lv_at hl 1 rfl) ?_
        refine lv_iconst (v := (-1)) hx hb dX3_begin_60 (by decide) ?_
        refine gx_iast C h g5 i (rfl) (by omega) dX3_begin_61 (fun H locs h => ?_)
        obtain ⟨w_29, ew_29⟩ : ∃ z : GW, z = gu w1 (ad 5) (eI g 30 (upd fP' i ((-1)))) := ⟨_, rfl⟩
        have h : SH g w_29 v s H locs := by rw [ew_29]; exact h
        have f_30 : w_29 (ad 0) = some (ob 4 [.int (nI cn), .int (bI ru), .int (bI fu), .ref (ad 1), .ref (ad 2), .ref (ad 3), .ref (ad 4), .ref (ad 5), .int (bI false), .ref (ad 6), .ref (ad 7), .int (nI 0), .int (nI 0), .ref (ad 8), .ref (ad 9), .int (nI 0), .int (nI 0), .ref (ad 10), .ref (ad 11), .int (nI 0), .int (bI th), .ref (ad 12)]) := by rw [ew_29]; exact (gu_n (fun q => absurd (hinj 0 5 (by decide) (by decide) q) (by decide))).trans g0
        have f_31 : w_29 (ad 1) = some (eI g 2048 fD) := by rw [ew_29]; exact (gu_n (fun q => absurd (hinj 1 5 (by decide) (by decide) q) (by decide))).trans g1
        have f_32 : w_29 (ad 2) = some (eI g 2048 fL) := by rw [ew_29]; exact (gu_n (fun q => absurd (hinj 2 5 (by decide) (by decide) q) (by decide))).trans g2
        have f_33 : w_29 (ad 3) = some (eI g 2048 fO) := by rw [ew_29]; exact (gu_n (fun q => absurd (hinj 3 5 (by decide) (by decide) q) (by decide))).trans g3
        have f_34 : w_29 (ad 4) = some (eZ g 64 z) := by rw [ew_29]; exact (gu_n (fun q => absurd (hinj 4 5 (by decide) (by decide) q) (by decide))).trans g4
        have f_35 : w_29 (ad 5) = some (eI g 30 (upd fP' i ((-1)))) := by rw [ew_29]; exact gu_s
        have f_36 : w_29 (ad 6) = some (eI g 1200 fT) := by rw [ew_29]; exact (gu_n (fun q => absurd (hinj 6 5 (by decide) (by decide) q) (by decide))).trans g6
        have f_37 : w_29 (ad 7) = some (eI g 38400 fY) := by rw [ew_29]; exact (gu_n (fun q => absurd (hinj 7 5 (by decide) (by decide) q) (by decide))).trans g7
        have f_38 : w_29 (ad 8) = some (eI g 1200 (upd fN 0 x)) := by rw [ew_29]; exact (gu_n (fun q => absurd (hinj 8 5 (by decide) (by decide) q) (by decide))).trans g8
        have f_39 : w_29 (ad 9) = some (eL g 1200 (vp_updL fS 0 y)) := by rw [ew_29]; exact (gu_n (fun q => absurd (hinj 9 5 (by decide) (by decide) q) (by decide))).trans g9
        have f_40 : w_29 (ad 10) = some (eI g 4 fKn) := by rw [ew_29]; exact (gu_n (fun q => absurd (hinj 10 5 (by decide) (by decide) q) (by decide))).trans g10
        have f_41 : w_29 (ad 11) = some (eL g 4 fK) := by rw [ew_29]; exact (gu_n (fun q => absurd (hinj 11 5 (by decide) (by decide) q) (by decide))).trans g11
        have f_42 : w_29 (ad 12) = some (eI g 32 fH) := by rw [ew_29]; exact (gu_n (fun q => absurd (hinj 12 5 (by decide) (by decide) q) (by decide))).trans g12
        refine lv_iinc (v := nI (i + 1)) (lv' := [(4, .int (nI (i + 1))), (0, .ref (ad 0))]) hx hb dX3_begin_62 hl (k := 1) rfl (gi_inc _ 1) (by decide) rfl (fun ls hl => ?_)
        refine lv_goto (tgt := 47) hx hb dX3_begin_65 (by decide) ?_
        have hM2 : MW g w_29 ad cn ru fu false th 0 0 0 0 fD fL fO z (upd fP' i (-1)) fT fY (upd fN 0 x) (vp_updL fS 0 y) fKn fK fH := ⟨hinj, f_30, f_31, f_32, f_33, f_34, f_35, f_36, f_37, f_38, f_39, f_40, f_41, f_42⟩
        exact ih (i + 1) (upd fP' i (-1)) _ _ _ _ (by omega) (by omega) (upd_lt (F := fun _ => -1) q1 rfl) hM2  h (lv_sub hl [1, 0] rfl)
  refine lv_aload_n hx hb dX3_begin_0 rfl (lv_at hl 0 rfl) ?_
  refine lv_iconst (v := nI 0) hx hb dX3_begin_1 (by decide) ?_
  refine gx_put C h k0 (Cn := RX3) (T := TX3) (N := 22) (x := .int (nI 0)) rfl in_X3 tyX3 tyX3_ok nmX3 15 (by decide) q747 rfl rfl rfl rfl (Nat.le_of_ble_eq_true rfl) dX3_begin_2 (fun H locs h => ?_)
  obtain ⟨w_43, ew_43⟩ : ∃ z : GW, z = gu w (ad 0) (ob 4 [.int (nI cn), .int (bI ru), .int (bI fu), .ref (ad 1), .ref (ad 2), .ref (ad 3), .ref (ad 4), .ref (ad 5), .int (bI ch), .ref (ad 6), .ref (ad 7), .int (nI fi), .int (nI be), .ref (ad 8), .ref (ad 9), .int (nI 0), .int (nI ne), .ref (ad 10), .ref (ad 11), .int (nI ke), .int (bI th), .ref (ad 12)]) := ⟨_, rfl⟩
  have h : SH g w_43 v s H locs := by rw [ew_43]; exact h
  have f_44 : w_43 (ad 0) = some (ob 4 [.int (nI cn), .int (bI ru), .int (bI fu), .ref (ad 1), .ref (ad 2), .ref (ad 3), .ref (ad 4), .ref (ad 5), .int (bI ch), .ref (ad 6), .ref (ad 7), .int (nI fi), .int (nI be), .ref (ad 8), .ref (ad 9), .int (nI 0), .int (nI ne), .ref (ad 10), .ref (ad 11), .int (nI ke), .int (bI th), .ref (ad 12)]) := by rw [ew_43]; exact gu_s
  have f_45 : w_43 (ad 1) = some (eI g 2048 fD) := by rw [ew_43]; exact (gu_n (fun q => absurd (hinj 1 0 (by decide) (by decide) q) (by decide))).trans k1
  have f_46 : w_43 (ad 2) = some (eI g 2048 fL) := by rw [ew_43]; exact (gu_n (fun q => absurd (hinj 2 0 (by decide) (by decide) q) (by decide))).trans k2
  have f_47 : w_43 (ad 3) = some (eI g 2048 fO) := by rw [ew_43]; exact (gu_n (fun q => absurd (hinj 3 0 (by decide) (by decide) q) (by decide))).trans k3
  have f_48 : w_43 (ad 4) = some (eZ g 64 z) := by rw [ew_43]; exact (gu_n (fun q => absurd (hinj 4 0 (by decide) (by decide) q) (by decide))).trans k4
  have f_49 : w_43 (ad 5) = some (eI g 30 fP) := by rw [ew_43]; exact (gu_n (fun q => absurd (hinj 5 0 (by decide) (by decide) q) (by decide))).trans k5
  have f_50 : w_43 (ad 6) = some (eI g 1200 fT) := by rw [ew_43]; exact (gu_n (fun q => absurd (hinj 6 0 (by decide) (by decide) q) (by decide))).trans k6
  have f_51 : w_43 (ad 7) = some (eI g 38400 fY) := by rw [ew_43]; exact (gu_n (fun q => absurd (hinj 7 0 (by decide) (by decide) q) (by decide))).trans k7
  have f_52 : w_43 (ad 8) = some (eI g 1200 fN) := by rw [ew_43]; exact (gu_n (fun q => absurd (hinj 8 0 (by decide) (by decide) q) (by decide))).trans k8
  have f_53 : w_43 (ad 9) = some (eL g 1200 fS) := by rw [ew_43]; exact (gu_n (fun q => absurd (hinj 9 0 (by decide) (by decide) q) (by decide))).trans k9
  have f_54 : w_43 (ad 10) = some (eI g 4 fKn) := by rw [ew_43]; exact (gu_n (fun q => absurd (hinj 10 0 (by decide) (by decide) q) (by decide))).trans k10
  have f_55 : w_43 (ad 11) = some (eL g 4 fK) := by rw [ew_43]; exact (gu_n (fun q => absurd (hinj 11 0 (by decide) (by decide) q) (by decide))).trans k11
  have f_56 : w_43 (ad 12) = some (eI g 32 fH) := by rw [ew_43]; exact (gu_n (fun q => absurd (hinj 12 0 (by decide) (by decide) q) (by decide))).trans k12
  refine lv_aload_n hx hb dX3_begin_5 rfl (lv_at hl 0 rfl) ?_
  refine lv_iconst (v := nI 0) hx hb dX3_begin_6 (by decide) ?_
  refine gx_put C h f_44 (Cn := RX3) (T := TX3) (N := 22) (x := .int (nI 0)) rfl in_X3 tyX3 tyX3_ok nmX3 16 (by decide) q748 rfl rfl rfl rfl (Nat.le_of_ble_eq_true rfl) dX3_begin_7 (fun H locs h => ?_)
  obtain ⟨w_57, ew_57⟩ : ∃ z : GW, z = gu w_43 (ad 0) (ob 4 [.int (nI cn), .int (bI ru), .int (bI fu), .ref (ad 1), .ref (ad 2), .ref (ad 3), .ref (ad 4), .ref (ad 5), .int (bI ch), .ref (ad 6), .ref (ad 7), .int (nI fi), .int (nI be), .ref (ad 8), .ref (ad 9), .int (nI 0), .int (nI 0), .ref (ad 10), .ref (ad 11), .int (nI ke), .int (bI th), .ref (ad 12)]) := ⟨_, rfl⟩
  have h : SH g w_57 v s H locs := by rw [ew_57]; exact h
  have f_58 : w_57 (ad 0) = some (ob 4 [.int (nI cn), .int (bI ru), .int (bI fu), .ref (ad 1), .ref (ad 2), .ref (ad 3), .ref (ad 4), .ref (ad 5), .int (bI ch), .ref (ad 6), .ref (ad 7), .int (nI fi), .int (nI be), .ref (ad 8), .ref (ad 9), .int (nI 0), .int (nI 0), .ref (ad 10), .ref (ad 11), .int (nI ke), .int (bI th), .ref (ad 12)]) := by rw [ew_57]; exact gu_s
  have f_59 : w_57 (ad 1) = some (eI g 2048 fD) := by rw [ew_57]; exact (gu_n (fun q => absurd (hinj 1 0 (by decide) (by decide) q) (by decide))).trans f_45
  have f_60 : w_57 (ad 2) = some (eI g 2048 fL) := by rw [ew_57]; exact (gu_n (fun q => absurd (hinj 2 0 (by decide) (by decide) q) (by decide))).trans f_46
  have f_61 : w_57 (ad 3) = some (eI g 2048 fO) := by rw [ew_57]; exact (gu_n (fun q => absurd (hinj 3 0 (by decide) (by decide) q) (by decide))).trans f_47
  have f_62 : w_57 (ad 4) = some (eZ g 64 z) := by rw [ew_57]; exact (gu_n (fun q => absurd (hinj 4 0 (by decide) (by decide) q) (by decide))).trans f_48
  have f_63 : w_57 (ad 5) = some (eI g 30 fP) := by rw [ew_57]; exact (gu_n (fun q => absurd (hinj 5 0 (by decide) (by decide) q) (by decide))).trans f_49
  have f_64 : w_57 (ad 6) = some (eI g 1200 fT) := by rw [ew_57]; exact (gu_n (fun q => absurd (hinj 6 0 (by decide) (by decide) q) (by decide))).trans f_50
  have f_65 : w_57 (ad 7) = some (eI g 38400 fY) := by rw [ew_57]; exact (gu_n (fun q => absurd (hinj 7 0 (by decide) (by decide) q) (by decide))).trans f_51
  have f_66 : w_57 (ad 8) = some (eI g 1200 fN) := by rw [ew_57]; exact (gu_n (fun q => absurd (hinj 8 0 (by decide) (by decide) q) (by decide))).trans f_52
  have f_67 : w_57 (ad 9) = some (eL g 1200 fS) := by rw [ew_57]; exact (gu_n (fun q => absurd (hinj 9 0 (by decide) (by decide) q) (by decide))).trans f_53
  have f_68 : w_57 (ad 10) = some (eI g 4 fKn) := by rw [ew_57]; exact (gu_n (fun q => absurd (hinj 10 0 (by decide) (by decide) q) (by decide))).trans f_54
  have f_69 : w_57 (ad 11) = some (eL g 4 fK) := by rw [ew_57]; exact (gu_n (fun q => absurd (hinj 11 0 (by decide) (by decide) q) (by decide))).trans f_55
  have f_70 : w_57 (ad 12) = some (eI g 32 fH) := by rw [ew_57]; exact (gu_n (fun q => absurd (hinj 12 0 (by decide) (by decide) q) (by decide))).trans f_56
  refine lv_aload_n hx hb dX3_begin_10 rfl (lv_at hl 0 rfl) ?_
  refine gx_get C h f_58 (Cn := RX3) (T := TX3) (N := 22) rfl in_X3 13 (by decide) q745 rfl rfl dX3_begin_11 ?_
  refine lv_iconst (v := nI 0) hx hb dX3_begin_14 (by decide) ?_
  refine lv_iload_n hx hb dX3_begin_15 rfl (lv_at hl 1 rfl) ?_
  refine gx_iast C h f_66 0 (rfl) (by omega) dX3_begin_16 (fun H locs h => ?_)
  obtain ⟨w_71, ew_71⟩ : ∃ z : GW, z = gu w_57 (ad 8) (eI g 1200 (upd fN 0 x)) := ⟨_, rfl⟩
  have h : SH g w_71 v s H locs := by rw [ew_71]; exact h
  have f_72 : w_71 (ad 0) = some (ob 4 [.int (nI cn), .int (bI ru), .int (bI fu), .ref (ad 1), .ref (ad 2), .ref (ad 3), .ref (ad 4), .ref (ad 5), .int (bI ch), .ref (ad 6), .ref (ad 7), .int (nI fi), .int (nI be), .ref (ad 8), .ref (ad 9), .int (nI 0), .int (nI 0), .ref (ad 10), .ref (ad 11), .int (nI ke), .int (bI th), .ref (ad 12)]) := by rw [ew_71]; exact (gu_n (fun q => absurd (hinj 0 8 (by decide) (by decide) q) (by decide))).trans f_58
  have f_73 : w_71 (ad 1) = some (eI g 2048 fD) := by rw [ew_71]; exact (gu_n (fun q => absurd (hinj 1 8 (by decide) (by decide) q) (by decide))).trans f_59
  have f_74 : w_71 (ad 2) = some (eI g 2048 fL) := by rw [ew_71]; exact (gu_n (fun q => absurd (hinj 2 8 (by decide) (by decide) q) (by decide))).trans f_60
  have f_75 : w_71 (ad 3) = some (eI g 2048 fO) := by rw [ew_71]; exact (gu_n (fun q => absurd (hinj 3 8 (by decide) (by decide) q) (by decide))).trans f_61
  have f_76 : w_71 (ad 4) = some (eZ g 64 z) := by rw [ew_71]; exact (gu_n (fun q => absurd (hinj 4 8 (by decide) (by decide) q) (by decide))).trans f_62
  have f_77 : w_71 (ad 5) = some (eI g 30 fP) := by rw [ew_71]; exact (gu_n (fun q => absurd (hinj 5 8 (by decide) (by decide) q) (by decide))).trans f_63
  have f_78 : w_71 (ad 6) = some (eI g 1200 fT) := by rw [ew_71]; exact (gu_n (fun q => absurd (hinj 6 8 (by decide) (by decide) q) (by decide))).trans f_64
  have f_79 : w_71 (ad 7) = some (eI g 38400 fY) := by rw [ew_71]; exact (gu_n (fun q => absurd (hinj 7 8 (by decide) (by decide) q) (by decide))).trans f_65
  have f_80 : w_71 (ad 8) = some (eI g 1200 (upd fN 0 x)) := by rw [ew_71]; exact gu_s
  have f_81 : w_71 (ad 9) = some (eL g 1200 fS) := by rw [ew_71]; exact (gu_n (fun q => absurd (hinj 9 8 (by decide) (by decide) q) (by decide))).trans f_67
  have f_82 : w_71 (ad 10) = some (eI g 4 fKn) := by rw [ew_71]; exact (gu_n (fun q => absurd (hinj 10 8 (by decide) (by decide) q) (by decide))).trans f_68
  have f_83 : w_71 (ad 11) = some (eL g 4 fK) := by rw [ew_71]; exact (gu_n (fun q => absurd (hinj 11 8 (by decide) (by decide) q) (by decide))).trans f_69
  have f_84 : w_71 (ad 12) = some (eI g 32 fH) := by rw [ew_71]; exact (gu_n (fun q => absurd (hinj 12 8 (by decide) (by decide) q) (by decide))).trans f_70
  refine lv_aload_n hx hb dX3_begin_17 rfl (lv_at hl 0 rfl) ?_
  refine gx_get C h f_72 (Cn := RX3) (T := TX3) (N := 22) rfl in_X3 14 (by decide) q746 rfl rfl dX3_begin_18 ?_
  refine lv_iconst (v := nI 0) hx hb dX3_begin_21 (by decide) ?_
  refine lv_lload_n hx hb dX3_begin_22 rfl (lv_at hl 2 rfl) ?_
  refine gx_last C h f_81 0 (rfl) (by omega) dX3_begin_23 (fun H locs h => ?_)
  obtain ⟨w_85, ew_85⟩ : ∃ z : GW, z = gu w_71 (ad 9) (eL g 1200 (vp_updL fS 0 y)) := ⟨_, rfl⟩
  have h : SH g w_85 v s H locs := by rw [ew_85]; exact h
  have f_86 : w_85 (ad 0) = some (ob 4 [.int (nI cn), .int (bI ru), .int (bI fu), .ref (ad 1), .ref (ad 2), .ref (ad 3), .ref (ad 4), .ref (ad 5), .int (bI ch), .ref (ad 6), .ref (ad 7), .int (nI fi), .int (nI be), .ref (ad 8), .ref (ad 9), .int (nI 0), .int (nI 0), .ref (ad 10), .ref (ad 11), .int (nI ke), .int (bI th), .ref (ad 12)]) := by rw [ew_85]; exact (gu_n (fun q => absurd (hinj 0 9 (by decide) (by decide) q) (by decide))).trans f_72
  have f_87 : w_85 (ad 1) = some (eI g 2048 fD) := by rw [ew_85]; exact (gu_n (fun q => absurd (hinj 1 9 (by decide) (by decide) q) (by decide))).trans f_73
  have f_88 : w_85 (ad 2) = some (eI g 2048 fL) := by rw [ew_85]; exact (gu_n (fun q => absurd (hinj 2 9 (by decide) (by decide) q) (by decide))).trans f_74
  have f_89 : w_85 (ad 3) = some (eI g 2048 fO) := by rw [ew_85]; exact (gu_n (fun q => absurd (hinj 3 9 (by decide) (by decide) q) (by decide))).trans f_75
  have f_90 : w_85 (ad 4) = some (eZ g 64 z) := by rw [ew_85]; exact (gu_n (fun q => absurd (hinj 4 9 (by decide) (by decide) q) (by decide))).trans f_76
  have f_91 : w_85 (ad 5) = some (eI g 30 fP) := by rw [ew_85]; exact (gu_n (fun q => absurd (hinj 5 9 (by decide) (by decide) q) (by decide))).trans f_77
  have f_92 : w_85 (ad 6) = some (eI g 1200 fT) := by rw [ew_85]; exact (gu_n (fun q => absurd (hinj 6 9 (by decide) (by decide) q) (by decide))).trans f_78
  have f_93 : w_85 (ad 7) = some (eI g 38400 fY) := by rw [ew_85]; exact (gu_n (fun q => absurd (hinj 7 9 (by decide) (by decide) q) (by decide))).trans f_79
  have f_94 : w_85 (ad 8) = some (eI g 1200 (upd fN 0 x)) := by rw [ew_85]; exact (gu_n (fun q => absurd (hinj 8 9 (by decide) (by decide) q) (by decide))).trans f_80
  have f_95 : w_85 (ad 9) = some (eL g 1200 (vp_updL fS 0 y)) := by rw [ew_85]; exact gu_s
  have f_96 : w_85 (ad 10) = some (eI g 4 fKn) := by rw [ew_85]; exact (gu_n (fun q => absurd (hinj 10 9 (by decide) (by decide) q) (by decide))).trans f_82
  have f_97 : w_85 (ad 11) = some (eL g 4 fK) := by rw [ew_85]; exact (gu_n (fun q => absurd (hinj 11 9 (by decide) (by decide) q) (by decide))).trans f_83
  have f_98 : w_85 (ad 12) = some (eI g 32 fH) := by rw [ew_85]; exact (gu_n (fun q => absurd (hinj 12 9 (by decide) (by decide) q) (by decide))).trans f_84
  refine lv_aload_n hx hb dX3_begin_24 rfl (lv_at hl 0 rfl) ?_
  refine lv_iconst (v := nI 0) hx hb dX3_begin_25 (by decide) ?_
  refine gx_put C h f_86 (Cn := RX3) (T := TX3) (N := 22) (x := .int (nI 0)) rfl in_X3 tyX3 tyX3_ok nmX3 19 (by decide) q751 rfl rfl rfl rfl (Nat.le_of_ble_eq_true rfl) dX3_begin_26 (fun H locs h => ?_)
  obtain ⟨w_99, ew_99⟩ : ∃ z : GW, z = gu w_85 (ad 0) (ob 4 [.int (nI cn), .int (bI ru), .int (bI fu), .ref (ad 1), .ref (ad 2), .ref (ad 3), .ref (ad 4), .ref (ad 5), .int (bI ch), .ref (ad 6), .ref (ad 7), .int (nI fi), .int (nI be), .ref (ad 8), .ref (ad 9), .int (nI 0), .int (nI 0), .ref (ad 10), .ref (ad 11), .int (nI 0), .int (bI th), .ref (ad 12)]) := ⟨_, rfl⟩
  have h : SH g w_99 v s H locs := by rw [ew_99]; exact h
  have f_100 : w_99 (ad 0) = some (ob 4 [.int (nI cn), .int (bI ru), .int (bI fu), .ref (ad 1), .ref (ad 2), .ref (ad 3), .ref (ad 4), .ref (ad 5), .int (bI ch), .ref (ad 6), .ref (ad 7), .int (nI fi), .int (nI be), .ref (ad 8), .ref (ad 9), .int (nI 0), .int (nI 0), .ref (ad 10), .ref (ad 11), .int (nI 0), .int (bI th), .ref (ad 12)]) := by rw [ew_99]; exact gu_s
  have f_101 : w_99 (ad 1) = some (eI g 2048 fD) := by rw [ew_99]; exact (gu_n (fun q => absurd (hinj 1 0 (by decide) (by decide) q) (by decide))).trans f_87
  have f_102 : w_99 (ad 2) = some (eI g 2048 fL) := by rw [ew_99]; exact (gu_n (fun q => absurd (hinj 2 0 (by decide) (by decide) q) (by decide))).trans f_88
  have f_103 : w_99 (ad 3) = some (eI g 2048 fO) := by rw [ew_99]; exact (gu_n (fun q => absurd (hinj 3 0 (by decide) (by decide) q) (by decide))).trans f_89
  have f_104 : w_99 (ad 4) = some (eZ g 64 z) := by rw [ew_99]; exact (gu_n (fun q => absurd (hinj 4 0 (by decide) (by decide) q) (by decide))).trans f_90
  have f_105 : w_99 (ad 5) = some (eI g 30 fP) := by rw [ew_99]; exact (gu_n (fun q => absurd (hinj 5 0 (by decide) (by decide) q) (by decide))).trans f_91
  have f_106 : w_99 (ad 6) = some (eI g 1200 fT) := by rw [ew_99]; exact (gu_n (fun q => absurd (hinj 6 0 (by decide) (by decide) q) (by decide))).trans f_92
  have f_107 : w_99 (ad 7) = some (eI g 38400 fY) := by rw [ew_99]; exact (gu_n (fun q => absurd (hinj 7 0 (by decide) (by decide) q) (by decide))).trans f_93
  have f_108 : w_99 (ad 8) = some (eI g 1200 (upd fN 0 x)) := by rw [ew_99]; exact (gu_n (fun q => absurd (hinj 8 0 (by decide) (by decide) q) (by decide))).trans f_94
  have f_109 : w_99 (ad 9) = some (eL g 1200 (vp_updL fS 0 y)) := by rw [ew_99]; exact (gu_n (fun q => absurd (hinj 9 0 (by decide) (by decide) q) (by decide))).trans f_95
  have f_110 : w_99 (ad 10) = some (eI g 4 fKn) := by rw [ew_99]; exact (gu_n (fun q => absurd (hinj 10 0 (by decide) (by decide) q) (by decide))).trans f_96
  have f_111 : w_99 (ad 11) = some (eL g 4 fK) := by rw [ew_99]; exact (gu_n (fun q => absurd (hinj 11 0 (by decide) (by decide) q) (by decide))).trans f_97
  have f_112 : w_99 (ad 12) = some (eI g 32 fH) := by rw [ew_99]; exact (gu_n (fun q => absurd (hinj 12 0 (by decide) (by decide) q) (by decide))).trans f_98
  refine lv_aload_n hx hb dX3_begin_29 rfl (lv_at hl 0 rfl) ?_
  refine lv_iconst (v := nI 0) hx hb dX3_begin_30 (by decide) ?_
  refine gx_put C h f_100 (Cn := RX3) (T := TX3) (N := 22) (x := .int (nI 0)) rfl in_X3 tyX3 tyX3_ok nmX3 11 (by decide) q743 rfl rfl rfl rfl (Nat.le_of_ble_eq_true rfl) dX3_begin_31 (fun H locs h => ?_)
  obtain ⟨w_113, ew_113⟩ : ∃ z : GW, z = gu w_99 (ad 0) (ob 4 [.int (nI cn), .int (bI ru), .int (bI fu), .ref (ad 1), .ref (ad 2), .ref (ad 3), .ref (ad 4), .ref (ad 5), .int (bI ch), .ref (ad 6), .ref (ad 7), .int (nI 0), .int (nI be), .ref (ad 8), .ref (ad 9), .int (nI 0), .int (nI 0), .ref (ad 10), .ref (ad 11), .int (nI 0), .int (bI th), .ref (ad 12)]) := ⟨_, rfl⟩
  have h : SH g w_113 v s H locs := by rw [ew_113]; exact h
  have f_114 : w_113 (ad 0) = some (ob 4 [.int (nI cn), .int (bI ru), .int (bI fu), .ref (ad 1), .ref (ad 2), .ref (ad 3), .ref (ad 4), .ref (ad 5), .int (bI ch), .ref (ad 6), .ref (ad 7), .int (nI 0), .int (nI be), .ref (ad 8), .ref (ad 9), .int (nI 0), .int (nI 0), .ref (ad 10), .ref (ad 11), .int (nI 0), .int (bI th), .ref (ad 12)]) := by rw [ew_113]; exact gu_s
  have f_115 : w_113 (ad 1) = some (eI g 2048 fD) := by rw [ew_113]; exact (gu_n (fun q => absurd (hinj 1 0 (by decide) (by decide) q) (by decide))).trans f_101
  have f_116 : w_113 (ad 2) = some (eI g 2048 fL) := by rw [ew_113]; exact (gu_n (fun q => absurd (hinj 2 0 (by decide) (by decide) q) (by decide))).trans f_102
  have f_117 : w_113 (ad 3) = some (eI g 2048 fO) := by rw [ew_113]; exact (gu_n (fun q => absurd (hinj 3 0 (by decide) (by decide) q) (by decide))).trans f_103
  have f_118 : w_113 (ad 4) = some (eZ g 64 z) := by rw [ew_113]; exact (gu_n (fun q => absurd (hinj 4 0 (by decide) (by decide) q) (by decide))).trans f_104
  have f_119 : w_113 (ad 5) = some (eI g 30 fP) := by rw [ew_113]; exact (gu_n (fun q => absurd (hinj 5 0 (by decide) (by decide) q) (by decide))).trans f_105
  have f_120 : w_113 (ad 6) = some (eI g 1200 fT) := by rw [ew_113]; exact (gu_n (fun q => absurd (hinj 6 0 (by decide) (by decide) q) (by decide))).trans f_106
  have f_121 : w_113 (ad 7) = some (eI g 38400 fY) := by rw [ew_113]; exact (gu_n (fun q => absurd (hinj 7 0 (by decide) (by decide) q) (by decide))).trans f_107
  have f_122 : w_113 (ad 8) = some (eI g 1200 (upd fN 0 x)) := by rw [ew_113]; exact (gu_n (fun q => absurd (hinj 8 0 (by decide) (by decide) q) (by decide))).trans f_108
  have f_123 : w_113 (ad 9) = some (eL g 1200 (vp_updL fS 0 y)) := by rw [ew_113]; exact (gu_n (fun q => absurd (hinj 9 0 (by decide) (by decide) q) (by decide))).trans f_109
  have f_124 : w_113 (ad 10) = some (eI g 4 fKn) := by rw [ew_113]; exact (gu_n (fun q => absurd (hinj 10 0 (by decide) (by decide) q) (by decide))).trans f_110
  have f_125 : w_113 (ad 11) = some (eL g 4 fK) := by rw [ew_113]; exact (gu_n (fun q => absurd (hinj 11 0 (by decide) (by decide) q) (by decide))).trans f_111
  have f_126 : w_113 (ad 12) = some (eI g 32 fH) := by rw [ew_113]; exact (gu_n (fun q => absurd (hinj 12 0 (by decide) (by decide) q) (by decide))).trans f_112
  refine lv_aload_n hx hb dX3_begin_34 rfl (lv_at hl 0 rfl) ?_
  refine lv_iconst (v := nI 0) hx hb dX3_begin_35 (by decide) ?_
  refine gx_put C h f_114 (Cn := RX3) (T := TX3) (N := 22) (x := .int (nI 0)) rfl in_X3 tyX3 tyX3_ok nmX3 12 (by decide) q744 rfl rfl rfl rfl (Nat.le_of_ble_eq_true rfl) dX3_begin_36 (fun H locs h => ?_)
  obtain ⟨w_127, ew_127⟩ : ∃ z : GW, z = gu w_113 (ad 0) (ob 4 [.int (nI cn), .int (bI ru), .int (bI fu), .ref (ad 1), .ref (ad 2), .ref (ad 3), .ref (ad 4), .ref (ad 5), .int (bI ch), .ref (ad 6), .ref (ad 7), .int (nI 0), .int (nI 0), .ref (ad 8), .ref (ad 9), .int (nI 0), .int (nI 0), .ref (ad 10), .ref (ad 11), .int (nI 0), .int (bI th), .ref (ad 12)]) := ⟨_, rfl⟩
  have h : SH g w_127 v s H locs := by rw [ew_127]; exact h
  have f_128 : w_127 (ad 0) = some (ob 4 [.int (nI cn), .int (bI ru), .int (bI fu), .ref (ad 1), .ref (ad 2), .ref (ad 3), .ref (ad 4), .ref (ad 5), .int (bI ch), .ref (ad 6), .ref (ad 7), .int (nI 0), .int (nI 0), .ref (ad 8), .ref (ad 9), .int (nI 0), .int (nI 0), .ref (ad 10), .ref (ad 11), .int (nI 0), .int (bI th), .ref (ad 12)]) := by rw [ew_127]; exact gu_s
  have f_129 : w_127 (ad 1) = some (eI g 2048 fD) := by rw [ew_127]; exact (gu_n (fun q => absurd (hinj 1 0 (by decide) (by decide) q) (by decide))).trans f_115
  have f_130 : w_127 (ad 2) = some (eI g 2048 fL) := by rw [ew_127]; exact (gu_n (fun q => absurd (hinj 2 0 (by decide) (by decide) q) (by decide))).trans f_116
  have f_131 : w_127 (ad 3) = some (eI g 2048 fO) := by rw [ew_127]; exact (gu_n (fun q => absurd (hinj 3 0 (by decide) (by decide) q) (by decide))).trans f_117
  have f_132 : w_127 (ad 4) = some (eZ g 64 z) := by rw [ew_127]; exact (gu_n (fun q => absurd (hinj 4 0 (by decide) (by decide) q) (by decide))).trans f_118
  have f_133 : w_127 (ad 5) = some (eI g 30 fP) := by rw [ew_127]; exact (gu_n (fun q => absurd (hinj 5 0 (by decide) (by decide) q) (by decide))).trans f_119
  have f_134 : w_127 (ad 6) = some (eI g 1200 fT) := by rw [ew_127]; exact (gu_n (fun q => absurd (hinj 6 0 (by decide) (by decide) q) (by decide))).trans f_120
  have f_135 : w_127 (ad 7) = some (eI g 38400 fY) := by rw [ew_127]; exact (gu_n (fun q => absurd (hinj 7 0 (by decide) (by decide) q) (by decide))).trans f_121
  have f_136 : w_127 (ad 8) = some (eI g 1200 (upd fN 0 x)) := by rw [ew_127]; exact (gu_n (fun q => absurd (hinj 8 0 (by decide) (by decide) q) (by decide))).trans f_122
  have f_137 : w_127 (ad 9) = some (eL g 1200 (vp_updL fS 0 y)) := by rw [ew_127]; exact (gu_n (fun q => absurd (hinj 9 0 (by decide) (by decide) q) (by decide))).trans f_123
  have f_138 : w_127 (ad 10) = some (eI g 4 fKn) := by rw [ew_127]; exact (gu_n (fun q => absurd (hinj 10 0 (by decide) (by decide) q) (by decide))).trans f_124
  have f_139 : w_127 (ad 11) = some (eL g 4 fK) := by rw [ew_127]; exact (gu_n (fun q => absurd (hinj 11 0 (by decide) (by decide) q) (by decide))).trans f_125
  have f_140 : w_127 (ad 12) = some (eI g 32 fH) := by rw [ew_127]; exact (gu_n (fun q => absurd (hinj 12 0 (by decide) (by decide) q) (by decide))).trans f_126
  refine lv_aload_n hx hb dX3_begin_39 rfl (lv_at hl 0 rfl) ?_
  refine lv_iconst (v := bI false) hx hb dX3_begin_40 (by decide) ?_
  refine gx_put C h f_128 (Cn := RX3) (T := TX3) (N := 22) (x := .int (bI false)) rfl in_X3 tyX3 tyX3_ok nmX3 8 (by decide) q740 rfl rfl (bI_n _) (bI_f _) (Nat.le_of_ble_eq_true rfl) dX3_begin_41 (fun H locs h => ?_)
  obtain ⟨w_141, ew_141⟩ : ∃ z : GW, z = gu w_127 (ad 0) (ob 4 [.int (nI cn), .int (bI ru), .int (bI fu), .ref (ad 1), .ref (ad 2), .ref (ad 3), .ref (ad 4), .ref (ad 5), .int (bI false), .ref (ad 6), .ref (ad 7), .int (nI 0), .int (nI 0), .ref (ad 8), .ref (ad 9), .int (nI 0), .int (nI 0), .ref (ad 10), .ref (ad 11), .int (nI 0), .int (bI th), .ref (ad 12)]) := ⟨_, rfl⟩
  have h : SH g w_141 v s H locs := by rw [ew_141]; exact h
  have f_142 : w_141 (ad 0) = some (ob 4 [.int (nI cn), .int (bI ru), .int (bI fu), .ref (ad 1), .ref (ad 2), .ref (ad 3), .ref (ad 4), .ref (ad 5), .int (bI false), .ref (ad 6), .ref (ad 7), .int (nI 0), .int (nI 0), .ref (ad 8), .ref (ad 9), .int (nI 0), .int (nI 0), .ref (ad 10), .ref (ad 11), .int (nI 0), .int (bI th), .ref (ad 12)]) := by rw [ew_141]; exact gu_s
  have f_143 : w_141 (ad 1) = some (eI g 2048 fD) := by rw [ew_141]; exact (gu_n (fun q => absurd (hinj 1 0 (by decide) (by decide) q) (by decide))).trans f_129
  have f_144 : w_141 (ad 2) = some (eI g 2048 fL) := by rw [ew_141]; exact (gu_n (fun q => absurd (hinj 2 0 (by decide) (by decide) q) (by decide))).trans f_130
  have f_145 : w_141 (ad 3) = some (eI g 2048 fO) := by rw [ew_141]; exact (gu_n (fun q => absurd (hinj 3 0 (by decide) (by decide) q) (by decide))).trans f_131
  have f_146 : w_141 (ad 4) = some (eZ g 64 z) := by rw [ew_141]; exact (gu_n (fun q => absurd (hinj 4 0 (by decide) (by decide) q) (by decide))).trans f_132
  have f_147 : w_141 (ad 5) = some (eI g 30 fP) := by rw [ew_141]; exact (gu_n (fun q => absurd (hinj 5 0 (by decide) (by decide) q) (by decide))).trans f_133
  have f_148 : w_141 (ad 6) = some (eI g 1200 fT) := by rw [ew_141]; exact (gu_n (fun q => absurd (hinj 6 0 (by decide) (by decide) q) (by decide))).trans f_134
  have f_149 : w_141 (ad 7) = some (eI g 38400 fY) := by rw [ew_141]; exact (gu_n (fun q => absurd (hinj 7 0 (by decide) (by decide) q) (by decide))).trans f_135
  have f_150 : w_141 (ad 8) = some (eI g 1200 (upd fN 0 x)) := by rw [ew_141]; exact (gu_n (fun q => absurd (hinj 8 0 (by decide) (by decide) q) (by decide))).trans f_136
  have f_151 : w_141 (ad 9) = some (eL g 1200 (vp_updL fS 0 y)) := by rw [ew_141]; exact (gu_n (fun q => absurd (hinj 9 0 (by decide) (by decide) q) (by decide))).trans f_137
  have f_152 : w_141 (ad 10) = some (eI g 4 fKn) := by rw [ew_141]; exact (gu_n (fun q => absurd (hinj 10 0 (by decide) (by decide) q) (by decide))).trans f_138
  have f_153 : w_141 (ad 11) = some (eL g 4 fK) := by rw [ew_141]; exact (gu_n (fun q => absurd (hinj 11 0 (by decide) (by decide) q) (by decide))).trans f_139
  have f_154 : w_141 (ad 12) = some (eI g 32 fH) := by rw [ew_141]; exact (gu_n (fun q => absurd (hinj 12 0 (by decide) (by decide) q) (by decide))).trans f_140
  refine lv_iconst (v := nI 0) hx hb dX3_begin_44 (by decide) ?_
  refine lv_istore (lv' := [(4, .int (nI 0)), (0, .ref (ad 0)), (1, .int x), (2, .long y)]) hx hb dX3_begin_45 hl (by decide) rfl (fun ls hl => ?_)
  have hM2 : MW g w_141 ad cn ru fu false th 0 0 0 0 fD fL fO z fP fT fY (upd fN 0 x) (vp_updL fS 0 y) fKn fK fH := ⟨hinj, f_142, f_143, f_144, f_145, f_146, f_147, f_148, f_149, f_150, f_151, f_152, f_153, f_154⟩
  exact loop1 31 0 fP _ _ _ _ (by omega) (by omega) (fun q hq => absurd hq (by omega)) hM2 h (lv_sub hl [1, 0] rfl)
set_option maxHeartbeats 4000000 in
theorem m_X3_queue (l : Launch) (g : GG) (w v : GW) (ad : Nat → Nat) (cn : Nat) (ru fu ch th : Bool) (fi be ne ke : Nat) (fD fL fO : Nat → Int32) (z : Nat → Bool) (fP fT fY fN : Nat → Int32) (fS : Nat → Int64) (fKn : Nat → Int32) (fK : Nat → Int64) (fH : Nat → Int32) (hM : MW g w ad cn ru fu ch th fi be ne ke fD fL fO z fP fT fY fN fS fKn fK fH) (ro nr : Nat) (fr : Nat → Int32) (fm tt : Nat) (hro : w ro = some (eI g nr fr)) (hnr : 32 * fm + 32 ≤ nr ∧ nr ≤ 2048) (hr2 : ro ≠ ad 2) (hr6 : ro ≠ ad 6) (hr7 : ro ≠ ad 7) (htt : tt < 64) (hbe : be < 1200) : Met l yX3_queue (ws_ yX3_queue cX3_queue 5 none) ({ frames := 1, cells := 0, slots := 0, locals := 60 } : Room) (gP g [.ref (ad 0), .ref ro, .int (nI fm), .int (nI tt)] w v) (va_Qv (fun (w' : GW) => MW g w' ad cn ru fu ch th fi (be + 1) ne ke fD (va_cpy fr fL (32 * fm) (32 * tt) 32) fO z fP (upd fT be (nI tt)) (va_cpy fr fY (32 * fm) (32 * be) 32) fN fS fKn fK fH ∧ w' ro = some (eI g nr fr)) (gB g v) (gA g)) 0 0 (gA g) := by
  refine gm_of (by decide) (Nat.le_of_ble_eq_true rfl) ?_
  intro p e s m below meth c ls C hnm h hl
  have C : Cx g p s m ([.ref (ad 0), .ref ro, .int (nI fm), .int (nI tt)] : List Value).toArray meth c cX3_queue 5 RX3 none := C
  obtain ⟨hx, hb, hml, hown, hts, hr, hlk, hG⟩ := id C
  have hl : lv_has ls 5 [(0, .ref (ad 0)), (1, .ref ro), (2, .int (nI fm)), (3, .int (nI tt))] := hl
  obtain ⟨hinj, k0, k1, k2, k3, k4, k5, k6, k7, k8, k9, k10, k11, k12⟩ := id hM
  refine lv_aload_n hx hb dX3_queue_0 rfl (lv_at hl 0 rfl) ?_
  refine gx_get C h k0 (Cn := RX3) (T := TX3) (N := 22) rfl in_X3 9 (by decide) q741 rfl rfl dX3_queue_1 ?_
  refine lv_aload_n hx hb dX3_queue_4 rfl (lv_at hl 0 rfl) ?_
  refine gx_get C h k0 (Cn := RX3) (T := TX3) (N := 22) rfl in_X3 12 (by decide) q744 rfl rfl dX3_queue_5 ?_
  refine lv_iload_n hx hb dX3_queue_8 rfl (lv_at hl 3 rfl) ?_
  refine gx_iast C h k6 be (rfl) (by omega) dX3_queue_9 (fun H locs h => ?_)
  obtain ⟨w_1, ew_1⟩ : ∃ z : GW, z = gu w (ad 6) (eI g 1200 (upd fT be (nI tt))) := ⟨_, rfl⟩
  have h : SH g w_1 v s H locs := by rw [ew_1]; exact h
  have f_2 : w_1 (ad 0) = some (ob 4 [.int (nI cn), .int (bI ru), .int (bI fu), .ref (ad 1), .ref (ad 2), .ref (ad 3), .ref (ad 4), .ref (ad 5), .int (bI ch), .ref (ad 6), .ref (ad 7), .int (nI fi), .int (nI be), .ref (ad 8), .ref (ad 9), .int (nI 0), .int (nI ne), .ref (ad 10), .ref (ad 11), .int (nI ke), .int (bI th), .ref (ad 12)]) := by rw [ew_1]; exact (gu_n (fun q => absurd (hinj 0 6 (by decide) (by decide) q) (by decide))).trans k0
  have f_3 : w_1 (ad 1) = some (eI g 2048 fD) := by rw [ew_1]; exact (gu_n (fun q => absurd (hinj 1 6 (by decide) (by decide) q) (by decide))).trans k1
  have f_4 : w_1 (ad 2) = some (eI g 2048 fL) := by rw [ew_1]; exact (gu_n (fun q => absurd (hinj 2 6 (by decide) (by decide) q) (by decide))).trans k2
  have f_5 : w_1 (ad 3) = some (eI g 2048 fO) := by rw [ew_1]; exact (gu_n (fun q => absurd (hinj 3 6 (by decide) (by decide) q) (by decide))).trans k3
  have f_6 : w_1 (ad 4) = some (eZ g 64 z) := by rw [ew_1]; exact (gu_n (fun q => absurd (hinj 4 6 (by decide) (by decide) q) (by decide))).trans k4
  have f_7 : w_1 (ad 5) = some (eI g 30 fP) := by rw [ew_1]; exact (gu_n (fun q => absurd (hinj 5 6 (by decide) (by decide) q) (by decide))).trans k5
  have f_8 : w_1 (ad 6) = some (eI g 1200 (upd fT be (nI tt))) := by rw [ew_1]; exact gu_s
  have f_9 : w_1 (ad 7) = some (eI g 38400 fY) := by rw [ew_1]; exact (gu_n (fun q => absurd (hinj 7 6 (by decide) (by decide) q) (by decide))).trans k7
  have f_10 : w_1 (ad 8) = some (eI g 1200 fN) := by rw [ew_1]; exact (gu_n (fun q => absurd (hinj 8 6 (by decide) (by decide) q) (by decide))).trans k8
  have f_11 : w_1 (ad 9) = some (eL g 1200 fS) := by rw [ew_1]; exact (gu_n (fun q => absurd (hinj 9 6 (by decide) (by decide) q) (by decide))).trans k9
  have f_12 : w_1 (ad 10) = some (eI g 4 fKn) := by rw [ew_1]; exact (gu_n (fun q => absurd (hinj 10 6 (by decide) (by decide) q) (by decide))).trans k10
  have f_13 : w_1 (ad 11) = some (eL g 4 fK) := by rw [ew_1]; exact (gu_n (fun q => absurd (hinj 11 6 (by decide) (by decide) q) (by decide))).trans k11
  have f_14 : w_1 (ad 12) = some (eI g 32 fH) := by rw [ew_1]; exact (gu_n (fun q => absurd (hinj 12 6 (by decide) (by decide) q) (by decide))).trans k12
  refine lv_iconst (v := nI 0) hx hb dX3_queue_10 (by decide) ?_
  refine lv_istore (lv' := [(4, .int (nI 0)), (0, .ref (ad 0)), (1, .ref ro), (2, .int (nI fm)), (3, .int (nI tt))]) hx hb dX3_queue_11 hl (by decide) rfl (fun ls hl => ?_)
  have hro1 : w_1 ro = some (eI g nr fr) := by rw [ew_1, gu_n hr6]; exact hro
  have hM2 : MW g w_1 ad cn ru fu ch th fi be ne ke fD fL fO z fP (upd fT be (nI tt)) fY fN fS fKn fK fH := ⟨hinj, f_2, f_3, f_4, f_5, f_6, f_7, f_8, f_9, f_10, f_11, f_12, f_13, f_14⟩
  have loop : ∀ (n_ : Nat) (i : Nat) (w1 : GW) (H : Heap) (locs : List Loc) (ls : Array Slot), 32 - i < n_ → (i ≤ 32) → (MW g w1 ad cn ru fu ch th fi be ne ke fD (va_cpy fr fL (32 * fm) (32 * tt) i) fO z fP (upd fT be (nI tt)) (va_cpy fr fY (32 * fm) (32 * be) i) fN fS fKn fK fH) → (w1 ro = some (eI g nr fr)) → SH g w1 v s H locs → lv_has ls 5 [(0, .ref (ad 0)), (1, .ref ro), (2, .int (nI fm)), (3, .int (nI tt)), (4, .int (nI i))] → W p l e ({ frames := 1, cells := 0, slots := 0, locals := 60 } : Room) s m ([.ref (ad 0), .ref ro, .int (nI fm), .int (nI tt)] : List Value).toArray below meth c H locs 0 0 (MQ below (va_Qv (fun (w' : GW) => MW g w' ad cn ru fu ch th fi (be + 1) ne ke fD (va_cpy fr fL (32 * fm) (32 * tt) 32) fO z fP (upd fT be (nI tt)) (va_cpy fr fY (32 * fm) (32 * be) 32) fN fS fKn fK fH ∧ w' ro = some (eI g nr fr)) (gB g v) (gA g)) ([.ref (ad 0), .ref ro, .int (nI fm), .int (nI tt)] : List Value).toArray s 0 0 (gA g)) (F0 m 13 ls []) := by
    intro n_
    induction n_ with
    | zero => intros; exact absurd ‹_ < 0› (Nat.not_lt_zero _)
    | succ n_ ih =>
      intro i w1 H locs ls hf hi hM1 hro2  h hl
      obtain ⟨hinj, g0, g1, g2, g3, g4, g5, g6, g7, g8, g9, g10, g11, g12⟩ := id hM1
      have hr0 : ro ≠ ad 0 := g_ne hro2 g0 (by simp)
      refine lv_iload hx hb dX3_queue_13 (lv_at hl 4 rfl) ?_
      refine lv_bipush (v := nI 32) hx hb dX3_queue_15 (by decide) ?_
      refine lv_icmp_ge (tgt := 71) hx hb dX3_queue_17 (by decide) (fun c1 => ?_) (fun c1 => ?_)
      · skip
        have c1 : 32 ≤ i := (nI_leI (by omega) (by omega)).mp c1
        have hie : i = 32 := by omega
        subst hie
        refine lv_aload_n hx hb dX3_queue_71 rfl (lv_at hl 0 rfl) ?_
        refine lv_dup hx hb dX3_queue_72 rfl ?_
        refine gx_get C h g0 (Cn := RX3) (T := TX3) (N := 22) rfl in_X3 12 (by decide) q744 rfl rfl dX3_queue_73 ?_
        refine lv_iconst (v := nI 1) hx hb dX3_queue_76 (by decide) ?_
        refine gn_iadd hx hb dX3_queue_77 ?_
        refine gx_put C h g0 (Cn := RX3) (T := TX3) (N := 22) (x := .int (nI (be + 1))) rfl in_X3 tyX3 tyX3_ok nmX3 12 (by decide) q744 rfl rfl rfl rfl (Nat.le_of_ble_eq_true rfl) dX3_queue_78 (fun H locs h => ?_)
        obtain ⟨w_15, ew_15⟩ : ∃ z : GW, z = gu w1 (ad 0) (ob 4 [.int (nI cn), .int (bI ru), .int (bI fu), .ref (ad 1), .ref (ad 2), .ref (ad 3), .ref (ad 4), .ref (ad 5), .int (bI ch), .ref (ad 6), .ref (ad 7), .int (nI fi), .int (nI (be + 1)), .ref (ad 8), .ref (ad 9), .int (nI 0), .int (nI ne), .ref (ad 10), .ref (ad 11), .int (nI ke), .int (bI th), .ref (ad 12)]) := ⟨_, rfl⟩
        have h : SH g w_15 v s H locs := by rw [ew_15]; exact h
        have f_16 : w_15 (ad 0) = some (ob 4 [.int (nI cn), .int (bI ru), .int (bI fu), .ref (ad 1), .ref (ad 2), .ref (ad 3), .ref (ad 4), .ref (ad 5), .int (bI ch), .ref (ad 6), .ref (ad 7), .int (nI fi), .int (nI (be + 1)), .ref (ad 8), .ref (ad 9), .int (nI 0), .int (nI ne), .ref (ad 10), .ref (ad 11), .int (nI ke), .int (bI th), .ref (ad 12)]) := by rw [ew_15]; exact gu_s
        have f_17 : w_15 (ad 1) = some (eI g 2048 fD) := by rw [ew_15]; exact (gu_n (fun q => absurd (hinj 1 0 (by decide) (by decide) q) (by decide))).trans g1
        have f_18 : w_15 (ad 2) = some (eI g 2048 (va_cpy fr fL (32 * fm) (32 * tt) 32)) := by rw [ew_15]; exact (gu_n (fun q => absurd (hinj 2 0 (by decide) (by decide) q) (by decide))).trans g2
        have f_19 : w_15 (ad 3) = some (eI g 2048 fO) := by rw [ew_15]; exact (gu_n (fun q => absurd (hinj 3 0 (by decide) (by decide) q) (by decide))).trans g3
        have f_20 : w_15 (ad 4) = some (eZ g 64 z) := by rw [ew_15]; exact (gu_n (fun q => absurd (hinj 4 0 (by decide) (by decide) q) (by decide))).trans g4
        have f_21 : w_15 (ad 5) = some (eI g 30 fP) := by rw [ew_15]; exact (gu_n (fun q => absurd (hinj 5 0 (by decide) (by decide) q) (by decide))).trans g5
        have f_22 : w_15 (ad 6) = some (eI g 1200 (upd fT be (nI tt))) := by rw [ew_15]; exact (gu_n (fun q => absurd (hinj 6 0 (by decide) (by decide) q) (by decide))).trans g6
        have f_23 : w_15 (ad 7) = some (eI g 38400 (va_cpy fr fY (32 * fm) (32 * be) 32)) := by rw [ew_15]; exact (gu_n (fun q => absurd (hinj 7 0 (by decide) (by decide) q) (by decide))).trans g7
        have f_24 : w_15 (ad 8) = some (eI g 1200 fN) := by rw [ew_15]; exact (gu_n (fun q => absurd (hinj 8 0 (by decide) (by decide) q) (by decide))).trans g8
        have f_25 : w_15 (ad 9) = some (eL g 1200 fS) := by rw [ew_15]; exact (gu_n (fun q => absurd (hinj 9 0 (by decide) (by decide) q) (by decide))).trans g9
        have f_26 : w_15 (ad 10) = some (eI g 4 fKn) := by rw [ew_15]; exact (gu_n (fun q => absurd (hinj 10 0 (by decide) (by decide) q) (by decide))).trans g10
        have f_27 : w_15 (ad 11) = some (eL g 4 fK) := by rw [ew_15]; exact (gu_n (fun q => absurd (hinj 11 0 (by decide) (by decide) q) (by decide))).trans g11
        have f_28 : w_15 (ad 12) = some (eI g 32 fH) := by rw [ew_15]; exact (gu_n (fun q => absurd (hinj 12 0 (by decide) (by decide) q) (by decide))).trans g12
        exact gr_v C h (⟨⟨hinj, f_16, f_17, f_18, f_19, f_20, f_21, f_22, f_23, f_24, f_25, f_26, f_27, f_28⟩, by rw [ew_15, gu_n hr0]; exact hro2⟩) (Nat.le_of_ble_eq_true rfl) (Nat.le_of_ble_eq_true rfl) dX3_queue_81
      · skip
        have c1 : ¬ (32 ≤ i) := fun q => c1 ((nI_leI (by omega) (by omega)).mpr q)
        refine lv_aload_n hx hb dX3_queue_20 rfl (lv_at hl 0 rfl) ?_
        refine gx_get C h g0 (Cn := RX3) (T := TX3) (N := 22) rfl in_X3 10 (by decide) q742 rfl rfl dX3_queue_21 ?_
        refine lv_bipush (v := nI 32) hx hb dX3_queue_24 (by decide) ?_
        refine lv_aload_n hx hb dX3_queue_26 rfl (lv_at hl 0 rfl) ?_
        refine gx_get C h g0 (Cn := RX3) (T := TX3) (N := 22) rfl in_X3 12 (by decide) q744 rfl rfl dX3_queue_27 ?_
        refine gn_imul hx hb dX3_queue_30 ?_
        refine lv_iload hx hb dX3_queue_31 (lv_at hl 4 rfl) ?_
        refine gn_iadd hx hb dX3_queue_33 ?_
        refine lv_aload_n hx hb dX3_queue_34 rfl (lv_at hl 1 rfl) ?_
        refine lv_bipush (v := nI 32) hx hb dX3_queue_35 (by decide) ?_
        refine lv_iload_n hx hb dX3_queue_37 rfl (lv_at hl 2 rfl) ?_
        refine gn_imul hx hb dX3_queue_38 ?_
        refine lv_iload hx hb dX3_queue_39 (lv_at hl 4 rfl) ?_
        refine gn_iadd hx hb dX3_queue_41 ?_
        refine gx_iald C h hro2 (32 * fm + i) rfl (by omega) dX3_queue_42 ?_
        refine gx_iast C h g7 ((32 * be) + i) (rfl) (by omega) dX3_queue_43 (fun H locs h => ?_)
        obtain ⟨w_29, ew_29⟩ : ∃ z : GW, z = gu w1 (ad 7) (eI g 38400 (upd (va_cpy fr fY (32 * fm) (32 * be) i) ((32 * be) + i) ((fr (32 * fm + i))))) := ⟨_, rfl⟩
        have h : SH g w_29 v s H locs := by rw [ew_29]; exact h
        have f_30 : w_29 (ad 0) = some (ob 4 [.int (nI cn), .int (bI ru), .int (bI fu), .ref (ad 1), .ref (ad 2), .ref (ad 3), .ref (ad 4), .ref (ad 5), .int (bI ch), .ref (ad 6), .ref (ad 7), .int (nI fi), .int (nI be), .ref (ad 8), .ref (ad 9), .int (nI 0), .int (nI ne), .ref (ad 10), .ref (ad 11), .int (nI ke), .int (bI th), .ref (ad 12)]) := by rw [ew_29]; exact (gu_n (fun q => absurd (hinj 0 7 (by decide) (by decide) q) (by decide))).trans g0
        have f_31 : w_29 (ad 1) = some (eI g 2048 fD) := by rw [ew_29]; exact (gu_n (fun q => absurd (hinj 1 7 (by decide) (by decide) q) (by decide))).trans g1
        have f_32 : w_29 (ad 2) = some (eI g 2048 (va_cpy fr fL (32 * fm) (32 * tt) i)) := by rw [ew_29]; exact (gu_n (fun q => absurd (hinj 2 7 (by decide) (by decide) q) (by decide))).trans g2
        have f_33 : w_29 (ad 3) = some (eI g 2048 fO) := by rw [ew_29]; exact (gu_n (fun q => absurd (hinj 3 7 (by decide) (by decide) q) (by decide))).trans g3
        have f_34 : w_29 (ad 4) = some (eZ g 64 z) := by rw [ew_29]; exact (gu_n (fun q => absurd (hinj 4 7 (by decide) (by decide) q) (by decide))).trans g4
        have f_35 : w_29 (ad 5) = some (eI g 30 fP) := by rw [ew_29]; exact (gu_n (fun q => absurd (hinj 5 7 (by decide) (by decide) q) (by decide))).trans g5
        have f_36 : w_29 (ad 6) = some (eI g 1200 (upd fT be (nI tt))) := by rw [ew_29]; exact (gu_n (fun q => absurd (hinj 6 7 (by decide) (by decide) q) (by decide))).trans g6
        have f_37 : w_29 (ad 7) = some (eI g 38400 (upd (va_cpy fr fY (32 * fm) (32 * be) i) ((32 * be) + i) ((fr (32 * fm + i))))) := by rw [ew_29]; exact gu_s
        have f_38 : w_29 (ad 8) = some (eI g 1200 fN) := by rw [ew_29]; exact (gu_n (fun q => absurd (hinj 8 7 (by decide) (by decide) q) (by decide))).trans g8
        have f_39 : w_29 (ad 9) = some (eL g 1200 fS) := by rw [ew_29]; exact (gu_n (fun q => absurd (hinj 9 7 (by decide) (by decide) q) (by decide))).trans g9
        have f_40 : w_29 (ad 10) = some (eI g 4 fKn) := by rw [ew_29]; exact (gu_n (fun q => absurd (hinj 10 7 (by decide) (by decide) q) (by decide))).trans g10
        have f_41 : w_29 (ad 11) = some (eL g 4 fK) := by rw [ew_29]; exact (gu_n (fun q => absurd (hinj 11 7 (by decide) (by decide) q) (by decide))).trans g11
        have f_42 : w_29 (ad 12) = some (eI g 32 fH) := by rw [ew_29]; exact (gu_n (fun q => absurd (hinj 12 7 (by decide) (by decide) q) (by decide))).trans g12
        have hro_43 : w_29 ro = some (eI g nr fr) := by rw [ew_29, gu_n hr7]; exact hro2
        have f_44 : w_29 (ad 7) = some (eI g 38400 (va_cpy fr fY (32 * fm) (32 * be) (i + 1))) := by rw [← cpy_s]; exact f_37
        refine lv_aload_n hx hb dX3_queue_44 rfl (lv_at hl 0 rfl) ?_
        refine gx_get C h f_30 (Cn := RX3) (T := TX3) (N := 22) rfl in_X3 4 (by decide) q736 rfl rfl dX3_queue_45 ?_
        refine lv_bipush (v := nI 32) hx hb dX3_queue_48 (by decide) ?_
        refine lv_iload_n hx hb dX3_queue_50 rfl (lv_at hl 3 rfl) ?_
        refine gn_imul hx hb dX3_queue_51 ?_
        refine lv_iload hx hb dX3_queue_52 (lv_at hl 4 rfl) ?_
        refine gn_iadd hx hb dX3_queue_54 ?_
        refine lv_aload_n hx hb dX3_queue_55 rfl (lv_at hl 1 rfl) ?_
        refine lv_bipush (v := nI 32) hx hb dX3_queue_56 (by decide) ?_
        refine lv_iload_n hx hb dX3_queue_58 rfl (lv_at hl 2 rfl) ?_
        refine gn_imul hx hb dX3_queue_59 ?_
        refine lv_iload hx hb dX3_queue_60 (lv_at hl 4 rfl) ?_
        refine gn_iadd hx hb dX3_queue_62 ?_
        refine gx_iald C h hro_43 (32 * fm + i) rfl (by omega) dX3_queue_63 ?_
        refine gx_iast C h f_32 ((32 * tt) + i) (rfl) (by omega) dX3_queue_64 (fun H locs h => ?_)
        obtain ⟨w_45, ew_45⟩ : ∃ z : GW, z = gu w_29 (ad 2) (eI g 2048 (upd (va_cpy fr fL (32 * fm) (32 * tt) i) ((32 * tt) + i) ((fr (32 * fm + i))))) := ⟨_, rfl⟩
        have h : SH g w_45 v s H locs := by rw [ew_45]; exact h
        have f_46 : w_45 (ad 0) = some (ob 4 [.int (nI cn), .int (bI ru), .int (bI fu), .ref (ad 1), .ref (ad 2), .ref (ad 3), .ref (ad 4), .ref (ad 5), .int (bI ch), .ref (ad 6), .ref (ad 7), .int (nI fi), .int (nI be), .ref (ad 8), .ref (ad 9), .int (nI 0), .int (nI ne), .ref (ad 10), .ref (ad 11), .int (nI ke), .int (bI th), .ref (ad 12)]) := by rw [ew_45]; exact (gu_n (fun q => absurd (hinj 0 2 (by decide) (by decide) q) (by decide))).trans f_30
        have f_47 : w_45 (ad 1) = some (eI g 2048 fD) := by rw [ew_45]; exact (gu_n (fun q => absurd (hinj 1 2 (by decide) (by decide) q) (by decide))).trans f_31
        have f_48 : w_45 (ad 2) = some (eI g 2048 (upd (va_cpy fr fL (32 * fm) (32 * tt) i) ((32 * tt) + i) ((fr (32 * fm + i))))) := by rw [ew_45]; exact gu_s
        have f_49 : w_45 (ad 3) = some (eI g 2048 fO) := by rw [ew_45]; exact (gu_n (fun q => absurd (hinj 3 2 (by decide) (by decide) q) (by decide))).trans f_33
        have f_50 : w_45 (ad 4) = some (eZ g 64 z) := by rw [ew_45]; exact (gu_n (fun q => absurd (hinj 4 2 (by decide) (by decide) q) (by decide))).trans f_34
        have f_51 : w_45 (ad 5) = some (eI g 30 fP) := by rw [ew_45]; exact (gu_n (fun q => absurd (hinj 5 2 (by decide) (by decide) q) (by decide))).trans f_35
        have f_52 : w_45 (ad 6) = some (eI g 1200 (upd fT be (nI tt))) := by rw [ew_45]; exact (gu_n (fun q => absurd (hinj 6 2 (by decide) (by decide) q) (by decide))).trans f_36
        have f_53 : w_45 (ad 7) = some (eI g 38400 (va_cpy fr fY (32 * fm) (32 * be) (i + 1))) := by rw [ew_45]; exact (gu_n (fun q => absurd (hinj 7 2 (by decide) (by decide) q) (by decide))).trans f_44
        have f_54 : w_45 (ad 8) = some (eI g 1200 fN) := by rw [ew_45]; exact (gu_n (fun q => absurd (hinj 8 2 (by decide) (by decide) q) (by decide))).trans f_38
        have f_55 : w_45 (ad 9) = some (eL g 1200 fS) := by rw [ew_45]; exact (gu_n (fun q => absurd (hinj 9 2 (by decide) (by decide) q) (by decide))).trans f_39
        have f_56 : w_45 (ad 10) = some (eI g 4 fKn) := by rw [ew_45]; exact (gu_n (fun q => absurd (hinj 10 2 (by decide) (by decide) q) (by decide))).trans f_40
        have f_57 : w_45 (ad 11) = some (eL g 4 fK) := by rw [ew_45]; exact (gu_n (fun q => absurd (hinj 11 2 (by decide) (by decide) q) (by decide))).trans f_41
        have f_58 : w_45 (ad 12) = some (eI g 32 fH) := by rw [ew_45]; exact (gu_n (fun q => absurd (hinj 12 2 (by decide) (by decide) q) (by decide))).trans f_42
        have hro_59 : w_45 ro = some (eI g nr fr) := by rw [ew_45, gu_n hr2]; exact hro_43
        have f_60 : w_45 (ad 2) = some (eI g 2048 (va_cpy fr fL (32 * fm) (32 * tt) (i + 1))) := by rw [← cpy_s]; exact f_48
        refine lv_iinc (v := nI (i + 1)) (lv' := [(4, .int (nI (i + 1))), (0, .ref (ad 0)), (1, .ref ro), (2, .int (nI fm)), (3, .int (nI tt))]) hx hb dX3_queue_65 hl (k := 4) rfl (gi_inc _ 1) (by decide) rfl (fun ls hl => ?_)
        refine lv_goto (tgt := 13) hx hb dX3_queue_68 (by decide) ?_
        have hM3 : MW g w_45 ad cn ru fu ch th fi be ne ke fD (va_cpy fr fL (32 * fm) (32 * tt) (i + 1)) fO z fP (upd fT be (nI tt)) (va_cpy fr fY (32 * fm) (32 * be) (i + 1)) fN fS fKn fK fH := ⟨hinj, f_46, f_47, f_60, f_49, f_50, f_51, f_52, f_53, f_54, f_55, f_56, f_57, f_58⟩
        exact ih (i + 1) _ _ _ _ (by omega) (by omega) hM3 hro_59  h (lv_sub hl [1, 2, 3, 4, 0] rfl)
  exact loop 33 0 _ _ _ _ (by omega) (by omega) (by rw [cpy_0, cpy_0]; exact hM2) hro1 h (lv_sub hl [1, 2, 3, 4, 0] rfl)
set_option maxHeartbeats 4000000 in
theorem m_X3_write (l : Launch) (g : GG) (w v : GW) (ad : Nat → Nat) (cn : Nat) (ru fu ch th : Bool) (fi be ne ke : Nat) (fD fL fO : Nat → Int32) (z : Nat → Bool) (fP fT fY fN : Nat → Int32) (fS : Nat → Int64) (fKn : Nat → Int32) (fK : Nat → Int64) (fH : Nat → Int32) (hM : MW g w ad cn ru fu ch th fi be ne ke fD fL fO z fP fT fY fN fS fKn fK fH) (n tt : Nat) (hn : n ≤ 32) (htt : tt < 64) (hT : fT fi = nI tt) (hfi : fi < 1200) : Met l yX3_write (ws_ yX3_write cX3_write 3 none) ({ frames := 1, cells := 0, slots := 0, locals := 60 } : Room) (gP g [.ref (ad 0), .int (nI n)] w v) (va_Qv (fun (w' : GW) => MW g w' ad cn ru fu ch th (fi + 1) be ne ke (va_cpy fY fD (32 * fi) (32 * tt) n) fL fO z fP fT fY fN fS fKn fK fH) (gB g v) (gA g)) 0 0 (gA g) := by
  refine gm_of (by decide) (Nat.le_of_ble_eq_true rfl) ?_
  intro p e s m below meth c ls C hnm h hl
  have C : Cx g p s m ([.ref (ad 0), .int (nI n)] : List Value).toArray meth c cX3_write 3 RX3 none := C
  obtain ⟨hx, hb, hml, hown, hts, hr, hlk, hG⟩ := id C
  have hl : lv_has ls 3 [(0, .ref (ad 0)), (1, .int (nI n))] := hl
  obtain ⟨hinj, k0, k1, k2, k3, k4, k5, k6, k7, k8, k9, k10, k11, k12⟩ := id hM
  refine lv_iconst (v := nI 0) hx hb dX3_write_0 (by decide) ?_
  refine lv_istore_n (lv' := [(2, .int (nI 0)), (0, .ref (ad 0)), (1, .int (nI n))]) hx hb dX3_write_1 rfl hl (by decide) rfl (fun ls hl => ?_)
  have loop : ∀ (n_ : Nat) (i : Nat) (w1 : GW) (H : Heap) (locs : List Loc) (ls : Array Slot), n - i < n_ → (i ≤ n) → (MW g w1 ad cn ru fu ch th fi be ne ke (va_cpy fY fD (32 * fi) (32 * tt) i) fL fO z fP fT fY fN fS fKn fK fH) → SH g w1 v s H locs → lv_has ls 3 [(0, .ref (ad 0)), (1, .int (nI n)), (2, .int (nI i))] → W p l e ({ frames := 1, cells := 0, slots := 0, locals := 60 } : Room) s m ([.ref (ad 0), .int (nI n)] : List Value).toArray below meth c H locs 0 0 (MQ below (va_Qv (fun (w' : GW) => MW g w' ad cn ru fu ch th (fi + 1) be ne ke (va_cpy fY fD (32 * fi) (32 * tt) n) fL fO z fP fT fY fN fS fKn fK fH) (gB g v) (gA g)) ([.ref (ad 0), .int (nI n)] : List Value).toArray s 0 0 (gA g)) (F0 m 2 ls []) := by
    intro n_
    induction n_ with
    | zero => intros; exact absurd ‹_ < 0› (Nat.not_lt_zero _)
    | succ n_ ih =>
      intro i w1 H locs ls hf hi hM1  h hl
      obtain ⟨hinj, g0, g1, g2, g3, g4, g5, g6, g7, g8, g9, g10, g11, g12⟩ := id hM1
      refine lv_iload_n hx hb dX3_write_2 rfl (lv_at hl 2 rfl) ?_
      refine lv_iload_n hx hb dX3_write_3 rfl (lv_at hl 1 rfl) ?_
      refine lv_icmp_ge (tgt := 46) hx hb dX3_write_4 (by decide) (fun c1 => ?_) (fun c1 => ?_)
      · skip
        have c1 : n ≤ i := (nI_leI (by omega) (by omega)).mp c1
        have hie : i = n := by omega
        refine lv_aload_n hx hb dX3_write_46 rfl (lv_at hl 0 rfl) ?_
        refine lv_dup hx hb dX3_write_47 rfl ?_
        refine gx_get C h g0 (Cn := RX3) (T := TX3) (N := 22) rfl in_X3 11 (by decide) q743 rfl rfl dX3_write_48 ?_
        refine lv_iconst (v := nI 1) hx hb dX3_write_51 (by decide) ?_
        refine gn_iadd hx hb dX3_write_52 ?_
        refine gx_put C h g0 (Cn := RX3) (T := TX3) (N := 22) (x := .int (nI (fi + 1))) rfl in_X3 tyX3 tyX3_ok nmX3 11 (by decide) q743 rfl rfl rfl rfl (Nat.le_of_ble_eq_true rfl) dX3_write_53 (fun H locs h => ?_)
        obtain ⟨w_1, ew_1⟩ : ∃ z : GW, z = gu w1 (ad 0) (ob 4 [.int (nI cn), .int (bI ru), .int (bI fu), .ref (ad 1), .ref (ad 2), .ref (ad 3), .ref (ad 4), .ref (ad 5), .int (bI ch), .ref (ad 6), .ref (ad 7), .int (nI (fi + 1)), .int (nI be), .ref (ad 8), .ref (ad 9), .int (nI 0), .int (nI ne), .ref (ad 10), .ref (ad 11), .int (nI ke), .int (bI th), .ref (ad 12)]) := ⟨_, rfl⟩
        have h : SH g w_1 v s H locs := by rw [ew_1]; exact h
        have f_2 : w_1 (ad 0) = some (ob 4 [.int (nI cn), .int (bI ru), .int (bI fu), .ref (ad 1), .ref (ad 2), .ref (ad 3), .ref (ad 4), .ref (ad 5), .int (bI ch), .ref (ad 6), .ref (ad 7), .int (nI (fi + 1)), .int (nI be), .ref (ad 8), .ref (ad 9), .int (nI 0), .int (nI ne), .ref (ad 10), .ref (ad 11), .int (nI ke), .int (bI th), .ref (ad 12)]) := by rw [ew_1]; exact gu_s
        have f_3 : w_1 (ad 1) = some (eI g 2048 (va_cpy fY fD (32 * fi) (32 * tt) i)) := by rw [ew_1]; exact (gu_n (fun q => absurd (hinj 1 0 (by decide) (by decide) q) (by decide))).trans g1
        have f_4 : w_1 (ad 2) = some (eI g 2048 fL) := by rw [ew_1]; exact (gu_n (fun q => absurd (hinj 2 0 (by decide) (by decide) q) (by decide))).trans g2
        have f_5 : w_1 (ad 3) = some (eI g 2048 fO) := by rw [ew_1]; exact (gu_n (fun q => absurd (hinj 3 0 (by decide) (by decide) q) (by decide))).trans g3
        have f_6 : w_1 (ad 4) = some (eZ g 64 z) := by rw [ew_1]; exact (gu_n (fun q => absurd (hinj 4 0 (by decide) (by decide) q) (by decide))).trans g4
        have f_7 : w_1 (ad 5) = some (eI g 30 fP) := by rw [ew_1]; exact (gu_n (fun q => absurd (hinj 5 0 (by decide) (by decide) q) (by decide))).trans g5
        have f_8 : w_1 (ad 6) = some (eI g 1200 fT) := by rw [ew_1]; exact (gu_n (fun q => absurd (hinj 6 0 (by decide) (by decide) q) (by decide))).trans g6
        have f_9 : w_1 (ad 7) = some (eI g 38400 fY) := by rw [ew_1]; exact (gu_n (fun q => absurd (hinj 7 0 (by decide) (by decide) q) (by decide))).trans g7
        have f_10 : w_1 (ad 8) = some (eI g 1200 fN) := by rw [ew_1]; exact (gu_n (fun q => absurd (hinj 8 0 (by decide) (by decide) q) (by decide))).trans g8
        have f_11 : w_1 (ad 9) = some (eL g 1200 fS) := by rw [ew_1]; exact (gu_n (fun q => absurd (hinj 9 0 (by decide) (by decide) q) (by decide))).trans g9
        have f_12 : w_1 (ad 10) = some (eI g 4 fKn) := by rw [ew_1]; exact (gu_n (fun q => absurd (hinj 10 0 (by decide) (by decide) q) (by decide))).trans g10
        have f_13 : w_1 (ad 11) = some (eL g 4 fK) := by rw [ew_1]; exact (gu_n (fun q => absurd (hinj 11 0 (by decide) (by decide) q) (by decide))).trans g11
        have f_14 : w_1 (ad 12) = some (eI g 32 fH) := by rw [ew_1]; exact (gu_n (fun q => absurd (hinj 12 0 (by decide) (by decide) q) (by decide))).trans g12
        exact gr_v C h (by rw [← hie]; exact ⟨hinj, f_2, f_3, f_4, f_5, f_6, f_7, f_8, f_9, f_10, f_11, f_12, f_13, f_14⟩) (Nat.le_of_ble_eq_true rfl) (Nat.le_of_ble_eq_true rfl) dX3_write_56
      · skip
        have c1 : ¬ (n ≤ i) := fun q => c1 ((nI_leI (by omega) (by omega)).mpr q)
        refine lv_aload_n hx hb dX3_write_7 rfl (lv_at hl 0 rfl) ?_
        refine gx_get C h g0 (Cn := RX3) (T := TX3) (N := 22) rfl in_X3 3 (by decide) q735 rfl rfl dX3_write_8 ?_
        refine lv_bipush (v := nI 32) hx hb dX3_write_11 (by decide) ?_
        refine lv_aload_n hx hb dX3_write_13 rfl (lv_at hl 0 rfl) ?_
        refine gx_get C h g0 (Cn := RX3) (T := TX3) (N := 22) rfl in_X3 9 (by decide) q741 rfl rfl dX3_write_14 ?_
        refine lv_aload_n hx hb dX3_write_17 rfl (lv_at hl 0 rfl) ?_
        refine gx_get C h g0 (Cn := RX3) (T := TX3) (N := 22) rfl in_X3 11 (by decide) q743 rfl rfl dX3_write_18 ?_
        refine gx_iald C h g6 fi (rfl) (by omega) dX3_write_21 ?_
        rw [hT]
        refine gn_imul hx hb dX3_write_22 ?_
        refine lv_iload_n hx hb dX3_write_23 rfl (lv_at hl 2 rfl) ?_
        refine gn_iadd hx hb dX3_write_24 ?_
        refine lv_aload_n hx hb dX3_write_25 rfl (lv_at hl 0 rfl) ?_
        refine gx_get C h g0 (Cn := RX3) (T := TX3) (N := 22) rfl in_X3 10 (by decide) q742 rfl rfl dX3_write_26 ?_
        refine lv_bipush (v := nI 32) hx hb dX3_write_29 (by decide) ?_
        refine lv_aload_n hx hb dX3_write_31 rfl (lv_at hl 0 rfl) ?_
        refine gx_get C h g0 (Cn := RX3) (T := TX3) (N := 22) rfl in_X3 11 (by decide) q743 rfl rfl dX3_write_32 ?_
        refine gn_imul hx hb dX3_write_35 ?_
        refine lv_iload_n hx hb dX3_write_36 rfl (lv_at hl 2 rfl) ?_
        refine gn_iadd hx hb dX3_write_37 ?_
        refine gx_iald C h g7 ((32 * fi) + i) (rfl) (by omega) dX3_write_38 ?_
        refine gx_iast C h g1 ((32 * tt) + i) (rfl) (by omega) dX3_write_39 (fun H locs h => ?_)
        obtain ⟨w_15, ew_15⟩ : ∃ z : GW, z = gu w1 (ad 1) (eI g 2048 (upd (va_cpy fY fD (32 * fi) (32 * tt) i) ((32 * tt) + i) ((fY ((32 * fi) + i))))) := ⟨_, rfl⟩
        have h : SH g w_15 v s H locs := by rw [ew_15]; exact h
        have f_16 : w_15 (ad 0) = some (ob 4 [.int (nI cn), .int (bI ru), .int (bI fu), .ref (ad 1), .ref (ad 2), .ref (ad 3), .ref (ad 4), .ref (ad 5), .int (bI ch), .ref (ad 6), .ref (ad 7), .int (nI fi), .int (nI be), .ref (ad 8), .ref (ad 9), .int (nI 0), .int (nI ne), .ref (ad 10), .ref (ad 11), .int (nI ke), .int (bI th), .ref (ad 12)]) := by rw [ew_15]; exact (gu_n (fun q => absurd (hinj 0 1 (by decide) (by decide) q) (by decide))).trans g0
        have f_17 : w_15 (ad 1) = some (eI g 2048 (upd (va_cpy fY fD (32 * fi) (32 * tt) i) ((32 * tt) + i) ((fY ((32 * fi) + i))))) := by rw [ew_15]; exact gu_s
        have f_18 : w_15 (ad 2) = some (eI g 2048 fL) := by rw [ew_15]; exact (gu_n (fun q => absurd (hinj 2 1 (by decide) (by decide) q) (by decide))).trans g2
        have f_19 : w_15 (ad 3) = some (eI g 2048 fO) := by rw [ew_15]; exact (gu_n (fun q => absurd (hinj 3 1 (by decide) (by decide) q) (by decide))).trans g3
        have f_20 : w_15 (ad 4) = some (eZ g 64 z) := by rw [ew_15]; exact (gu_n (fun q => absurd (hinj 4 1 (by decide) (by decide) q) (by decide))).trans g4
        have f_21 : w_15 (ad 5) = some (eI g 30 fP) := by rw [ew_15]; exact (gu_n (fun q => absurd (hinj 5 1 (by decide) (by decide) q) (by decide))).trans g5
        have f_22 : w_15 (ad 6) = some (eI g 1200 fT) := by rw [ew_15]; exact (gu_n (fun q => absurd (hinj 6 1 (by decide) (by decide) q) (by decide))).trans g6
        have f_23 : w_15 (ad 7) = some (eI g 38400 fY) := by rw [ew_15]; exact (gu_n (fun q => absurd (hinj 7 1 (by decide) (by decide) q) (by decide))).trans g7
        have f_24 : w_15 (ad 8) = some (eI g 1200 fN) := by rw [ew_15]; exact (gu_n (fun q => absurd (hinj 8 1 (by decide) (by decide) q) (by decide))).trans g8
        have f_25 : w_15 (ad 9) = some (eL g 1200 fS) := by rw [ew_15]; exact (gu_n (fun q => absurd (hinj 9 1 (by decide) (by decide) q) (by decide))).trans g9
        have f_26 : w_15 (ad 10) = some (eI g 4 fKn) := by rw [ew_15]; exact (gu_n (fun q => absurd (hinj 10 1 (by decide) (by decide) q) (by decide))).trans g10
        have f_27 : w_15 (ad 11) = some (eL g 4 fK) := by rw [ew_15]; exact (gu_n (fun q => absurd (hinj 11 1 (by decide) (by decide) q) (by decide))).trans g11
        have f_28 : w_15 (ad 12) = some (eI g 32 fH) := by rw [ew_15]; exact (gu_n (fun q => absurd (hinj 12 1 (by decide) (by decide) q) (by decide))).trans g12
        have f_29 : w_15 (ad 1) = some (eI g 2048 (va_cpy fY fD (32 * fi) (32 * tt) (i + 1))) := by rw [← cpy_s]; exact f_17
        refine lv_iinc (v := nI (i + 1)) (lv' := [(2, .int (nI (i + 1))), (0, .ref (ad 0)), (1, .int (nI n))]) hx hb dX3_write_40 hl (k := 2) rfl (gi_inc _ 1) (by decide) rfl (fun ls hl => ?_)
        refine lv_goto (tgt := 2) hx hb dX3_write_43 (by decide) ?_
        have hM3 : MW g w_15 ad cn ru fu ch th fi be ne ke (va_cpy fY fD (32 * fi) (32 * tt) (i + 1)) fL fO z fP fT fY fN fS fKn fK fH := ⟨hinj, f_16, f_29, f_18, f_19, f_20, f_21, f_22, f_23, f_24, f_25, f_26, f_27, f_28⟩
        exact ih (i + 1) _ _ _ _ (by omega) (by omega) hM3  h (lv_sub hl [1, 2, 0] rfl)
  exact loop (n + 1) 0 _ _ _ _ (by omega) (by omega) (by rw [cpy_0]; exact hM) h (lv_sub hl [1, 2, 0] rfl)
set_option maxHeartbeats 4000000 in
theorem m_X3_settle (l : Launch) (g : GG) (w v : GW) (ad : Nat → Nat) (cn : Nat) (ru fu ch th : Bool) (fi be ne ke : Nat) (fD fL fO : Nat → Int32) (z : Nat → Bool) (fP fT fY fN : Nat → Int32) (fS : Nat → Int64) (fKn : Nat → Int32) (fK : Nat → Int64) (fH : Nat → Int32) (hM : MW g w ad cn ru fu ch th fi be ne ke fD fL fO z fP fT fY fN fS fKn fK fH) (hfb : fi = be) (hbe : be ≤ 1200) (hne : ne < 1200) : Met l yX3_settle (ws_ yX3_settle cX3_settle 1 none) ({ frames := 1, cells := 0, slots := 0, locals := 60 } : Room) (gP g [.ref (ad 0)] w v) (va_Qv (fun (w' : GW) => MW g w' ad cn ru fu ch th 0 0 0 ke fD fL fO z fP fT fY (upd fN 0 (fN ne)) (vp_updL fS 0 (fS ne)) fKn fK fH) (gB g v) (gA g)) 0 0 (gA g) := by
  refine gm_of (by decide) (Nat.le_of_ble_eq_true rfl) ?_
  intro p e s m below meth c ls C hnm h hl
  have C : Cx g p s m ([.ref (ad 0)] : List Value).toArray meth c cX3_settle 1 RX3 none := C
  obtain ⟨hx, hb, hml, hown, hts, hr, hlk, hG⟩ := id C
  have hl : lv_has ls 1 [(0, .ref (ad 0))] := hl
  obtain ⟨hinj, k0, k1, k2, k3, k4, k5, k6, k7, k8, k9, k10, k11, k12⟩ := id hM
  refine lv_aload_n hx hb dX3_settle_0 rfl (lv_at hl 0 rfl) ?_
  refine gx_get C h k0 (Cn := RX3) (T := TX3) (N := 22) rfl in_X3 11 (by decide) q743 rfl rfl dX3_settle_1 ?_
  refine lv_aload_n hx hb dX3_settle_4 rfl (lv_at hl 0 rfl) ?_
  refine gx_get C h k0 (Cn := RX3) (T := TX3) (N := 22) rfl in_X3 12 (by decide) q744 rfl rfl dX3_settle_5 ?_
  refine lv_icmp_ne (tgt := 21) hx hb dX3_settle_8 (by decide) (fun c1 => ?_) (fun c1 => ?_)
  · skip
    have c1 : ¬ (fi = be) := fun q => c1 ((nI_eq (by omega) (by omega)).mpr q)
    exact absurd hfb c1
  · skip
    have c1 : fi = be := (nI_eq (by omega) (by omega)).mp c1
    refine lv_aload_n hx hb dX3_settle_11 rfl (lv_at hl 0 rfl) ?_
    refine lv_iconst (v := nI 0) hx hb dX3_settle_12 (by decide) ?_
    refine gx_put C h k0 (Cn := RX3) (T := TX3) (N := 22) (x := .int (nI 0)) rfl in_X3 tyX3 tyX3_ok nmX3 11 (by decide) q743 rfl rfl rfl rfl (Nat.le_of_ble_eq_true rfl) dX3_settle_13 (fun H locs h => ?_)
    obtain ⟨w_1, ew_1⟩ : ∃ z : GW, z = gu w (ad 0) (ob 4 [.int (nI cn), .int (bI ru), .int (bI fu), .ref (ad 1), .ref (ad 2), .ref (ad 3), .ref (ad 4), .ref (ad 5), .int (bI ch), .ref (ad 6), .ref (ad 7), .int (nI 0), .int (nI be), .ref (ad 8), .ref (ad 9), .int (nI 0), .int (nI ne), .ref (ad 10), .ref (ad 11), .int (nI ke), .int (bI th), .ref (ad 12)]) := ⟨_, rfl⟩
    have h : SH g w_1 v s H locs := by rw [ew_1]; exact h
    have f_2 : w_1 (ad 0) = some (ob 4 [.int (nI cn), .int (bI ru), .int (bI fu), .ref (ad 1), .ref (ad 2), .ref (ad 3), .ref (ad 4), .ref (ad 5), .int (bI ch), .ref (ad 6), .ref (ad 7), .int (nI 0), .int (nI be), .ref (ad 8), .ref (ad 9), .int (nI 0), .int (nI ne), .ref (ad 10), .ref (ad 11), .int (nI ke), .int (bI th), .ref (ad 12)]) := by rw [ew_1]; exact gu_s
    have f_3 : w_1 (ad 1) = some (eI g 2048 fD) := by rw [ew_1]; exact (gu_n (fun q => absurd (hinj 1 0 (by decide) (by decide) q) (by decide))).trans k1
    have f_4 : w_1 (ad 2) = some (eI g 2048 fL) := by rw [ew_1]; exact (gu_n (fun q => absurd (hinj 2 0 (by decide) (by decide) q) (by decide))).trans k2
    have f_5 : w_1 (ad 3) = some (eI g 2048 fO) := by rw [ew_1]; exact (gu_n (fun q => absurd (hinj 3 0 (by decide) (by decide) q) (by decide))).trans k3
    have f_6 : w_1 (ad 4) = some (eZ g 64 z) := by rw [ew_1]; exact (gu_n (fun q => absurd (hinj 4 0 (by decide) (by decide) q) (by decide))).trans k4
    have f_7 : w_1 (ad 5) = some (eI g 30 fP) := by rw [ew_1]; exact (gu_n (fun q => absurd (hinj 5 0 (by decide) (by decide) q) (by decide))).trans k5
    have f_8 : w_1 (ad 6) = some (eI g 1200 fT) := by rw [ew_1]; exact (gu_n (fun q => absurd (hinj 6 0 (by decide) (by decide) q) (by decide))).trans k6
    have f_9 : w_1 (ad 7) = some (eI g 38400 fY) := by rw [ew_1]; exact (gu_n (fun q => absurd (hinj 7 0 (by decide) (by decide) q) (by decide))).trans k7
    have f_10 : w_1 (ad 8) = some (eI g 1200 fN) := by rw [ew_1]; exact (gu_n (fun q => absurd (hinj 8 0 (by decide) (by decide) q) (by decide))).trans k8
    have f_11 : w_1 (ad 9) = some (eL g 1200 fS) := by rw [ew_1]; exact (gu_n (fun q => absurd (hinj 9 0 (by decide) (by decide) q) (by decide))).trans k9
    have f_12 : w_1 (ad 10) = some (eI g 4 fKn) := by rw [ew_1]; exact (gu_n (fun q => absurd (hinj 10 0 (by decide) (by decide) q) (by decide))).trans k10
    have f_13 : w_1 (ad 11) = some (eL g 4 fK) := by rw [ew_1]; exact (gu_n (fun q => absurd (hinj 11 0 (by decide) (by decide) q) (by decide))).trans k11
    have f_14 : w_1 (ad 12) = some (eI g 32 fH) := by rw [ew_1]; exact (gu_n (fun q => absurd (hinj 12 0 (by decide) (by decide) q) (by decide))).trans k12
    refine lv_aload_n hx hb dX3_settle_16 rfl (lv_at hl 0 rfl) ?_
    refine lv_iconst (v := nI 0) hx hb dX3_settle_17 (by decide) ?_
    refine gx_put C h f_2 (Cn := RX3) (T := TX3) (N := 22) (x := .int (nI 0)) rfl in_X3 tyX3 tyX3_ok nmX3 12 (by decide) q744 rfl rfl rfl rfl (Nat.le_of_ble_eq_true rfl) dX3_settle_18 (fun H locs h => ?_)
    obtain ⟨w_15, ew_15⟩ : ∃ z : GW, z = gu w_1 (ad 0) (ob 4 [.int (nI cn), .int (bI ru), .int (bI fu), .ref (ad 1), .ref (ad 2), .ref (ad 3), .ref (ad 4), .ref (ad 5), .int (bI ch), .ref (ad 6), .ref (ad 7), .int (nI 0), .int (nI 0), .ref (ad 8), .ref (ad 9), .int (nI 0), .int (nI ne), .ref (ad 10), .ref (ad 11), .int (nI ke), .int (bI th), .ref (ad 12)]) := ⟨_, rfl⟩
    have h : SH g w_15 v s H locs := by rw [ew_15]; exact h
    have f_16 : w_15 (ad 0) = some (ob 4 [.int (nI cn), .int (bI ru), .int (bI fu), .ref (ad 1), .ref (ad 2), .ref (ad 3), .ref (ad 4), .ref (ad 5), .int (bI ch), .ref (ad 6), .ref (ad 7), .int (nI 0), .int (nI 0), .ref (ad 8), .ref (ad 9), .int (nI 0), .int (nI ne), .ref (ad 10), .ref (ad 11), .int (nI ke), .int (bI th), .ref (ad 12)]) := by rw [ew_15]; exact gu_s
    have f_17 : w_15 (ad 1) = some (eI g 2048 fD) := by rw [ew_15]; exact (gu_n (fun q => absurd (hinj 1 0 (by decide) (by decide) q) (by decide))).trans f_3
    have f_18 : w_15 (ad 2) = some (eI g 2048 fL) := by rw [ew_15]; exact (gu_n (fun q => absurd (hinj 2 0 (by decide) (by decide) q) (by decide))).trans f_4
    have f_19 : w_15 (ad 3) = some (eI g 2048 fO) := by rw [ew_15]; exact (gu_n (fun q => absurd (hinj 3 0 (by decide) (by decide) q) (by decide))).trans f_5
    have f_20 : w_15 (ad 4) = some (eZ g 64 z) := by rw [ew_15]; exact (gu_n (fun q => absurd (hinj 4 0 (by decide) (by decide) q) (by decide))).trans f_6
    have f_21 : w_15 (ad 5) = some (eI g 30 fP) := by rw [ew_15]; exact (gu_n (fun q => absurd (hinj 5 0 (by decide) (by decide) q) (by decide))).trans f_7
    have f_22 : w_15 (ad 6) = some (eI g 1200 fT) := by rw [ew_15]; exact (gu_n (fun q => absurd (hinj 6 0 (by decide) (by decide) q) (by decide))).trans f_8
    have f_23 : w_15 (ad 7) = some (eI g 38400 fY) := by rw [ew_15]; exact (gu_n (fun q => absurd (hinj 7 0 (by decide) (by decide) q) (by decide))).trans f_9
    have f_24 : w_15 (ad 8) = some (eI g 1200 fN) := by rw [ew_15]; exact (gu_n (fun q => absurd (hinj 8 0 (by decide) (by decide) q) (by decide))).trans f_10
    have f_25 : w_15 (ad 9) = some (eL g 1200 fS) := by rw [ew_15]; exact (gu_n (fun q => absurd (hinj 9 0 (by decide) (by decide) q) (by decide))).trans f_11
    have f_26 : w_15 (ad 10) = some (eI g 4 fKn) := by rw [ew_15]; exact (gu_n (fun q => absurd (hinj 10 0 (by decide) (by decide) q) (by decide))).trans f_12
    have f_27 : w_15 (ad 11) = some (eL g 4 fK) := by rw [ew_15]; exact (gu_n (fun q => absurd (hinj 11 0 (by decide) (by decide) q) (by decide))).trans f_13
    have f_28 : w_15 (ad 12) = some (eI g 32 fH) := by rw [ew_15]; exact (gu_n (fun q => absurd (hinj 12 0 (by decide) (by decide) q) (by decide))).trans f_14
    refine lv_aload_n hx hb dX3_settle_21 rfl (lv_at hl 0 rfl) ?_
    refine gx_get C h f_16 (Cn := RX3) (T := TX3) (N := 22) rfl in_X3 13 (by decide) q745 rfl rfl dX3_settle_22 ?_
    refine lv_iconst (v := nI 0) hx hb dX3_settle_25 (by decide) ?_
    refine lv_aload_n hx hb dX3_settle_26 rfl (lv_at hl 0 rfl) ?_
    refine gx_get C h f_16 (Cn := RX3) (T := TX3) (N := 22) rfl in_X3 13 (by decide) q745 rfl rfl dX3_settle_27 ?_
    refine lv_aload_n hx hb dX3_settle_30 rfl (lv_at hl 0 rfl) ?_
    refine gx_get C h f_16 (Cn := RX3) (T := TX3) (N := 22) rfl in_X3 16 (by decide) q748 rfl rfl dX3_settle_31 ?_
    refine gx_iald C h f_24 ne (rfl) (by omega) dX3_settle_34 ?_
    refine gx_iast C h f_24 0 (rfl) (by omega) dX3_settle_35 (fun H locs h => ?_)
    obtain ⟨w_29, ew_29⟩ : ∃ z : GW, z = gu w_15 (ad 8) (eI g 1200 (upd fN 0 ((fN ne)))) := ⟨_, rfl⟩
    have h : SH g w_29 v s H locs := by rw [ew_29]; exact h
    have f_30 : w_29 (ad 0) = some (ob 4 [.int (nI cn), .int (bI ru), .int (bI fu), .ref (ad 1), .ref (ad 2), .ref (ad 3), .ref (ad 4), .ref (ad 5), .int (bI ch), .ref (ad 6), .ref (ad 7), .int (nI 0), .int (nI 0), .ref (ad 8), .ref (ad 9), .int (nI 0), .int (nI ne), .ref (ad 10), .ref (ad 11), .int (nI ke), .int (bI th), .ref (ad 12)]) := by rw [ew_29]; exact (gu_n (fun q => absurd (hinj 0 8 (by decide) (by decide) q) (by decide))).trans f_16
    have f_31 : w_29 (ad 1) = some (eI g 2048 fD) := by rw [ew_29]; exact (gu_n (fun q => absurd (hinj 1 8 (by decide) (by decide) q) (by decide))).trans f_17
    have f_32 : w_29 (ad 2) = some (eI g 2048 fL) := by rw [ew_29]; exact (gu_n (fun q => absurd (hinj 2 8 (by decide) (by decide) q) (by decide))).trans f_18
    have f_33 : w_29 (ad 3) = some (eI g 2048 fO) := by rw [ew_29]; exact (gu_n (fun q => absurd (hinj 3 8 (by decide) (by decide) q) (by decide))).trans f_19
    have f_34 : w_29 (ad 4) = some (eZ g 64 z) := by rw [ew_29]; exact (gu_n (fun q => absurd (hinj 4 8 (by decide) (by decide) q) (by decide))).trans f_20
    have f_35 : w_29 (ad 5) = some (eI g 30 fP) := by rw [ew_29]; exact (gu_n (fun q => absurd (hinj 5 8 (by decide) (by decide) q) (by decide))).trans f_21
    have f_36 : w_29 (ad 6) = some (eI g 1200 fT) := by rw [ew_29]; exact (gu_n (fun q => absurd (hinj 6 8 (by decide) (by decide) q) (by decide))).trans f_22
    have f_37 : w_29 (ad 7) = some (eI g 38400 fY) := by rw [ew_29]; exact (gu_n (fun q => absurd (hinj 7 8 (by decide) (by decide) q) (by decide))).trans f_23
    have f_38 : w_29 (ad 8) = some (eI g 1200 (upd fN 0 ((fN ne)))) := by rw [ew_29]; exact gu_s
    have f_39 : w_29 (ad 9) = some (eL g 1200 fS) := by rw [ew_29]; exact (gu_n (fun q => absurd (hinj 9 8 (by decide) (by decide) q) (by decide))).trans f_25
    have f_40 : w_29 (ad 10) = some (eI g 4 fKn) := by rw [ew_29]; exact (gu_n (fun q => absurd (hinj 10 8 (by decide) (by decide) q) (by decide))).trans f_26
    have f_41 : w_29 (ad 11) = some (eL g 4 fK) := by rw [ew_29]; exact (gu_n (fun q => absurd (hinj 11 8 (by decide) (by decide) q) (by decide))).trans f_27
    have f_42 : w_29 (ad 12) = some (eI g 32 fH) := by rw [ew_29]; exact (gu_n (fun q => absurd (hinj 12 8 (by decide) (by decide) q) (by decide))).trans f_28
    refine lv_aload_n hx hb dX3_settle_36 rfl (lv_at hl 0 rfl) ?_
    refine gx_get C h f_30 (Cn := RX3) (T := TX3) (N := 22) rfl in_X3 14 (by decide) q746 rfl rfl dX3_settle_37 ?_
    refine lv_iconst (v := nI 0) hx hb dX3_settle_40 (by decide) ?_
    refine lv_aload_n hx hb dX3_settle_41 rfl (lv_at hl 0 rfl) ?_
    refine gx_get C h f_30 (Cn := RX3) (T := TX3) (N := 22) rfl in_X3 14 (by decide) q746 rfl rfl dX3_settle_42 ?_
    refine lv_aload_n hx hb dX3_settle_45 rfl (lv_at hl 0 rfl) ?_
    refine gx_get C h f_30 (Cn := RX3) (T := TX3) (N := 22) rfl in_X3 16 (by decide) q748 rfl rfl dX3_settle_46 ?_
    refine gx_lald C h f_39 ne (rfl) (by omega) dX3_settle_49 ?_
    refine gx_last C h f_39 0 (rfl) (by omega) dX3_settle_50 (fun H locs h => ?_)
    obtain ⟨w_43, ew_43⟩ : ∃ z : GW, z = gu w_29 (ad 9) (eL g 1200 (vp_updL fS 0 (fS ne))) := ⟨_, rfl⟩
    have h : SH g w_43 v s H locs := by rw [ew_43]; exact h
    have f_44 : w_43 (ad 0) = some (ob 4 [.int (nI cn), .int (bI ru), .int (bI fu), .ref (ad 1), .ref (ad 2), .ref (ad 3), .ref (ad 4), .ref (ad 5), .int (bI ch), .ref (ad 6), .ref (ad 7), .int (nI 0), .int (nI 0), .ref (ad 8), .ref (ad 9), .int (nI 0), .int (nI ne), .ref (ad 10), .ref (ad 11), .int (nI ke), .int (bI th), .ref (ad 12)]) := by rw [ew_43]; exact (gu_n (fun q => absurd (hinj 0 9 (by decide) (by decide) q) (by decide))).trans f_30
    have f_45 : w_43 (ad 1) = some (eI g 2048 fD) := by rw [ew_43]; exact (gu_n (fun q => absurd (hinj 1 9 (by decide) (by decide) q) (by decide))).trans f_31
    have f_46 : w_43 (ad 2) = some (eI g 2048 fL) := by rw [ew_43]; exact (gu_n (fun q => absurd (hinj 2 9 (by decide) (by decide) q) (by decide))).trans f_32
    have f_47 : w_43 (ad 3) = some (eI g 2048 fO) := by rw [ew_43]; exact (gu_n (fun q => absurd (hinj 3 9 (by decide) (by decide) q) (by decide))).trans f_33
    have f_48 : w_43 (ad 4) = some (eZ g 64 z) := by rw [ew_43]; exact (gu_n (fun q => absurd (hinj 4 9 (by decide) (by decide) q) (by decide))).trans f_34
    have f_49 : w_43 (ad 5) = some (eI g 30 fP) := by rw [ew_43]; exact (gu_n (fun q => absurd (hinj 5 9 (by decide) (by decide) q) (by decide))).trans f_35
    have f_50 : w_43 (ad 6) = some (eI g 1200 fT) := by rw [ew_43]; exact (gu_n (fun q => absurd (hinj 6 9 (by decide) (by decide) q) (by decide))).trans f_36
    have f_51 : w_43 (ad 7) = some (eI g 38400 fY) := by rw [ew_43]; exact (gu_n (fun q => absurd (hinj 7 9 (by decide) (by decide) q) (by decide))).trans f_37
    have f_52 : w_43 (ad 8) = some (eI g 1200 (upd fN 0 ((fN ne)))) := by rw [ew_43]; exact (gu_n (fun q => absurd (hinj 8 9 (by decide) (by decide) q) (by decide))).trans f_38
    have f_53 : w_43 (ad 9) = some (eL g 1200 (vp_updL fS 0 (fS ne))) := by rw [ew_43]; exact gu_s
    have f_54 : w_43 (ad 10) = some (eI g 4 fKn) := by rw [ew_43]; exact (gu_n (fun q => absurd (hinj 10 9 (by decide) (by decide) q) (by decide))).trans f_40
    have f_55 : w_43 (ad 11) = some (eL g 4 fK) := by rw [ew_43]; exact (gu_n (fun q => absurd (hinj 11 9 (by decide) (by decide) q) (by decide))).trans f_41
    have f_56 : w_43 (ad 12) = some (eI g 32 fH) := by rw [ew_43]; exact (gu_n (fun q => absurd (hinj 12 9 (by decide) (by decide) q) (by decide))).trans f_42
    refine lv_aload_n hx hb dX3_settle_51 rfl (lv_at hl 0 rfl) ?_
    refine lv_iconst (v := nI 0) hx hb dX3_settle_52 (by decide) ?_
    refine gx_put C h f_44 (Cn := RX3) (T := TX3) (N := 22) (x := .int (nI 0)) rfl in_X3 tyX3 tyX3_ok nmX3 15 (by decide) q747 rfl rfl rfl rfl (Nat.le_of_ble_eq_true rfl) dX3_settle_53 (fun H locs h => ?_)
    obtain ⟨w_57, ew_57⟩ : ∃ z : GW, z = gu w_43 (ad 0) (ob 4 [.int (nI cn), .int (bI ru), .int (bI fu), .ref (ad 1), .ref (ad 2), .ref (ad 3), .ref (ad 4), .ref (ad 5), .int (bI ch), .ref (ad 6), .ref (ad 7), .int (nI 0), .int (nI 0), .ref (ad 8), .ref (ad 9), .int (nI 0), .int (nI ne), .ref (ad 10), .ref (ad 11), .int (nI ke), .int (bI th), .ref (ad 12)]) := ⟨_, rfl⟩
    have h : SH g w_57 v s H locs := by rw [ew_57]; exact h
    have f_58 : w_57 (ad 0) = some (ob 4 [.int (nI cn), .int (bI ru), .int (bI fu), .ref (ad 1), .ref (ad 2), .ref (ad 3), .ref (ad 4), .ref (ad 5), .int (bI ch), .ref (ad 6), .ref (ad 7), .int (nI 0), .int (nI 0), .ref (ad 8), .ref (ad 9), .int (nI 0), .int (nI ne), .ref (ad 10), .ref (ad 11), .int (nI ke), .int (bI th), .ref (ad 12)]) := by rw [ew_57]; exact gu_s
    have f_59 : w_57 (ad 1) = some (eI g 2048 fD) := by rw [ew_57]; exact (gu_n (fun q => absurd (hinj 1 0 (by decide) (by decide) q) (by decide))).trans f_45
    have f_60 : w_57 (ad 2) = some (eI g 2048 fL) := by rw [ew_57]; exact (gu_n (fun q => absurd (hinj 2 0 (by decide) (by decide) q) (by decide))).trans f_46
    have f_61 : w_57 (ad 3) = some (eI g 2048 fO) := by rw [ew_57]; exact (gu_n (fun q => absurd (hinj 3 0 (by decide) (by decide) q) (by decide))).trans f_47
    have f_62 : w_57 (ad 4) = some (eZ g 64 z) := by rw [ew_57]; exact (gu_n (fun q => absurd (hinj 4 0 (by decide) (by decide) q) (by decide))).trans f_48
    have f_63 : w_57 (ad 5) = some (eI g 30 fP) := by rw [ew_57]; exact (gu_n (fun q => absurd (hinj 5 0 (by decide) (by decide) q) (by decide))).trans f_49
    have f_64 : w_57 (ad 6) = some (eI g 1200 fT) := by rw [ew_57]; exact (gu_n (fun q => absurd (hinj 6 0 (by decide) (by decide) q) (by decide))).trans f_50
    have f_65 : w_57 (ad 7) = some (eI g 38400 fY) := by rw [ew_57]; exact (gu_n (fun q => absurd (hinj 7 0 (by decide) (by decide) q) (by decide))).trans f_51
    have f_66 : w_57 (ad 8) = some (eI g 1200 (upd fN 0 ((fN ne)))) := by rw [ew_57]; exact (gu_n (fun q => absurd (hinj 8 0 (by decide) (by decide) q) (by decide))).trans f_52
    have f_67 : w_57 (ad 9) = some (eL g 1200 (vp_updL fS 0 (fS ne))) := by rw [ew_57]; exact (gu_n (fun q => absurd (hinj 9 0 (by decide) (by decide) q) (by decide))).trans f_53
    have f_68 : w_57 (ad 10) = some (eI g 4 fKn) := by rw [ew_57]; exact (gu_n (fun q => absurd (hinj 10 0 (by decide) (by decide) q) (by decide))).trans f_54
    have f_69 : w_57 (ad 11) = some (eL g 4 fK) := by rw [ew_57]; exact (gu_n (fun q => absurd (hinj 11 0 (by decide) (by decide) q) (by decide))).trans f_55
    have f_70 : w_57 (ad 12) = some (eI g 32 fH) := by rw [ew_57]; exact (gu_n (fun q => absurd (hinj 12 0 (by decide) (by decide) q) (by decide))).trans f_56
    refine lv_aload_n hx hb dX3_settle_56 rfl (lv_at hl 0 rfl) ?_
    refine lv_iconst (v := nI 0) hx hb dX3_settle_57 (by decide) ?_
    refine gx_put C h f_58 (Cn := RX3) (T := TX3) (N := 22) (x := .int (nI 0)) rfl in_X3 tyX3 tyX3_ok nmX3 16 (by decide) q748 rfl rfl rfl rfl (Nat.le_of_ble_eq_true rfl) dX3_settle_58 (fun H locs h => ?_)
    obtain ⟨w_71, ew_71⟩ : ∃ z : GW, z = gu w_57 (ad 0) (ob 4 [.int (nI cn), .int (bI ru), .int (bI fu), .ref (ad 1), .ref (ad 2), .ref (ad 3), .ref (ad 4), .ref (ad 5), .int (bI ch), .ref (ad 6), .ref (ad 7), .int (nI 0), .int (nI 0), .ref (ad 8), .ref (ad 9), .int (nI 0), .int (nI 0), .ref (ad 10), .ref (ad 11), .int (nI ke), .int (bI th), .ref (ad 12)]) := ⟨_, rfl⟩
    have h : SH g w_71 v s H locs := by rw [ew_71]; exact h
    have f_72 : w_71 (ad 0) = some (ob 4 [.int (nI cn), .int (bI ru), .int (bI fu), .ref (ad 1), .ref (ad 2), .ref (ad 3), .ref (ad 4), .ref (ad 5), .int (bI ch), .ref (ad 6), .ref (ad 7), .int (nI 0), .int (nI 0), .ref (ad 8), .ref (ad 9), .int (nI 0), .int (nI 0), .ref (ad 10), .ref (ad 11), .int (nI ke), .int (bI th), .ref (ad 12)]) := by rw [ew_71]; exact gu_s
    have f_73 : w_71 (ad 1) = some (eI g 2048 fD) := by rw [ew_71]; exact (gu_n (fun q => absurd (hinj 1 0 (by decide) (by decide) q) (by decide))).trans f_59
    have f_74 : w_71 (ad 2) = some (eI g 2048 fL) := by rw [ew_71]; exact (gu_n (fun q => absurd (hinj 2 0 (by decide) (by decide) q) (by decide))).trans f_60
    have f_75 : w_71 (ad 3) = some (eI g 2048 fO) := by rw [ew_71]; exact (gu_n (fun q => absurd (hinj 3 0 (by decide) (by decide) q) (by decide))).trans f_61
    have f_76 : w_71 (ad 4) = some (eZ g 64 z) := by rw [ew_71]; exact (gu_n (fun q => absurd (hinj 4 0 (by decide) (by decide) q) (by decide))).trans f_62
    have f_77 : w_71 (ad 5) = some (eI g 30 fP) := by rw [ew_71]; exact (gu_n (fun q => absurd (hinj 5 0 (by decide) (by decide) q) (by decide))).trans f_63
    have f_78 : w_71 (ad 6) = some (eI g 1200 fT) := by rw [ew_71]; exact (gu_n (fun q => absurd (hinj 6 0 (by decide) (by decide) q) (by decide))).trans f_64
    have f_79 : w_71 (ad 7) = some (eI g 38400 fY) := by rw [ew_71]; exact (gu_n (fun q => absurd (hinj 7 0 (by decide) (by decide) q) (by decide))).trans f_65
    have f_80 : w_71 (ad 8) = some (eI g 1200 (upd fN 0 ((fN ne)))) := by rw [ew_71]; exact (gu_n (fun q => absurd (hinj 8 0 (by decide) (by decide) q) (by decide))).trans f_66
    have f_81 : w_71 (ad 9) = some (eL g 1200 (vp_updL fS 0 (fS ne))) := by rw [ew_71]; exact (gu_n (fun q => absurd (hinj 9 0 (by decide) (by decide) q) (by decide))).trans f_67
    have f_82 : w_71 (ad 10) = some (eI g 4 fKn) := by rw [ew_71]; exact (gu_n (fun q => absurd (hinj 10 0 (by decide) (by decide) q) (by decide))).trans f_68
    have f_83 : w_71 (ad 11) = some (eL g 4 fK) := by rw [ew_71]; exact (gu_n (fun q => absurd (hinj 11 0 (by decide) (by decide) q) (by decide))).trans f_69
    have f_84 : w_71 (ad 12) = some (eI g 32 fH) := by rw [ew_71]; exact (gu_n (fun q => absurd (hinj 12 0 (by decide) (by decide) q) (by decide))).trans f_70
    exact gr_v C h (⟨hinj, f_72, f_73, f_74, f_75, f_76, f_77, f_78, f_79, f_80, f_81, f_82, f_83, f_84⟩) (Nat.le_of_ble_eq_true rfl) (Nat.le_of_ble_eq_true rfl) dX3_settle_61
